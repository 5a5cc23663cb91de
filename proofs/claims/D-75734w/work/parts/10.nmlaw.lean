/-! TelescopeQueueLaw -/
set_option maxRecDepth 100000
def RX0 : String := "TelescopeQueueLaw"
abbrev cX0_load : ByteArray := method_3_code
def yX0_load : MethodName := ⟨RX0, "load", "(LTelescopeQueue;I[J)I"⟩
def dkwX0_load_0 : List UInt8 := [44, 3, 42, 27, 182, 0, 7, 133, 80, 167, 0, 9, 78, 4, 172, 78, 5, 172, 3, 172]
abbrev dktX0_load_0 : List UInt8 := dkwX0_load_0 ++ []
theorem dksX0_load_0 : cX0_load.data.toList.drop 0 = dktX0_load_0 := by decide +kernel
theorem dX0_load_0 : decode cX0_load 0 = .ok (.aload_n 2, 1) := dk_44 (dk_at dksX0_load_0 0 rfl rfl)
theorem dX0_load_1 : decode cX0_load 1 = .ok (.iconst 0, 1) := dk_3 (dk_at dksX0_load_0 1 rfl rfl)
theorem dX0_load_2 : decode cX0_load 2 = .ok (.aload_n 0, 1) := dk_42 (dk_at dksX0_load_0 2 rfl rfl)
theorem dX0_load_3 : decode cX0_load 3 = .ok (.iload_n 1, 1) := dk_27 (dk_at dksX0_load_0 3 rfl rfl)
theorem dX0_load_4 : decode cX0_load 4 = .ok (.invokevirtual 7, 3) := dk_182 0 7 (dk_at dksX0_load_0 4 rfl rfl)
theorem dX0_load_7 : decode cX0_load 7 = .ok (.i2l, 1) := dk_133 (dk_at dksX0_load_0 7 rfl rfl)
theorem dX0_load_8 : decode cX0_load 8 = .ok (.lastore, 1) := dk_80 (dk_at dksX0_load_0 8 rfl rfl)
theorem dX0_load_9 : decode cX0_load 9 = .ok (.goto 9, 3) := dk_167 0 9 (dk_at dksX0_load_0 9 rfl rfl)
theorem dX0_load_12 : decode cX0_load 12 = .ok (.astore_n 3, 1) := dk_78 (dk_at dksX0_load_0 12 rfl rfl)
theorem dX0_load_13 : decode cX0_load 13 = .ok (.iconst 1, 1) := dk_4 (dk_at dksX0_load_0 13 rfl rfl)
theorem dX0_load_14 : decode cX0_load 14 = .ok (.ireturn, 1) := dk_172 (dk_at dksX0_load_0 14 rfl rfl)
theorem dX0_load_15 : decode cX0_load 15 = .ok (.astore_n 3, 1) := dk_78 (dk_at dksX0_load_0 15 rfl rfl)
theorem dX0_load_16 : decode cX0_load 16 = .ok (.iconst 2, 1) := dk_5 (dk_at dksX0_load_0 16 rfl rfl)
theorem dX0_load_17 : decode cX0_load 17 = .ok (.ireturn, 1) := dk_172 (dk_at dksX0_load_0 17 rfl rfl)
theorem dX0_load_18 : decode cX0_load 18 = .ok (.iconst 0, 1) := dk_3 (dk_at dksX0_load_0 18 rfl rfl)
theorem dX0_load_19 : decode cX0_load 19 = .ok (.ireturn, 1) := dk_172 (dk_at dksX0_load_0 19 rfl rfl)
abbrev cX0_proposal : ByteArray := method_4_code
def yX0_proposal : MethodName := ⟨RX0, "proposal", "(LTelescopeQueue;II[J)I"⟩
def dkwX0_proposal_1 : List UInt8 := [172, 3, 172]
abbrev dktX0_proposal_1 : List UInt8 := dkwX0_proposal_1 ++ []
def dkwX0_proposal_0 : List UInt8 := [45, 3, 42, 27, 28, 182, 0, 17, 133, 80, 167, 0, 15, 58, 4, 4, 172, 58, 4, 5, 172, 58, 4, 6]
abbrev dktX0_proposal_0 : List UInt8 := dkwX0_proposal_0 ++ dktX0_proposal_1
theorem dksX0_proposal_0 : cX0_proposal.data.toList.drop 0 = dktX0_proposal_0 := by decide +kernel
theorem dksX0_proposal_1 : cX0_proposal.data.toList.drop 24 = dktX0_proposal_1 := dk_seg dksX0_proposal_0 24 rfl rfl
theorem dX0_proposal_0 : decode cX0_proposal 0 = .ok (.aload_n 3, 1) := dk_45 (dk_at dksX0_proposal_0 0 rfl rfl)
theorem dX0_proposal_1 : decode cX0_proposal 1 = .ok (.iconst 0, 1) := dk_3 (dk_at dksX0_proposal_0 1 rfl rfl)
theorem dX0_proposal_2 : decode cX0_proposal 2 = .ok (.aload_n 0, 1) := dk_42 (dk_at dksX0_proposal_0 2 rfl rfl)
theorem dX0_proposal_3 : decode cX0_proposal 3 = .ok (.iload_n 1, 1) := dk_27 (dk_at dksX0_proposal_0 3 rfl rfl)
theorem dX0_proposal_4 : decode cX0_proposal 4 = .ok (.iload_n 2, 1) := dk_28 (dk_at dksX0_proposal_0 4 rfl rfl)
theorem dX0_proposal_5 : decode cX0_proposal 5 = .ok (.invokevirtual 17, 3) := dk_182 0 17 (dk_at dksX0_proposal_0 5 rfl rfl)
theorem dX0_proposal_8 : decode cX0_proposal 8 = .ok (.i2l, 1) := dk_133 (dk_at dksX0_proposal_0 8 rfl rfl)
theorem dX0_proposal_9 : decode cX0_proposal 9 = .ok (.lastore, 1) := dk_80 (dk_at dksX0_proposal_0 9 rfl rfl)
theorem dX0_proposal_10 : decode cX0_proposal 10 = .ok (.goto 15, 3) := dk_167 0 15 (dk_at dksX0_proposal_0 10 rfl rfl)
theorem dX0_proposal_13 : decode cX0_proposal 13 = .ok (.astore 4, 2) := dk_58 4 (dk_at dksX0_proposal_0 13 rfl rfl)
theorem dX0_proposal_15 : decode cX0_proposal 15 = .ok (.iconst 1, 1) := dk_4 (dk_at dksX0_proposal_0 15 rfl rfl)
theorem dX0_proposal_16 : decode cX0_proposal 16 = .ok (.ireturn, 1) := dk_172 (dk_at dksX0_proposal_0 16 rfl rfl)
theorem dX0_proposal_17 : decode cX0_proposal 17 = .ok (.astore 4, 2) := dk_58 4 (dk_at dksX0_proposal_0 17 rfl rfl)
theorem dX0_proposal_19 : decode cX0_proposal 19 = .ok (.iconst 2, 1) := dk_5 (dk_at dksX0_proposal_0 19 rfl rfl)
theorem dX0_proposal_20 : decode cX0_proposal 20 = .ok (.ireturn, 1) := dk_172 (dk_at dksX0_proposal_0 20 rfl rfl)
theorem dX0_proposal_21 : decode cX0_proposal 21 = .ok (.astore 4, 2) := dk_58 4 (dk_at dksX0_proposal_0 21 rfl rfl)
theorem dX0_proposal_23 : decode cX0_proposal 23 = .ok (.iconst 3, 1) := dk_6 (dk_at dksX0_proposal_0 23 rfl rfl)
theorem dX0_proposal_24 : decode cX0_proposal 24 = .ok (.ireturn, 1) := dk_172 (dk_at dksX0_proposal_1 0 rfl rfl)
theorem dX0_proposal_25 : decode cX0_proposal 25 = .ok (.iconst 0, 1) := dk_3 (dk_at dksX0_proposal_1 1 rfl rfl)
theorem dX0_proposal_26 : decode cX0_proposal 26 = .ok (.ireturn, 1) := dk_172 (dk_at dksX0_proposal_1 2 rfl rfl)
abbrev cX0_letter : ByteArray := method_5_code
def yX0_letter : MethodName := ⟨RX0, "letter", "(LTelescopeQueue;II[J)I"⟩
def dkwX0_letter_0 : List UInt8 := [45, 3, 42, 27, 28, 182, 0, 23, 133, 80, 167, 0, 11, 58, 4, 4, 172, 58, 4, 5, 172, 3, 172]
abbrev dktX0_letter_0 : List UInt8 := dkwX0_letter_0 ++ []
theorem dksX0_letter_0 : cX0_letter.data.toList.drop 0 = dktX0_letter_0 := by decide +kernel
theorem dX0_letter_0 : decode cX0_letter 0 = .ok (.aload_n 3, 1) := dk_45 (dk_at dksX0_letter_0 0 rfl rfl)
theorem dX0_letter_1 : decode cX0_letter 1 = .ok (.iconst 0, 1) := dk_3 (dk_at dksX0_letter_0 1 rfl rfl)
theorem dX0_letter_2 : decode cX0_letter 2 = .ok (.aload_n 0, 1) := dk_42 (dk_at dksX0_letter_0 2 rfl rfl)
theorem dX0_letter_3 : decode cX0_letter 3 = .ok (.iload_n 1, 1) := dk_27 (dk_at dksX0_letter_0 3 rfl rfl)
theorem dX0_letter_4 : decode cX0_letter 4 = .ok (.iload_n 2, 1) := dk_28 (dk_at dksX0_letter_0 4 rfl rfl)
theorem dX0_letter_5 : decode cX0_letter 5 = .ok (.invokevirtual 23, 3) := dk_182 0 23 (dk_at dksX0_letter_0 5 rfl rfl)
theorem dX0_letter_8 : decode cX0_letter 8 = .ok (.i2l, 1) := dk_133 (dk_at dksX0_letter_0 8 rfl rfl)
theorem dX0_letter_9 : decode cX0_letter 9 = .ok (.lastore, 1) := dk_80 (dk_at dksX0_letter_0 9 rfl rfl)
theorem dX0_letter_10 : decode cX0_letter 10 = .ok (.goto 11, 3) := dk_167 0 11 (dk_at dksX0_letter_0 10 rfl rfl)
theorem dX0_letter_13 : decode cX0_letter 13 = .ok (.astore 4, 2) := dk_58 4 (dk_at dksX0_letter_0 13 rfl rfl)
theorem dX0_letter_15 : decode cX0_letter 15 = .ok (.iconst 1, 1) := dk_4 (dk_at dksX0_letter_0 15 rfl rfl)
theorem dX0_letter_16 : decode cX0_letter 16 = .ok (.ireturn, 1) := dk_172 (dk_at dksX0_letter_0 16 rfl rfl)
theorem dX0_letter_17 : decode cX0_letter 17 = .ok (.astore 4, 2) := dk_58 4 (dk_at dksX0_letter_0 17 rfl rfl)
theorem dX0_letter_19 : decode cX0_letter 19 = .ok (.iconst 2, 1) := dk_5 (dk_at dksX0_letter_0 19 rfl rfl)
theorem dX0_letter_20 : decode cX0_letter 20 = .ok (.ireturn, 1) := dk_172 (dk_at dksX0_letter_0 20 rfl rfl)
theorem dX0_letter_21 : decode cX0_letter 21 = .ok (.iconst 0, 1) := dk_3 (dk_at dksX0_letter_0 21 rfl rfl)
theorem dX0_letter_22 : decode cX0_letter 22 = .ok (.ireturn, 1) := dk_172 (dk_at dksX0_letter_0 22 rfl rfl)
abbrev cX0_visit : ByteArray := method_6_code
def yX0_visit : MethodName := ⟨RX0, "visit", "(LTelescopeQueue;II[J)I"⟩
def dkwX0_visit_1 : List UInt8 := [172, 3, 172]
abbrev dktX0_visit_1 : List UInt8 := dkwX0_visit_1 ++ []
def dkwX0_visit_0 : List UInt8 := [45, 3, 42, 27, 28, 182, 0, 26, 133, 80, 167, 0, 15, 58, 4, 4, 172, 58, 4, 5, 172, 58, 4, 6]
abbrev dktX0_visit_0 : List UInt8 := dkwX0_visit_0 ++ dktX0_visit_1
theorem dksX0_visit_0 : cX0_visit.data.toList.drop 0 = dktX0_visit_0 := by decide +kernel
theorem dksX0_visit_1 : cX0_visit.data.toList.drop 24 = dktX0_visit_1 := dk_seg dksX0_visit_0 24 rfl rfl
theorem dX0_visit_0 : decode cX0_visit 0 = .ok (.aload_n 3, 1) := dk_45 (dk_at dksX0_visit_0 0 rfl rfl)
theorem dX0_visit_1 : decode cX0_visit 1 = .ok (.iconst 0, 1) := dk_3 (dk_at dksX0_visit_0 1 rfl rfl)
theorem dX0_visit_2 : decode cX0_visit 2 = .ok (.aload_n 0, 1) := dk_42 (dk_at dksX0_visit_0 2 rfl rfl)
theorem dX0_visit_3 : decode cX0_visit 3 = .ok (.iload_n 1, 1) := dk_27 (dk_at dksX0_visit_0 3 rfl rfl)
theorem dX0_visit_4 : decode cX0_visit 4 = .ok (.iload_n 2, 1) := dk_28 (dk_at dksX0_visit_0 4 rfl rfl)
theorem dX0_visit_5 : decode cX0_visit 5 = .ok (.invokevirtual 26, 3) := dk_182 0 26 (dk_at dksX0_visit_0 5 rfl rfl)
theorem dX0_visit_8 : decode cX0_visit 8 = .ok (.i2l, 1) := dk_133 (dk_at dksX0_visit_0 8 rfl rfl)
theorem dX0_visit_9 : decode cX0_visit 9 = .ok (.lastore, 1) := dk_80 (dk_at dksX0_visit_0 9 rfl rfl)
theorem dX0_visit_10 : decode cX0_visit 10 = .ok (.goto 15, 3) := dk_167 0 15 (dk_at dksX0_visit_0 10 rfl rfl)
theorem dX0_visit_13 : decode cX0_visit 13 = .ok (.astore 4, 2) := dk_58 4 (dk_at dksX0_visit_0 13 rfl rfl)
theorem dX0_visit_15 : decode cX0_visit 15 = .ok (.iconst 1, 1) := dk_4 (dk_at dksX0_visit_0 15 rfl rfl)
theorem dX0_visit_16 : decode cX0_visit 16 = .ok (.ireturn, 1) := dk_172 (dk_at dksX0_visit_0 16 rfl rfl)
theorem dX0_visit_17 : decode cX0_visit 17 = .ok (.astore 4, 2) := dk_58 4 (dk_at dksX0_visit_0 17 rfl rfl)
theorem dX0_visit_19 : decode cX0_visit 19 = .ok (.iconst 2, 1) := dk_5 (dk_at dksX0_visit_0 19 rfl rfl)
theorem dX0_visit_20 : decode cX0_visit 20 = .ok (.ireturn, 1) := dk_172 (dk_at dksX0_visit_0 20 rfl rfl)
theorem dX0_visit_21 : decode cX0_visit 21 = .ok (.astore 4, 2) := dk_58 4 (dk_at dksX0_visit_0 21 rfl rfl)
theorem dX0_visit_23 : decode cX0_visit 23 = .ok (.iconst 3, 1) := dk_6 (dk_at dksX0_visit_0 23 rfl rfl)
theorem dX0_visit_24 : decode cX0_visit 24 = .ok (.ireturn, 1) := dk_172 (dk_at dksX0_visit_1 0 rfl rfl)
theorem dX0_visit_25 : decode cX0_visit 25 = .ok (.iconst 0, 1) := dk_3 (dk_at dksX0_visit_1 1 rfl rfl)
theorem dX0_visit_26 : decode cX0_visit 26 = .ok (.ireturn, 1) := dk_172 (dk_at dksX0_visit_1 2 rfl rfl)
abbrev cX0_stateOf : ByteArray := method_7_code
def yX0_stateOf : MethodName := ⟨RX0, "stateOf", "(LTelescopeQueue;I[J)I"⟩
def dkwX0_stateOf_0 : List UInt8 := [44, 3, 42, 27, 182, 0, 29, 133, 80, 167, 0, 9, 78, 4, 172, 78, 5, 172, 3, 172]
abbrev dktX0_stateOf_0 : List UInt8 := dkwX0_stateOf_0 ++ []
theorem dksX0_stateOf_0 : cX0_stateOf.data.toList.drop 0 = dktX0_stateOf_0 := by decide +kernel
theorem dX0_stateOf_0 : decode cX0_stateOf 0 = .ok (.aload_n 2, 1) := dk_44 (dk_at dksX0_stateOf_0 0 rfl rfl)
theorem dX0_stateOf_1 : decode cX0_stateOf 1 = .ok (.iconst 0, 1) := dk_3 (dk_at dksX0_stateOf_0 1 rfl rfl)
theorem dX0_stateOf_2 : decode cX0_stateOf 2 = .ok (.aload_n 0, 1) := dk_42 (dk_at dksX0_stateOf_0 2 rfl rfl)
theorem dX0_stateOf_3 : decode cX0_stateOf 3 = .ok (.iload_n 1, 1) := dk_27 (dk_at dksX0_stateOf_0 3 rfl rfl)
theorem dX0_stateOf_4 : decode cX0_stateOf 4 = .ok (.invokevirtual 29, 3) := dk_182 0 29 (dk_at dksX0_stateOf_0 4 rfl rfl)
theorem dX0_stateOf_7 : decode cX0_stateOf 7 = .ok (.i2l, 1) := dk_133 (dk_at dksX0_stateOf_0 7 rfl rfl)
theorem dX0_stateOf_8 : decode cX0_stateOf 8 = .ok (.lastore, 1) := dk_80 (dk_at dksX0_stateOf_0 8 rfl rfl)
theorem dX0_stateOf_9 : decode cX0_stateOf 9 = .ok (.goto 9, 3) := dk_167 0 9 (dk_at dksX0_stateOf_0 9 rfl rfl)
theorem dX0_stateOf_12 : decode cX0_stateOf 12 = .ok (.astore_n 3, 1) := dk_78 (dk_at dksX0_stateOf_0 12 rfl rfl)
theorem dX0_stateOf_13 : decode cX0_stateOf 13 = .ok (.iconst 1, 1) := dk_4 (dk_at dksX0_stateOf_0 13 rfl rfl)
theorem dX0_stateOf_14 : decode cX0_stateOf 14 = .ok (.ireturn, 1) := dk_172 (dk_at dksX0_stateOf_0 14 rfl rfl)
theorem dX0_stateOf_15 : decode cX0_stateOf 15 = .ok (.astore_n 3, 1) := dk_78 (dk_at dksX0_stateOf_0 15 rfl rfl)
theorem dX0_stateOf_16 : decode cX0_stateOf 16 = .ok (.iconst 2, 1) := dk_5 (dk_at dksX0_stateOf_0 16 rfl rfl)
theorem dX0_stateOf_17 : decode cX0_stateOf 17 = .ok (.ireturn, 1) := dk_172 (dk_at dksX0_stateOf_0 17 rfl rfl)
theorem dX0_stateOf_18 : decode cX0_stateOf 18 = .ok (.iconst 0, 1) := dk_3 (dk_at dksX0_stateOf_0 18 rfl rfl)
theorem dX0_stateOf_19 : decode cX0_stateOf 19 = .ok (.ireturn, 1) := dk_172 (dk_at dksX0_stateOf_0 19 rfl rfl)
abbrev cX0_aborts : ByteArray := method_8_code
def yX0_aborts : MethodName := ⟨RX0, "aborts", "(LTelescopeQueue;I[J)I"⟩
def dkwX0_aborts_0 : List UInt8 := [44, 3, 42, 27, 182, 0, 32, 133, 80, 167, 0, 9, 78, 4, 172, 78, 5, 172, 3, 172]
abbrev dktX0_aborts_0 : List UInt8 := dkwX0_aborts_0 ++ []
theorem dksX0_aborts_0 : cX0_aborts.data.toList.drop 0 = dktX0_aborts_0 := by decide +kernel
theorem dX0_aborts_0 : decode cX0_aborts 0 = .ok (.aload_n 2, 1) := dk_44 (dk_at dksX0_aborts_0 0 rfl rfl)
theorem dX0_aborts_1 : decode cX0_aborts 1 = .ok (.iconst 0, 1) := dk_3 (dk_at dksX0_aborts_0 1 rfl rfl)
theorem dX0_aborts_2 : decode cX0_aborts 2 = .ok (.aload_n 0, 1) := dk_42 (dk_at dksX0_aborts_0 2 rfl rfl)
theorem dX0_aborts_3 : decode cX0_aborts 3 = .ok (.iload_n 1, 1) := dk_27 (dk_at dksX0_aborts_0 3 rfl rfl)
theorem dX0_aborts_4 : decode cX0_aborts 4 = .ok (.invokevirtual 32, 3) := dk_182 0 32 (dk_at dksX0_aborts_0 4 rfl rfl)
theorem dX0_aborts_7 : decode cX0_aborts 7 = .ok (.i2l, 1) := dk_133 (dk_at dksX0_aborts_0 7 rfl rfl)
theorem dX0_aborts_8 : decode cX0_aborts 8 = .ok (.lastore, 1) := dk_80 (dk_at dksX0_aborts_0 8 rfl rfl)
theorem dX0_aborts_9 : decode cX0_aborts 9 = .ok (.goto 9, 3) := dk_167 0 9 (dk_at dksX0_aborts_0 9 rfl rfl)
theorem dX0_aborts_12 : decode cX0_aborts 12 = .ok (.astore_n 3, 1) := dk_78 (dk_at dksX0_aborts_0 12 rfl rfl)
theorem dX0_aborts_13 : decode cX0_aborts 13 = .ok (.iconst 1, 1) := dk_4 (dk_at dksX0_aborts_0 13 rfl rfl)
theorem dX0_aborts_14 : decode cX0_aborts 14 = .ok (.ireturn, 1) := dk_172 (dk_at dksX0_aborts_0 14 rfl rfl)
theorem dX0_aborts_15 : decode cX0_aborts 15 = .ok (.astore_n 3, 1) := dk_78 (dk_at dksX0_aborts_0 15 rfl rfl)
theorem dX0_aborts_16 : decode cX0_aborts 16 = .ok (.iconst 2, 1) := dk_5 (dk_at dksX0_aborts_0 16 rfl rfl)
theorem dX0_aborts_17 : decode cX0_aborts 17 = .ok (.ireturn, 1) := dk_172 (dk_at dksX0_aborts_0 17 rfl rfl)
theorem dX0_aborts_18 : decode cX0_aborts 18 = .ok (.iconst 0, 1) := dk_3 (dk_at dksX0_aborts_0 18 rfl rfl)
theorem dX0_aborts_19 : decode cX0_aborts 19 = .ok (.ireturn, 1) := dk_172 (dk_at dksX0_aborts_0 19 rfl rfl)
abbrev cX0_startOf : ByteArray := method_9_code
def yX0_startOf : MethodName := ⟨RX0, "startOf", "(LTelescopeQueue;I[J)I"⟩
def dkwX0_startOf_0 : List UInt8 := [44, 3, 42, 27, 182, 0, 35, 133, 80, 167, 0, 9, 78, 4, 172, 78, 5, 172, 3, 172]
abbrev dktX0_startOf_0 : List UInt8 := dkwX0_startOf_0 ++ []
theorem dksX0_startOf_0 : cX0_startOf.data.toList.drop 0 = dktX0_startOf_0 := by decide +kernel
theorem dX0_startOf_0 : decode cX0_startOf 0 = .ok (.aload_n 2, 1) := dk_44 (dk_at dksX0_startOf_0 0 rfl rfl)
theorem dX0_startOf_1 : decode cX0_startOf 1 = .ok (.iconst 0, 1) := dk_3 (dk_at dksX0_startOf_0 1 rfl rfl)
theorem dX0_startOf_2 : decode cX0_startOf 2 = .ok (.aload_n 0, 1) := dk_42 (dk_at dksX0_startOf_0 2 rfl rfl)
theorem dX0_startOf_3 : decode cX0_startOf 3 = .ok (.iload_n 1, 1) := dk_27 (dk_at dksX0_startOf_0 3 rfl rfl)
theorem dX0_startOf_4 : decode cX0_startOf 4 = .ok (.invokevirtual 35, 3) := dk_182 0 35 (dk_at dksX0_startOf_0 4 rfl rfl)
theorem dX0_startOf_7 : decode cX0_startOf 7 = .ok (.i2l, 1) := dk_133 (dk_at dksX0_startOf_0 7 rfl rfl)
theorem dX0_startOf_8 : decode cX0_startOf 8 = .ok (.lastore, 1) := dk_80 (dk_at dksX0_startOf_0 8 rfl rfl)
theorem dX0_startOf_9 : decode cX0_startOf 9 = .ok (.goto 9, 3) := dk_167 0 9 (dk_at dksX0_startOf_0 9 rfl rfl)
theorem dX0_startOf_12 : decode cX0_startOf 12 = .ok (.astore_n 3, 1) := dk_78 (dk_at dksX0_startOf_0 12 rfl rfl)
theorem dX0_startOf_13 : decode cX0_startOf 13 = .ok (.iconst 1, 1) := dk_4 (dk_at dksX0_startOf_0 13 rfl rfl)
theorem dX0_startOf_14 : decode cX0_startOf 14 = .ok (.ireturn, 1) := dk_172 (dk_at dksX0_startOf_0 14 rfl rfl)
theorem dX0_startOf_15 : decode cX0_startOf 15 = .ok (.astore_n 3, 1) := dk_78 (dk_at dksX0_startOf_0 15 rfl rfl)
theorem dX0_startOf_16 : decode cX0_startOf 16 = .ok (.iconst 2, 1) := dk_5 (dk_at dksX0_startOf_0 16 rfl rfl)
theorem dX0_startOf_17 : decode cX0_startOf 17 = .ok (.ireturn, 1) := dk_172 (dk_at dksX0_startOf_0 17 rfl rfl)
theorem dX0_startOf_18 : decode cX0_startOf 18 = .ok (.iconst 0, 1) := dk_3 (dk_at dksX0_startOf_0 18 rfl rfl)
theorem dX0_startOf_19 : decode cX0_startOf 19 = .ok (.ireturn, 1) := dk_172 (dk_at dksX0_startOf_0 19 rfl rfl)
abbrev cX0_alert : ByteArray := method_10_code
def yX0_alert : MethodName := ⟨RX0, "alert", "(LTelescopeQueue;II[J)I"⟩
def dkwX0_alert_1 : List UInt8 := [172, 3, 172]
abbrev dktX0_alert_1 : List UInt8 := dkwX0_alert_1 ++ []
def dkwX0_alert_0 : List UInt8 := [45, 3, 42, 27, 28, 182, 0, 38, 133, 80, 167, 0, 15, 58, 4, 4, 172, 58, 4, 5, 172, 58, 4, 6]
abbrev dktX0_alert_0 : List UInt8 := dkwX0_alert_0 ++ dktX0_alert_1
theorem dksX0_alert_0 : cX0_alert.data.toList.drop 0 = dktX0_alert_0 := by decide +kernel
theorem dksX0_alert_1 : cX0_alert.data.toList.drop 24 = dktX0_alert_1 := dk_seg dksX0_alert_0 24 rfl rfl
theorem dX0_alert_0 : decode cX0_alert 0 = .ok (.aload_n 3, 1) := dk_45 (dk_at dksX0_alert_0 0 rfl rfl)
theorem dX0_alert_1 : decode cX0_alert 1 = .ok (.iconst 0, 1) := dk_3 (dk_at dksX0_alert_0 1 rfl rfl)
theorem dX0_alert_2 : decode cX0_alert 2 = .ok (.aload_n 0, 1) := dk_42 (dk_at dksX0_alert_0 2 rfl rfl)
theorem dX0_alert_3 : decode cX0_alert 3 = .ok (.iload_n 1, 1) := dk_27 (dk_at dksX0_alert_0 3 rfl rfl)
theorem dX0_alert_4 : decode cX0_alert 4 = .ok (.iload_n 2, 1) := dk_28 (dk_at dksX0_alert_0 4 rfl rfl)
theorem dX0_alert_5 : decode cX0_alert 5 = .ok (.invokevirtual 38, 3) := dk_182 0 38 (dk_at dksX0_alert_0 5 rfl rfl)
theorem dX0_alert_8 : decode cX0_alert 8 = .ok (.i2l, 1) := dk_133 (dk_at dksX0_alert_0 8 rfl rfl)
theorem dX0_alert_9 : decode cX0_alert 9 = .ok (.lastore, 1) := dk_80 (dk_at dksX0_alert_0 9 rfl rfl)
theorem dX0_alert_10 : decode cX0_alert 10 = .ok (.goto 15, 3) := dk_167 0 15 (dk_at dksX0_alert_0 10 rfl rfl)
theorem dX0_alert_13 : decode cX0_alert 13 = .ok (.astore 4, 2) := dk_58 4 (dk_at dksX0_alert_0 13 rfl rfl)
theorem dX0_alert_15 : decode cX0_alert 15 = .ok (.iconst 1, 1) := dk_4 (dk_at dksX0_alert_0 15 rfl rfl)
theorem dX0_alert_16 : decode cX0_alert 16 = .ok (.ireturn, 1) := dk_172 (dk_at dksX0_alert_0 16 rfl rfl)
theorem dX0_alert_17 : decode cX0_alert 17 = .ok (.astore 4, 2) := dk_58 4 (dk_at dksX0_alert_0 17 rfl rfl)
theorem dX0_alert_19 : decode cX0_alert 19 = .ok (.iconst 2, 1) := dk_5 (dk_at dksX0_alert_0 19 rfl rfl)
theorem dX0_alert_20 : decode cX0_alert 20 = .ok (.ireturn, 1) := dk_172 (dk_at dksX0_alert_0 20 rfl rfl)
theorem dX0_alert_21 : decode cX0_alert 21 = .ok (.astore 4, 2) := dk_58 4 (dk_at dksX0_alert_0 21 rfl rfl)
theorem dX0_alert_23 : decode cX0_alert 23 = .ok (.iconst 3, 1) := dk_6 (dk_at dksX0_alert_0 23 rfl rfl)
theorem dX0_alert_24 : decode cX0_alert 24 = .ok (.ireturn, 1) := dk_172 (dk_at dksX0_alert_1 0 rfl rfl)
theorem dX0_alert_25 : decode cX0_alert 25 = .ok (.iconst 0, 1) := dk_3 (dk_at dksX0_alert_1 1 rfl rfl)
theorem dX0_alert_26 : decode cX0_alert 26 = .ok (.ireturn, 1) := dk_172 (dk_at dksX0_alert_1 2 rfl rfl)
abbrev cX0_alertState : ByteArray := method_11_code
def yX0_alertState : MethodName := ⟨RX0, "alertState", "(LTelescopeQueue;I[J)I"⟩
def dkwX0_alertState_0 : List UInt8 := [44, 3, 42, 27, 182, 0, 41, 133, 80, 167, 0, 9, 78, 4, 172, 78, 5, 172, 3, 172]
abbrev dktX0_alertState_0 : List UInt8 := dkwX0_alertState_0 ++ []
theorem dksX0_alertState_0 : cX0_alertState.data.toList.drop 0 = dktX0_alertState_0 := by decide +kernel
theorem dX0_alertState_0 : decode cX0_alertState 0 = .ok (.aload_n 2, 1) := dk_44 (dk_at dksX0_alertState_0 0 rfl rfl)
theorem dX0_alertState_1 : decode cX0_alertState 1 = .ok (.iconst 0, 1) := dk_3 (dk_at dksX0_alertState_0 1 rfl rfl)
theorem dX0_alertState_2 : decode cX0_alertState 2 = .ok (.aload_n 0, 1) := dk_42 (dk_at dksX0_alertState_0 2 rfl rfl)
theorem dX0_alertState_3 : decode cX0_alertState 3 = .ok (.iload_n 1, 1) := dk_27 (dk_at dksX0_alertState_0 3 rfl rfl)
theorem dX0_alertState_4 : decode cX0_alertState 4 = .ok (.invokevirtual 41, 3) := dk_182 0 41 (dk_at dksX0_alertState_0 4 rfl rfl)
theorem dX0_alertState_7 : decode cX0_alertState 7 = .ok (.i2l, 1) := dk_133 (dk_at dksX0_alertState_0 7 rfl rfl)
theorem dX0_alertState_8 : decode cX0_alertState 8 = .ok (.lastore, 1) := dk_80 (dk_at dksX0_alertState_0 8 rfl rfl)
theorem dX0_alertState_9 : decode cX0_alertState 9 = .ok (.goto 9, 3) := dk_167 0 9 (dk_at dksX0_alertState_0 9 rfl rfl)
theorem dX0_alertState_12 : decode cX0_alertState 12 = .ok (.astore_n 3, 1) := dk_78 (dk_at dksX0_alertState_0 12 rfl rfl)
theorem dX0_alertState_13 : decode cX0_alertState 13 = .ok (.iconst 1, 1) := dk_4 (dk_at dksX0_alertState_0 13 rfl rfl)
theorem dX0_alertState_14 : decode cX0_alertState 14 = .ok (.ireturn, 1) := dk_172 (dk_at dksX0_alertState_0 14 rfl rfl)
theorem dX0_alertState_15 : decode cX0_alertState 15 = .ok (.astore_n 3, 1) := dk_78 (dk_at dksX0_alertState_0 15 rfl rfl)
theorem dX0_alertState_16 : decode cX0_alertState 16 = .ok (.iconst 2, 1) := dk_5 (dk_at dksX0_alertState_0 16 rfl rfl)
theorem dX0_alertState_17 : decode cX0_alertState 17 = .ok (.ireturn, 1) := dk_172 (dk_at dksX0_alertState_0 17 rfl rfl)
theorem dX0_alertState_18 : decode cX0_alertState 18 = .ok (.iconst 0, 1) := dk_3 (dk_at dksX0_alertState_0 18 rfl rfl)
theorem dX0_alertState_19 : decode cX0_alertState 19 = .ok (.ireturn, 1) := dk_172 (dk_at dksX0_alertState_0 19 rfl rfl)
abbrev cX0_alertDelay : ByteArray := method_12_code
def yX0_alertDelay : MethodName := ⟨RX0, "alertDelay", "(LTelescopeQueue;I[J)I"⟩
def dkwX0_alertDelay_0 : List UInt8 := [44, 3, 42, 27, 182, 0, 44, 133, 80, 167, 0, 9, 78, 4, 172, 78, 5, 172, 3, 172]
abbrev dktX0_alertDelay_0 : List UInt8 := dkwX0_alertDelay_0 ++ []
theorem dksX0_alertDelay_0 : cX0_alertDelay.data.toList.drop 0 = dktX0_alertDelay_0 := by decide +kernel
theorem dX0_alertDelay_0 : decode cX0_alertDelay 0 = .ok (.aload_n 2, 1) := dk_44 (dk_at dksX0_alertDelay_0 0 rfl rfl)
theorem dX0_alertDelay_1 : decode cX0_alertDelay 1 = .ok (.iconst 0, 1) := dk_3 (dk_at dksX0_alertDelay_0 1 rfl rfl)
theorem dX0_alertDelay_2 : decode cX0_alertDelay 2 = .ok (.aload_n 0, 1) := dk_42 (dk_at dksX0_alertDelay_0 2 rfl rfl)
theorem dX0_alertDelay_3 : decode cX0_alertDelay 3 = .ok (.iload_n 1, 1) := dk_27 (dk_at dksX0_alertDelay_0 3 rfl rfl)
theorem dX0_alertDelay_4 : decode cX0_alertDelay 4 = .ok (.invokevirtual 44, 3) := dk_182 0 44 (dk_at dksX0_alertDelay_0 4 rfl rfl)
theorem dX0_alertDelay_7 : decode cX0_alertDelay 7 = .ok (.i2l, 1) := dk_133 (dk_at dksX0_alertDelay_0 7 rfl rfl)
theorem dX0_alertDelay_8 : decode cX0_alertDelay 8 = .ok (.lastore, 1) := dk_80 (dk_at dksX0_alertDelay_0 8 rfl rfl)
theorem dX0_alertDelay_9 : decode cX0_alertDelay 9 = .ok (.goto 9, 3) := dk_167 0 9 (dk_at dksX0_alertDelay_0 9 rfl rfl)
theorem dX0_alertDelay_12 : decode cX0_alertDelay 12 = .ok (.astore_n 3, 1) := dk_78 (dk_at dksX0_alertDelay_0 12 rfl rfl)
theorem dX0_alertDelay_13 : decode cX0_alertDelay 13 = .ok (.iconst 1, 1) := dk_4 (dk_at dksX0_alertDelay_0 13 rfl rfl)
theorem dX0_alertDelay_14 : decode cX0_alertDelay 14 = .ok (.ireturn, 1) := dk_172 (dk_at dksX0_alertDelay_0 14 rfl rfl)
theorem dX0_alertDelay_15 : decode cX0_alertDelay 15 = .ok (.astore_n 3, 1) := dk_78 (dk_at dksX0_alertDelay_0 15 rfl rfl)
theorem dX0_alertDelay_16 : decode cX0_alertDelay 16 = .ok (.iconst 2, 1) := dk_5 (dk_at dksX0_alertDelay_0 16 rfl rfl)
theorem dX0_alertDelay_17 : decode cX0_alertDelay 17 = .ok (.ireturn, 1) := dk_172 (dk_at dksX0_alertDelay_0 17 rfl rfl)
theorem dX0_alertDelay_18 : decode cX0_alertDelay 18 = .ok (.iconst 0, 1) := dk_3 (dk_at dksX0_alertDelay_0 18 rfl rfl)
theorem dX0_alertDelay_19 : decode cX0_alertDelay 19 = .ok (.ireturn, 1) := dk_172 (dk_at dksX0_alertDelay_0 19 rfl rfl)
abbrev cX0_waiting : ByteArray := method_13_code
def yX0_waiting : MethodName := ⟨RX0, "waiting", "(LTelescopeQueue;[J)I"⟩
def dkwX0_waiting_0 : List UInt8 := [43, 3, 42, 182, 0, 47, 133, 80, 167, 0, 6, 77, 4, 172, 3, 172]
abbrev dktX0_waiting_0 : List UInt8 := dkwX0_waiting_0 ++ []
theorem dksX0_waiting_0 : cX0_waiting.data.toList.drop 0 = dktX0_waiting_0 := by decide +kernel
theorem dX0_waiting_0 : decode cX0_waiting 0 = .ok (.aload_n 1, 1) := dk_43 (dk_at dksX0_waiting_0 0 rfl rfl)
theorem dX0_waiting_1 : decode cX0_waiting 1 = .ok (.iconst 0, 1) := dk_3 (dk_at dksX0_waiting_0 1 rfl rfl)
theorem dX0_waiting_2 : decode cX0_waiting 2 = .ok (.aload_n 0, 1) := dk_42 (dk_at dksX0_waiting_0 2 rfl rfl)
theorem dX0_waiting_3 : decode cX0_waiting 3 = .ok (.invokevirtual 47, 3) := dk_182 0 47 (dk_at dksX0_waiting_0 3 rfl rfl)
theorem dX0_waiting_6 : decode cX0_waiting 6 = .ok (.i2l, 1) := dk_133 (dk_at dksX0_waiting_0 6 rfl rfl)
theorem dX0_waiting_7 : decode cX0_waiting 7 = .ok (.lastore, 1) := dk_80 (dk_at dksX0_waiting_0 7 rfl rfl)
theorem dX0_waiting_8 : decode cX0_waiting 8 = .ok (.goto 6, 3) := dk_167 0 6 (dk_at dksX0_waiting_0 8 rfl rfl)
theorem dX0_waiting_11 : decode cX0_waiting 11 = .ok (.astore_n 2, 1) := dk_77 (dk_at dksX0_waiting_0 11 rfl rfl)
theorem dX0_waiting_12 : decode cX0_waiting 12 = .ok (.iconst 1, 1) := dk_4 (dk_at dksX0_waiting_0 12 rfl rfl)
theorem dX0_waiting_13 : decode cX0_waiting 13 = .ok (.ireturn, 1) := dk_172 (dk_at dksX0_waiting_0 13 rfl rfl)
theorem dX0_waiting_14 : decode cX0_waiting 14 = .ok (.iconst 0, 1) := dk_3 (dk_at dksX0_waiting_0 14 rfl rfl)
theorem dX0_waiting_15 : decode cX0_waiting 15 = .ok (.ireturn, 1) := dk_172 (dk_at dksX0_waiting_0 15 rfl rfl)
abbrev cX0_now : ByteArray := method_14_code
def yX0_now : MethodName := ⟨RX0, "now", "(LTelescopeQueue;[J)I"⟩
def dkwX0_now_0 : List UInt8 := [43, 3, 42, 182, 0, 51, 133, 80, 167, 0, 6, 77, 4, 172, 3, 172]
abbrev dktX0_now_0 : List UInt8 := dkwX0_now_0 ++ []
theorem dksX0_now_0 : cX0_now.data.toList.drop 0 = dktX0_now_0 := by decide +kernel
theorem dX0_now_0 : decode cX0_now 0 = .ok (.aload_n 1, 1) := dk_43 (dk_at dksX0_now_0 0 rfl rfl)
theorem dX0_now_1 : decode cX0_now 1 = .ok (.iconst 0, 1) := dk_3 (dk_at dksX0_now_0 1 rfl rfl)
theorem dX0_now_2 : decode cX0_now 2 = .ok (.aload_n 0, 1) := dk_42 (dk_at dksX0_now_0 2 rfl rfl)
theorem dX0_now_3 : decode cX0_now 3 = .ok (.invokevirtual 51, 3) := dk_182 0 51 (dk_at dksX0_now_0 3 rfl rfl)
theorem dX0_now_6 : decode cX0_now 6 = .ok (.i2l, 1) := dk_133 (dk_at dksX0_now_0 6 rfl rfl)
theorem dX0_now_7 : decode cX0_now 7 = .ok (.lastore, 1) := dk_80 (dk_at dksX0_now_0 7 rfl rfl)
theorem dX0_now_8 : decode cX0_now 8 = .ok (.goto 6, 3) := dk_167 0 6 (dk_at dksX0_now_0 8 rfl rfl)
theorem dX0_now_11 : decode cX0_now 11 = .ok (.astore_n 2, 1) := dk_77 (dk_at dksX0_now_0 11 rfl rfl)
theorem dX0_now_12 : decode cX0_now 12 = .ok (.iconst 1, 1) := dk_4 (dk_at dksX0_now_0 12 rfl rfl)
theorem dX0_now_13 : decode cX0_now 13 = .ok (.ireturn, 1) := dk_172 (dk_at dksX0_now_0 13 rfl rfl)
theorem dX0_now_14 : decode cX0_now 14 = .ok (.iconst 0, 1) := dk_3 (dk_at dksX0_now_0 14 rfl rfl)
theorem dX0_now_15 : decode cX0_now 15 = .ok (.ireturn, 1) := dk_172 (dk_at dksX0_now_0 15 rfl rfl)
abbrev cX0_pointing : ByteArray := method_15_code
def yX0_pointing : MethodName := ⟨RX0, "pointing", "(LTelescopeQueue;I[J)I"⟩
def dkwX0_pointing_0 : List UInt8 := [44, 3, 42, 27, 182, 0, 54, 133, 80, 167, 0, 9, 78, 4, 172, 78, 5, 172, 3, 172]
abbrev dktX0_pointing_0 : List UInt8 := dkwX0_pointing_0 ++ []
theorem dksX0_pointing_0 : cX0_pointing.data.toList.drop 0 = dktX0_pointing_0 := by decide +kernel
theorem dX0_pointing_0 : decode cX0_pointing 0 = .ok (.aload_n 2, 1) := dk_44 (dk_at dksX0_pointing_0 0 rfl rfl)
theorem dX0_pointing_1 : decode cX0_pointing 1 = .ok (.iconst 0, 1) := dk_3 (dk_at dksX0_pointing_0 1 rfl rfl)
theorem dX0_pointing_2 : decode cX0_pointing 2 = .ok (.aload_n 0, 1) := dk_42 (dk_at dksX0_pointing_0 2 rfl rfl)
theorem dX0_pointing_3 : decode cX0_pointing 3 = .ok (.iload_n 1, 1) := dk_27 (dk_at dksX0_pointing_0 3 rfl rfl)
theorem dX0_pointing_4 : decode cX0_pointing 4 = .ok (.invokevirtual 54, 3) := dk_182 0 54 (dk_at dksX0_pointing_0 4 rfl rfl)
theorem dX0_pointing_7 : decode cX0_pointing 7 = .ok (.i2l, 1) := dk_133 (dk_at dksX0_pointing_0 7 rfl rfl)
theorem dX0_pointing_8 : decode cX0_pointing 8 = .ok (.lastore, 1) := dk_80 (dk_at dksX0_pointing_0 8 rfl rfl)
theorem dX0_pointing_9 : decode cX0_pointing 9 = .ok (.goto 9, 3) := dk_167 0 9 (dk_at dksX0_pointing_0 9 rfl rfl)
theorem dX0_pointing_12 : decode cX0_pointing 12 = .ok (.astore_n 3, 1) := dk_78 (dk_at dksX0_pointing_0 12 rfl rfl)
theorem dX0_pointing_13 : decode cX0_pointing 13 = .ok (.iconst 1, 1) := dk_4 (dk_at dksX0_pointing_0 13 rfl rfl)
theorem dX0_pointing_14 : decode cX0_pointing 14 = .ok (.ireturn, 1) := dk_172 (dk_at dksX0_pointing_0 14 rfl rfl)
theorem dX0_pointing_15 : decode cX0_pointing 15 = .ok (.astore_n 3, 1) := dk_78 (dk_at dksX0_pointing_0 15 rfl rfl)
theorem dX0_pointing_16 : decode cX0_pointing 16 = .ok (.iconst 2, 1) := dk_5 (dk_at dksX0_pointing_0 16 rfl rfl)
theorem dX0_pointing_17 : decode cX0_pointing 17 = .ok (.ireturn, 1) := dk_172 (dk_at dksX0_pointing_0 17 rfl rfl)
theorem dX0_pointing_18 : decode cX0_pointing 18 = .ok (.iconst 0, 1) := dk_3 (dk_at dksX0_pointing_0 18 rfl rfl)
theorem dX0_pointing_19 : decode cX0_pointing 19 = .ok (.ireturn, 1) := dk_172 (dk_at dksX0_pointing_0 19 rfl rfl)
abbrev cX0_momentum : ByteArray := method_16_code
def yX0_momentum : MethodName := ⟨RX0, "momentum", "(LTelescopeQueue;[J)I"⟩
def dkwX0_momentum_0 : List UInt8 := [43, 3, 42, 182, 0, 57, 133, 80, 167, 0, 6, 77, 4, 172, 3, 172]
abbrev dktX0_momentum_0 : List UInt8 := dkwX0_momentum_0 ++ []
theorem dksX0_momentum_0 : cX0_momentum.data.toList.drop 0 = dktX0_momentum_0 := by decide +kernel
theorem dX0_momentum_0 : decode cX0_momentum 0 = .ok (.aload_n 1, 1) := dk_43 (dk_at dksX0_momentum_0 0 rfl rfl)
theorem dX0_momentum_1 : decode cX0_momentum 1 = .ok (.iconst 0, 1) := dk_3 (dk_at dksX0_momentum_0 1 rfl rfl)
theorem dX0_momentum_2 : decode cX0_momentum 2 = .ok (.aload_n 0, 1) := dk_42 (dk_at dksX0_momentum_0 2 rfl rfl)
theorem dX0_momentum_3 : decode cX0_momentum 3 = .ok (.invokevirtual 57, 3) := dk_182 0 57 (dk_at dksX0_momentum_0 3 rfl rfl)
theorem dX0_momentum_6 : decode cX0_momentum 6 = .ok (.i2l, 1) := dk_133 (dk_at dksX0_momentum_0 6 rfl rfl)
theorem dX0_momentum_7 : decode cX0_momentum 7 = .ok (.lastore, 1) := dk_80 (dk_at dksX0_momentum_0 7 rfl rfl)
theorem dX0_momentum_8 : decode cX0_momentum 8 = .ok (.goto 6, 3) := dk_167 0 6 (dk_at dksX0_momentum_0 8 rfl rfl)
theorem dX0_momentum_11 : decode cX0_momentum 11 = .ok (.astore_n 2, 1) := dk_77 (dk_at dksX0_momentum_0 11 rfl rfl)
theorem dX0_momentum_12 : decode cX0_momentum 12 = .ok (.iconst 1, 1) := dk_4 (dk_at dksX0_momentum_0 12 rfl rfl)
theorem dX0_momentum_13 : decode cX0_momentum 13 = .ok (.ireturn, 1) := dk_172 (dk_at dksX0_momentum_0 13 rfl rfl)
theorem dX0_momentum_14 : decode cX0_momentum 14 = .ok (.iconst 0, 1) := dk_3 (dk_at dksX0_momentum_0 14 rfl rfl)
theorem dX0_momentum_15 : decode cX0_momentum 15 = .ok (.ireturn, 1) := dk_172 (dk_at dksX0_momentum_0 15 rfl rfl)
abbrev cX0_sinceCalibration : ByteArray := method_17_code
def yX0_sinceCalibration : MethodName := ⟨RX0, "sinceCalibration", "(LTelescopeQueue;[J)I"⟩
def dkwX0_sinceCalibration_0 : List UInt8 := [43, 3, 42, 182, 0, 60, 133, 80, 167, 0, 6, 77, 4, 172, 3, 172]
abbrev dktX0_sinceCalibration_0 : List UInt8 := dkwX0_sinceCalibration_0 ++ []
theorem dksX0_sinceCalibration_0 : cX0_sinceCalibration.data.toList.drop 0 = dktX0_sinceCalibration_0 := by decide +kernel
theorem dX0_sinceCalibration_0 : decode cX0_sinceCalibration 0 = .ok (.aload_n 1, 1) := dk_43 (dk_at dksX0_sinceCalibration_0 0 rfl rfl)
theorem dX0_sinceCalibration_1 : decode cX0_sinceCalibration 1 = .ok (.iconst 0, 1) := dk_3 (dk_at dksX0_sinceCalibration_0 1 rfl rfl)
theorem dX0_sinceCalibration_2 : decode cX0_sinceCalibration 2 = .ok (.aload_n 0, 1) := dk_42 (dk_at dksX0_sinceCalibration_0 2 rfl rfl)
theorem dX0_sinceCalibration_3 : decode cX0_sinceCalibration 3 = .ok (.invokevirtual 60, 3) := dk_182 0 60 (dk_at dksX0_sinceCalibration_0 3 rfl rfl)
theorem dX0_sinceCalibration_6 : decode cX0_sinceCalibration 6 = .ok (.i2l, 1) := dk_133 (dk_at dksX0_sinceCalibration_0 6 rfl rfl)
theorem dX0_sinceCalibration_7 : decode cX0_sinceCalibration 7 = .ok (.lastore, 1) := dk_80 (dk_at dksX0_sinceCalibration_0 7 rfl rfl)
theorem dX0_sinceCalibration_8 : decode cX0_sinceCalibration 8 = .ok (.goto 6, 3) := dk_167 0 6 (dk_at dksX0_sinceCalibration_0 8 rfl rfl)
theorem dX0_sinceCalibration_11 : decode cX0_sinceCalibration 11 = .ok (.astore_n 2, 1) := dk_77 (dk_at dksX0_sinceCalibration_0 11 rfl rfl)
theorem dX0_sinceCalibration_12 : decode cX0_sinceCalibration 12 = .ok (.iconst 1, 1) := dk_4 (dk_at dksX0_sinceCalibration_0 12 rfl rfl)
theorem dX0_sinceCalibration_13 : decode cX0_sinceCalibration 13 = .ok (.ireturn, 1) := dk_172 (dk_at dksX0_sinceCalibration_0 13 rfl rfl)
theorem dX0_sinceCalibration_14 : decode cX0_sinceCalibration 14 = .ok (.iconst 0, 1) := dk_3 (dk_at dksX0_sinceCalibration_0 14 rfl rfl)
theorem dX0_sinceCalibration_15 : decode cX0_sinceCalibration 15 = .ok (.ireturn, 1) := dk_172 (dk_at dksX0_sinceCalibration_0 15 rfl rfl)
abbrev cX0_setting : ByteArray := method_18_code
def yX0_setting : MethodName := ⟨RX0, "setting", "(LTelescopeQueue;I[J)I"⟩
def dkwX0_setting_0 : List UInt8 := [44, 3, 42, 27, 182, 0, 63, 133, 80, 167, 0, 9, 78, 4, 172, 78, 5, 172, 3, 172]
abbrev dktX0_setting_0 : List UInt8 := dkwX0_setting_0 ++ []
theorem dksX0_setting_0 : cX0_setting.data.toList.drop 0 = dktX0_setting_0 := by decide +kernel
theorem dX0_setting_0 : decode cX0_setting 0 = .ok (.aload_n 2, 1) := dk_44 (dk_at dksX0_setting_0 0 rfl rfl)
theorem dX0_setting_1 : decode cX0_setting 1 = .ok (.iconst 0, 1) := dk_3 (dk_at dksX0_setting_0 1 rfl rfl)
theorem dX0_setting_2 : decode cX0_setting 2 = .ok (.aload_n 0, 1) := dk_42 (dk_at dksX0_setting_0 2 rfl rfl)
theorem dX0_setting_3 : decode cX0_setting 3 = .ok (.iload_n 1, 1) := dk_27 (dk_at dksX0_setting_0 3 rfl rfl)
theorem dX0_setting_4 : decode cX0_setting 4 = .ok (.invokevirtual 63, 3) := dk_182 0 63 (dk_at dksX0_setting_0 4 rfl rfl)
theorem dX0_setting_7 : decode cX0_setting 7 = .ok (.i2l, 1) := dk_133 (dk_at dksX0_setting_0 7 rfl rfl)
theorem dX0_setting_8 : decode cX0_setting 8 = .ok (.lastore, 1) := dk_80 (dk_at dksX0_setting_0 8 rfl rfl)
theorem dX0_setting_9 : decode cX0_setting 9 = .ok (.goto 9, 3) := dk_167 0 9 (dk_at dksX0_setting_0 9 rfl rfl)
theorem dX0_setting_12 : decode cX0_setting 12 = .ok (.astore_n 3, 1) := dk_78 (dk_at dksX0_setting_0 12 rfl rfl)
theorem dX0_setting_13 : decode cX0_setting 13 = .ok (.iconst 1, 1) := dk_4 (dk_at dksX0_setting_0 13 rfl rfl)
theorem dX0_setting_14 : decode cX0_setting 14 = .ok (.ireturn, 1) := dk_172 (dk_at dksX0_setting_0 14 rfl rfl)
theorem dX0_setting_15 : decode cX0_setting 15 = .ok (.astore_n 3, 1) := dk_78 (dk_at dksX0_setting_0 15 rfl rfl)
theorem dX0_setting_16 : decode cX0_setting 16 = .ok (.iconst 2, 1) := dk_5 (dk_at dksX0_setting_0 16 rfl rfl)
theorem dX0_setting_17 : decode cX0_setting 17 = .ok (.ireturn, 1) := dk_172 (dk_at dksX0_setting_0 17 rfl rfl)
theorem dX0_setting_18 : decode cX0_setting 18 = .ok (.iconst 0, 1) := dk_3 (dk_at dksX0_setting_0 18 rfl rfl)
theorem dX0_setting_19 : decode cX0_setting 19 = .ok (.ireturn, 1) := dk_172 (dk_at dksX0_setting_0 19 rfl rfl)
abbrev cX0_sun : ByteArray := method_19_code
def yX0_sun : MethodName := ⟨RX0, "sun", "(LTelescopeQueue;I[J)I"⟩
def dkwX0_sun_0 : List UInt8 := [44, 3, 42, 27, 182, 0, 66, 133, 80, 167, 0, 9, 78, 4, 172, 78, 5, 172, 3, 172]
abbrev dktX0_sun_0 : List UInt8 := dkwX0_sun_0 ++ []
theorem dksX0_sun_0 : cX0_sun.data.toList.drop 0 = dktX0_sun_0 := by decide +kernel
theorem dX0_sun_0 : decode cX0_sun 0 = .ok (.aload_n 2, 1) := dk_44 (dk_at dksX0_sun_0 0 rfl rfl)
theorem dX0_sun_1 : decode cX0_sun 1 = .ok (.iconst 0, 1) := dk_3 (dk_at dksX0_sun_0 1 rfl rfl)
theorem dX0_sun_2 : decode cX0_sun 2 = .ok (.aload_n 0, 1) := dk_42 (dk_at dksX0_sun_0 2 rfl rfl)
theorem dX0_sun_3 : decode cX0_sun 3 = .ok (.iload_n 1, 1) := dk_27 (dk_at dksX0_sun_0 3 rfl rfl)
theorem dX0_sun_4 : decode cX0_sun 4 = .ok (.invokevirtual 66, 3) := dk_182 0 66 (dk_at dksX0_sun_0 4 rfl rfl)
theorem dX0_sun_7 : decode cX0_sun 7 = .ok (.i2l, 1) := dk_133 (dk_at dksX0_sun_0 7 rfl rfl)
theorem dX0_sun_8 : decode cX0_sun 8 = .ok (.lastore, 1) := dk_80 (dk_at dksX0_sun_0 8 rfl rfl)
theorem dX0_sun_9 : decode cX0_sun 9 = .ok (.goto 9, 3) := dk_167 0 9 (dk_at dksX0_sun_0 9 rfl rfl)
theorem dX0_sun_12 : decode cX0_sun 12 = .ok (.astore_n 3, 1) := dk_78 (dk_at dksX0_sun_0 12 rfl rfl)
theorem dX0_sun_13 : decode cX0_sun 13 = .ok (.iconst 1, 1) := dk_4 (dk_at dksX0_sun_0 13 rfl rfl)
theorem dX0_sun_14 : decode cX0_sun 14 = .ok (.ireturn, 1) := dk_172 (dk_at dksX0_sun_0 14 rfl rfl)
theorem dX0_sun_15 : decode cX0_sun 15 = .ok (.astore_n 3, 1) := dk_78 (dk_at dksX0_sun_0 15 rfl rfl)
theorem dX0_sun_16 : decode cX0_sun 16 = .ok (.iconst 2, 1) := dk_5 (dk_at dksX0_sun_0 16 rfl rfl)
theorem dX0_sun_17 : decode cX0_sun 17 = .ok (.ireturn, 1) := dk_172 (dk_at dksX0_sun_0 17 rfl rfl)
theorem dX0_sun_18 : decode cX0_sun 18 = .ok (.iconst 0, 1) := dk_3 (dk_at dksX0_sun_0 18 rfl rfl)
theorem dX0_sun_19 : decode cX0_sun 19 = .ok (.ireturn, 1) := dk_172 (dk_at dksX0_sun_0 19 rfl rfl)
abbrev cX0_angleTo : ByteArray := method_20_code
def yX0_angleTo : MethodName := ⟨RX0, "angleTo", "(LTelescopeQueue;II[J)I"⟩
def dkwX0_angleTo_0 : List UInt8 := [45, 3, 42, 27, 28, 182, 0, 69, 133, 80, 167, 0, 11, 58, 4, 4, 172, 58, 4, 5, 172, 3, 172]
abbrev dktX0_angleTo_0 : List UInt8 := dkwX0_angleTo_0 ++ []
theorem dksX0_angleTo_0 : cX0_angleTo.data.toList.drop 0 = dktX0_angleTo_0 := by decide +kernel
theorem dX0_angleTo_0 : decode cX0_angleTo 0 = .ok (.aload_n 3, 1) := dk_45 (dk_at dksX0_angleTo_0 0 rfl rfl)
theorem dX0_angleTo_1 : decode cX0_angleTo 1 = .ok (.iconst 0, 1) := dk_3 (dk_at dksX0_angleTo_0 1 rfl rfl)
theorem dX0_angleTo_2 : decode cX0_angleTo 2 = .ok (.aload_n 0, 1) := dk_42 (dk_at dksX0_angleTo_0 2 rfl rfl)
theorem dX0_angleTo_3 : decode cX0_angleTo 3 = .ok (.iload_n 1, 1) := dk_27 (dk_at dksX0_angleTo_0 3 rfl rfl)
theorem dX0_angleTo_4 : decode cX0_angleTo 4 = .ok (.iload_n 2, 1) := dk_28 (dk_at dksX0_angleTo_0 4 rfl rfl)
theorem dX0_angleTo_5 : decode cX0_angleTo 5 = .ok (.invokevirtual 69, 3) := dk_182 0 69 (dk_at dksX0_angleTo_0 5 rfl rfl)
theorem dX0_angleTo_8 : decode cX0_angleTo 8 = .ok (.i2l, 1) := dk_133 (dk_at dksX0_angleTo_0 8 rfl rfl)
theorem dX0_angleTo_9 : decode cX0_angleTo 9 = .ok (.lastore, 1) := dk_80 (dk_at dksX0_angleTo_0 9 rfl rfl)
theorem dX0_angleTo_10 : decode cX0_angleTo 10 = .ok (.goto 11, 3) := dk_167 0 11 (dk_at dksX0_angleTo_0 10 rfl rfl)
theorem dX0_angleTo_13 : decode cX0_angleTo 13 = .ok (.astore 4, 2) := dk_58 4 (dk_at dksX0_angleTo_0 13 rfl rfl)
theorem dX0_angleTo_15 : decode cX0_angleTo 15 = .ok (.iconst 1, 1) := dk_4 (dk_at dksX0_angleTo_0 15 rfl rfl)
theorem dX0_angleTo_16 : decode cX0_angleTo 16 = .ok (.ireturn, 1) := dk_172 (dk_at dksX0_angleTo_0 16 rfl rfl)
theorem dX0_angleTo_17 : decode cX0_angleTo 17 = .ok (.astore 4, 2) := dk_58 4 (dk_at dksX0_angleTo_0 17 rfl rfl)
theorem dX0_angleTo_19 : decode cX0_angleTo 19 = .ok (.iconst 2, 1) := dk_5 (dk_at dksX0_angleTo_0 19 rfl rfl)
theorem dX0_angleTo_20 : decode cX0_angleTo 20 = .ok (.ireturn, 1) := dk_172 (dk_at dksX0_angleTo_0 20 rfl rfl)
theorem dX0_angleTo_21 : decode cX0_angleTo 21 = .ok (.iconst 0, 1) := dk_3 (dk_at dksX0_angleTo_0 21 rfl rfl)
theorem dX0_angleTo_22 : decode cX0_angleTo 22 = .ok (.ireturn, 1) := dk_172 (dk_at dksX0_angleTo_0 22 rfl rfl)
abbrev cX0_slewTo : ByteArray := method_21_code
def yX0_slewTo : MethodName := ⟨RX0, "slewTo", "(LTelescopeQueue;II[J)I"⟩
def dkwX0_slewTo_0 : List UInt8 := [45, 3, 42, 27, 28, 182, 0, 72, 133, 80, 167, 0, 11, 58, 4, 4, 172, 58, 4, 5, 172, 3, 172]
abbrev dktX0_slewTo_0 : List UInt8 := dkwX0_slewTo_0 ++ []
theorem dksX0_slewTo_0 : cX0_slewTo.data.toList.drop 0 = dktX0_slewTo_0 := by decide +kernel
theorem dX0_slewTo_0 : decode cX0_slewTo 0 = .ok (.aload_n 3, 1) := dk_45 (dk_at dksX0_slewTo_0 0 rfl rfl)
theorem dX0_slewTo_1 : decode cX0_slewTo 1 = .ok (.iconst 0, 1) := dk_3 (dk_at dksX0_slewTo_0 1 rfl rfl)
theorem dX0_slewTo_2 : decode cX0_slewTo 2 = .ok (.aload_n 0, 1) := dk_42 (dk_at dksX0_slewTo_0 2 rfl rfl)
theorem dX0_slewTo_3 : decode cX0_slewTo 3 = .ok (.iload_n 1, 1) := dk_27 (dk_at dksX0_slewTo_0 3 rfl rfl)
theorem dX0_slewTo_4 : decode cX0_slewTo 4 = .ok (.iload_n 2, 1) := dk_28 (dk_at dksX0_slewTo_0 4 rfl rfl)
theorem dX0_slewTo_5 : decode cX0_slewTo 5 = .ok (.invokevirtual 72, 3) := dk_182 0 72 (dk_at dksX0_slewTo_0 5 rfl rfl)
theorem dX0_slewTo_8 : decode cX0_slewTo 8 = .ok (.i2l, 1) := dk_133 (dk_at dksX0_slewTo_0 8 rfl rfl)
theorem dX0_slewTo_9 : decode cX0_slewTo 9 = .ok (.lastore, 1) := dk_80 (dk_at dksX0_slewTo_0 9 rfl rfl)
theorem dX0_slewTo_10 : decode cX0_slewTo 10 = .ok (.goto 11, 3) := dk_167 0 11 (dk_at dksX0_slewTo_0 10 rfl rfl)
theorem dX0_slewTo_13 : decode cX0_slewTo 13 = .ok (.astore 4, 2) := dk_58 4 (dk_at dksX0_slewTo_0 13 rfl rfl)
theorem dX0_slewTo_15 : decode cX0_slewTo 15 = .ok (.iconst 1, 1) := dk_4 (dk_at dksX0_slewTo_0 15 rfl rfl)
theorem dX0_slewTo_16 : decode cX0_slewTo 16 = .ok (.ireturn, 1) := dk_172 (dk_at dksX0_slewTo_0 16 rfl rfl)
theorem dX0_slewTo_17 : decode cX0_slewTo 17 = .ok (.astore 4, 2) := dk_58 4 (dk_at dksX0_slewTo_0 17 rfl rfl)
theorem dX0_slewTo_19 : decode cX0_slewTo 19 = .ok (.iconst 2, 1) := dk_5 (dk_at dksX0_slewTo_0 19 rfl rfl)
theorem dX0_slewTo_20 : decode cX0_slewTo 20 = .ok (.ireturn, 1) := dk_172 (dk_at dksX0_slewTo_0 20 rfl rfl)
theorem dX0_slewTo_21 : decode cX0_slewTo 21 = .ok (.iconst 0, 1) := dk_3 (dk_at dksX0_slewTo_0 21 rfl rfl)
theorem dX0_slewTo_22 : decode cX0_slewTo 22 = .ok (.ireturn, 1) := dk_172 (dk_at dksX0_slewTo_0 22 rfl rfl)
abbrev cX0_isVisible : ByteArray := method_22_code
def yX0_isVisible : MethodName := ⟨RX0, "isVisible", "(LTelescopeQueue;II[J)I"⟩
def dkwX0_isVisible_1 : List UInt8 := [58, 4, 5, 172, 3, 172]
abbrev dktX0_isVisible_1 : List UInt8 := dkwX0_isVisible_1 ++ []
def dkwX0_isVisible_0 : List UInt8 := [45, 3, 42, 27, 28, 182, 0, 75, 153, 0, 7, 10, 167, 0, 4, 9, 80, 167, 0, 11, 58, 4, 4, 172]
abbrev dktX0_isVisible_0 : List UInt8 := dkwX0_isVisible_0 ++ dktX0_isVisible_1
theorem dksX0_isVisible_0 : cX0_isVisible.data.toList.drop 0 = dktX0_isVisible_0 := by decide +kernel
theorem dksX0_isVisible_1 : cX0_isVisible.data.toList.drop 24 = dktX0_isVisible_1 := dk_seg dksX0_isVisible_0 24 rfl rfl
theorem dX0_isVisible_0 : decode cX0_isVisible 0 = .ok (.aload_n 3, 1) := dk_45 (dk_at dksX0_isVisible_0 0 rfl rfl)
theorem dX0_isVisible_1 : decode cX0_isVisible 1 = .ok (.iconst 0, 1) := dk_3 (dk_at dksX0_isVisible_0 1 rfl rfl)
theorem dX0_isVisible_2 : decode cX0_isVisible 2 = .ok (.aload_n 0, 1) := dk_42 (dk_at dksX0_isVisible_0 2 rfl rfl)
theorem dX0_isVisible_3 : decode cX0_isVisible 3 = .ok (.iload_n 1, 1) := dk_27 (dk_at dksX0_isVisible_0 3 rfl rfl)
theorem dX0_isVisible_4 : decode cX0_isVisible 4 = .ok (.iload_n 2, 1) := dk_28 (dk_at dksX0_isVisible_0 4 rfl rfl)
theorem dX0_isVisible_5 : decode cX0_isVisible 5 = .ok (.invokevirtual 75, 3) := dk_182 0 75 (dk_at dksX0_isVisible_0 5 rfl rfl)
theorem dX0_isVisible_8 : decode cX0_isVisible 8 = .ok (.ifCond .eq 7, 3) := dk_153 0 7 (dk_at dksX0_isVisible_0 8 rfl rfl)
theorem dX0_isVisible_11 : decode cX0_isVisible 11 = .ok (.lconst 1, 1) := dk_10 (dk_at dksX0_isVisible_0 11 rfl rfl)
theorem dX0_isVisible_12 : decode cX0_isVisible 12 = .ok (.goto 4, 3) := dk_167 0 4 (dk_at dksX0_isVisible_0 12 rfl rfl)
theorem dX0_isVisible_15 : decode cX0_isVisible 15 = .ok (.lconst 0, 1) := dk_9 (dk_at dksX0_isVisible_0 15 rfl rfl)
theorem dX0_isVisible_16 : decode cX0_isVisible 16 = .ok (.lastore, 1) := dk_80 (dk_at dksX0_isVisible_0 16 rfl rfl)
theorem dX0_isVisible_17 : decode cX0_isVisible 17 = .ok (.goto 11, 3) := dk_167 0 11 (dk_at dksX0_isVisible_0 17 rfl rfl)
theorem dX0_isVisible_20 : decode cX0_isVisible 20 = .ok (.astore 4, 2) := dk_58 4 (dk_at dksX0_isVisible_0 20 rfl rfl)
theorem dX0_isVisible_22 : decode cX0_isVisible 22 = .ok (.iconst 1, 1) := dk_4 (dk_at dksX0_isVisible_0 22 rfl rfl)
theorem dX0_isVisible_23 : decode cX0_isVisible 23 = .ok (.ireturn, 1) := dk_172 (dk_at dksX0_isVisible_0 23 rfl rfl)
theorem dX0_isVisible_24 : decode cX0_isVisible 24 = .ok (.astore 4, 2) := dk_58 4 (dk_at dksX0_isVisible_1 0 rfl rfl)
theorem dX0_isVisible_26 : decode cX0_isVisible 26 = .ok (.iconst 2, 1) := dk_5 (dk_at dksX0_isVisible_1 2 rfl rfl)
theorem dX0_isVisible_27 : decode cX0_isVisible 27 = .ok (.ireturn, 1) := dk_172 (dk_at dksX0_isVisible_1 3 rfl rfl)
theorem dX0_isVisible_28 : decode cX0_isVisible 28 = .ok (.iconst 0, 1) := dk_3 (dk_at dksX0_isVisible_1 4 rfl rfl)
theorem dX0_isVisible_29 : decode cX0_isVisible 29 = .ok (.ireturn, 1) := dk_172 (dk_at dksX0_isVisible_1 5 rfl rfl)
abbrev cX0_nextVisible : ByteArray := method_23_code
def yX0_nextVisible : MethodName := ⟨RX0, "nextVisible", "(LTelescopeQueue;II[J)I"⟩
def dkwX0_nextVisible_0 : List UInt8 := [45, 3, 42, 27, 28, 182, 0, 79, 133, 80, 167, 0, 11, 58, 4, 4, 172, 58, 4, 5, 172, 3, 172]
abbrev dktX0_nextVisible_0 : List UInt8 := dkwX0_nextVisible_0 ++ []
theorem dksX0_nextVisible_0 : cX0_nextVisible.data.toList.drop 0 = dktX0_nextVisible_0 := by decide +kernel
theorem dX0_nextVisible_0 : decode cX0_nextVisible 0 = .ok (.aload_n 3, 1) := dk_45 (dk_at dksX0_nextVisible_0 0 rfl rfl)
theorem dX0_nextVisible_1 : decode cX0_nextVisible 1 = .ok (.iconst 0, 1) := dk_3 (dk_at dksX0_nextVisible_0 1 rfl rfl)
theorem dX0_nextVisible_2 : decode cX0_nextVisible 2 = .ok (.aload_n 0, 1) := dk_42 (dk_at dksX0_nextVisible_0 2 rfl rfl)
theorem dX0_nextVisible_3 : decode cX0_nextVisible 3 = .ok (.iload_n 1, 1) := dk_27 (dk_at dksX0_nextVisible_0 3 rfl rfl)
theorem dX0_nextVisible_4 : decode cX0_nextVisible 4 = .ok (.iload_n 2, 1) := dk_28 (dk_at dksX0_nextVisible_0 4 rfl rfl)
theorem dX0_nextVisible_5 : decode cX0_nextVisible 5 = .ok (.invokevirtual 79, 3) := dk_182 0 79 (dk_at dksX0_nextVisible_0 5 rfl rfl)
theorem dX0_nextVisible_8 : decode cX0_nextVisible 8 = .ok (.i2l, 1) := dk_133 (dk_at dksX0_nextVisible_0 8 rfl rfl)
theorem dX0_nextVisible_9 : decode cX0_nextVisible 9 = .ok (.lastore, 1) := dk_80 (dk_at dksX0_nextVisible_0 9 rfl rfl)
theorem dX0_nextVisible_10 : decode cX0_nextVisible 10 = .ok (.goto 11, 3) := dk_167 0 11 (dk_at dksX0_nextVisible_0 10 rfl rfl)
theorem dX0_nextVisible_13 : decode cX0_nextVisible 13 = .ok (.astore 4, 2) := dk_58 4 (dk_at dksX0_nextVisible_0 13 rfl rfl)
theorem dX0_nextVisible_15 : decode cX0_nextVisible 15 = .ok (.iconst 1, 1) := dk_4 (dk_at dksX0_nextVisible_0 15 rfl rfl)
theorem dX0_nextVisible_16 : decode cX0_nextVisible 16 = .ok (.ireturn, 1) := dk_172 (dk_at dksX0_nextVisible_0 16 rfl rfl)
theorem dX0_nextVisible_17 : decode cX0_nextVisible 17 = .ok (.astore 4, 2) := dk_58 4 (dk_at dksX0_nextVisible_0 17 rfl rfl)
theorem dX0_nextVisible_19 : decode cX0_nextVisible 19 = .ok (.iconst 2, 1) := dk_5 (dk_at dksX0_nextVisible_0 19 rfl rfl)
theorem dX0_nextVisible_20 : decode cX0_nextVisible 20 = .ok (.ireturn, 1) := dk_172 (dk_at dksX0_nextVisible_0 20 rfl rfl)
theorem dX0_nextVisible_21 : decode cX0_nextVisible 21 = .ok (.iconst 0, 1) := dk_3 (dk_at dksX0_nextVisible_0 21 rfl rfl)
theorem dX0_nextVisible_22 : decode cX0_nextVisible 22 = .ok (.ireturn, 1) := dk_172 (dk_at dksX0_nextVisible_0 22 rfl rfl)
abbrev cX0_growth : ByteArray := method_24_code
def yX0_growth : MethodName := ⟨RX0, "growth", "(LTelescopeQueue;I[J)I"⟩
def dkwX0_growth_0 : List UInt8 := [44, 3, 42, 27, 182, 0, 82, 133, 80, 167, 0, 9, 78, 4, 172, 78, 5, 172, 3, 172]
abbrev dktX0_growth_0 : List UInt8 := dkwX0_growth_0 ++ []
theorem dksX0_growth_0 : cX0_growth.data.toList.drop 0 = dktX0_growth_0 := by decide +kernel
theorem dX0_growth_0 : decode cX0_growth 0 = .ok (.aload_n 2, 1) := dk_44 (dk_at dksX0_growth_0 0 rfl rfl)
theorem dX0_growth_1 : decode cX0_growth 1 = .ok (.iconst 0, 1) := dk_3 (dk_at dksX0_growth_0 1 rfl rfl)
theorem dX0_growth_2 : decode cX0_growth 2 = .ok (.aload_n 0, 1) := dk_42 (dk_at dksX0_growth_0 2 rfl rfl)
theorem dX0_growth_3 : decode cX0_growth 3 = .ok (.iload_n 1, 1) := dk_27 (dk_at dksX0_growth_0 3 rfl rfl)
theorem dX0_growth_4 : decode cX0_growth 4 = .ok (.invokevirtual 82, 3) := dk_182 0 82 (dk_at dksX0_growth_0 4 rfl rfl)
theorem dX0_growth_7 : decode cX0_growth 7 = .ok (.i2l, 1) := dk_133 (dk_at dksX0_growth_0 7 rfl rfl)
theorem dX0_growth_8 : decode cX0_growth 8 = .ok (.lastore, 1) := dk_80 (dk_at dksX0_growth_0 8 rfl rfl)
theorem dX0_growth_9 : decode cX0_growth 9 = .ok (.goto 9, 3) := dk_167 0 9 (dk_at dksX0_growth_0 9 rfl rfl)
theorem dX0_growth_12 : decode cX0_growth 12 = .ok (.astore_n 3, 1) := dk_78 (dk_at dksX0_growth_0 12 rfl rfl)
theorem dX0_growth_13 : decode cX0_growth 13 = .ok (.iconst 1, 1) := dk_4 (dk_at dksX0_growth_0 13 rfl rfl)
theorem dX0_growth_14 : decode cX0_growth 14 = .ok (.ireturn, 1) := dk_172 (dk_at dksX0_growth_0 14 rfl rfl)
theorem dX0_growth_15 : decode cX0_growth 15 = .ok (.astore_n 3, 1) := dk_78 (dk_at dksX0_growth_0 15 rfl rfl)
theorem dX0_growth_16 : decode cX0_growth 16 = .ok (.iconst 2, 1) := dk_5 (dk_at dksX0_growth_0 16 rfl rfl)
theorem dX0_growth_17 : decode cX0_growth 17 = .ok (.ireturn, 1) := dk_172 (dk_at dksX0_growth_0 17 rfl rfl)
theorem dX0_growth_18 : decode cX0_growth 18 = .ok (.iconst 0, 1) := dk_3 (dk_at dksX0_growth_0 18 rfl rfl)
theorem dX0_growth_19 : decode cX0_growth 19 = .ok (.ireturn, 1) := dk_172 (dk_at dksX0_growth_0 19 rfl rfl)
abbrev cX0_needsDump : ByteArray := method_25_code
def yX0_needsDump : MethodName := ⟨RX0, "needsDump", "(LTelescopeQueue;I[J)I"⟩
def dkwX0_needsDump_1 : List UInt8 := [172, 3, 172]
abbrev dktX0_needsDump_1 : List UInt8 := dkwX0_needsDump_1 ++ []
def dkwX0_needsDump_0 : List UInt8 := [44, 3, 42, 27, 182, 0, 85, 153, 0, 7, 10, 167, 0, 4, 9, 80, 167, 0, 9, 78, 4, 172, 78, 5]
abbrev dktX0_needsDump_0 : List UInt8 := dkwX0_needsDump_0 ++ dktX0_needsDump_1
theorem dksX0_needsDump_0 : cX0_needsDump.data.toList.drop 0 = dktX0_needsDump_0 := by decide +kernel
theorem dksX0_needsDump_1 : cX0_needsDump.data.toList.drop 24 = dktX0_needsDump_1 := dk_seg dksX0_needsDump_0 24 rfl rfl
theorem dX0_needsDump_0 : decode cX0_needsDump 0 = .ok (.aload_n 2, 1) := dk_44 (dk_at dksX0_needsDump_0 0 rfl rfl)
theorem dX0_needsDump_1 : decode cX0_needsDump 1 = .ok (.iconst 0, 1) := dk_3 (dk_at dksX0_needsDump_0 1 rfl rfl)
theorem dX0_needsDump_2 : decode cX0_needsDump 2 = .ok (.aload_n 0, 1) := dk_42 (dk_at dksX0_needsDump_0 2 rfl rfl)
theorem dX0_needsDump_3 : decode cX0_needsDump 3 = .ok (.iload_n 1, 1) := dk_27 (dk_at dksX0_needsDump_0 3 rfl rfl)
theorem dX0_needsDump_4 : decode cX0_needsDump 4 = .ok (.invokevirtual 85, 3) := dk_182 0 85 (dk_at dksX0_needsDump_0 4 rfl rfl)
theorem dX0_needsDump_7 : decode cX0_needsDump 7 = .ok (.ifCond .eq 7, 3) := dk_153 0 7 (dk_at dksX0_needsDump_0 7 rfl rfl)
theorem dX0_needsDump_10 : decode cX0_needsDump 10 = .ok (.lconst 1, 1) := dk_10 (dk_at dksX0_needsDump_0 10 rfl rfl)
theorem dX0_needsDump_11 : decode cX0_needsDump 11 = .ok (.goto 4, 3) := dk_167 0 4 (dk_at dksX0_needsDump_0 11 rfl rfl)
theorem dX0_needsDump_14 : decode cX0_needsDump 14 = .ok (.lconst 0, 1) := dk_9 (dk_at dksX0_needsDump_0 14 rfl rfl)
theorem dX0_needsDump_15 : decode cX0_needsDump 15 = .ok (.lastore, 1) := dk_80 (dk_at dksX0_needsDump_0 15 rfl rfl)
theorem dX0_needsDump_16 : decode cX0_needsDump 16 = .ok (.goto 9, 3) := dk_167 0 9 (dk_at dksX0_needsDump_0 16 rfl rfl)
theorem dX0_needsDump_19 : decode cX0_needsDump 19 = .ok (.astore_n 3, 1) := dk_78 (dk_at dksX0_needsDump_0 19 rfl rfl)
theorem dX0_needsDump_20 : decode cX0_needsDump 20 = .ok (.iconst 1, 1) := dk_4 (dk_at dksX0_needsDump_0 20 rfl rfl)
theorem dX0_needsDump_21 : decode cX0_needsDump 21 = .ok (.ireturn, 1) := dk_172 (dk_at dksX0_needsDump_0 21 rfl rfl)
theorem dX0_needsDump_22 : decode cX0_needsDump 22 = .ok (.astore_n 3, 1) := dk_78 (dk_at dksX0_needsDump_0 22 rfl rfl)
theorem dX0_needsDump_23 : decode cX0_needsDump 23 = .ok (.iconst 2, 1) := dk_5 (dk_at dksX0_needsDump_0 23 rfl rfl)
theorem dX0_needsDump_24 : decode cX0_needsDump 24 = .ok (.ireturn, 1) := dk_172 (dk_at dksX0_needsDump_1 0 rfl rfl)
theorem dX0_needsDump_25 : decode cX0_needsDump 25 = .ok (.iconst 0, 1) := dk_3 (dk_at dksX0_needsDump_1 1 rfl rfl)
theorem dX0_needsDump_26 : decode cX0_needsDump 26 = .ok (.ireturn, 1) := dk_172 (dk_at dksX0_needsDump_1 2 rfl rfl)
abbrev cX0_startIf : ByteArray := method_26_code
def yX0_startIf : MethodName := ⟨RX0, "startIf", "(LTelescopeQueue;I[J)I"⟩
def dkwX0_startIf_0 : List UInt8 := [44, 3, 42, 27, 182, 0, 89, 133, 80, 167, 0, 9, 78, 4, 172, 78, 5, 172, 3, 172]
abbrev dktX0_startIf_0 : List UInt8 := dkwX0_startIf_0 ++ []
theorem dksX0_startIf_0 : cX0_startIf.data.toList.drop 0 = dktX0_startIf_0 := by decide +kernel
theorem dX0_startIf_0 : decode cX0_startIf 0 = .ok (.aload_n 2, 1) := dk_44 (dk_at dksX0_startIf_0 0 rfl rfl)
theorem dX0_startIf_1 : decode cX0_startIf 1 = .ok (.iconst 0, 1) := dk_3 (dk_at dksX0_startIf_0 1 rfl rfl)
theorem dX0_startIf_2 : decode cX0_startIf 2 = .ok (.aload_n 0, 1) := dk_42 (dk_at dksX0_startIf_0 2 rfl rfl)
theorem dX0_startIf_3 : decode cX0_startIf 3 = .ok (.iload_n 1, 1) := dk_27 (dk_at dksX0_startIf_0 3 rfl rfl)
theorem dX0_startIf_4 : decode cX0_startIf 4 = .ok (.invokevirtual 89, 3) := dk_182 0 89 (dk_at dksX0_startIf_0 4 rfl rfl)
theorem dX0_startIf_7 : decode cX0_startIf 7 = .ok (.i2l, 1) := dk_133 (dk_at dksX0_startIf_0 7 rfl rfl)
theorem dX0_startIf_8 : decode cX0_startIf 8 = .ok (.lastore, 1) := dk_80 (dk_at dksX0_startIf_0 8 rfl rfl)
theorem dX0_startIf_9 : decode cX0_startIf 9 = .ok (.goto 9, 3) := dk_167 0 9 (dk_at dksX0_startIf_0 9 rfl rfl)
theorem dX0_startIf_12 : decode cX0_startIf 12 = .ok (.astore_n 3, 1) := dk_78 (dk_at dksX0_startIf_0 12 rfl rfl)
theorem dX0_startIf_13 : decode cX0_startIf 13 = .ok (.iconst 1, 1) := dk_4 (dk_at dksX0_startIf_0 13 rfl rfl)
theorem dX0_startIf_14 : decode cX0_startIf 14 = .ok (.ireturn, 1) := dk_172 (dk_at dksX0_startIf_0 14 rfl rfl)
theorem dX0_startIf_15 : decode cX0_startIf 15 = .ok (.astore_n 3, 1) := dk_78 (dk_at dksX0_startIf_0 15 rfl rfl)
theorem dX0_startIf_16 : decode cX0_startIf 16 = .ok (.iconst 2, 1) := dk_5 (dk_at dksX0_startIf_0 16 rfl rfl)
theorem dX0_startIf_17 : decode cX0_startIf 17 = .ok (.ireturn, 1) := dk_172 (dk_at dksX0_startIf_0 17 rfl rfl)
theorem dX0_startIf_18 : decode cX0_startIf 18 = .ok (.iconst 0, 1) := dk_3 (dk_at dksX0_startIf_0 18 rfl rfl)
theorem dX0_startIf_19 : decode cX0_startIf 19 = .ok (.ireturn, 1) := dk_172 (dk_at dksX0_startIf_0 19 rfl rfl)
abbrev cX0_reason : ByteArray := method_27_code
def yX0_reason : MethodName := ⟨RX0, "reason", "(LTelescopeQueue;I[J)I"⟩
def dkwX0_reason_0 : List UInt8 := [44, 3, 42, 27, 182, 0, 92, 133, 80, 167, 0, 9, 78, 4, 172, 78, 5, 172, 3, 172]
abbrev dktX0_reason_0 : List UInt8 := dkwX0_reason_0 ++ []
theorem dksX0_reason_0 : cX0_reason.data.toList.drop 0 = dktX0_reason_0 := by decide +kernel
theorem dX0_reason_0 : decode cX0_reason 0 = .ok (.aload_n 2, 1) := dk_44 (dk_at dksX0_reason_0 0 rfl rfl)
theorem dX0_reason_1 : decode cX0_reason 1 = .ok (.iconst 0, 1) := dk_3 (dk_at dksX0_reason_0 1 rfl rfl)
theorem dX0_reason_2 : decode cX0_reason 2 = .ok (.aload_n 0, 1) := dk_42 (dk_at dksX0_reason_0 2 rfl rfl)
theorem dX0_reason_3 : decode cX0_reason 3 = .ok (.iload_n 1, 1) := dk_27 (dk_at dksX0_reason_0 3 rfl rfl)
theorem dX0_reason_4 : decode cX0_reason 4 = .ok (.invokevirtual 92, 3) := dk_182 0 92 (dk_at dksX0_reason_0 4 rfl rfl)
theorem dX0_reason_7 : decode cX0_reason 7 = .ok (.i2l, 1) := dk_133 (dk_at dksX0_reason_0 7 rfl rfl)
theorem dX0_reason_8 : decode cX0_reason 8 = .ok (.lastore, 1) := dk_80 (dk_at dksX0_reason_0 8 rfl rfl)
theorem dX0_reason_9 : decode cX0_reason 9 = .ok (.goto 9, 3) := dk_167 0 9 (dk_at dksX0_reason_0 9 rfl rfl)
theorem dX0_reason_12 : decode cX0_reason 12 = .ok (.astore_n 3, 1) := dk_78 (dk_at dksX0_reason_0 12 rfl rfl)
theorem dX0_reason_13 : decode cX0_reason 13 = .ok (.iconst 1, 1) := dk_4 (dk_at dksX0_reason_0 13 rfl rfl)
theorem dX0_reason_14 : decode cX0_reason 14 = .ok (.ireturn, 1) := dk_172 (dk_at dksX0_reason_0 14 rfl rfl)
theorem dX0_reason_15 : decode cX0_reason 15 = .ok (.astore_n 3, 1) := dk_78 (dk_at dksX0_reason_0 15 rfl rfl)
theorem dX0_reason_16 : decode cX0_reason 16 = .ok (.iconst 2, 1) := dk_5 (dk_at dksX0_reason_0 16 rfl rfl)
theorem dX0_reason_17 : decode cX0_reason 17 = .ok (.ireturn, 1) := dk_172 (dk_at dksX0_reason_0 17 rfl rfl)
theorem dX0_reason_18 : decode cX0_reason 18 = .ok (.iconst 0, 1) := dk_3 (dk_at dksX0_reason_0 18 rfl rfl)
theorem dX0_reason_19 : decode cX0_reason 19 = .ok (.ireturn, 1) := dk_172 (dk_at dksX0_reason_0 19 rfl rfl)
abbrev cX0_chosen : ByteArray := method_28_code
def yX0_chosen : MethodName := ⟨RX0, "chosen", "(LTelescopeQueue;[J)I"⟩
def dkwX0_chosen_0 : List UInt8 := [43, 3, 42, 182, 0, 95, 133, 80, 167, 0, 6, 77, 4, 172, 3, 172]
abbrev dktX0_chosen_0 : List UInt8 := dkwX0_chosen_0 ++ []
theorem dksX0_chosen_0 : cX0_chosen.data.toList.drop 0 = dktX0_chosen_0 := by decide +kernel
theorem dX0_chosen_0 : decode cX0_chosen 0 = .ok (.aload_n 1, 1) := dk_43 (dk_at dksX0_chosen_0 0 rfl rfl)
theorem dX0_chosen_1 : decode cX0_chosen 1 = .ok (.iconst 0, 1) := dk_3 (dk_at dksX0_chosen_0 1 rfl rfl)
theorem dX0_chosen_2 : decode cX0_chosen 2 = .ok (.aload_n 0, 1) := dk_42 (dk_at dksX0_chosen_0 2 rfl rfl)
theorem dX0_chosen_3 : decode cX0_chosen 3 = .ok (.invokevirtual 95, 3) := dk_182 0 95 (dk_at dksX0_chosen_0 3 rfl rfl)
theorem dX0_chosen_6 : decode cX0_chosen 6 = .ok (.i2l, 1) := dk_133 (dk_at dksX0_chosen_0 6 rfl rfl)
theorem dX0_chosen_7 : decode cX0_chosen 7 = .ok (.lastore, 1) := dk_80 (dk_at dksX0_chosen_0 7 rfl rfl)
theorem dX0_chosen_8 : decode cX0_chosen 8 = .ok (.goto 6, 3) := dk_167 0 6 (dk_at dksX0_chosen_0 8 rfl rfl)
theorem dX0_chosen_11 : decode cX0_chosen 11 = .ok (.astore_n 2, 1) := dk_77 (dk_at dksX0_chosen_0 11 rfl rfl)
theorem dX0_chosen_12 : decode cX0_chosen 12 = .ok (.iconst 1, 1) := dk_4 (dk_at dksX0_chosen_0 12 rfl rfl)
theorem dX0_chosen_13 : decode cX0_chosen 13 = .ok (.ireturn, 1) := dk_172 (dk_at dksX0_chosen_0 13 rfl rfl)
theorem dX0_chosen_14 : decode cX0_chosen 14 = .ok (.iconst 0, 1) := dk_3 (dk_at dksX0_chosen_0 14 rfl rfl)
theorem dX0_chosen_15 : decode cX0_chosen 15 = .ok (.ireturn, 1) := dk_172 (dk_at dksX0_chosen_0 15 rfl rfl)
abbrev cX0_nextKind : ByteArray := method_29_code
def yX0_nextKind : MethodName := ⟨RX0, "nextKind", "(LTelescopeQueue;[J)I"⟩
def dkwX0_nextKind_0 : List UInt8 := [43, 3, 42, 182, 0, 98, 133, 80, 167, 0, 6, 77, 4, 172, 3, 172]
abbrev dktX0_nextKind_0 : List UInt8 := dkwX0_nextKind_0 ++ []
theorem dksX0_nextKind_0 : cX0_nextKind.data.toList.drop 0 = dktX0_nextKind_0 := by decide +kernel
theorem dX0_nextKind_0 : decode cX0_nextKind 0 = .ok (.aload_n 1, 1) := dk_43 (dk_at dksX0_nextKind_0 0 rfl rfl)
theorem dX0_nextKind_1 : decode cX0_nextKind 1 = .ok (.iconst 0, 1) := dk_3 (dk_at dksX0_nextKind_0 1 rfl rfl)
theorem dX0_nextKind_2 : decode cX0_nextKind 2 = .ok (.aload_n 0, 1) := dk_42 (dk_at dksX0_nextKind_0 2 rfl rfl)
theorem dX0_nextKind_3 : decode cX0_nextKind 3 = .ok (.invokevirtual 98, 3) := dk_182 0 98 (dk_at dksX0_nextKind_0 3 rfl rfl)
theorem dX0_nextKind_6 : decode cX0_nextKind 6 = .ok (.i2l, 1) := dk_133 (dk_at dksX0_nextKind_0 6 rfl rfl)
theorem dX0_nextKind_7 : decode cX0_nextKind 7 = .ok (.lastore, 1) := dk_80 (dk_at dksX0_nextKind_0 7 rfl rfl)
theorem dX0_nextKind_8 : decode cX0_nextKind 8 = .ok (.goto 6, 3) := dk_167 0 6 (dk_at dksX0_nextKind_0 8 rfl rfl)
theorem dX0_nextKind_11 : decode cX0_nextKind 11 = .ok (.astore_n 2, 1) := dk_77 (dk_at dksX0_nextKind_0 11 rfl rfl)
theorem dX0_nextKind_12 : decode cX0_nextKind 12 = .ok (.iconst 1, 1) := dk_4 (dk_at dksX0_nextKind_0 12 rfl rfl)
theorem dX0_nextKind_13 : decode cX0_nextKind 13 = .ok (.ireturn, 1) := dk_172 (dk_at dksX0_nextKind_0 13 rfl rfl)
theorem dX0_nextKind_14 : decode cX0_nextKind 14 = .ok (.iconst 0, 1) := dk_3 (dk_at dksX0_nextKind_0 14 rfl rfl)
theorem dX0_nextKind_15 : decode cX0_nextKind 15 = .ok (.ireturn, 1) := dk_172 (dk_at dksX0_nextKind_0 15 rfl rfl)
abbrev cX0_interrupting : ByteArray := method_30_code
def yX0_interrupting : MethodName := ⟨RX0, "interrupting", "(LTelescopeQueue;I[J)I"⟩
def dkwX0_interrupting_0 : List UInt8 := [44, 3, 42, 27, 182, 0, 101, 133, 80, 167, 0, 12, 78, 4, 172, 78, 5, 172, 78, 6, 172, 3, 172]
abbrev dktX0_interrupting_0 : List UInt8 := dkwX0_interrupting_0 ++ []
theorem dksX0_interrupting_0 : cX0_interrupting.data.toList.drop 0 = dktX0_interrupting_0 := by decide +kernel
theorem dX0_interrupting_0 : decode cX0_interrupting 0 = .ok (.aload_n 2, 1) := dk_44 (dk_at dksX0_interrupting_0 0 rfl rfl)
theorem dX0_interrupting_1 : decode cX0_interrupting 1 = .ok (.iconst 0, 1) := dk_3 (dk_at dksX0_interrupting_0 1 rfl rfl)
theorem dX0_interrupting_2 : decode cX0_interrupting 2 = .ok (.aload_n 0, 1) := dk_42 (dk_at dksX0_interrupting_0 2 rfl rfl)
theorem dX0_interrupting_3 : decode cX0_interrupting 3 = .ok (.iload_n 1, 1) := dk_27 (dk_at dksX0_interrupting_0 3 rfl rfl)
theorem dX0_interrupting_4 : decode cX0_interrupting 4 = .ok (.invokevirtual 101, 3) := dk_182 0 101 (dk_at dksX0_interrupting_0 4 rfl rfl)
theorem dX0_interrupting_7 : decode cX0_interrupting 7 = .ok (.i2l, 1) := dk_133 (dk_at dksX0_interrupting_0 7 rfl rfl)
theorem dX0_interrupting_8 : decode cX0_interrupting 8 = .ok (.lastore, 1) := dk_80 (dk_at dksX0_interrupting_0 8 rfl rfl)
theorem dX0_interrupting_9 : decode cX0_interrupting 9 = .ok (.goto 12, 3) := dk_167 0 12 (dk_at dksX0_interrupting_0 9 rfl rfl)
theorem dX0_interrupting_12 : decode cX0_interrupting 12 = .ok (.astore_n 3, 1) := dk_78 (dk_at dksX0_interrupting_0 12 rfl rfl)
theorem dX0_interrupting_13 : decode cX0_interrupting 13 = .ok (.iconst 1, 1) := dk_4 (dk_at dksX0_interrupting_0 13 rfl rfl)
theorem dX0_interrupting_14 : decode cX0_interrupting 14 = .ok (.ireturn, 1) := dk_172 (dk_at dksX0_interrupting_0 14 rfl rfl)
theorem dX0_interrupting_15 : decode cX0_interrupting 15 = .ok (.astore_n 3, 1) := dk_78 (dk_at dksX0_interrupting_0 15 rfl rfl)
theorem dX0_interrupting_16 : decode cX0_interrupting 16 = .ok (.iconst 2, 1) := dk_5 (dk_at dksX0_interrupting_0 16 rfl rfl)
theorem dX0_interrupting_17 : decode cX0_interrupting 17 = .ok (.ireturn, 1) := dk_172 (dk_at dksX0_interrupting_0 17 rfl rfl)
theorem dX0_interrupting_18 : decode cX0_interrupting 18 = .ok (.astore_n 3, 1) := dk_78 (dk_at dksX0_interrupting_0 18 rfl rfl)
theorem dX0_interrupting_19 : decode cX0_interrupting 19 = .ok (.iconst 3, 1) := dk_6 (dk_at dksX0_interrupting_0 19 rfl rfl)
theorem dX0_interrupting_20 : decode cX0_interrupting 20 = .ok (.ireturn, 1) := dk_172 (dk_at dksX0_interrupting_0 20 rfl rfl)
theorem dX0_interrupting_21 : decode cX0_interrupting 21 = .ok (.iconst 0, 1) := dk_3 (dk_at dksX0_interrupting_0 21 rfl rfl)
theorem dX0_interrupting_22 : decode cX0_interrupting 22 = .ok (.ireturn, 1) := dk_172 (dk_at dksX0_interrupting_0 22 rfl rfl)
abbrev cX0_alertReason : ByteArray := method_31_code
def yX0_alertReason : MethodName := ⟨RX0, "alertReason", "(LTelescopeQueue;I[J)I"⟩
def dkwX0_alertReason_0 : List UInt8 := [44, 3, 42, 27, 182, 0, 104, 133, 80, 167, 0, 9, 78, 4, 172, 78, 5, 172, 3, 172]
abbrev dktX0_alertReason_0 : List UInt8 := dkwX0_alertReason_0 ++ []
theorem dksX0_alertReason_0 : cX0_alertReason.data.toList.drop 0 = dktX0_alertReason_0 := by decide +kernel
theorem dX0_alertReason_0 : decode cX0_alertReason 0 = .ok (.aload_n 2, 1) := dk_44 (dk_at dksX0_alertReason_0 0 rfl rfl)
theorem dX0_alertReason_1 : decode cX0_alertReason 1 = .ok (.iconst 0, 1) := dk_3 (dk_at dksX0_alertReason_0 1 rfl rfl)
theorem dX0_alertReason_2 : decode cX0_alertReason 2 = .ok (.aload_n 0, 1) := dk_42 (dk_at dksX0_alertReason_0 2 rfl rfl)
theorem dX0_alertReason_3 : decode cX0_alertReason 3 = .ok (.iload_n 1, 1) := dk_27 (dk_at dksX0_alertReason_0 3 rfl rfl)
theorem dX0_alertReason_4 : decode cX0_alertReason 4 = .ok (.invokevirtual 104, 3) := dk_182 0 104 (dk_at dksX0_alertReason_0 4 rfl rfl)
theorem dX0_alertReason_7 : decode cX0_alertReason 7 = .ok (.i2l, 1) := dk_133 (dk_at dksX0_alertReason_0 7 rfl rfl)
theorem dX0_alertReason_8 : decode cX0_alertReason 8 = .ok (.lastore, 1) := dk_80 (dk_at dksX0_alertReason_0 8 rfl rfl)
theorem dX0_alertReason_9 : decode cX0_alertReason 9 = .ok (.goto 9, 3) := dk_167 0 9 (dk_at dksX0_alertReason_0 9 rfl rfl)
theorem dX0_alertReason_12 : decode cX0_alertReason 12 = .ok (.astore_n 3, 1) := dk_78 (dk_at dksX0_alertReason_0 12 rfl rfl)
theorem dX0_alertReason_13 : decode cX0_alertReason 13 = .ok (.iconst 1, 1) := dk_4 (dk_at dksX0_alertReason_0 13 rfl rfl)
theorem dX0_alertReason_14 : decode cX0_alertReason 14 = .ok (.ireturn, 1) := dk_172 (dk_at dksX0_alertReason_0 14 rfl rfl)
theorem dX0_alertReason_15 : decode cX0_alertReason 15 = .ok (.astore_n 3, 1) := dk_78 (dk_at dksX0_alertReason_0 15 rfl rfl)
theorem dX0_alertReason_16 : decode cX0_alertReason 16 = .ok (.iconst 2, 1) := dk_5 (dk_at dksX0_alertReason_0 16 rfl rfl)
theorem dX0_alertReason_17 : decode cX0_alertReason 17 = .ok (.ireturn, 1) := dk_172 (dk_at dksX0_alertReason_0 17 rfl rfl)
theorem dX0_alertReason_18 : decode cX0_alertReason 18 = .ok (.iconst 0, 1) := dk_3 (dk_at dksX0_alertReason_0 18 rfl rfl)
theorem dX0_alertReason_19 : decode cX0_alertReason 19 = .ok (.ireturn, 1) := dk_172 (dk_at dksX0_alertReason_0 19 rfl rfl)
abbrev cX0_latestBegin : ByteArray := method_32_code
def yX0_latestBegin : MethodName := ⟨RX0, "latestBegin", "(LTelescopeQueue;I[J)I"⟩
def dkwX0_latestBegin_0 : List UInt8 := [44, 3, 42, 27, 182, 0, 107, 133, 80, 167, 0, 9, 78, 4, 172, 78, 5, 172, 3, 172]
abbrev dktX0_latestBegin_0 : List UInt8 := dkwX0_latestBegin_0 ++ []
theorem dksX0_latestBegin_0 : cX0_latestBegin.data.toList.drop 0 = dktX0_latestBegin_0 := by decide +kernel
theorem dX0_latestBegin_0 : decode cX0_latestBegin 0 = .ok (.aload_n 2, 1) := dk_44 (dk_at dksX0_latestBegin_0 0 rfl rfl)
theorem dX0_latestBegin_1 : decode cX0_latestBegin 1 = .ok (.iconst 0, 1) := dk_3 (dk_at dksX0_latestBegin_0 1 rfl rfl)
theorem dX0_latestBegin_2 : decode cX0_latestBegin 2 = .ok (.aload_n 0, 1) := dk_42 (dk_at dksX0_latestBegin_0 2 rfl rfl)
theorem dX0_latestBegin_3 : decode cX0_latestBegin 3 = .ok (.iload_n 1, 1) := dk_27 (dk_at dksX0_latestBegin_0 3 rfl rfl)
theorem dX0_latestBegin_4 : decode cX0_latestBegin 4 = .ok (.invokevirtual 107, 3) := dk_182 0 107 (dk_at dksX0_latestBegin_0 4 rfl rfl)
theorem dX0_latestBegin_7 : decode cX0_latestBegin 7 = .ok (.i2l, 1) := dk_133 (dk_at dksX0_latestBegin_0 7 rfl rfl)
theorem dX0_latestBegin_8 : decode cX0_latestBegin 8 = .ok (.lastore, 1) := dk_80 (dk_at dksX0_latestBegin_0 8 rfl rfl)
theorem dX0_latestBegin_9 : decode cX0_latestBegin 9 = .ok (.goto 9, 3) := dk_167 0 9 (dk_at dksX0_latestBegin_0 9 rfl rfl)
theorem dX0_latestBegin_12 : decode cX0_latestBegin 12 = .ok (.astore_n 3, 1) := dk_78 (dk_at dksX0_latestBegin_0 12 rfl rfl)
theorem dX0_latestBegin_13 : decode cX0_latestBegin 13 = .ok (.iconst 1, 1) := dk_4 (dk_at dksX0_latestBegin_0 13 rfl rfl)
theorem dX0_latestBegin_14 : decode cX0_latestBegin 14 = .ok (.ireturn, 1) := dk_172 (dk_at dksX0_latestBegin_0 14 rfl rfl)
theorem dX0_latestBegin_15 : decode cX0_latestBegin 15 = .ok (.astore_n 3, 1) := dk_78 (dk_at dksX0_latestBegin_0 15 rfl rfl)
theorem dX0_latestBegin_16 : decode cX0_latestBegin 16 = .ok (.iconst 2, 1) := dk_5 (dk_at dksX0_latestBegin_0 16 rfl rfl)
theorem dX0_latestBegin_17 : decode cX0_latestBegin 17 = .ok (.ireturn, 1) := dk_172 (dk_at dksX0_latestBegin_0 17 rfl rfl)
theorem dX0_latestBegin_18 : decode cX0_latestBegin 18 = .ok (.iconst 0, 1) := dk_3 (dk_at dksX0_latestBegin_0 18 rfl rfl)
theorem dX0_latestBegin_19 : decode cX0_latestBegin 19 = .ok (.ireturn, 1) := dk_172 (dk_at dksX0_latestBegin_0 19 rfl rfl)
abbrev cX0_total : ByteArray := method_33_code
def yX0_total : MethodName := ⟨RX0, "total", "(LTelescopeQueue;I[J)I"⟩
def dkwX0_total_0 : List UInt8 := [44, 3, 42, 27, 182, 0, 110, 133, 80, 167, 0, 9, 78, 4, 172, 78, 5, 172, 3, 172]
abbrev dktX0_total_0 : List UInt8 := dkwX0_total_0 ++ []
theorem dksX0_total_0 : cX0_total.data.toList.drop 0 = dktX0_total_0 := by decide +kernel
theorem dX0_total_0 : decode cX0_total 0 = .ok (.aload_n 2, 1) := dk_44 (dk_at dksX0_total_0 0 rfl rfl)
theorem dX0_total_1 : decode cX0_total 1 = .ok (.iconst 0, 1) := dk_3 (dk_at dksX0_total_0 1 rfl rfl)
theorem dX0_total_2 : decode cX0_total 2 = .ok (.aload_n 0, 1) := dk_42 (dk_at dksX0_total_0 2 rfl rfl)
theorem dX0_total_3 : decode cX0_total 3 = .ok (.iload_n 1, 1) := dk_27 (dk_at dksX0_total_0 3 rfl rfl)
theorem dX0_total_4 : decode cX0_total 4 = .ok (.invokevirtual 110, 3) := dk_182 0 110 (dk_at dksX0_total_0 4 rfl rfl)
theorem dX0_total_7 : decode cX0_total 7 = .ok (.i2l, 1) := dk_133 (dk_at dksX0_total_0 7 rfl rfl)
theorem dX0_total_8 : decode cX0_total 8 = .ok (.lastore, 1) := dk_80 (dk_at dksX0_total_0 8 rfl rfl)
theorem dX0_total_9 : decode cX0_total 9 = .ok (.goto 9, 3) := dk_167 0 9 (dk_at dksX0_total_0 9 rfl rfl)
theorem dX0_total_12 : decode cX0_total 12 = .ok (.astore_n 3, 1) := dk_78 (dk_at dksX0_total_0 12 rfl rfl)
theorem dX0_total_13 : decode cX0_total 13 = .ok (.iconst 1, 1) := dk_4 (dk_at dksX0_total_0 13 rfl rfl)
theorem dX0_total_14 : decode cX0_total 14 = .ok (.ireturn, 1) := dk_172 (dk_at dksX0_total_0 14 rfl rfl)
theorem dX0_total_15 : decode cX0_total 15 = .ok (.astore_n 3, 1) := dk_78 (dk_at dksX0_total_0 15 rfl rfl)
theorem dX0_total_16 : decode cX0_total 16 = .ok (.iconst 2, 1) := dk_5 (dk_at dksX0_total_0 16 rfl rfl)
theorem dX0_total_17 : decode cX0_total 17 = .ok (.ireturn, 1) := dk_172 (dk_at dksX0_total_0 17 rfl rfl)
theorem dX0_total_18 : decode cX0_total 18 = .ok (.iconst 0, 1) := dk_3 (dk_at dksX0_total_0 18 rfl rfl)
theorem dX0_total_19 : decode cX0_total 19 = .ok (.ireturn, 1) := dk_172 (dk_at dksX0_total_0 19 rfl rfl)
abbrev cX0_share : ByteArray := method_34_code
def yX0_share : MethodName := ⟨RX0, "share", "(LTelescopeQueue;I[D)I"⟩
def dkwX0_share_0 : List UInt8 := [44, 3, 42, 27, 182, 0, 113, 141, 82, 167, 0, 9, 78, 4, 172, 78, 5, 172, 3, 172]
abbrev dktX0_share_0 : List UInt8 := dkwX0_share_0 ++ []
theorem dksX0_share_0 : cX0_share.data.toList.drop 0 = dktX0_share_0 := by decide +kernel
theorem dX0_share_0 : decode cX0_share 0 = .ok (.aload_n 2, 1) := dk_44 (dk_at dksX0_share_0 0 rfl rfl)
theorem dX0_share_1 : decode cX0_share 1 = .ok (.iconst 0, 1) := dk_3 (dk_at dksX0_share_0 1 rfl rfl)
theorem dX0_share_2 : decode cX0_share 2 = .ok (.aload_n 0, 1) := dk_42 (dk_at dksX0_share_0 2 rfl rfl)
theorem dX0_share_3 : decode cX0_share 3 = .ok (.iload_n 1, 1) := dk_27 (dk_at dksX0_share_0 3 rfl rfl)
theorem dX0_share_4 : decode cX0_share 4 = .ok (.invokevirtual 113, 3) := dk_182 0 113 (dk_at dksX0_share_0 4 rfl rfl)
theorem dX0_share_7 : decode cX0_share 7 = .ok (.f2d, 1) := dk_141 (dk_at dksX0_share_0 7 rfl rfl)
theorem dX0_share_8 : decode cX0_share 8 = .ok (.dastore, 1) := dk_82 (dk_at dksX0_share_0 8 rfl rfl)
theorem dX0_share_9 : decode cX0_share 9 = .ok (.goto 9, 3) := dk_167 0 9 (dk_at dksX0_share_0 9 rfl rfl)
theorem dX0_share_12 : decode cX0_share 12 = .ok (.astore_n 3, 1) := dk_78 (dk_at dksX0_share_0 12 rfl rfl)
theorem dX0_share_13 : decode cX0_share 13 = .ok (.iconst 1, 1) := dk_4 (dk_at dksX0_share_0 13 rfl rfl)
theorem dX0_share_14 : decode cX0_share 14 = .ok (.ireturn, 1) := dk_172 (dk_at dksX0_share_0 14 rfl rfl)
theorem dX0_share_15 : decode cX0_share 15 = .ok (.astore_n 3, 1) := dk_78 (dk_at dksX0_share_0 15 rfl rfl)
theorem dX0_share_16 : decode cX0_share 16 = .ok (.iconst 2, 1) := dk_5 (dk_at dksX0_share_0 16 rfl rfl)
theorem dX0_share_17 : decode cX0_share 17 = .ok (.ireturn, 1) := dk_172 (dk_at dksX0_share_0 17 rfl rfl)
theorem dX0_share_18 : decode cX0_share 18 = .ok (.iconst 0, 1) := dk_3 (dk_at dksX0_share_0 18 rfl rfl)
theorem dX0_share_19 : decode cX0_share 19 = .ok (.ireturn, 1) := dk_172 (dk_at dksX0_share_0 19 rfl rfl)
abbrev cX0_spread : ByteArray := method_35_code
def yX0_spread : MethodName := ⟨RX0, "spread", "(LTelescopeQueue;[D)I"⟩
def dkwX0_spread_0 : List UInt8 := [43, 3, 42, 182, 0, 117, 141, 82, 167, 0, 6, 77, 4, 172, 3, 172]
abbrev dktX0_spread_0 : List UInt8 := dkwX0_spread_0 ++ []
theorem dksX0_spread_0 : cX0_spread.data.toList.drop 0 = dktX0_spread_0 := by decide +kernel
theorem dX0_spread_0 : decode cX0_spread 0 = .ok (.aload_n 1, 1) := dk_43 (dk_at dksX0_spread_0 0 rfl rfl)
theorem dX0_spread_1 : decode cX0_spread 1 = .ok (.iconst 0, 1) := dk_3 (dk_at dksX0_spread_0 1 rfl rfl)
theorem dX0_spread_2 : decode cX0_spread 2 = .ok (.aload_n 0, 1) := dk_42 (dk_at dksX0_spread_0 2 rfl rfl)
theorem dX0_spread_3 : decode cX0_spread 3 = .ok (.invokevirtual 117, 3) := dk_182 0 117 (dk_at dksX0_spread_0 3 rfl rfl)
theorem dX0_spread_6 : decode cX0_spread 6 = .ok (.f2d, 1) := dk_141 (dk_at dksX0_spread_0 6 rfl rfl)
theorem dX0_spread_7 : decode cX0_spread 7 = .ok (.dastore, 1) := dk_82 (dk_at dksX0_spread_0 7 rfl rfl)
theorem dX0_spread_8 : decode cX0_spread 8 = .ok (.goto 6, 3) := dk_167 0 6 (dk_at dksX0_spread_0 8 rfl rfl)
theorem dX0_spread_11 : decode cX0_spread 11 = .ok (.astore_n 2, 1) := dk_77 (dk_at dksX0_spread_0 11 rfl rfl)
theorem dX0_spread_12 : decode cX0_spread 12 = .ok (.iconst 1, 1) := dk_4 (dk_at dksX0_spread_0 12 rfl rfl)
theorem dX0_spread_13 : decode cX0_spread 13 = .ok (.ireturn, 1) := dk_172 (dk_at dksX0_spread_0 13 rfl rfl)
theorem dX0_spread_14 : decode cX0_spread 14 = .ok (.iconst 0, 1) := dk_3 (dk_at dksX0_spread_0 14 rfl rfl)
theorem dX0_spread_15 : decode cX0_spread 15 = .ok (.ireturn, 1) := dk_172 (dk_at dksX0_spread_0 15 rfl rfl)
abbrev cX0_entry : ByteArray := method_36_code
def yX0_entry : MethodName := ⟨RX0, "entry", "(LTelescopeQueue;II[J)I"⟩
def dkwX0_entry_1 : List UInt8 := [172, 3, 172]
abbrev dktX0_entry_1 : List UInt8 := dkwX0_entry_1 ++ []
def dkwX0_entry_0 : List UInt8 := [45, 3, 42, 27, 28, 182, 0, 121, 133, 80, 167, 0, 15, 58, 4, 4, 172, 58, 4, 5, 172, 58, 4, 6]
abbrev dktX0_entry_0 : List UInt8 := dkwX0_entry_0 ++ dktX0_entry_1
theorem dksX0_entry_0 : cX0_entry.data.toList.drop 0 = dktX0_entry_0 := by decide +kernel
theorem dksX0_entry_1 : cX0_entry.data.toList.drop 24 = dktX0_entry_1 := dk_seg dksX0_entry_0 24 rfl rfl
theorem dX0_entry_0 : decode cX0_entry 0 = .ok (.aload_n 3, 1) := dk_45 (dk_at dksX0_entry_0 0 rfl rfl)
theorem dX0_entry_1 : decode cX0_entry 1 = .ok (.iconst 0, 1) := dk_3 (dk_at dksX0_entry_0 1 rfl rfl)
theorem dX0_entry_2 : decode cX0_entry 2 = .ok (.aload_n 0, 1) := dk_42 (dk_at dksX0_entry_0 2 rfl rfl)
theorem dX0_entry_3 : decode cX0_entry 3 = .ok (.iload_n 1, 1) := dk_27 (dk_at dksX0_entry_0 3 rfl rfl)
theorem dX0_entry_4 : decode cX0_entry 4 = .ok (.iload_n 2, 1) := dk_28 (dk_at dksX0_entry_0 4 rfl rfl)
theorem dX0_entry_5 : decode cX0_entry 5 = .ok (.invokevirtual 121, 3) := dk_182 0 121 (dk_at dksX0_entry_0 5 rfl rfl)
theorem dX0_entry_8 : decode cX0_entry 8 = .ok (.i2l, 1) := dk_133 (dk_at dksX0_entry_0 8 rfl rfl)
theorem dX0_entry_9 : decode cX0_entry 9 = .ok (.lastore, 1) := dk_80 (dk_at dksX0_entry_0 9 rfl rfl)
theorem dX0_entry_10 : decode cX0_entry 10 = .ok (.goto 15, 3) := dk_167 0 15 (dk_at dksX0_entry_0 10 rfl rfl)
theorem dX0_entry_13 : decode cX0_entry 13 = .ok (.astore 4, 2) := dk_58 4 (dk_at dksX0_entry_0 13 rfl rfl)
theorem dX0_entry_15 : decode cX0_entry 15 = .ok (.iconst 1, 1) := dk_4 (dk_at dksX0_entry_0 15 rfl rfl)
theorem dX0_entry_16 : decode cX0_entry 16 = .ok (.ireturn, 1) := dk_172 (dk_at dksX0_entry_0 16 rfl rfl)
theorem dX0_entry_17 : decode cX0_entry 17 = .ok (.astore 4, 2) := dk_58 4 (dk_at dksX0_entry_0 17 rfl rfl)
theorem dX0_entry_19 : decode cX0_entry 19 = .ok (.iconst 2, 1) := dk_5 (dk_at dksX0_entry_0 19 rfl rfl)
theorem dX0_entry_20 : decode cX0_entry 20 = .ok (.ireturn, 1) := dk_172 (dk_at dksX0_entry_0 20 rfl rfl)
theorem dX0_entry_21 : decode cX0_entry 21 = .ok (.astore 4, 2) := dk_58 4 (dk_at dksX0_entry_0 21 rfl rfl)
theorem dX0_entry_23 : decode cX0_entry 23 = .ok (.iconst 3, 1) := dk_6 (dk_at dksX0_entry_0 23 rfl rfl)
theorem dX0_entry_24 : decode cX0_entry 24 = .ok (.ireturn, 1) := dk_172 (dk_at dksX0_entry_1 0 rfl rfl)
theorem dX0_entry_25 : decode cX0_entry 25 = .ok (.iconst 0, 1) := dk_3 (dk_at dksX0_entry_1 1 rfl rfl)
theorem dX0_entry_26 : decode cX0_entry 26 = .ok (.ireturn, 1) := dk_172 (dk_at dksX0_entry_1 2 rfl rfl)
abbrev cX0_longest : ByteArray := method_37_code
def yX0_longest : MethodName := ⟨RX0, "longest", "(LTelescopeQueue;I[J)I"⟩
def dkwX0_longest_0 : List UInt8 := [44, 3, 42, 27, 182, 0, 124, 133, 80, 167, 0, 9, 78, 4, 172, 78, 5, 172, 3, 172]
abbrev dktX0_longest_0 : List UInt8 := dkwX0_longest_0 ++ []
theorem dksX0_longest_0 : cX0_longest.data.toList.drop 0 = dktX0_longest_0 := by decide +kernel
theorem dX0_longest_0 : decode cX0_longest 0 = .ok (.aload_n 2, 1) := dk_44 (dk_at dksX0_longest_0 0 rfl rfl)
theorem dX0_longest_1 : decode cX0_longest 1 = .ok (.iconst 0, 1) := dk_3 (dk_at dksX0_longest_0 1 rfl rfl)
theorem dX0_longest_2 : decode cX0_longest 2 = .ok (.aload_n 0, 1) := dk_42 (dk_at dksX0_longest_0 2 rfl rfl)
theorem dX0_longest_3 : decode cX0_longest 3 = .ok (.iload_n 1, 1) := dk_27 (dk_at dksX0_longest_0 3 rfl rfl)
theorem dX0_longest_4 : decode cX0_longest 4 = .ok (.invokevirtual 124, 3) := dk_182 0 124 (dk_at dksX0_longest_0 4 rfl rfl)
theorem dX0_longest_7 : decode cX0_longest 7 = .ok (.i2l, 1) := dk_133 (dk_at dksX0_longest_0 7 rfl rfl)
theorem dX0_longest_8 : decode cX0_longest 8 = .ok (.lastore, 1) := dk_80 (dk_at dksX0_longest_0 8 rfl rfl)
theorem dX0_longest_9 : decode cX0_longest 9 = .ok (.goto 9, 3) := dk_167 0 9 (dk_at dksX0_longest_0 9 rfl rfl)
theorem dX0_longest_12 : decode cX0_longest 12 = .ok (.astore_n 3, 1) := dk_78 (dk_at dksX0_longest_0 12 rfl rfl)
theorem dX0_longest_13 : decode cX0_longest 13 = .ok (.iconst 1, 1) := dk_4 (dk_at dksX0_longest_0 13 rfl rfl)
theorem dX0_longest_14 : decode cX0_longest 14 = .ok (.ireturn, 1) := dk_172 (dk_at dksX0_longest_0 14 rfl rfl)
theorem dX0_longest_15 : decode cX0_longest 15 = .ok (.astore_n 3, 1) := dk_78 (dk_at dksX0_longest_0 15 rfl rfl)
theorem dX0_longest_16 : decode cX0_longest 16 = .ok (.iconst 2, 1) := dk_5 (dk_at dksX0_longest_0 16 rfl rfl)
theorem dX0_longest_17 : decode cX0_longest 17 = .ok (.ireturn, 1) := dk_172 (dk_at dksX0_longest_0 17 rfl rfl)
theorem dX0_longest_18 : decode cX0_longest 18 = .ok (.iconst 0, 1) := dk_3 (dk_at dksX0_longest_0 18 rfl rfl)
theorem dX0_longest_19 : decode cX0_longest 19 = .ok (.ireturn, 1) := dk_172 (dk_at dksX0_longest_0 19 rfl rfl)
abbrev cX0_usedIn : ByteArray := method_38_code
def yX0_usedIn : MethodName := ⟨RX0, "usedIn", "(LTelescopeQueue;I[J)I"⟩
def dkwX0_usedIn_0 : List UInt8 := [44, 3, 42, 27, 182, 0, 127, 133, 80, 167, 0, 9, 78, 4, 172, 78, 5, 172, 3, 172]
abbrev dktX0_usedIn_0 : List UInt8 := dkwX0_usedIn_0 ++ []
theorem dksX0_usedIn_0 : cX0_usedIn.data.toList.drop 0 = dktX0_usedIn_0 := by decide +kernel
theorem dX0_usedIn_0 : decode cX0_usedIn 0 = .ok (.aload_n 2, 1) := dk_44 (dk_at dksX0_usedIn_0 0 rfl rfl)
theorem dX0_usedIn_1 : decode cX0_usedIn 1 = .ok (.iconst 0, 1) := dk_3 (dk_at dksX0_usedIn_0 1 rfl rfl)
theorem dX0_usedIn_2 : decode cX0_usedIn 2 = .ok (.aload_n 0, 1) := dk_42 (dk_at dksX0_usedIn_0 2 rfl rfl)
theorem dX0_usedIn_3 : decode cX0_usedIn 3 = .ok (.iload_n 1, 1) := dk_27 (dk_at dksX0_usedIn_0 3 rfl rfl)
theorem dX0_usedIn_4 : decode cX0_usedIn 4 = .ok (.invokevirtual 127, 3) := dk_182 0 127 (dk_at dksX0_usedIn_0 4 rfl rfl)
theorem dX0_usedIn_7 : decode cX0_usedIn 7 = .ok (.i2l, 1) := dk_133 (dk_at dksX0_usedIn_0 7 rfl rfl)
theorem dX0_usedIn_8 : decode cX0_usedIn 8 = .ok (.lastore, 1) := dk_80 (dk_at dksX0_usedIn_0 8 rfl rfl)
theorem dX0_usedIn_9 : decode cX0_usedIn 9 = .ok (.goto 9, 3) := dk_167 0 9 (dk_at dksX0_usedIn_0 9 rfl rfl)
theorem dX0_usedIn_12 : decode cX0_usedIn 12 = .ok (.astore_n 3, 1) := dk_78 (dk_at dksX0_usedIn_0 12 rfl rfl)
theorem dX0_usedIn_13 : decode cX0_usedIn 13 = .ok (.iconst 1, 1) := dk_4 (dk_at dksX0_usedIn_0 13 rfl rfl)
theorem dX0_usedIn_14 : decode cX0_usedIn 14 = .ok (.ireturn, 1) := dk_172 (dk_at dksX0_usedIn_0 14 rfl rfl)
theorem dX0_usedIn_15 : decode cX0_usedIn 15 = .ok (.astore_n 3, 1) := dk_78 (dk_at dksX0_usedIn_0 15 rfl rfl)
theorem dX0_usedIn_16 : decode cX0_usedIn 16 = .ok (.iconst 2, 1) := dk_5 (dk_at dksX0_usedIn_0 16 rfl rfl)
theorem dX0_usedIn_17 : decode cX0_usedIn 17 = .ok (.ireturn, 1) := dk_172 (dk_at dksX0_usedIn_0 17 rfl rfl)
theorem dX0_usedIn_18 : decode cX0_usedIn 18 = .ok (.iconst 0, 1) := dk_3 (dk_at dksX0_usedIn_0 18 rfl rfl)
theorem dX0_usedIn_19 : decode cX0_usedIn 19 = .ok (.ireturn, 1) := dk_172 (dk_at dksX0_usedIn_0 19 rfl rfl)
abbrev cX0_doneBy : ByteArray := method_39_code
def yX0_doneBy : MethodName := ⟨RX0, "doneBy", "(LTelescopeQueue;I[J)I"⟩
def dkwX0_doneBy_0 : List UInt8 := [44, 3, 42, 27, 182, 0, 130, 133, 80, 167, 0, 9, 78, 4, 172, 78, 5, 172, 3, 172]
abbrev dktX0_doneBy_0 : List UInt8 := dkwX0_doneBy_0 ++ []
theorem dksX0_doneBy_0 : cX0_doneBy.data.toList.drop 0 = dktX0_doneBy_0 := by decide +kernel
theorem dX0_doneBy_0 : decode cX0_doneBy 0 = .ok (.aload_n 2, 1) := dk_44 (dk_at dksX0_doneBy_0 0 rfl rfl)
theorem dX0_doneBy_1 : decode cX0_doneBy 1 = .ok (.iconst 0, 1) := dk_3 (dk_at dksX0_doneBy_0 1 rfl rfl)
theorem dX0_doneBy_2 : decode cX0_doneBy 2 = .ok (.aload_n 0, 1) := dk_42 (dk_at dksX0_doneBy_0 2 rfl rfl)
theorem dX0_doneBy_3 : decode cX0_doneBy 3 = .ok (.iload_n 1, 1) := dk_27 (dk_at dksX0_doneBy_0 3 rfl rfl)
theorem dX0_doneBy_4 : decode cX0_doneBy 4 = .ok (.invokevirtual 130, 3) := dk_182 0 130 (dk_at dksX0_doneBy_0 4 rfl rfl)
theorem dX0_doneBy_7 : decode cX0_doneBy 7 = .ok (.i2l, 1) := dk_133 (dk_at dksX0_doneBy_0 7 rfl rfl)
theorem dX0_doneBy_8 : decode cX0_doneBy 8 = .ok (.lastore, 1) := dk_80 (dk_at dksX0_doneBy_0 8 rfl rfl)
theorem dX0_doneBy_9 : decode cX0_doneBy 9 = .ok (.goto 9, 3) := dk_167 0 9 (dk_at dksX0_doneBy_0 9 rfl rfl)
theorem dX0_doneBy_12 : decode cX0_doneBy 12 = .ok (.astore_n 3, 1) := dk_78 (dk_at dksX0_doneBy_0 12 rfl rfl)
theorem dX0_doneBy_13 : decode cX0_doneBy 13 = .ok (.iconst 1, 1) := dk_4 (dk_at dksX0_doneBy_0 13 rfl rfl)
theorem dX0_doneBy_14 : decode cX0_doneBy 14 = .ok (.ireturn, 1) := dk_172 (dk_at dksX0_doneBy_0 14 rfl rfl)
theorem dX0_doneBy_15 : decode cX0_doneBy 15 = .ok (.astore_n 3, 1) := dk_78 (dk_at dksX0_doneBy_0 15 rfl rfl)
theorem dX0_doneBy_16 : decode cX0_doneBy 16 = .ok (.iconst 2, 1) := dk_5 (dk_at dksX0_doneBy_0 16 rfl rfl)
theorem dX0_doneBy_17 : decode cX0_doneBy 17 = .ok (.ireturn, 1) := dk_172 (dk_at dksX0_doneBy_0 17 rfl rfl)
theorem dX0_doneBy_18 : decode cX0_doneBy 18 = .ok (.iconst 0, 1) := dk_3 (dk_at dksX0_doneBy_0 18 rfl rfl)
theorem dX0_doneBy_19 : decode cX0_doneBy 19 = .ok (.ireturn, 1) := dk_172 (dk_at dksX0_doneBy_0 19 rfl rfl)
abbrev cX0_bestPolicy : ByteArray := method_40_code
def yX0_bestPolicy : MethodName := ⟨RX0, "bestPolicy", "(LTelescopeQueue;[J)I"⟩
def dkwX0_bestPolicy_0 : List UInt8 := [43, 3, 42, 182, 0, 133, 133, 80, 167, 0, 6, 77, 4, 172, 3, 172]
abbrev dktX0_bestPolicy_0 : List UInt8 := dkwX0_bestPolicy_0 ++ []
theorem dksX0_bestPolicy_0 : cX0_bestPolicy.data.toList.drop 0 = dktX0_bestPolicy_0 := by decide +kernel
theorem dX0_bestPolicy_0 : decode cX0_bestPolicy 0 = .ok (.aload_n 1, 1) := dk_43 (dk_at dksX0_bestPolicy_0 0 rfl rfl)
theorem dX0_bestPolicy_1 : decode cX0_bestPolicy 1 = .ok (.iconst 0, 1) := dk_3 (dk_at dksX0_bestPolicy_0 1 rfl rfl)
theorem dX0_bestPolicy_2 : decode cX0_bestPolicy 2 = .ok (.aload_n 0, 1) := dk_42 (dk_at dksX0_bestPolicy_0 2 rfl rfl)
theorem dX0_bestPolicy_3 : decode cX0_bestPolicy 3 = .ok (.invokevirtual 133, 3) := dk_182 0 133 (dk_at dksX0_bestPolicy_0 3 rfl rfl)
theorem dX0_bestPolicy_6 : decode cX0_bestPolicy 6 = .ok (.i2l, 1) := dk_133 (dk_at dksX0_bestPolicy_0 6 rfl rfl)
theorem dX0_bestPolicy_7 : decode cX0_bestPolicy 7 = .ok (.lastore, 1) := dk_80 (dk_at dksX0_bestPolicy_0 7 rfl rfl)
theorem dX0_bestPolicy_8 : decode cX0_bestPolicy 8 = .ok (.goto 6, 3) := dk_167 0 6 (dk_at dksX0_bestPolicy_0 8 rfl rfl)
theorem dX0_bestPolicy_11 : decode cX0_bestPolicy 11 = .ok (.astore_n 2, 1) := dk_77 (dk_at dksX0_bestPolicy_0 11 rfl rfl)
theorem dX0_bestPolicy_12 : decode cX0_bestPolicy 12 = .ok (.iconst 1, 1) := dk_4 (dk_at dksX0_bestPolicy_0 12 rfl rfl)
theorem dX0_bestPolicy_13 : decode cX0_bestPolicy 13 = .ok (.ireturn, 1) := dk_172 (dk_at dksX0_bestPolicy_0 13 rfl rfl)
theorem dX0_bestPolicy_14 : decode cX0_bestPolicy 14 = .ok (.iconst 0, 1) := dk_3 (dk_at dksX0_bestPolicy_0 14 rfl rfl)
theorem dX0_bestPolicy_15 : decode cX0_bestPolicy 15 = .ok (.ireturn, 1) := dk_172 (dk_at dksX0_bestPolicy_0 15 rfl rfl)
abbrev cX0_usedWith : ByteArray := method_41_code
def yX0_usedWith : MethodName := ⟨RX0, "usedWith", "(LTelescopeQueue;I[J)I"⟩
def dkwX0_usedWith_0 : List UInt8 := [44, 3, 42, 27, 182, 0, 136, 133, 80, 167, 0, 9, 78, 4, 172, 78, 5, 172, 3, 172]
abbrev dktX0_usedWith_0 : List UInt8 := dkwX0_usedWith_0 ++ []
theorem dksX0_usedWith_0 : cX0_usedWith.data.toList.drop 0 = dktX0_usedWith_0 := by decide +kernel
theorem dX0_usedWith_0 : decode cX0_usedWith 0 = .ok (.aload_n 2, 1) := dk_44 (dk_at dksX0_usedWith_0 0 rfl rfl)
theorem dX0_usedWith_1 : decode cX0_usedWith 1 = .ok (.iconst 0, 1) := dk_3 (dk_at dksX0_usedWith_0 1 rfl rfl)
theorem dX0_usedWith_2 : decode cX0_usedWith 2 = .ok (.aload_n 0, 1) := dk_42 (dk_at dksX0_usedWith_0 2 rfl rfl)
theorem dX0_usedWith_3 : decode cX0_usedWith 3 = .ok (.iload_n 1, 1) := dk_27 (dk_at dksX0_usedWith_0 3 rfl rfl)
theorem dX0_usedWith_4 : decode cX0_usedWith 4 = .ok (.invokevirtual 136, 3) := dk_182 0 136 (dk_at dksX0_usedWith_0 4 rfl rfl)
theorem dX0_usedWith_7 : decode cX0_usedWith 7 = .ok (.i2l, 1) := dk_133 (dk_at dksX0_usedWith_0 7 rfl rfl)
theorem dX0_usedWith_8 : decode cX0_usedWith 8 = .ok (.lastore, 1) := dk_80 (dk_at dksX0_usedWith_0 8 rfl rfl)
theorem dX0_usedWith_9 : decode cX0_usedWith 9 = .ok (.goto 9, 3) := dk_167 0 9 (dk_at dksX0_usedWith_0 9 rfl rfl)
theorem dX0_usedWith_12 : decode cX0_usedWith 12 = .ok (.astore_n 3, 1) := dk_78 (dk_at dksX0_usedWith_0 12 rfl rfl)
theorem dX0_usedWith_13 : decode cX0_usedWith 13 = .ok (.iconst 1, 1) := dk_4 (dk_at dksX0_usedWith_0 13 rfl rfl)
theorem dX0_usedWith_14 : decode cX0_usedWith 14 = .ok (.ireturn, 1) := dk_172 (dk_at dksX0_usedWith_0 14 rfl rfl)
theorem dX0_usedWith_15 : decode cX0_usedWith 15 = .ok (.astore_n 3, 1) := dk_78 (dk_at dksX0_usedWith_0 15 rfl rfl)
theorem dX0_usedWith_16 : decode cX0_usedWith 16 = .ok (.iconst 2, 1) := dk_5 (dk_at dksX0_usedWith_0 16 rfl rfl)
theorem dX0_usedWith_17 : decode cX0_usedWith 17 = .ok (.ireturn, 1) := dk_172 (dk_at dksX0_usedWith_0 17 rfl rfl)
theorem dX0_usedWith_18 : decode cX0_usedWith 18 = .ok (.iconst 0, 1) := dk_3 (dk_at dksX0_usedWith_0 18 rfl rfl)
theorem dX0_usedWith_19 : decode cX0_usedWith 19 = .ok (.ireturn, 1) := dk_172 (dk_at dksX0_usedWith_0 19 rfl rfl)
abbrev cX0_shortfall : ByteArray := method_42_code
def yX0_shortfall : MethodName := ⟨RX0, "shortfall", "(LTelescopeQueue;I[J)I"⟩
def dkwX0_shortfall_0 : List UInt8 := [44, 3, 42, 27, 182, 0, 139, 133, 80, 167, 0, 9, 78, 4, 172, 78, 5, 172, 3, 172]
abbrev dktX0_shortfall_0 : List UInt8 := dkwX0_shortfall_0 ++ []
theorem dksX0_shortfall_0 : cX0_shortfall.data.toList.drop 0 = dktX0_shortfall_0 := by decide +kernel
theorem dX0_shortfall_0 : decode cX0_shortfall 0 = .ok (.aload_n 2, 1) := dk_44 (dk_at dksX0_shortfall_0 0 rfl rfl)
theorem dX0_shortfall_1 : decode cX0_shortfall 1 = .ok (.iconst 0, 1) := dk_3 (dk_at dksX0_shortfall_0 1 rfl rfl)
theorem dX0_shortfall_2 : decode cX0_shortfall 2 = .ok (.aload_n 0, 1) := dk_42 (dk_at dksX0_shortfall_0 2 rfl rfl)
theorem dX0_shortfall_3 : decode cX0_shortfall 3 = .ok (.iload_n 1, 1) := dk_27 (dk_at dksX0_shortfall_0 3 rfl rfl)
theorem dX0_shortfall_4 : decode cX0_shortfall 4 = .ok (.invokevirtual 139, 3) := dk_182 0 139 (dk_at dksX0_shortfall_0 4 rfl rfl)
theorem dX0_shortfall_7 : decode cX0_shortfall 7 = .ok (.i2l, 1) := dk_133 (dk_at dksX0_shortfall_0 7 rfl rfl)
theorem dX0_shortfall_8 : decode cX0_shortfall 8 = .ok (.lastore, 1) := dk_80 (dk_at dksX0_shortfall_0 8 rfl rfl)
theorem dX0_shortfall_9 : decode cX0_shortfall 9 = .ok (.goto 9, 3) := dk_167 0 9 (dk_at dksX0_shortfall_0 9 rfl rfl)
theorem dX0_shortfall_12 : decode cX0_shortfall 12 = .ok (.astore_n 3, 1) := dk_78 (dk_at dksX0_shortfall_0 12 rfl rfl)
theorem dX0_shortfall_13 : decode cX0_shortfall 13 = .ok (.iconst 1, 1) := dk_4 (dk_at dksX0_shortfall_0 13 rfl rfl)
theorem dX0_shortfall_14 : decode cX0_shortfall 14 = .ok (.ireturn, 1) := dk_172 (dk_at dksX0_shortfall_0 14 rfl rfl)
theorem dX0_shortfall_15 : decode cX0_shortfall 15 = .ok (.astore_n 3, 1) := dk_78 (dk_at dksX0_shortfall_0 15 rfl rfl)
theorem dX0_shortfall_16 : decode cX0_shortfall 16 = .ok (.iconst 2, 1) := dk_5 (dk_at dksX0_shortfall_0 16 rfl rfl)
theorem dX0_shortfall_17 : decode cX0_shortfall 17 = .ok (.ireturn, 1) := dk_172 (dk_at dksX0_shortfall_0 17 rfl rfl)
theorem dX0_shortfall_18 : decode cX0_shortfall 18 = .ok (.iconst 0, 1) := dk_3 (dk_at dksX0_shortfall_0 18 rfl rfl)
theorem dX0_shortfall_19 : decode cX0_shortfall 19 = .ok (.ireturn, 1) := dk_172 (dk_at dksX0_shortfall_0 19 rfl rfl)
abbrev cX0_writeEntry : ByteArray := method_43_code
def yX0_writeEntry : MethodName := ⟨RX0, "writeEntry", "(LTelescopeQueue;I[J)I"⟩
def dkwX0_writeEntry_0 : List UInt8 := [44, 3, 42, 27, 182, 0, 142, 133, 80, 167, 0, 9, 78, 4, 172, 78, 5, 172, 3, 172]
abbrev dktX0_writeEntry_0 : List UInt8 := dkwX0_writeEntry_0 ++ []
theorem dksX0_writeEntry_0 : cX0_writeEntry.data.toList.drop 0 = dktX0_writeEntry_0 := by decide +kernel
theorem dX0_writeEntry_0 : decode cX0_writeEntry 0 = .ok (.aload_n 2, 1) := dk_44 (dk_at dksX0_writeEntry_0 0 rfl rfl)
theorem dX0_writeEntry_1 : decode cX0_writeEntry 1 = .ok (.iconst 0, 1) := dk_3 (dk_at dksX0_writeEntry_0 1 rfl rfl)
theorem dX0_writeEntry_2 : decode cX0_writeEntry 2 = .ok (.aload_n 0, 1) := dk_42 (dk_at dksX0_writeEntry_0 2 rfl rfl)
theorem dX0_writeEntry_3 : decode cX0_writeEntry 3 = .ok (.iload_n 1, 1) := dk_27 (dk_at dksX0_writeEntry_0 3 rfl rfl)
theorem dX0_writeEntry_4 : decode cX0_writeEntry 4 = .ok (.invokevirtual 142, 3) := dk_182 0 142 (dk_at dksX0_writeEntry_0 4 rfl rfl)
theorem dX0_writeEntry_7 : decode cX0_writeEntry 7 = .ok (.i2l, 1) := dk_133 (dk_at dksX0_writeEntry_0 7 rfl rfl)
theorem dX0_writeEntry_8 : decode cX0_writeEntry 8 = .ok (.lastore, 1) := dk_80 (dk_at dksX0_writeEntry_0 8 rfl rfl)
theorem dX0_writeEntry_9 : decode cX0_writeEntry 9 = .ok (.goto 9, 3) := dk_167 0 9 (dk_at dksX0_writeEntry_0 9 rfl rfl)
theorem dX0_writeEntry_12 : decode cX0_writeEntry 12 = .ok (.astore_n 3, 1) := dk_78 (dk_at dksX0_writeEntry_0 12 rfl rfl)
theorem dX0_writeEntry_13 : decode cX0_writeEntry 13 = .ok (.iconst 1, 1) := dk_4 (dk_at dksX0_writeEntry_0 13 rfl rfl)
theorem dX0_writeEntry_14 : decode cX0_writeEntry 14 = .ok (.ireturn, 1) := dk_172 (dk_at dksX0_writeEntry_0 14 rfl rfl)
theorem dX0_writeEntry_15 : decode cX0_writeEntry 15 = .ok (.astore_n 3, 1) := dk_78 (dk_at dksX0_writeEntry_0 15 rfl rfl)
theorem dX0_writeEntry_16 : decode cX0_writeEntry 16 = .ok (.iconst 2, 1) := dk_5 (dk_at dksX0_writeEntry_0 16 rfl rfl)
theorem dX0_writeEntry_17 : decode cX0_writeEntry 17 = .ok (.ireturn, 1) := dk_172 (dk_at dksX0_writeEntry_0 17 rfl rfl)
theorem dX0_writeEntry_18 : decode cX0_writeEntry 18 = .ok (.iconst 0, 1) := dk_3 (dk_at dksX0_writeEntry_0 18 rfl rfl)
theorem dX0_writeEntry_19 : decode cX0_writeEntry 19 = .ok (.ireturn, 1) := dk_172 (dk_at dksX0_writeEntry_0 19 rfl rfl)
abbrev cX0_writeAccount : ByteArray := method_44_code
def yX0_writeAccount : MethodName := ⟨RX0, "writeAccount", "(LTelescopeQueue;I[J)I"⟩
def dkwX0_writeAccount_0 : List UInt8 := [44, 3, 42, 27, 182, 0, 145, 133, 80, 167, 0, 9, 78, 4, 172, 78, 5, 172, 3, 172]
abbrev dktX0_writeAccount_0 : List UInt8 := dkwX0_writeAccount_0 ++ []
theorem dksX0_writeAccount_0 : cX0_writeAccount.data.toList.drop 0 = dktX0_writeAccount_0 := by decide +kernel
theorem dX0_writeAccount_0 : decode cX0_writeAccount 0 = .ok (.aload_n 2, 1) := dk_44 (dk_at dksX0_writeAccount_0 0 rfl rfl)
theorem dX0_writeAccount_1 : decode cX0_writeAccount 1 = .ok (.iconst 0, 1) := dk_3 (dk_at dksX0_writeAccount_0 1 rfl rfl)
theorem dX0_writeAccount_2 : decode cX0_writeAccount 2 = .ok (.aload_n 0, 1) := dk_42 (dk_at dksX0_writeAccount_0 2 rfl rfl)
theorem dX0_writeAccount_3 : decode cX0_writeAccount 3 = .ok (.iload_n 1, 1) := dk_27 (dk_at dksX0_writeAccount_0 3 rfl rfl)
theorem dX0_writeAccount_4 : decode cX0_writeAccount 4 = .ok (.invokevirtual 145, 3) := dk_182 0 145 (dk_at dksX0_writeAccount_0 4 rfl rfl)
theorem dX0_writeAccount_7 : decode cX0_writeAccount 7 = .ok (.i2l, 1) := dk_133 (dk_at dksX0_writeAccount_0 7 rfl rfl)
theorem dX0_writeAccount_8 : decode cX0_writeAccount 8 = .ok (.lastore, 1) := dk_80 (dk_at dksX0_writeAccount_0 8 rfl rfl)
theorem dX0_writeAccount_9 : decode cX0_writeAccount 9 = .ok (.goto 9, 3) := dk_167 0 9 (dk_at dksX0_writeAccount_0 9 rfl rfl)
theorem dX0_writeAccount_12 : decode cX0_writeAccount 12 = .ok (.astore_n 3, 1) := dk_78 (dk_at dksX0_writeAccount_0 12 rfl rfl)
theorem dX0_writeAccount_13 : decode cX0_writeAccount 13 = .ok (.iconst 1, 1) := dk_4 (dk_at dksX0_writeAccount_0 13 rfl rfl)
theorem dX0_writeAccount_14 : decode cX0_writeAccount 14 = .ok (.ireturn, 1) := dk_172 (dk_at dksX0_writeAccount_0 14 rfl rfl)
theorem dX0_writeAccount_15 : decode cX0_writeAccount 15 = .ok (.astore_n 3, 1) := dk_78 (dk_at dksX0_writeAccount_0 15 rfl rfl)
theorem dX0_writeAccount_16 : decode cX0_writeAccount 16 = .ok (.iconst 2, 1) := dk_5 (dk_at dksX0_writeAccount_0 16 rfl rfl)
theorem dX0_writeAccount_17 : decode cX0_writeAccount 17 = .ok (.ireturn, 1) := dk_172 (dk_at dksX0_writeAccount_0 17 rfl rfl)
theorem dX0_writeAccount_18 : decode cX0_writeAccount 18 = .ok (.iconst 0, 1) := dk_3 (dk_at dksX0_writeAccount_0 18 rfl rfl)
theorem dX0_writeAccount_19 : decode cX0_writeAccount 19 = .ok (.ireturn, 1) := dk_172 (dk_at dksX0_writeAccount_0 19 rfl rfl)
abbrev cX0_textByte : ByteArray := method_45_code
def yX0_textByte : MethodName := ⟨RX0, "textByte", "(LTelescopeQueue;I[J)I"⟩
def dkwX0_textByte_0 : List UInt8 := [44, 3, 42, 27, 182, 0, 148, 133, 80, 167, 0, 6, 78, 4, 172, 3, 172]
abbrev dktX0_textByte_0 : List UInt8 := dkwX0_textByte_0 ++ []
theorem dksX0_textByte_0 : cX0_textByte.data.toList.drop 0 = dktX0_textByte_0 := by decide +kernel
theorem dX0_textByte_0 : decode cX0_textByte 0 = .ok (.aload_n 2, 1) := dk_44 (dk_at dksX0_textByte_0 0 rfl rfl)
theorem dX0_textByte_1 : decode cX0_textByte 1 = .ok (.iconst 0, 1) := dk_3 (dk_at dksX0_textByte_0 1 rfl rfl)
theorem dX0_textByte_2 : decode cX0_textByte 2 = .ok (.aload_n 0, 1) := dk_42 (dk_at dksX0_textByte_0 2 rfl rfl)
theorem dX0_textByte_3 : decode cX0_textByte 3 = .ok (.iload_n 1, 1) := dk_27 (dk_at dksX0_textByte_0 3 rfl rfl)
theorem dX0_textByte_4 : decode cX0_textByte 4 = .ok (.invokevirtual 148, 3) := dk_182 0 148 (dk_at dksX0_textByte_0 4 rfl rfl)
theorem dX0_textByte_7 : decode cX0_textByte 7 = .ok (.i2l, 1) := dk_133 (dk_at dksX0_textByte_0 7 rfl rfl)
theorem dX0_textByte_8 : decode cX0_textByte 8 = .ok (.lastore, 1) := dk_80 (dk_at dksX0_textByte_0 8 rfl rfl)
theorem dX0_textByte_9 : decode cX0_textByte 9 = .ok (.goto 6, 3) := dk_167 0 6 (dk_at dksX0_textByte_0 9 rfl rfl)
theorem dX0_textByte_12 : decode cX0_textByte 12 = .ok (.astore_n 3, 1) := dk_78 (dk_at dksX0_textByte_0 12 rfl rfl)
theorem dX0_textByte_13 : decode cX0_textByte 13 = .ok (.iconst 1, 1) := dk_4 (dk_at dksX0_textByte_0 13 rfl rfl)
theorem dX0_textByte_14 : decode cX0_textByte 14 = .ok (.ireturn, 1) := dk_172 (dk_at dksX0_textByte_0 14 rfl rfl)
theorem dX0_textByte_15 : decode cX0_textByte 15 = .ok (.iconst 0, 1) := dk_3 (dk_at dksX0_textByte_0 15 rfl rfl)
theorem dX0_textByte_16 : decode cX0_textByte 16 = .ok (.ireturn, 1) := dk_172 (dk_at dksX0_textByte_0 16 rfl rfl)
abbrev cX0_run : ByteArray := method_46_code
def yX0_run : MethodName := ⟨RX0, "run", "(LTelescopeQueue;I[J)I"⟩
def dkwX0_run_0 : List UInt8 := [44, 3, 42, 27, 182, 0, 151, 133, 80, 167, 0, 9, 78, 4, 172, 78, 5, 172, 3, 172]
abbrev dktX0_run_0 : List UInt8 := dkwX0_run_0 ++ []
theorem dksX0_run_0 : cX0_run.data.toList.drop 0 = dktX0_run_0 := by decide +kernel
theorem dX0_run_0 : decode cX0_run 0 = .ok (.aload_n 2, 1) := dk_44 (dk_at dksX0_run_0 0 rfl rfl)
theorem dX0_run_1 : decode cX0_run 1 = .ok (.iconst 0, 1) := dk_3 (dk_at dksX0_run_0 1 rfl rfl)
theorem dX0_run_2 : decode cX0_run 2 = .ok (.aload_n 0, 1) := dk_42 (dk_at dksX0_run_0 2 rfl rfl)
theorem dX0_run_3 : decode cX0_run 3 = .ok (.iload_n 1, 1) := dk_27 (dk_at dksX0_run_0 3 rfl rfl)
theorem dX0_run_4 : decode cX0_run 4 = .ok (.invokevirtual 151, 3) := dk_182 0 151 (dk_at dksX0_run_0 4 rfl rfl)
theorem dX0_run_7 : decode cX0_run 7 = .ok (.i2l, 1) := dk_133 (dk_at dksX0_run_0 7 rfl rfl)
theorem dX0_run_8 : decode cX0_run 8 = .ok (.lastore, 1) := dk_80 (dk_at dksX0_run_0 8 rfl rfl)
theorem dX0_run_9 : decode cX0_run 9 = .ok (.goto 9, 3) := dk_167 0 9 (dk_at dksX0_run_0 9 rfl rfl)
theorem dX0_run_12 : decode cX0_run 12 = .ok (.astore_n 3, 1) := dk_78 (dk_at dksX0_run_0 12 rfl rfl)
theorem dX0_run_13 : decode cX0_run 13 = .ok (.iconst 1, 1) := dk_4 (dk_at dksX0_run_0 13 rfl rfl)
theorem dX0_run_14 : decode cX0_run 14 = .ok (.ireturn, 1) := dk_172 (dk_at dksX0_run_0 14 rfl rfl)
theorem dX0_run_15 : decode cX0_run 15 = .ok (.astore_n 3, 1) := dk_78 (dk_at dksX0_run_0 15 rfl rfl)
theorem dX0_run_16 : decode cX0_run 16 = .ok (.iconst 2, 1) := dk_5 (dk_at dksX0_run_0 16 rfl rfl)
theorem dX0_run_17 : decode cX0_run 17 = .ok (.ireturn, 1) := dk_172 (dk_at dksX0_run_0 17 rfl rfl)
theorem dX0_run_18 : decode cX0_run 18 = .ok (.iconst 0, 1) := dk_3 (dk_at dksX0_run_0 18 rfl rfl)
theorem dX0_run_19 : decode cX0_run 19 = .ok (.ireturn, 1) := dk_172 (dk_at dksX0_run_0 19 rfl rfl)
abbrev cX0_setPolicy : ByteArray := method_47_code
def yX0_setPolicy : MethodName := ⟨RX0, "setPolicy", "(LTelescopeQueue;I[J)I"⟩
def dkwX0_setPolicy_0 : List UInt8 := [44, 3, 42, 27, 182, 0, 154, 133, 80, 167, 0, 9, 78, 4, 172, 78, 5, 172, 3, 172]
abbrev dktX0_setPolicy_0 : List UInt8 := dkwX0_setPolicy_0 ++ []
theorem dksX0_setPolicy_0 : cX0_setPolicy.data.toList.drop 0 = dktX0_setPolicy_0 := by decide +kernel
theorem dX0_setPolicy_0 : decode cX0_setPolicy 0 = .ok (.aload_n 2, 1) := dk_44 (dk_at dksX0_setPolicy_0 0 rfl rfl)
theorem dX0_setPolicy_1 : decode cX0_setPolicy 1 = .ok (.iconst 0, 1) := dk_3 (dk_at dksX0_setPolicy_0 1 rfl rfl)
theorem dX0_setPolicy_2 : decode cX0_setPolicy 2 = .ok (.aload_n 0, 1) := dk_42 (dk_at dksX0_setPolicy_0 2 rfl rfl)
theorem dX0_setPolicy_3 : decode cX0_setPolicy 3 = .ok (.iload_n 1, 1) := dk_27 (dk_at dksX0_setPolicy_0 3 rfl rfl)
theorem dX0_setPolicy_4 : decode cX0_setPolicy 4 = .ok (.invokevirtual 154, 3) := dk_182 0 154 (dk_at dksX0_setPolicy_0 4 rfl rfl)
theorem dX0_setPolicy_7 : decode cX0_setPolicy 7 = .ok (.i2l, 1) := dk_133 (dk_at dksX0_setPolicy_0 7 rfl rfl)
theorem dX0_setPolicy_8 : decode cX0_setPolicy 8 = .ok (.lastore, 1) := dk_80 (dk_at dksX0_setPolicy_0 8 rfl rfl)
theorem dX0_setPolicy_9 : decode cX0_setPolicy 9 = .ok (.goto 9, 3) := dk_167 0 9 (dk_at dksX0_setPolicy_0 9 rfl rfl)
theorem dX0_setPolicy_12 : decode cX0_setPolicy 12 = .ok (.astore_n 3, 1) := dk_78 (dk_at dksX0_setPolicy_0 12 rfl rfl)
theorem dX0_setPolicy_13 : decode cX0_setPolicy 13 = .ok (.iconst 1, 1) := dk_4 (dk_at dksX0_setPolicy_0 13 rfl rfl)
theorem dX0_setPolicy_14 : decode cX0_setPolicy 14 = .ok (.ireturn, 1) := dk_172 (dk_at dksX0_setPolicy_0 14 rfl rfl)
theorem dX0_setPolicy_15 : decode cX0_setPolicy 15 = .ok (.astore_n 3, 1) := dk_78 (dk_at dksX0_setPolicy_0 15 rfl rfl)
theorem dX0_setPolicy_16 : decode cX0_setPolicy 16 = .ok (.iconst 2, 1) := dk_5 (dk_at dksX0_setPolicy_0 16 rfl rfl)
theorem dX0_setPolicy_17 : decode cX0_setPolicy 17 = .ok (.ireturn, 1) := dk_172 (dk_at dksX0_setPolicy_0 17 rfl rfl)
theorem dX0_setPolicy_18 : decode cX0_setPolicy 18 = .ok (.iconst 0, 1) := dk_3 (dk_at dksX0_setPolicy_0 18 rfl rfl)
theorem dX0_setPolicy_19 : decode cX0_setPolicy 19 = .ok (.ireturn, 1) := dk_172 (dk_at dksX0_setPolicy_0 19 rfl rfl)
abbrev cX0_cancel : ByteArray := method_48_code
def yX0_cancel : MethodName := ⟨RX0, "cancel", "(LTelescopeQueue;I[J)I"⟩
def dkwX0_cancel_1 : List UInt8 := [172, 3, 172]
abbrev dktX0_cancel_1 : List UInt8 := dkwX0_cancel_1 ++ []
def dkwX0_cancel_0 : List UInt8 := [44, 3, 42, 27, 182, 0, 157, 153, 0, 7, 10, 167, 0, 4, 9, 80, 167, 0, 9, 78, 4, 172, 78, 5]
abbrev dktX0_cancel_0 : List UInt8 := dkwX0_cancel_0 ++ dktX0_cancel_1
theorem dksX0_cancel_0 : cX0_cancel.data.toList.drop 0 = dktX0_cancel_0 := by decide +kernel
theorem dksX0_cancel_1 : cX0_cancel.data.toList.drop 24 = dktX0_cancel_1 := dk_seg dksX0_cancel_0 24 rfl rfl
theorem dX0_cancel_0 : decode cX0_cancel 0 = .ok (.aload_n 2, 1) := dk_44 (dk_at dksX0_cancel_0 0 rfl rfl)
theorem dX0_cancel_1 : decode cX0_cancel 1 = .ok (.iconst 0, 1) := dk_3 (dk_at dksX0_cancel_0 1 rfl rfl)
theorem dX0_cancel_2 : decode cX0_cancel 2 = .ok (.aload_n 0, 1) := dk_42 (dk_at dksX0_cancel_0 2 rfl rfl)
theorem dX0_cancel_3 : decode cX0_cancel 3 = .ok (.iload_n 1, 1) := dk_27 (dk_at dksX0_cancel_0 3 rfl rfl)
theorem dX0_cancel_4 : decode cX0_cancel 4 = .ok (.invokevirtual 157, 3) := dk_182 0 157 (dk_at dksX0_cancel_0 4 rfl rfl)
theorem dX0_cancel_7 : decode cX0_cancel 7 = .ok (.ifCond .eq 7, 3) := dk_153 0 7 (dk_at dksX0_cancel_0 7 rfl rfl)
theorem dX0_cancel_10 : decode cX0_cancel 10 = .ok (.lconst 1, 1) := dk_10 (dk_at dksX0_cancel_0 10 rfl rfl)
theorem dX0_cancel_11 : decode cX0_cancel 11 = .ok (.goto 4, 3) := dk_167 0 4 (dk_at dksX0_cancel_0 11 rfl rfl)
theorem dX0_cancel_14 : decode cX0_cancel 14 = .ok (.lconst 0, 1) := dk_9 (dk_at dksX0_cancel_0 14 rfl rfl)
theorem dX0_cancel_15 : decode cX0_cancel 15 = .ok (.lastore, 1) := dk_80 (dk_at dksX0_cancel_0 15 rfl rfl)
theorem dX0_cancel_16 : decode cX0_cancel 16 = .ok (.goto 9, 3) := dk_167 0 9 (dk_at dksX0_cancel_0 16 rfl rfl)
theorem dX0_cancel_19 : decode cX0_cancel 19 = .ok (.astore_n 3, 1) := dk_78 (dk_at dksX0_cancel_0 19 rfl rfl)
theorem dX0_cancel_20 : decode cX0_cancel 20 = .ok (.iconst 1, 1) := dk_4 (dk_at dksX0_cancel_0 20 rfl rfl)
theorem dX0_cancel_21 : decode cX0_cancel 21 = .ok (.ireturn, 1) := dk_172 (dk_at dksX0_cancel_0 21 rfl rfl)
theorem dX0_cancel_22 : decode cX0_cancel 22 = .ok (.astore_n 3, 1) := dk_78 (dk_at dksX0_cancel_0 22 rfl rfl)
theorem dX0_cancel_23 : decode cX0_cancel 23 = .ok (.iconst 2, 1) := dk_5 (dk_at dksX0_cancel_0 23 rfl rfl)
theorem dX0_cancel_24 : decode cX0_cancel 24 = .ok (.ireturn, 1) := dk_172 (dk_at dksX0_cancel_1 0 rfl rfl)
theorem dX0_cancel_25 : decode cX0_cancel 25 = .ok (.iconst 0, 1) := dk_3 (dk_at dksX0_cancel_1 1 rfl rfl)
theorem dX0_cancel_26 : decode cX0_cancel 26 = .ok (.ireturn, 1) := dk_172 (dk_at dksX0_cancel_1 2 rfl rfl)
abbrev cX0_requeue : ByteArray := method_49_code
def yX0_requeue : MethodName := ⟨RX0, "requeue", "(LTelescopeQueue;I[J)I"⟩
def dkwX0_requeue_1 : List UInt8 := [172, 3, 172]
abbrev dktX0_requeue_1 : List UInt8 := dkwX0_requeue_1 ++ []
def dkwX0_requeue_0 : List UInt8 := [44, 3, 42, 27, 182, 0, 160, 153, 0, 7, 10, 167, 0, 4, 9, 80, 167, 0, 9, 78, 4, 172, 78, 5]
abbrev dktX0_requeue_0 : List UInt8 := dkwX0_requeue_0 ++ dktX0_requeue_1
theorem dksX0_requeue_0 : cX0_requeue.data.toList.drop 0 = dktX0_requeue_0 := by decide +kernel
theorem dksX0_requeue_1 : cX0_requeue.data.toList.drop 24 = dktX0_requeue_1 := dk_seg dksX0_requeue_0 24 rfl rfl
theorem dX0_requeue_0 : decode cX0_requeue 0 = .ok (.aload_n 2, 1) := dk_44 (dk_at dksX0_requeue_0 0 rfl rfl)
theorem dX0_requeue_1 : decode cX0_requeue 1 = .ok (.iconst 0, 1) := dk_3 (dk_at dksX0_requeue_0 1 rfl rfl)
theorem dX0_requeue_2 : decode cX0_requeue 2 = .ok (.aload_n 0, 1) := dk_42 (dk_at dksX0_requeue_0 2 rfl rfl)
theorem dX0_requeue_3 : decode cX0_requeue 3 = .ok (.iload_n 1, 1) := dk_27 (dk_at dksX0_requeue_0 3 rfl rfl)
theorem dX0_requeue_4 : decode cX0_requeue 4 = .ok (.invokevirtual 160, 3) := dk_182 0 160 (dk_at dksX0_requeue_0 4 rfl rfl)
theorem dX0_requeue_7 : decode cX0_requeue 7 = .ok (.ifCond .eq 7, 3) := dk_153 0 7 (dk_at dksX0_requeue_0 7 rfl rfl)
theorem dX0_requeue_10 : decode cX0_requeue 10 = .ok (.lconst 1, 1) := dk_10 (dk_at dksX0_requeue_0 10 rfl rfl)
theorem dX0_requeue_11 : decode cX0_requeue 11 = .ok (.goto 4, 3) := dk_167 0 4 (dk_at dksX0_requeue_0 11 rfl rfl)
theorem dX0_requeue_14 : decode cX0_requeue 14 = .ok (.lconst 0, 1) := dk_9 (dk_at dksX0_requeue_0 14 rfl rfl)
theorem dX0_requeue_15 : decode cX0_requeue 15 = .ok (.lastore, 1) := dk_80 (dk_at dksX0_requeue_0 15 rfl rfl)
theorem dX0_requeue_16 : decode cX0_requeue 16 = .ok (.goto 9, 3) := dk_167 0 9 (dk_at dksX0_requeue_0 16 rfl rfl)
theorem dX0_requeue_19 : decode cX0_requeue 19 = .ok (.astore_n 3, 1) := dk_78 (dk_at dksX0_requeue_0 19 rfl rfl)
theorem dX0_requeue_20 : decode cX0_requeue 20 = .ok (.iconst 1, 1) := dk_4 (dk_at dksX0_requeue_0 20 rfl rfl)
theorem dX0_requeue_21 : decode cX0_requeue 21 = .ok (.ireturn, 1) := dk_172 (dk_at dksX0_requeue_0 21 rfl rfl)
theorem dX0_requeue_22 : decode cX0_requeue 22 = .ok (.astore_n 3, 1) := dk_78 (dk_at dksX0_requeue_0 22 rfl rfl)
theorem dX0_requeue_23 : decode cX0_requeue 23 = .ok (.iconst 2, 1) := dk_5 (dk_at dksX0_requeue_0 23 rfl rfl)
theorem dX0_requeue_24 : decode cX0_requeue 24 = .ok (.ireturn, 1) := dk_172 (dk_at dksX0_requeue_1 0 rfl rfl)
theorem dX0_requeue_25 : decode cX0_requeue 25 = .ok (.iconst 0, 1) := dk_3 (dk_at dksX0_requeue_1 1 rfl rfl)
theorem dX0_requeue_26 : decode cX0_requeue 26 = .ok (.ireturn, 1) := dk_172 (dk_at dksX0_requeue_1 2 rfl rfl)
abbrev cX0_setPriority : ByteArray := method_50_code
def yX0_setPriority : MethodName := ⟨RX0, "setPriority", "(LTelescopeQueue;II[J)I"⟩
def dkwX0_setPriority_1 : List UInt8 := [172, 3, 172]
abbrev dktX0_setPriority_1 : List UInt8 := dkwX0_setPriority_1 ++ []
def dkwX0_setPriority_0 : List UInt8 := [45, 3, 42, 27, 28, 182, 0, 163, 133, 80, 167, 0, 15, 58, 4, 4, 172, 58, 4, 5, 172, 58, 4, 6]
abbrev dktX0_setPriority_0 : List UInt8 := dkwX0_setPriority_0 ++ dktX0_setPriority_1
theorem dksX0_setPriority_0 : cX0_setPriority.data.toList.drop 0 = dktX0_setPriority_0 := by decide +kernel
theorem dksX0_setPriority_1 : cX0_setPriority.data.toList.drop 24 = dktX0_setPriority_1 := dk_seg dksX0_setPriority_0 24 rfl rfl
theorem dX0_setPriority_0 : decode cX0_setPriority 0 = .ok (.aload_n 3, 1) := dk_45 (dk_at dksX0_setPriority_0 0 rfl rfl)
theorem dX0_setPriority_1 : decode cX0_setPriority 1 = .ok (.iconst 0, 1) := dk_3 (dk_at dksX0_setPriority_0 1 rfl rfl)
theorem dX0_setPriority_2 : decode cX0_setPriority 2 = .ok (.aload_n 0, 1) := dk_42 (dk_at dksX0_setPriority_0 2 rfl rfl)
theorem dX0_setPriority_3 : decode cX0_setPriority 3 = .ok (.iload_n 1, 1) := dk_27 (dk_at dksX0_setPriority_0 3 rfl rfl)
theorem dX0_setPriority_4 : decode cX0_setPriority 4 = .ok (.iload_n 2, 1) := dk_28 (dk_at dksX0_setPriority_0 4 rfl rfl)
theorem dX0_setPriority_5 : decode cX0_setPriority 5 = .ok (.invokevirtual 163, 3) := dk_182 0 163 (dk_at dksX0_setPriority_0 5 rfl rfl)
theorem dX0_setPriority_8 : decode cX0_setPriority 8 = .ok (.i2l, 1) := dk_133 (dk_at dksX0_setPriority_0 8 rfl rfl)
theorem dX0_setPriority_9 : decode cX0_setPriority 9 = .ok (.lastore, 1) := dk_80 (dk_at dksX0_setPriority_0 9 rfl rfl)
theorem dX0_setPriority_10 : decode cX0_setPriority 10 = .ok (.goto 15, 3) := dk_167 0 15 (dk_at dksX0_setPriority_0 10 rfl rfl)
theorem dX0_setPriority_13 : decode cX0_setPriority 13 = .ok (.astore 4, 2) := dk_58 4 (dk_at dksX0_setPriority_0 13 rfl rfl)
theorem dX0_setPriority_15 : decode cX0_setPriority 15 = .ok (.iconst 1, 1) := dk_4 (dk_at dksX0_setPriority_0 15 rfl rfl)
theorem dX0_setPriority_16 : decode cX0_setPriority 16 = .ok (.ireturn, 1) := dk_172 (dk_at dksX0_setPriority_0 16 rfl rfl)
theorem dX0_setPriority_17 : decode cX0_setPriority 17 = .ok (.astore 4, 2) := dk_58 4 (dk_at dksX0_setPriority_0 17 rfl rfl)
theorem dX0_setPriority_19 : decode cX0_setPriority 19 = .ok (.iconst 2, 1) := dk_5 (dk_at dksX0_setPriority_0 19 rfl rfl)
theorem dX0_setPriority_20 : decode cX0_setPriority 20 = .ok (.ireturn, 1) := dk_172 (dk_at dksX0_setPriority_0 20 rfl rfl)
theorem dX0_setPriority_21 : decode cX0_setPriority 21 = .ok (.astore 4, 2) := dk_58 4 (dk_at dksX0_setPriority_0 21 rfl rfl)
theorem dX0_setPriority_23 : decode cX0_setPriority 23 = .ok (.iconst 3, 1) := dk_6 (dk_at dksX0_setPriority_0 23 rfl rfl)
theorem dX0_setPriority_24 : decode cX0_setPriority 24 = .ok (.ireturn, 1) := dk_172 (dk_at dksX0_setPriority_1 0 rfl rfl)
theorem dX0_setPriority_25 : decode cX0_setPriority 25 = .ok (.iconst 0, 1) := dk_3 (dk_at dksX0_setPriority_1 1 rfl rfl)
theorem dX0_setPriority_26 : decode cX0_setPriority 26 = .ok (.ireturn, 1) := dk_172 (dk_at dksX0_setPriority_1 2 rfl rfl)
abbrev cX0_grant : ByteArray := method_51_code
def yX0_grant : MethodName := ⟨RX0, "grant", "(LTelescopeQueue;II[J)I"⟩
def dkwX0_grant_1 : List UInt8 := [172, 3, 172]
abbrev dktX0_grant_1 : List UInt8 := dkwX0_grant_1 ++ []
def dkwX0_grant_0 : List UInt8 := [45, 3, 42, 27, 28, 182, 0, 166, 133, 80, 167, 0, 15, 58, 4, 4, 172, 58, 4, 5, 172, 58, 4, 6]
abbrev dktX0_grant_0 : List UInt8 := dkwX0_grant_0 ++ dktX0_grant_1
theorem dksX0_grant_0 : cX0_grant.data.toList.drop 0 = dktX0_grant_0 := by decide +kernel
theorem dksX0_grant_1 : cX0_grant.data.toList.drop 24 = dktX0_grant_1 := dk_seg dksX0_grant_0 24 rfl rfl
theorem dX0_grant_0 : decode cX0_grant 0 = .ok (.aload_n 3, 1) := dk_45 (dk_at dksX0_grant_0 0 rfl rfl)
theorem dX0_grant_1 : decode cX0_grant 1 = .ok (.iconst 0, 1) := dk_3 (dk_at dksX0_grant_0 1 rfl rfl)
theorem dX0_grant_2 : decode cX0_grant 2 = .ok (.aload_n 0, 1) := dk_42 (dk_at dksX0_grant_0 2 rfl rfl)
theorem dX0_grant_3 : decode cX0_grant 3 = .ok (.iload_n 1, 1) := dk_27 (dk_at dksX0_grant_0 3 rfl rfl)
theorem dX0_grant_4 : decode cX0_grant 4 = .ok (.iload_n 2, 1) := dk_28 (dk_at dksX0_grant_0 4 rfl rfl)
theorem dX0_grant_5 : decode cX0_grant 5 = .ok (.invokevirtual 166, 3) := dk_182 0 166 (dk_at dksX0_grant_0 5 rfl rfl)
theorem dX0_grant_8 : decode cX0_grant 8 = .ok (.i2l, 1) := dk_133 (dk_at dksX0_grant_0 8 rfl rfl)
theorem dX0_grant_9 : decode cX0_grant 9 = .ok (.lastore, 1) := dk_80 (dk_at dksX0_grant_0 9 rfl rfl)
theorem dX0_grant_10 : decode cX0_grant 10 = .ok (.goto 15, 3) := dk_167 0 15 (dk_at dksX0_grant_0 10 rfl rfl)
theorem dX0_grant_13 : decode cX0_grant 13 = .ok (.astore 4, 2) := dk_58 4 (dk_at dksX0_grant_0 13 rfl rfl)
theorem dX0_grant_15 : decode cX0_grant 15 = .ok (.iconst 1, 1) := dk_4 (dk_at dksX0_grant_0 15 rfl rfl)
theorem dX0_grant_16 : decode cX0_grant 16 = .ok (.ireturn, 1) := dk_172 (dk_at dksX0_grant_0 16 rfl rfl)
theorem dX0_grant_17 : decode cX0_grant 17 = .ok (.astore 4, 2) := dk_58 4 (dk_at dksX0_grant_0 17 rfl rfl)
theorem dX0_grant_19 : decode cX0_grant 19 = .ok (.iconst 2, 1) := dk_5 (dk_at dksX0_grant_0 19 rfl rfl)
theorem dX0_grant_20 : decode cX0_grant 20 = .ok (.ireturn, 1) := dk_172 (dk_at dksX0_grant_0 20 rfl rfl)
theorem dX0_grant_21 : decode cX0_grant 21 = .ok (.astore 4, 2) := dk_58 4 (dk_at dksX0_grant_0 21 rfl rfl)
theorem dX0_grant_23 : decode cX0_grant 23 = .ok (.iconst 3, 1) := dk_6 (dk_at dksX0_grant_0 23 rfl rfl)
theorem dX0_grant_24 : decode cX0_grant 24 = .ok (.ireturn, 1) := dk_172 (dk_at dksX0_grant_1 0 rfl rfl)
theorem dX0_grant_25 : decode cX0_grant 25 = .ok (.iconst 0, 1) := dk_3 (dk_at dksX0_grant_1 1 rfl rfl)
theorem dX0_grant_26 : decode cX0_grant 26 = .ok (.ireturn, 1) := dk_172 (dk_at dksX0_grant_1 2 rfl rfl)
abbrev cX0_dump : ByteArray := method_52_code
def yX0_dump : MethodName := ⟨RX0, "dump", "(LTelescopeQueue;[J)I"⟩
def dkwX0_dump_0 : List UInt8 := [43, 3, 42, 182, 0, 169, 133, 80, 167, 0, 9, 77, 4, 172, 77, 5, 172, 3, 172]
abbrev dktX0_dump_0 : List UInt8 := dkwX0_dump_0 ++ []
theorem dksX0_dump_0 : cX0_dump.data.toList.drop 0 = dktX0_dump_0 := by decide +kernel
theorem dX0_dump_0 : decode cX0_dump 0 = .ok (.aload_n 1, 1) := dk_43 (dk_at dksX0_dump_0 0 rfl rfl)
theorem dX0_dump_1 : decode cX0_dump 1 = .ok (.iconst 0, 1) := dk_3 (dk_at dksX0_dump_0 1 rfl rfl)
theorem dX0_dump_2 : decode cX0_dump 2 = .ok (.aload_n 0, 1) := dk_42 (dk_at dksX0_dump_0 2 rfl rfl)
theorem dX0_dump_3 : decode cX0_dump 3 = .ok (.invokevirtual 169, 3) := dk_182 0 169 (dk_at dksX0_dump_0 3 rfl rfl)
theorem dX0_dump_6 : decode cX0_dump 6 = .ok (.i2l, 1) := dk_133 (dk_at dksX0_dump_0 6 rfl rfl)
theorem dX0_dump_7 : decode cX0_dump 7 = .ok (.lastore, 1) := dk_80 (dk_at dksX0_dump_0 7 rfl rfl)
theorem dX0_dump_8 : decode cX0_dump 8 = .ok (.goto 9, 3) := dk_167 0 9 (dk_at dksX0_dump_0 8 rfl rfl)
theorem dX0_dump_11 : decode cX0_dump 11 = .ok (.astore_n 2, 1) := dk_77 (dk_at dksX0_dump_0 11 rfl rfl)
theorem dX0_dump_12 : decode cX0_dump 12 = .ok (.iconst 1, 1) := dk_4 (dk_at dksX0_dump_0 12 rfl rfl)
theorem dX0_dump_13 : decode cX0_dump 13 = .ok (.ireturn, 1) := dk_172 (dk_at dksX0_dump_0 13 rfl rfl)
theorem dX0_dump_14 : decode cX0_dump 14 = .ok (.astore_n 2, 1) := dk_77 (dk_at dksX0_dump_0 14 rfl rfl)
theorem dX0_dump_15 : decode cX0_dump 15 = .ok (.iconst 2, 1) := dk_5 (dk_at dksX0_dump_0 15 rfl rfl)
theorem dX0_dump_16 : decode cX0_dump 16 = .ok (.ireturn, 1) := dk_172 (dk_at dksX0_dump_0 16 rfl rfl)
theorem dX0_dump_17 : decode cX0_dump 17 = .ok (.iconst 0, 1) := dk_3 (dk_at dksX0_dump_0 17 rfl rfl)
theorem dX0_dump_18 : decode cX0_dump 18 = .ok (.ireturn, 1) := dk_172 (dk_at dksX0_dump_0 18 rfl rfl)
abbrev cX0_calibrate : ByteArray := method_53_code
def yX0_calibrate : MethodName := ⟨RX0, "calibrate", "(LTelescopeQueue;[J)I"⟩
def dkwX0_calibrate_0 : List UInt8 := [43, 3, 42, 182, 0, 172, 133, 80, 167, 0, 9, 77, 4, 172, 77, 5, 172, 3, 172]
abbrev dktX0_calibrate_0 : List UInt8 := dkwX0_calibrate_0 ++ []
theorem dksX0_calibrate_0 : cX0_calibrate.data.toList.drop 0 = dktX0_calibrate_0 := by decide +kernel
theorem dX0_calibrate_0 : decode cX0_calibrate 0 = .ok (.aload_n 1, 1) := dk_43 (dk_at dksX0_calibrate_0 0 rfl rfl)
theorem dX0_calibrate_1 : decode cX0_calibrate 1 = .ok (.iconst 0, 1) := dk_3 (dk_at dksX0_calibrate_0 1 rfl rfl)
theorem dX0_calibrate_2 : decode cX0_calibrate 2 = .ok (.aload_n 0, 1) := dk_42 (dk_at dksX0_calibrate_0 2 rfl rfl)
theorem dX0_calibrate_3 : decode cX0_calibrate 3 = .ok (.invokevirtual 172, 3) := dk_182 0 172 (dk_at dksX0_calibrate_0 3 rfl rfl)
theorem dX0_calibrate_6 : decode cX0_calibrate 6 = .ok (.i2l, 1) := dk_133 (dk_at dksX0_calibrate_0 6 rfl rfl)
theorem dX0_calibrate_7 : decode cX0_calibrate 7 = .ok (.lastore, 1) := dk_80 (dk_at dksX0_calibrate_0 7 rfl rfl)
theorem dX0_calibrate_8 : decode cX0_calibrate 8 = .ok (.goto 9, 3) := dk_167 0 9 (dk_at dksX0_calibrate_0 8 rfl rfl)
theorem dX0_calibrate_11 : decode cX0_calibrate 11 = .ok (.astore_n 2, 1) := dk_77 (dk_at dksX0_calibrate_0 11 rfl rfl)
theorem dX0_calibrate_12 : decode cX0_calibrate 12 = .ok (.iconst 1, 1) := dk_4 (dk_at dksX0_calibrate_0 12 rfl rfl)
theorem dX0_calibrate_13 : decode cX0_calibrate 13 = .ok (.ireturn, 1) := dk_172 (dk_at dksX0_calibrate_0 13 rfl rfl)
theorem dX0_calibrate_14 : decode cX0_calibrate 14 = .ok (.astore_n 2, 1) := dk_77 (dk_at dksX0_calibrate_0 14 rfl rfl)
theorem dX0_calibrate_15 : decode cX0_calibrate 15 = .ok (.iconst 2, 1) := dk_5 (dk_at dksX0_calibrate_0 15 rfl rfl)
theorem dX0_calibrate_16 : decode cX0_calibrate 16 = .ok (.ireturn, 1) := dk_172 (dk_at dksX0_calibrate_0 16 rfl rfl)
theorem dX0_calibrate_17 : decode cX0_calibrate 17 = .ok (.iconst 0, 1) := dk_3 (dk_at dksX0_calibrate_0 17 rfl rfl)
theorem dX0_calibrate_18 : decode cX0_calibrate 18 = .ok (.ireturn, 1) := dk_172 (dk_at dksX0_calibrate_0 18 rfl rfl)
abbrev cX0_addAlert : ByteArray := method_54_code
def yX0_addAlert : MethodName := ⟨RX0, "addAlert", "(LTelescopeQueue;IIIIII[J)I"⟩
def dkwX0_addAlert_1 : List UInt8 := [172, 58, 8, 5, 172, 58, 8, 6, 172, 3, 172]
abbrev dktX0_addAlert_1 : List UInt8 := dkwX0_addAlert_1 ++ []
def dkwX0_addAlert_0 : List UInt8 := [25, 7, 3, 42, 27, 28, 29, 21, 4, 21, 5, 21, 6, 182, 0, 175, 133, 80, 167, 0, 15, 58, 8, 4]
abbrev dktX0_addAlert_0 : List UInt8 := dkwX0_addAlert_0 ++ dktX0_addAlert_1
theorem dksX0_addAlert_0 : cX0_addAlert.data.toList.drop 0 = dktX0_addAlert_0 := by decide +kernel
theorem dksX0_addAlert_1 : cX0_addAlert.data.toList.drop 24 = dktX0_addAlert_1 := dk_seg dksX0_addAlert_0 24 rfl rfl
theorem dX0_addAlert_0 : decode cX0_addAlert 0 = .ok (.aload 7, 2) := dk_25 7 (dk_at dksX0_addAlert_0 0 rfl rfl)
theorem dX0_addAlert_2 : decode cX0_addAlert 2 = .ok (.iconst 0, 1) := dk_3 (dk_at dksX0_addAlert_0 2 rfl rfl)
theorem dX0_addAlert_3 : decode cX0_addAlert 3 = .ok (.aload_n 0, 1) := dk_42 (dk_at dksX0_addAlert_0 3 rfl rfl)
theorem dX0_addAlert_4 : decode cX0_addAlert 4 = .ok (.iload_n 1, 1) := dk_27 (dk_at dksX0_addAlert_0 4 rfl rfl)
theorem dX0_addAlert_5 : decode cX0_addAlert 5 = .ok (.iload_n 2, 1) := dk_28 (dk_at dksX0_addAlert_0 5 rfl rfl)
theorem dX0_addAlert_6 : decode cX0_addAlert 6 = .ok (.iload_n 3, 1) := dk_29 (dk_at dksX0_addAlert_0 6 rfl rfl)
theorem dX0_addAlert_7 : decode cX0_addAlert 7 = .ok (.iload 4, 2) := dk_21 4 (dk_at dksX0_addAlert_0 7 rfl rfl)
theorem dX0_addAlert_9 : decode cX0_addAlert 9 = .ok (.iload 5, 2) := dk_21 5 (dk_at dksX0_addAlert_0 9 rfl rfl)
theorem dX0_addAlert_11 : decode cX0_addAlert 11 = .ok (.iload 6, 2) := dk_21 6 (dk_at dksX0_addAlert_0 11 rfl rfl)
theorem dX0_addAlert_13 : decode cX0_addAlert 13 = .ok (.invokevirtual 175, 3) := dk_182 0 175 (dk_at dksX0_addAlert_0 13 rfl rfl)
theorem dX0_addAlert_16 : decode cX0_addAlert 16 = .ok (.i2l, 1) := dk_133 (dk_at dksX0_addAlert_0 16 rfl rfl)
theorem dX0_addAlert_17 : decode cX0_addAlert 17 = .ok (.lastore, 1) := dk_80 (dk_at dksX0_addAlert_0 17 rfl rfl)
theorem dX0_addAlert_18 : decode cX0_addAlert 18 = .ok (.goto 15, 3) := dk_167 0 15 (dk_at dksX0_addAlert_0 18 rfl rfl)
theorem dX0_addAlert_21 : decode cX0_addAlert 21 = .ok (.astore 8, 2) := dk_58 8 (dk_at dksX0_addAlert_0 21 rfl rfl)
theorem dX0_addAlert_23 : decode cX0_addAlert 23 = .ok (.iconst 1, 1) := dk_4 (dk_at dksX0_addAlert_0 23 rfl rfl)
theorem dX0_addAlert_24 : decode cX0_addAlert 24 = .ok (.ireturn, 1) := dk_172 (dk_at dksX0_addAlert_1 0 rfl rfl)
theorem dX0_addAlert_25 : decode cX0_addAlert 25 = .ok (.astore 8, 2) := dk_58 8 (dk_at dksX0_addAlert_1 1 rfl rfl)
theorem dX0_addAlert_27 : decode cX0_addAlert 27 = .ok (.iconst 2, 1) := dk_5 (dk_at dksX0_addAlert_1 3 rfl rfl)
theorem dX0_addAlert_28 : decode cX0_addAlert 28 = .ok (.ireturn, 1) := dk_172 (dk_at dksX0_addAlert_1 4 rfl rfl)
theorem dX0_addAlert_29 : decode cX0_addAlert 29 = .ok (.astore 8, 2) := dk_58 8 (dk_at dksX0_addAlert_1 5 rfl rfl)
theorem dX0_addAlert_31 : decode cX0_addAlert 31 = .ok (.iconst 3, 1) := dk_6 (dk_at dksX0_addAlert_1 7 rfl rfl)
theorem dX0_addAlert_32 : decode cX0_addAlert 32 = .ok (.ireturn, 1) := dk_172 (dk_at dksX0_addAlert_1 8 rfl rfl)
theorem dX0_addAlert_33 : decode cX0_addAlert 33 = .ok (.iconst 0, 1) := dk_3 (dk_at dksX0_addAlert_1 9 rfl rfl)
theorem dX0_addAlert_34 : decode cX0_addAlert 34 = .ok (.ireturn, 1) := dk_172 (dk_at dksX0_addAlert_1 10 rfl rfl)
abbrev cX0_undo : ByteArray := method_55_code
def yX0_undo : MethodName := ⟨RX0, "undo", "(LTelescopeQueue;[J)I"⟩
def dkwX0_undo_0 : List UInt8 := [43, 3, 42, 182, 0, 179, 133, 80, 167, 0, 6, 77, 4, 172, 3, 172]
abbrev dktX0_undo_0 : List UInt8 := dkwX0_undo_0 ++ []
theorem dksX0_undo_0 : cX0_undo.data.toList.drop 0 = dktX0_undo_0 := by decide +kernel
theorem dX0_undo_0 : decode cX0_undo 0 = .ok (.aload_n 1, 1) := dk_43 (dk_at dksX0_undo_0 0 rfl rfl)
theorem dX0_undo_1 : decode cX0_undo 1 = .ok (.iconst 0, 1) := dk_3 (dk_at dksX0_undo_0 1 rfl rfl)
theorem dX0_undo_2 : decode cX0_undo 2 = .ok (.aload_n 0, 1) := dk_42 (dk_at dksX0_undo_0 2 rfl rfl)
theorem dX0_undo_3 : decode cX0_undo 3 = .ok (.invokevirtual 179, 3) := dk_182 0 179 (dk_at dksX0_undo_0 3 rfl rfl)
theorem dX0_undo_6 : decode cX0_undo 6 = .ok (.i2l, 1) := dk_133 (dk_at dksX0_undo_0 6 rfl rfl)
theorem dX0_undo_7 : decode cX0_undo 7 = .ok (.lastore, 1) := dk_80 (dk_at dksX0_undo_0 7 rfl rfl)
theorem dX0_undo_8 : decode cX0_undo 8 = .ok (.goto 6, 3) := dk_167 0 6 (dk_at dksX0_undo_0 8 rfl rfl)
theorem dX0_undo_11 : decode cX0_undo 11 = .ok (.astore_n 2, 1) := dk_77 (dk_at dksX0_undo_0 11 rfl rfl)
theorem dX0_undo_12 : decode cX0_undo 12 = .ok (.iconst 1, 1) := dk_4 (dk_at dksX0_undo_0 12 rfl rfl)
theorem dX0_undo_13 : decode cX0_undo 13 = .ok (.ireturn, 1) := dk_172 (dk_at dksX0_undo_0 13 rfl rfl)
theorem dX0_undo_14 : decode cX0_undo 14 = .ok (.iconst 0, 1) := dk_3 (dk_at dksX0_undo_0 14 rfl rfl)
theorem dX0_undo_15 : decode cX0_undo 15 = .ok (.ireturn, 1) := dk_172 (dk_at dksX0_undo_0 15 rfl rfl)
abbrev cX0_save : ByteArray := method_56_code
def yX0_save : MethodName := ⟨RX0, "save", "(LTelescopeQueue;I[J)I"⟩
def dkwX0_save_0 : List UInt8 := [44, 3, 42, 27, 182, 0, 182, 133, 80, 167, 0, 9, 78, 4, 172, 78, 5, 172, 3, 172]
abbrev dktX0_save_0 : List UInt8 := dkwX0_save_0 ++ []
theorem dksX0_save_0 : cX0_save.data.toList.drop 0 = dktX0_save_0 := by decide +kernel
theorem dX0_save_0 : decode cX0_save 0 = .ok (.aload_n 2, 1) := dk_44 (dk_at dksX0_save_0 0 rfl rfl)
theorem dX0_save_1 : decode cX0_save 1 = .ok (.iconst 0, 1) := dk_3 (dk_at dksX0_save_0 1 rfl rfl)
theorem dX0_save_2 : decode cX0_save 2 = .ok (.aload_n 0, 1) := dk_42 (dk_at dksX0_save_0 2 rfl rfl)
theorem dX0_save_3 : decode cX0_save 3 = .ok (.iload_n 1, 1) := dk_27 (dk_at dksX0_save_0 3 rfl rfl)
theorem dX0_save_4 : decode cX0_save 4 = .ok (.invokevirtual 182, 3) := dk_182 0 182 (dk_at dksX0_save_0 4 rfl rfl)
theorem dX0_save_7 : decode cX0_save 7 = .ok (.i2l, 1) := dk_133 (dk_at dksX0_save_0 7 rfl rfl)
theorem dX0_save_8 : decode cX0_save 8 = .ok (.lastore, 1) := dk_80 (dk_at dksX0_save_0 8 rfl rfl)
theorem dX0_save_9 : decode cX0_save 9 = .ok (.goto 9, 3) := dk_167 0 9 (dk_at dksX0_save_0 9 rfl rfl)
theorem dX0_save_12 : decode cX0_save 12 = .ok (.astore_n 3, 1) := dk_78 (dk_at dksX0_save_0 12 rfl rfl)
theorem dX0_save_13 : decode cX0_save 13 = .ok (.iconst 1, 1) := dk_4 (dk_at dksX0_save_0 13 rfl rfl)
theorem dX0_save_14 : decode cX0_save 14 = .ok (.ireturn, 1) := dk_172 (dk_at dksX0_save_0 14 rfl rfl)
theorem dX0_save_15 : decode cX0_save 15 = .ok (.astore_n 3, 1) := dk_78 (dk_at dksX0_save_0 15 rfl rfl)
theorem dX0_save_16 : decode cX0_save 16 = .ok (.iconst 2, 1) := dk_5 (dk_at dksX0_save_0 16 rfl rfl)
theorem dX0_save_17 : decode cX0_save 17 = .ok (.ireturn, 1) := dk_172 (dk_at dksX0_save_0 17 rfl rfl)
theorem dX0_save_18 : decode cX0_save 18 = .ok (.iconst 0, 1) := dk_3 (dk_at dksX0_save_0 18 rfl rfl)
theorem dX0_save_19 : decode cX0_save 19 = .ok (.ireturn, 1) := dk_172 (dk_at dksX0_save_0 19 rfl rfl)
abbrev cX0_restore : ByteArray := method_57_code
def yX0_restore : MethodName := ⟨RX0, "restore", "(LTelescopeQueue;I[J)I"⟩
def dkwX0_restore_0 : List UInt8 := [44, 3, 42, 27, 182, 0, 185, 133, 80, 167, 0, 9, 78, 4, 172, 78, 5, 172, 3, 172]
abbrev dktX0_restore_0 : List UInt8 := dkwX0_restore_0 ++ []
theorem dksX0_restore_0 : cX0_restore.data.toList.drop 0 = dktX0_restore_0 := by decide +kernel
theorem dX0_restore_0 : decode cX0_restore 0 = .ok (.aload_n 2, 1) := dk_44 (dk_at dksX0_restore_0 0 rfl rfl)
theorem dX0_restore_1 : decode cX0_restore 1 = .ok (.iconst 0, 1) := dk_3 (dk_at dksX0_restore_0 1 rfl rfl)
theorem dX0_restore_2 : decode cX0_restore 2 = .ok (.aload_n 0, 1) := dk_42 (dk_at dksX0_restore_0 2 rfl rfl)
theorem dX0_restore_3 : decode cX0_restore 3 = .ok (.iload_n 1, 1) := dk_27 (dk_at dksX0_restore_0 3 rfl rfl)
theorem dX0_restore_4 : decode cX0_restore 4 = .ok (.invokevirtual 185, 3) := dk_182 0 185 (dk_at dksX0_restore_0 4 rfl rfl)
theorem dX0_restore_7 : decode cX0_restore 7 = .ok (.i2l, 1) := dk_133 (dk_at dksX0_restore_0 7 rfl rfl)
theorem dX0_restore_8 : decode cX0_restore 8 = .ok (.lastore, 1) := dk_80 (dk_at dksX0_restore_0 8 rfl rfl)
theorem dX0_restore_9 : decode cX0_restore 9 = .ok (.goto 9, 3) := dk_167 0 9 (dk_at dksX0_restore_0 9 rfl rfl)
theorem dX0_restore_12 : decode cX0_restore 12 = .ok (.astore_n 3, 1) := dk_78 (dk_at dksX0_restore_0 12 rfl rfl)
theorem dX0_restore_13 : decode cX0_restore 13 = .ok (.iconst 1, 1) := dk_4 (dk_at dksX0_restore_0 13 rfl rfl)
theorem dX0_restore_14 : decode cX0_restore 14 = .ok (.ireturn, 1) := dk_172 (dk_at dksX0_restore_0 14 rfl rfl)
theorem dX0_restore_15 : decode cX0_restore 15 = .ok (.astore_n 3, 1) := dk_78 (dk_at dksX0_restore_0 15 rfl rfl)
theorem dX0_restore_16 : decode cX0_restore 16 = .ok (.iconst 2, 1) := dk_5 (dk_at dksX0_restore_0 16 rfl rfl)
theorem dX0_restore_17 : decode cX0_restore 17 = .ok (.ireturn, 1) := dk_172 (dk_at dksX0_restore_0 17 rfl rfl)
theorem dX0_restore_18 : decode cX0_restore 18 = .ok (.iconst 0, 1) := dk_3 (dk_at dksX0_restore_0 18 rfl rfl)
theorem dX0_restore_19 : decode cX0_restore 19 = .ok (.ireturn, 1) := dk_172 (dk_at dksX0_restore_0 19 rfl rfl)
theorem q112 : (Jvm.Cond.initialized "TelescopeQueueLaw") ∈ lw_all := lw_g (lw_at lw_m1 0 rfl) rfl
theorem q160 : (Jvm.Cond.classLink "TelescopeQueueLaw" (8 : Nat) "TelescopeQueue") ∈ lw_all := lw_g (lw_at lw_m1 48 rfl) rfl
theorem q162 : (Jvm.Cond.methodLink "TelescopeQueueLaw" (188 : Nat) ({ cls := "TelescopeQueue", name := "<init>", desc := "()V" } : Jvm.MethodName)) ∈ lw_all := lw_g (lw_at lw_m1 50 rfl) rfl
theorem q764 : (Jvm.Cond.methodLink "TelescopeQueueLaw" (192 : Nat) ({ cls := "TelescopeQueue", name := "append", desc := "(IIIII)I" } : Jvm.MethodName)) ∈ lw_all := lw_g (lw_at lw_m3 172 rfl) rfl
theorem q772 : (Jvm.Cond.methodLink "TelescopeQueueLaw" (206 : Nat) ({ cls := "TelescopeQueue", name := "parseError", desc := "()I" } : Jvm.MethodName)) ∈ lw_all := lw_g (lw_at lw_m3 180 rfl) rfl
theorem q776 : (Jvm.Cond.methodLink "TelescopeQueueLaw" (210 : Nat) ({ cls := "TelescopeQueue", name := "errorPosition", desc := "()I" } : Jvm.MethodName)) ∈ lw_all := lw_g (lw_at lw_m3 184 rfl) rfl
theorem q780 : (Jvm.Cond.methodLink "TelescopeQueueLaw" (214 : Nat) ({ cls := "TelescopeQueue", name := "buffered", desc := "()I" } : Jvm.MethodName)) ∈ lw_all := lw_g (lw_at lw_m3 188 rfl) rfl
theorem q784 : (Jvm.Cond.methodLink "TelescopeQueueLaw" (218 : Nat) ({ cls := "TelescopeQueue", name := "proposals", desc := "()I" } : Jvm.MethodName)) ∈ lw_all := lw_g (lw_at lw_m3 192 rfl) rfl
theorem q798 : (Jvm.Cond.methodLink "TelescopeQueueLaw" (229 : Nat) ({ cls := "TelescopeQueue", name := "visits", desc := "()I" } : Jvm.MethodName)) ∈ lw_all := lw_g (lw_at lw_m3 206 rfl) rfl
theorem q802 : (Jvm.Cond.methodLink "TelescopeQueueLaw" (245 : Nat) ({ cls := "TelescopeQueue", name := "alerts", desc := "()I" } : Jvm.MethodName)) ∈ lw_all := lw_g (lw_at lw_m3 210 rfl) rfl
theorem q806 : (Jvm.Cond.methodLink "TelescopeQueueLaw" (330 : Nat) ({ cls := "TelescopeQueue", name := "entries", desc := "()I" } : Jvm.MethodName)) ∈ lw_all := lw_g (lw_at lw_m3 214 rfl) rfl
theorem q810 : (Jvm.Cond.methodLink "TelescopeQueueLaw" (395 : Nat) ({ cls := "TelescopeQueue", name := "undoable", desc := "()I" } : Jvm.MethodName)) ∈ lw_all := lw_g (lw_at lw_m3 218 rfl) rfl
theorem q825 : (Jvm.Cond.methodLink "TelescopeQueueLaw" (197 : Nat) ({ cls := "TelescopeQueueLaw", name := "load", desc := "(LTelescopeQueue;I[J)I" } : Jvm.MethodName)) ∈ lw_all := lw_g (lw_at lw_m3 233 rfl) rfl
theorem q826 : (Jvm.Cond.static ({ cls := "TelescopeQueueLaw", name := "load", desc := "(LTelescopeQueue;I[J)I" } : Jvm.MethodName)) ∈ lw_all := lw_g (lw_at lw_m3 234 rfl) rfl
theorem q827 : (Jvm.Cond.codeWith ({ cls := "TelescopeQueueLaw", name := "load", desc := "(LTelescopeQueue;I[J)I" } : Jvm.MethodName) method_3_code (4 : Nat) (Option.some Jvm.ClassFile.FieldType.int) [((0 : Nat), (9 : Nat), (12 : Nat), (13 : Nat)), ((0 : Nat), (9 : Nat), (15 : Nat), (15 : Nat))]) ∈ lw_all := lw_g (lw_at lw_m3 235 rfl) rfl
theorem q828 : (Jvm.Cond.classLink "TelescopeQueueLaw" (13 : Nat) "java/lang/IndexOutOfBoundsException") ∈ lw_all := lw_g (lw_at lw_m3 236 rfl) rfl
theorem q847 : (Jvm.Cond.classLink "TelescopeQueueLaw" (15 : Nat) "java/lang/IllegalArgumentException") ∈ lw_all := lw_g (lw_at lw_m4 15 rfl) rfl
theorem q848 : (Jvm.Cond.methodLink "TelescopeQueueLaw" (7 : Nat) ({ cls := "TelescopeQueue", name := "load", desc := "(I)I" } : Jvm.MethodName)) ∈ lw_all := lw_g (lw_at lw_m4 16 rfl) rfl
theorem q1418 : (Jvm.Cond.methodLink "TelescopeQueueLaw" (222 : Nat) ({ cls := "TelescopeQueueLaw", name := "proposal", desc := "(LTelescopeQueue;II[J)I" } : Jvm.MethodName)) ∈ lw_all := lw_g (lw_at lw_m6 106 rfl) rfl
theorem q1419 : (Jvm.Cond.static ({ cls := "TelescopeQueueLaw", name := "proposal", desc := "(LTelescopeQueue;II[J)I" } : Jvm.MethodName)) ∈ lw_all := lw_g (lw_at lw_m6 107 rfl) rfl
theorem q1420 : (Jvm.Cond.codeWith ({ cls := "TelescopeQueueLaw", name := "proposal", desc := "(LTelescopeQueue;II[J)I" } : Jvm.MethodName) method_4_code (5 : Nat) (Option.some Jvm.ClassFile.FieldType.int) [((0 : Nat), (10 : Nat), (13 : Nat), (21 : Nat)), ((0 : Nat), (10 : Nat), (17 : Nat), (13 : Nat)), ((0 : Nat), (10 : Nat), (21 : Nat), (15 : Nat))]) ∈ lw_all := lw_g (lw_at lw_m6 108 rfl) rfl
theorem q1421 : (Jvm.Cond.classLink "TelescopeQueueLaw" (21 : Nat) "java/lang/IllegalStateException") ∈ lw_all := lw_g (lw_at lw_m6 109 rfl) rfl
theorem q1422 : (Jvm.Cond.methodLink "TelescopeQueueLaw" (17 : Nat) ({ cls := "TelescopeQueue", name := "proposal", desc := "(II)I" } : Jvm.MethodName)) ∈ lw_all := lw_g (lw_at lw_m6 110 rfl) rfl
theorem q1481 : (Jvm.Cond.methodLink "TelescopeQueueLaw" (226 : Nat) ({ cls := "TelescopeQueueLaw", name := "letter", desc := "(LTelescopeQueue;II[J)I" } : Jvm.MethodName)) ∈ lw_all := lw_g (lw_at lw_m6 169 rfl) rfl
theorem q1482 : (Jvm.Cond.static ({ cls := "TelescopeQueueLaw", name := "letter", desc := "(LTelescopeQueue;II[J)I" } : Jvm.MethodName)) ∈ lw_all := lw_g (lw_at lw_m6 170 rfl) rfl
theorem q1483 : (Jvm.Cond.codeWith ({ cls := "TelescopeQueueLaw", name := "letter", desc := "(LTelescopeQueue;II[J)I" } : Jvm.MethodName) method_5_code (5 : Nat) (Option.some Jvm.ClassFile.FieldType.int) [((0 : Nat), (10 : Nat), (13 : Nat), (21 : Nat)), ((0 : Nat), (10 : Nat), (17 : Nat), (13 : Nat))]) ∈ lw_all := lw_g (lw_at lw_m6 171 rfl) rfl
theorem q1484 : (Jvm.Cond.methodLink "TelescopeQueueLaw" (23 : Nat) ({ cls := "TelescopeQueue", name := "letter", desc := "(II)I" } : Jvm.MethodName)) ∈ lw_all := lw_g (lw_at lw_m6 172 rfl) rfl
theorem q1489 : (Jvm.Cond.methodLink "TelescopeQueueLaw" (233 : Nat) ({ cls := "TelescopeQueueLaw", name := "visit", desc := "(LTelescopeQueue;II[J)I" } : Jvm.MethodName)) ∈ lw_all := lw_g (lw_at lw_m6 177 rfl) rfl
theorem q1490 : (Jvm.Cond.static ({ cls := "TelescopeQueueLaw", name := "visit", desc := "(LTelescopeQueue;II[J)I" } : Jvm.MethodName)) ∈ lw_all := lw_g (lw_at lw_m6 178 rfl) rfl
theorem q1491 : (Jvm.Cond.codeWith ({ cls := "TelescopeQueueLaw", name := "visit", desc := "(LTelescopeQueue;II[J)I" } : Jvm.MethodName) method_6_code (5 : Nat) (Option.some Jvm.ClassFile.FieldType.int) [((0 : Nat), (10 : Nat), (13 : Nat), (21 : Nat)), ((0 : Nat), (10 : Nat), (17 : Nat), (13 : Nat)), ((0 : Nat), (10 : Nat), (21 : Nat), (15 : Nat))]) ∈ lw_all := lw_g (lw_at lw_m6 179 rfl) rfl
theorem q1492 : (Jvm.Cond.methodLink "TelescopeQueueLaw" (26 : Nat) ({ cls := "TelescopeQueue", name := "visit", desc := "(II)I" } : Jvm.MethodName)) ∈ lw_all := lw_g (lw_at lw_m6 180 rfl) rfl
theorem q1537 : (Jvm.Cond.methodLink "TelescopeQueueLaw" (236 : Nat) ({ cls := "TelescopeQueueLaw", name := "stateOf", desc := "(LTelescopeQueue;I[J)I" } : Jvm.MethodName)) ∈ lw_all := lw_g (lw_at lw_m6 225 rfl) rfl
theorem q1538 : (Jvm.Cond.static ({ cls := "TelescopeQueueLaw", name := "stateOf", desc := "(LTelescopeQueue;I[J)I" } : Jvm.MethodName)) ∈ lw_all := lw_g (lw_at lw_m6 226 rfl) rfl
theorem q1539 : (Jvm.Cond.codeWith ({ cls := "TelescopeQueueLaw", name := "stateOf", desc := "(LTelescopeQueue;I[J)I" } : Jvm.MethodName) method_7_code (4 : Nat) (Option.some Jvm.ClassFile.FieldType.int) [((0 : Nat), (9 : Nat), (12 : Nat), (21 : Nat)), ((0 : Nat), (9 : Nat), (15 : Nat), (13 : Nat))]) ∈ lw_all := lw_g (lw_at lw_m6 227 rfl) rfl
theorem q1540 : (Jvm.Cond.methodLink "TelescopeQueueLaw" (29 : Nat) ({ cls := "TelescopeQueue", name := "stateOf", desc := "(I)I" } : Jvm.MethodName)) ∈ lw_all := lw_g (lw_at lw_m6 228 rfl) rfl
theorem q1544 : (Jvm.Cond.methodLink "TelescopeQueueLaw" (239 : Nat) ({ cls := "TelescopeQueueLaw", name := "aborts", desc := "(LTelescopeQueue;I[J)I" } : Jvm.MethodName)) ∈ lw_all := lw_g (lw_at lw_m6 232 rfl) rfl
theorem q1545 : (Jvm.Cond.static ({ cls := "TelescopeQueueLaw", name := "aborts", desc := "(LTelescopeQueue;I[J)I" } : Jvm.MethodName)) ∈ lw_all := lw_g (lw_at lw_m6 233 rfl) rfl
theorem q1546 : (Jvm.Cond.codeWith ({ cls := "TelescopeQueueLaw", name := "aborts", desc := "(LTelescopeQueue;I[J)I" } : Jvm.MethodName) method_8_code (4 : Nat) (Option.some Jvm.ClassFile.FieldType.int) [((0 : Nat), (9 : Nat), (12 : Nat), (21 : Nat)), ((0 : Nat), (9 : Nat), (15 : Nat), (13 : Nat))]) ∈ lw_all := lw_g (lw_at lw_m6 234 rfl) rfl
theorem q1547 : (Jvm.Cond.methodLink "TelescopeQueueLaw" (32 : Nat) ({ cls := "TelescopeQueue", name := "aborts", desc := "(I)I" } : Jvm.MethodName)) ∈ lw_all := lw_g (lw_at lw_m6 235 rfl) rfl
theorem q1551 : (Jvm.Cond.methodLink "TelescopeQueueLaw" (242 : Nat) ({ cls := "TelescopeQueueLaw", name := "startOf", desc := "(LTelescopeQueue;I[J)I" } : Jvm.MethodName)) ∈ lw_all := lw_g (lw_at lw_m6 239 rfl) rfl
theorem q1552 : (Jvm.Cond.static ({ cls := "TelescopeQueueLaw", name := "startOf", desc := "(LTelescopeQueue;I[J)I" } : Jvm.MethodName)) ∈ lw_all := lw_g (lw_at lw_m7 0 rfl) rfl
theorem q1553 : (Jvm.Cond.codeWith ({ cls := "TelescopeQueueLaw", name := "startOf", desc := "(LTelescopeQueue;I[J)I" } : Jvm.MethodName) method_9_code (4 : Nat) (Option.some Jvm.ClassFile.FieldType.int) [((0 : Nat), (9 : Nat), (12 : Nat), (21 : Nat)), ((0 : Nat), (9 : Nat), (15 : Nat), (13 : Nat))]) ∈ lw_all := lw_g (lw_at lw_m7 1 rfl) rfl
theorem q1554 : (Jvm.Cond.methodLink "TelescopeQueueLaw" (35 : Nat) ({ cls := "TelescopeQueue", name := "startOf", desc := "(I)I" } : Jvm.MethodName)) ∈ lw_all := lw_g (lw_at lw_m7 2 rfl) rfl
theorem q1558 : (Jvm.Cond.methodLink "TelescopeQueueLaw" (249 : Nat) ({ cls := "TelescopeQueueLaw", name := "alert", desc := "(LTelescopeQueue;II[J)I" } : Jvm.MethodName)) ∈ lw_all := lw_g (lw_at lw_m7 6 rfl) rfl
theorem q1559 : (Jvm.Cond.static ({ cls := "TelescopeQueueLaw", name := "alert", desc := "(LTelescopeQueue;II[J)I" } : Jvm.MethodName)) ∈ lw_all := lw_g (lw_at lw_m7 7 rfl) rfl
theorem q1560 : (Jvm.Cond.codeWith ({ cls := "TelescopeQueueLaw", name := "alert", desc := "(LTelescopeQueue;II[J)I" } : Jvm.MethodName) method_10_code (5 : Nat) (Option.some Jvm.ClassFile.FieldType.int) [((0 : Nat), (10 : Nat), (13 : Nat), (21 : Nat)), ((0 : Nat), (10 : Nat), (17 : Nat), (13 : Nat)), ((0 : Nat), (10 : Nat), (21 : Nat), (15 : Nat))]) ∈ lw_all := lw_g (lw_at lw_m7 8 rfl) rfl
theorem q1561 : (Jvm.Cond.methodLink "TelescopeQueueLaw" (38 : Nat) ({ cls := "TelescopeQueue", name := "alert", desc := "(II)I" } : Jvm.MethodName)) ∈ lw_all := lw_g (lw_at lw_m7 9 rfl) rfl
theorem q1586 : (Jvm.Cond.methodLink "TelescopeQueueLaw" (252 : Nat) ({ cls := "TelescopeQueueLaw", name := "alertState", desc := "(LTelescopeQueue;I[J)I" } : Jvm.MethodName)) ∈ lw_all := lw_g (lw_at lw_m7 34 rfl) rfl
theorem q1587 : (Jvm.Cond.static ({ cls := "TelescopeQueueLaw", name := "alertState", desc := "(LTelescopeQueue;I[J)I" } : Jvm.MethodName)) ∈ lw_all := lw_g (lw_at lw_m7 35 rfl) rfl
theorem q1588 : (Jvm.Cond.codeWith ({ cls := "TelescopeQueueLaw", name := "alertState", desc := "(LTelescopeQueue;I[J)I" } : Jvm.MethodName) method_11_code (4 : Nat) (Option.some Jvm.ClassFile.FieldType.int) [((0 : Nat), (9 : Nat), (12 : Nat), (21 : Nat)), ((0 : Nat), (9 : Nat), (15 : Nat), (13 : Nat))]) ∈ lw_all := lw_g (lw_at lw_m7 36 rfl) rfl
theorem q1589 : (Jvm.Cond.methodLink "TelescopeQueueLaw" (41 : Nat) ({ cls := "TelescopeQueue", name := "alertState", desc := "(I)I" } : Jvm.MethodName)) ∈ lw_all := lw_g (lw_at lw_m7 37 rfl) rfl
theorem q1593 : (Jvm.Cond.methodLink "TelescopeQueueLaw" (255 : Nat) ({ cls := "TelescopeQueueLaw", name := "alertDelay", desc := "(LTelescopeQueue;I[J)I" } : Jvm.MethodName)) ∈ lw_all := lw_g (lw_at lw_m7 41 rfl) rfl
theorem q1594 : (Jvm.Cond.static ({ cls := "TelescopeQueueLaw", name := "alertDelay", desc := "(LTelescopeQueue;I[J)I" } : Jvm.MethodName)) ∈ lw_all := lw_g (lw_at lw_m7 42 rfl) rfl
theorem q1595 : (Jvm.Cond.codeWith ({ cls := "TelescopeQueueLaw", name := "alertDelay", desc := "(LTelescopeQueue;I[J)I" } : Jvm.MethodName) method_12_code (4 : Nat) (Option.some Jvm.ClassFile.FieldType.int) [((0 : Nat), (9 : Nat), (12 : Nat), (21 : Nat)), ((0 : Nat), (9 : Nat), (15 : Nat), (13 : Nat))]) ∈ lw_all := lw_g (lw_at lw_m7 43 rfl) rfl
theorem q1596 : (Jvm.Cond.methodLink "TelescopeQueueLaw" (44 : Nat) ({ cls := "TelescopeQueue", name := "alertDelay", desc := "(I)I" } : Jvm.MethodName)) ∈ lw_all := lw_g (lw_at lw_m7 44 rfl) rfl
theorem q1600 : (Jvm.Cond.methodLink "TelescopeQueueLaw" (258 : Nat) ({ cls := "TelescopeQueueLaw", name := "waiting", desc := "(LTelescopeQueue;[J)I" } : Jvm.MethodName)) ∈ lw_all := lw_g (lw_at lw_m7 48 rfl) rfl
theorem q1601 : (Jvm.Cond.static ({ cls := "TelescopeQueueLaw", name := "waiting", desc := "(LTelescopeQueue;[J)I" } : Jvm.MethodName)) ∈ lw_all := lw_g (lw_at lw_m7 49 rfl) rfl
theorem q1602 : (Jvm.Cond.codeWith ({ cls := "TelescopeQueueLaw", name := "waiting", desc := "(LTelescopeQueue;[J)I" } : Jvm.MethodName) method_13_code (3 : Nat) (Option.some Jvm.ClassFile.FieldType.int) [((0 : Nat), (8 : Nat), (11 : Nat), (21 : Nat))]) ∈ lw_all := lw_g (lw_at lw_m7 50 rfl) rfl
theorem q1603 : (Jvm.Cond.methodLink "TelescopeQueueLaw" (47 : Nat) ({ cls := "TelescopeQueue", name := "waiting", desc := "()I" } : Jvm.MethodName)) ∈ lw_all := lw_g (lw_at lw_m7 51 rfl) rfl
theorem q1607 : (Jvm.Cond.methodLink "TelescopeQueueLaw" (262 : Nat) ({ cls := "TelescopeQueueLaw", name := "now", desc := "(LTelescopeQueue;[J)I" } : Jvm.MethodName)) ∈ lw_all := lw_g (lw_at lw_m7 55 rfl) rfl
theorem q1608 : (Jvm.Cond.static ({ cls := "TelescopeQueueLaw", name := "now", desc := "(LTelescopeQueue;[J)I" } : Jvm.MethodName)) ∈ lw_all := lw_g (lw_at lw_m7 56 rfl) rfl
theorem q1609 : (Jvm.Cond.codeWith ({ cls := "TelescopeQueueLaw", name := "now", desc := "(LTelescopeQueue;[J)I" } : Jvm.MethodName) method_14_code (3 : Nat) (Option.some Jvm.ClassFile.FieldType.int) [((0 : Nat), (8 : Nat), (11 : Nat), (21 : Nat))]) ∈ lw_all := lw_g (lw_at lw_m7 57 rfl) rfl
theorem q1610 : (Jvm.Cond.methodLink "TelescopeQueueLaw" (51 : Nat) ({ cls := "TelescopeQueue", name := "now", desc := "()I" } : Jvm.MethodName)) ∈ lw_all := lw_g (lw_at lw_m7 58 rfl) rfl
theorem q1614 : (Jvm.Cond.methodLink "TelescopeQueueLaw" (265 : Nat) ({ cls := "TelescopeQueueLaw", name := "pointing", desc := "(LTelescopeQueue;I[J)I" } : Jvm.MethodName)) ∈ lw_all := lw_g (lw_at lw_m7 62 rfl) rfl
theorem q1615 : (Jvm.Cond.static ({ cls := "TelescopeQueueLaw", name := "pointing", desc := "(LTelescopeQueue;I[J)I" } : Jvm.MethodName)) ∈ lw_all := lw_g (lw_at lw_m7 63 rfl) rfl
theorem q1616 : (Jvm.Cond.codeWith ({ cls := "TelescopeQueueLaw", name := "pointing", desc := "(LTelescopeQueue;I[J)I" } : Jvm.MethodName) method_15_code (4 : Nat) (Option.some Jvm.ClassFile.FieldType.int) [((0 : Nat), (9 : Nat), (12 : Nat), (21 : Nat)), ((0 : Nat), (9 : Nat), (15 : Nat), (15 : Nat))]) ∈ lw_all := lw_g (lw_at lw_m7 64 rfl) rfl
theorem q1617 : (Jvm.Cond.methodLink "TelescopeQueueLaw" (54 : Nat) ({ cls := "TelescopeQueue", name := "pointing", desc := "(I)I" } : Jvm.MethodName)) ∈ lw_all := lw_g (lw_at lw_m7 65 rfl) rfl
theorem q1621 : (Jvm.Cond.methodLink "TelescopeQueueLaw" (268 : Nat) ({ cls := "TelescopeQueueLaw", name := "momentum", desc := "(LTelescopeQueue;[J)I" } : Jvm.MethodName)) ∈ lw_all := lw_g (lw_at lw_m7 69 rfl) rfl
theorem q1622 : (Jvm.Cond.static ({ cls := "TelescopeQueueLaw", name := "momentum", desc := "(LTelescopeQueue;[J)I" } : Jvm.MethodName)) ∈ lw_all := lw_g (lw_at lw_m7 70 rfl) rfl
theorem q1623 : (Jvm.Cond.codeWith ({ cls := "TelescopeQueueLaw", name := "momentum", desc := "(LTelescopeQueue;[J)I" } : Jvm.MethodName) method_16_code (3 : Nat) (Option.some Jvm.ClassFile.FieldType.int) [((0 : Nat), (8 : Nat), (11 : Nat), (21 : Nat))]) ∈ lw_all := lw_g (lw_at lw_m7 71 rfl) rfl
theorem q1624 : (Jvm.Cond.methodLink "TelescopeQueueLaw" (57 : Nat) ({ cls := "TelescopeQueue", name := "momentum", desc := "()I" } : Jvm.MethodName)) ∈ lw_all := lw_g (lw_at lw_m7 72 rfl) rfl
theorem q1628 : (Jvm.Cond.methodLink "TelescopeQueueLaw" (271 : Nat) ({ cls := "TelescopeQueueLaw", name := "sinceCalibration", desc := "(LTelescopeQueue;[J)I" } : Jvm.MethodName)) ∈ lw_all := lw_g (lw_at lw_m7 76 rfl) rfl
theorem q1629 : (Jvm.Cond.static ({ cls := "TelescopeQueueLaw", name := "sinceCalibration", desc := "(LTelescopeQueue;[J)I" } : Jvm.MethodName)) ∈ lw_all := lw_g (lw_at lw_m7 77 rfl) rfl
theorem q1630 : (Jvm.Cond.codeWith ({ cls := "TelescopeQueueLaw", name := "sinceCalibration", desc := "(LTelescopeQueue;[J)I" } : Jvm.MethodName) method_17_code (3 : Nat) (Option.some Jvm.ClassFile.FieldType.int) [((0 : Nat), (8 : Nat), (11 : Nat), (21 : Nat))]) ∈ lw_all := lw_g (lw_at lw_m7 78 rfl) rfl
theorem q1631 : (Jvm.Cond.methodLink "TelescopeQueueLaw" (60 : Nat) ({ cls := "TelescopeQueue", name := "sinceCalibration", desc := "()I" } : Jvm.MethodName)) ∈ lw_all := lw_g (lw_at lw_m7 79 rfl) rfl
theorem q1635 : (Jvm.Cond.methodLink "TelescopeQueueLaw" (274 : Nat) ({ cls := "TelescopeQueueLaw", name := "setting", desc := "(LTelescopeQueue;I[J)I" } : Jvm.MethodName)) ∈ lw_all := lw_g (lw_at lw_m7 83 rfl) rfl
theorem q1636 : (Jvm.Cond.static ({ cls := "TelescopeQueueLaw", name := "setting", desc := "(LTelescopeQueue;I[J)I" } : Jvm.MethodName)) ∈ lw_all := lw_g (lw_at lw_m7 84 rfl) rfl
theorem q1637 : (Jvm.Cond.codeWith ({ cls := "TelescopeQueueLaw", name := "setting", desc := "(LTelescopeQueue;I[J)I" } : Jvm.MethodName) method_18_code (4 : Nat) (Option.some Jvm.ClassFile.FieldType.int) [((0 : Nat), (9 : Nat), (12 : Nat), (21 : Nat)), ((0 : Nat), (9 : Nat), (15 : Nat), (15 : Nat))]) ∈ lw_all := lw_g (lw_at lw_m7 85 rfl) rfl
theorem q1638 : (Jvm.Cond.methodLink "TelescopeQueueLaw" (63 : Nat) ({ cls := "TelescopeQueue", name := "setting", desc := "(I)I" } : Jvm.MethodName)) ∈ lw_all := lw_g (lw_at lw_m7 86 rfl) rfl
theorem q1643 : (Jvm.Cond.methodLink "TelescopeQueueLaw" (277 : Nat) ({ cls := "TelescopeQueueLaw", name := "sun", desc := "(LTelescopeQueue;I[J)I" } : Jvm.MethodName)) ∈ lw_all := lw_g (lw_at lw_m7 91 rfl) rfl
theorem q1644 : (Jvm.Cond.static ({ cls := "TelescopeQueueLaw", name := "sun", desc := "(LTelescopeQueue;I[J)I" } : Jvm.MethodName)) ∈ lw_all := lw_g (lw_at lw_m7 92 rfl) rfl
theorem q1645 : (Jvm.Cond.codeWith ({ cls := "TelescopeQueueLaw", name := "sun", desc := "(LTelescopeQueue;I[J)I" } : Jvm.MethodName) method_19_code (4 : Nat) (Option.some Jvm.ClassFile.FieldType.int) [((0 : Nat), (9 : Nat), (12 : Nat), (21 : Nat)), ((0 : Nat), (9 : Nat), (15 : Nat), (15 : Nat))]) ∈ lw_all := lw_g (lw_at lw_m7 93 rfl) rfl
theorem q1646 : (Jvm.Cond.methodLink "TelescopeQueueLaw" (66 : Nat) ({ cls := "TelescopeQueue", name := "sun", desc := "(I)I" } : Jvm.MethodName)) ∈ lw_all := lw_g (lw_at lw_m7 94 rfl) rfl
theorem q1654 : (Jvm.Cond.methodLink "TelescopeQueueLaw" (280 : Nat) ({ cls := "TelescopeQueueLaw", name := "angleTo", desc := "(LTelescopeQueue;II[J)I" } : Jvm.MethodName)) ∈ lw_all := lw_g (lw_at lw_m7 102 rfl) rfl
theorem q1655 : (Jvm.Cond.static ({ cls := "TelescopeQueueLaw", name := "angleTo", desc := "(LTelescopeQueue;II[J)I" } : Jvm.MethodName)) ∈ lw_all := lw_g (lw_at lw_m7 103 rfl) rfl
theorem q1656 : (Jvm.Cond.codeWith ({ cls := "TelescopeQueueLaw", name := "angleTo", desc := "(LTelescopeQueue;II[J)I" } : Jvm.MethodName) method_20_code (5 : Nat) (Option.some Jvm.ClassFile.FieldType.int) [((0 : Nat), (10 : Nat), (13 : Nat), (21 : Nat)), ((0 : Nat), (10 : Nat), (17 : Nat), (15 : Nat))]) ∈ lw_all := lw_g (lw_at lw_m7 104 rfl) rfl
theorem q1657 : (Jvm.Cond.methodLink "TelescopeQueueLaw" (69 : Nat) ({ cls := "TelescopeQueue", name := "angleTo", desc := "(II)I" } : Jvm.MethodName)) ∈ lw_all := lw_g (lw_at lw_m7 105 rfl) rfl
theorem q1682 : (Jvm.Cond.methodLink "TelescopeQueueLaw" (283 : Nat) ({ cls := "TelescopeQueueLaw", name := "slewTo", desc := "(LTelescopeQueue;II[J)I" } : Jvm.MethodName)) ∈ lw_all := lw_g (lw_at lw_m7 130 rfl) rfl
theorem q1683 : (Jvm.Cond.static ({ cls := "TelescopeQueueLaw", name := "slewTo", desc := "(LTelescopeQueue;II[J)I" } : Jvm.MethodName)) ∈ lw_all := lw_g (lw_at lw_m7 131 rfl) rfl
theorem q1684 : (Jvm.Cond.codeWith ({ cls := "TelescopeQueueLaw", name := "slewTo", desc := "(LTelescopeQueue;II[J)I" } : Jvm.MethodName) method_21_code (5 : Nat) (Option.some Jvm.ClassFile.FieldType.int) [((0 : Nat), (10 : Nat), (13 : Nat), (21 : Nat)), ((0 : Nat), (10 : Nat), (17 : Nat), (15 : Nat))]) ∈ lw_all := lw_g (lw_at lw_m7 132 rfl) rfl
theorem q1685 : (Jvm.Cond.methodLink "TelescopeQueueLaw" (72 : Nat) ({ cls := "TelescopeQueue", name := "slewTo", desc := "(II)I" } : Jvm.MethodName)) ∈ lw_all := lw_g (lw_at lw_m7 133 rfl) rfl
theorem q1693 : (Jvm.Cond.methodLink "TelescopeQueueLaw" (286 : Nat) ({ cls := "TelescopeQueueLaw", name := "isVisible", desc := "(LTelescopeQueue;II[J)I" } : Jvm.MethodName)) ∈ lw_all := lw_g (lw_at lw_m7 141 rfl) rfl
theorem q1694 : (Jvm.Cond.static ({ cls := "TelescopeQueueLaw", name := "isVisible", desc := "(LTelescopeQueue;II[J)I" } : Jvm.MethodName)) ∈ lw_all := lw_g (lw_at lw_m7 142 rfl) rfl
theorem q1695 : (Jvm.Cond.codeWith ({ cls := "TelescopeQueueLaw", name := "isVisible", desc := "(LTelescopeQueue;II[J)I" } : Jvm.MethodName) method_22_code (5 : Nat) (Option.some Jvm.ClassFile.FieldType.int) [((0 : Nat), (17 : Nat), (20 : Nat), (21 : Nat)), ((0 : Nat), (17 : Nat), (24 : Nat), (15 : Nat))]) ∈ lw_all := lw_g (lw_at lw_m7 143 rfl) rfl
theorem q1696 : (Jvm.Cond.methodLink "TelescopeQueueLaw" (75 : Nat) ({ cls := "TelescopeQueue", name := "isVisible", desc := "(II)Z" } : Jvm.MethodName)) ∈ lw_all := lw_g (lw_at lw_m7 144 rfl) rfl
theorem q1706 : (Jvm.Cond.methodLink "TelescopeQueueLaw" (289 : Nat) ({ cls := "TelescopeQueueLaw", name := "nextVisible", desc := "(LTelescopeQueue;II[J)I" } : Jvm.MethodName)) ∈ lw_all := lw_g (lw_at lw_m7 154 rfl) rfl
theorem q1707 : (Jvm.Cond.static ({ cls := "TelescopeQueueLaw", name := "nextVisible", desc := "(LTelescopeQueue;II[J)I" } : Jvm.MethodName)) ∈ lw_all := lw_g (lw_at lw_m7 155 rfl) rfl
theorem q1708 : (Jvm.Cond.codeWith ({ cls := "TelescopeQueueLaw", name := "nextVisible", desc := "(LTelescopeQueue;II[J)I" } : Jvm.MethodName) method_23_code (5 : Nat) (Option.some Jvm.ClassFile.FieldType.int) [((0 : Nat), (10 : Nat), (13 : Nat), (21 : Nat)), ((0 : Nat), (10 : Nat), (17 : Nat), (15 : Nat))]) ∈ lw_all := lw_g (lw_at lw_m7 156 rfl) rfl
theorem q1709 : (Jvm.Cond.methodLink "TelescopeQueueLaw" (79 : Nat) ({ cls := "TelescopeQueue", name := "nextVisible", desc := "(II)I" } : Jvm.MethodName)) ∈ lw_all := lw_g (lw_at lw_m7 157 rfl) rfl
theorem q1713 : (Jvm.Cond.methodLink "TelescopeQueueLaw" (292 : Nat) ({ cls := "TelescopeQueueLaw", name := "growth", desc := "(LTelescopeQueue;I[J)I" } : Jvm.MethodName)) ∈ lw_all := lw_g (lw_at lw_m7 161 rfl) rfl
theorem q1714 : (Jvm.Cond.static ({ cls := "TelescopeQueueLaw", name := "growth", desc := "(LTelescopeQueue;I[J)I" } : Jvm.MethodName)) ∈ lw_all := lw_g (lw_at lw_m7 162 rfl) rfl
theorem q1715 : (Jvm.Cond.codeWith ({ cls := "TelescopeQueueLaw", name := "growth", desc := "(LTelescopeQueue;I[J)I" } : Jvm.MethodName) method_24_code (4 : Nat) (Option.some Jvm.ClassFile.FieldType.int) [((0 : Nat), (9 : Nat), (12 : Nat), (21 : Nat)), ((0 : Nat), (9 : Nat), (15 : Nat), (13 : Nat))]) ∈ lw_all := lw_g (lw_at lw_m7 163 rfl) rfl
theorem q1716 : (Jvm.Cond.methodLink "TelescopeQueueLaw" (82 : Nat) ({ cls := "TelescopeQueue", name := "growth", desc := "(I)I" } : Jvm.MethodName)) ∈ lw_all := lw_g (lw_at lw_m7 164 rfl) rfl
theorem q1842 : (Jvm.Cond.methodLink "TelescopeQueueLaw" (295 : Nat) ({ cls := "TelescopeQueueLaw", name := "needsDump", desc := "(LTelescopeQueue;I[J)I" } : Jvm.MethodName)) ∈ lw_all := lw_g (lw_at lw_m8 50 rfl) rfl
theorem q1843 : (Jvm.Cond.static ({ cls := "TelescopeQueueLaw", name := "needsDump", desc := "(LTelescopeQueue;I[J)I" } : Jvm.MethodName)) ∈ lw_all := lw_g (lw_at lw_m8 51 rfl) rfl
theorem q1844 : (Jvm.Cond.codeWith ({ cls := "TelescopeQueueLaw", name := "needsDump", desc := "(LTelescopeQueue;I[J)I" } : Jvm.MethodName) method_25_code (4 : Nat) (Option.some Jvm.ClassFile.FieldType.int) [((0 : Nat), (16 : Nat), (19 : Nat), (21 : Nat)), ((0 : Nat), (16 : Nat), (22 : Nat), (13 : Nat))]) ∈ lw_all := lw_g (lw_at lw_m8 52 rfl) rfl
theorem q1845 : (Jvm.Cond.methodLink "TelescopeQueueLaw" (85 : Nat) ({ cls := "TelescopeQueue", name := "needsDump", desc := "(I)Z" } : Jvm.MethodName)) ∈ lw_all := lw_g (lw_at lw_m8 53 rfl) rfl
theorem q1849 : (Jvm.Cond.methodLink "TelescopeQueueLaw" (298 : Nat) ({ cls := "TelescopeQueueLaw", name := "startIf", desc := "(LTelescopeQueue;I[J)I" } : Jvm.MethodName)) ∈ lw_all := lw_g (lw_at lw_m8 57 rfl) rfl
theorem q1850 : (Jvm.Cond.static ({ cls := "TelescopeQueueLaw", name := "startIf", desc := "(LTelescopeQueue;I[J)I" } : Jvm.MethodName)) ∈ lw_all := lw_g (lw_at lw_m8 58 rfl) rfl
theorem q1851 : (Jvm.Cond.codeWith ({ cls := "TelescopeQueueLaw", name := "startIf", desc := "(LTelescopeQueue;I[J)I" } : Jvm.MethodName) method_26_code (4 : Nat) (Option.some Jvm.ClassFile.FieldType.int) [((0 : Nat), (9 : Nat), (12 : Nat), (21 : Nat)), ((0 : Nat), (9 : Nat), (15 : Nat), (13 : Nat))]) ∈ lw_all := lw_g (lw_at lw_m8 59 rfl) rfl
theorem q1852 : (Jvm.Cond.methodLink "TelescopeQueueLaw" (89 : Nat) ({ cls := "TelescopeQueue", name := "startIf", desc := "(I)I" } : Jvm.MethodName)) ∈ lw_all := lw_g (lw_at lw_m8 60 rfl) rfl
theorem q1856 : (Jvm.Cond.methodLink "TelescopeQueueLaw" (301 : Nat) ({ cls := "TelescopeQueueLaw", name := "reason", desc := "(LTelescopeQueue;I[J)I" } : Jvm.MethodName)) ∈ lw_all := lw_g (lw_at lw_m8 64 rfl) rfl
theorem q1857 : (Jvm.Cond.static ({ cls := "TelescopeQueueLaw", name := "reason", desc := "(LTelescopeQueue;I[J)I" } : Jvm.MethodName)) ∈ lw_all := lw_g (lw_at lw_m8 65 rfl) rfl
theorem q1858 : (Jvm.Cond.codeWith ({ cls := "TelescopeQueueLaw", name := "reason", desc := "(LTelescopeQueue;I[J)I" } : Jvm.MethodName) method_27_code (4 : Nat) (Option.some Jvm.ClassFile.FieldType.int) [((0 : Nat), (9 : Nat), (12 : Nat), (21 : Nat)), ((0 : Nat), (9 : Nat), (15 : Nat), (13 : Nat))]) ∈ lw_all := lw_g (lw_at lw_m8 66 rfl) rfl
theorem q1859 : (Jvm.Cond.methodLink "TelescopeQueueLaw" (92 : Nat) ({ cls := "TelescopeQueue", name := "reason", desc := "(I)I" } : Jvm.MethodName)) ∈ lw_all := lw_g (lw_at lw_m8 67 rfl) rfl
theorem q1863 : (Jvm.Cond.methodLink "TelescopeQueueLaw" (304 : Nat) ({ cls := "TelescopeQueueLaw", name := "chosen", desc := "(LTelescopeQueue;[J)I" } : Jvm.MethodName)) ∈ lw_all := lw_g (lw_at lw_m8 71 rfl) rfl
theorem q1864 : (Jvm.Cond.static ({ cls := "TelescopeQueueLaw", name := "chosen", desc := "(LTelescopeQueue;[J)I" } : Jvm.MethodName)) ∈ lw_all := lw_g (lw_at lw_m8 72 rfl) rfl
theorem q1865 : (Jvm.Cond.codeWith ({ cls := "TelescopeQueueLaw", name := "chosen", desc := "(LTelescopeQueue;[J)I" } : Jvm.MethodName) method_28_code (3 : Nat) (Option.some Jvm.ClassFile.FieldType.int) [((0 : Nat), (8 : Nat), (11 : Nat), (21 : Nat))]) ∈ lw_all := lw_g (lw_at lw_m8 73 rfl) rfl
theorem q1866 : (Jvm.Cond.methodLink "TelescopeQueueLaw" (95 : Nat) ({ cls := "TelescopeQueue", name := "chosen", desc := "()I" } : Jvm.MethodName)) ∈ lw_all := lw_g (lw_at lw_m8 74 rfl) rfl
theorem q1946 : (Jvm.Cond.methodLink "TelescopeQueueLaw" (307 : Nat) ({ cls := "TelescopeQueueLaw", name := "nextKind", desc := "(LTelescopeQueue;[J)I" } : Jvm.MethodName)) ∈ lw_all := lw_g (lw_at lw_m8 154 rfl) rfl
theorem q1947 : (Jvm.Cond.static ({ cls := "TelescopeQueueLaw", name := "nextKind", desc := "(LTelescopeQueue;[J)I" } : Jvm.MethodName)) ∈ lw_all := lw_g (lw_at lw_m8 155 rfl) rfl
theorem q1948 : (Jvm.Cond.codeWith ({ cls := "TelescopeQueueLaw", name := "nextKind", desc := "(LTelescopeQueue;[J)I" } : Jvm.MethodName) method_29_code (3 : Nat) (Option.some Jvm.ClassFile.FieldType.int) [((0 : Nat), (8 : Nat), (11 : Nat), (21 : Nat))]) ∈ lw_all := lw_g (lw_at lw_m8 156 rfl) rfl
theorem q1949 : (Jvm.Cond.methodLink "TelescopeQueueLaw" (98 : Nat) ({ cls := "TelescopeQueue", name := "nextKind", desc := "()I" } : Jvm.MethodName)) ∈ lw_all := lw_g (lw_at lw_m8 157 rfl) rfl
theorem q1986 : (Jvm.Cond.methodLink "TelescopeQueueLaw" (310 : Nat) ({ cls := "TelescopeQueueLaw", name := "interrupting", desc := "(LTelescopeQueue;I[J)I" } : Jvm.MethodName)) ∈ lw_all := lw_g (lw_at lw_m8 194 rfl) rfl
theorem q1987 : (Jvm.Cond.static ({ cls := "TelescopeQueueLaw", name := "interrupting", desc := "(LTelescopeQueue;I[J)I" } : Jvm.MethodName)) ∈ lw_all := lw_g (lw_at lw_m8 195 rfl) rfl
theorem q1988 : (Jvm.Cond.codeWith ({ cls := "TelescopeQueueLaw", name := "interrupting", desc := "(LTelescopeQueue;I[J)I" } : Jvm.MethodName) method_30_code (4 : Nat) (Option.some Jvm.ClassFile.FieldType.int) [((0 : Nat), (9 : Nat), (12 : Nat), (21 : Nat)), ((0 : Nat), (9 : Nat), (15 : Nat), (13 : Nat)), ((0 : Nat), (9 : Nat), (18 : Nat), (15 : Nat))]) ∈ lw_all := lw_g (lw_at lw_m8 196 rfl) rfl
theorem q1989 : (Jvm.Cond.methodLink "TelescopeQueueLaw" (101 : Nat) ({ cls := "TelescopeQueue", name := "interrupting", desc := "(I)I" } : Jvm.MethodName)) ∈ lw_all := lw_g (lw_at lw_m8 197 rfl) rfl
theorem q1995 : (Jvm.Cond.methodLink "TelescopeQueueLaw" (313 : Nat) ({ cls := "TelescopeQueueLaw", name := "alertReason", desc := "(LTelescopeQueue;I[J)I" } : Jvm.MethodName)) ∈ lw_all := lw_g (lw_at lw_m8 203 rfl) rfl
theorem q1996 : (Jvm.Cond.static ({ cls := "TelescopeQueueLaw", name := "alertReason", desc := "(LTelescopeQueue;I[J)I" } : Jvm.MethodName)) ∈ lw_all := lw_g (lw_at lw_m8 204 rfl) rfl
theorem q1997 : (Jvm.Cond.codeWith ({ cls := "TelescopeQueueLaw", name := "alertReason", desc := "(LTelescopeQueue;I[J)I" } : Jvm.MethodName) method_31_code (4 : Nat) (Option.some Jvm.ClassFile.FieldType.int) [((0 : Nat), (9 : Nat), (12 : Nat), (21 : Nat)), ((0 : Nat), (9 : Nat), (15 : Nat), (13 : Nat))]) ∈ lw_all := lw_g (lw_at lw_m8 205 rfl) rfl
theorem q1998 : (Jvm.Cond.methodLink "TelescopeQueueLaw" (104 : Nat) ({ cls := "TelescopeQueue", name := "alertReason", desc := "(I)I" } : Jvm.MethodName)) ∈ lw_all := lw_g (lw_at lw_m8 206 rfl) rfl
theorem q2006 : (Jvm.Cond.methodLink "TelescopeQueueLaw" (316 : Nat) ({ cls := "TelescopeQueueLaw", name := "latestBegin", desc := "(LTelescopeQueue;I[J)I" } : Jvm.MethodName)) ∈ lw_all := lw_g (lw_at lw_m8 214 rfl) rfl
theorem q2007 : (Jvm.Cond.static ({ cls := "TelescopeQueueLaw", name := "latestBegin", desc := "(LTelescopeQueue;I[J)I" } : Jvm.MethodName)) ∈ lw_all := lw_g (lw_at lw_m8 215 rfl) rfl
theorem q2008 : (Jvm.Cond.codeWith ({ cls := "TelescopeQueueLaw", name := "latestBegin", desc := "(LTelescopeQueue;I[J)I" } : Jvm.MethodName) method_32_code (4 : Nat) (Option.some Jvm.ClassFile.FieldType.int) [((0 : Nat), (9 : Nat), (12 : Nat), (21 : Nat)), ((0 : Nat), (9 : Nat), (15 : Nat), (13 : Nat))]) ∈ lw_all := lw_g (lw_at lw_m8 216 rfl) rfl
theorem q2009 : (Jvm.Cond.methodLink "TelescopeQueueLaw" (107 : Nat) ({ cls := "TelescopeQueue", name := "latestBegin", desc := "(I)I" } : Jvm.MethodName)) ∈ lw_all := lw_g (lw_at lw_m8 217 rfl) rfl
theorem q2018 : (Jvm.Cond.methodLink "TelescopeQueueLaw" (319 : Nat) ({ cls := "TelescopeQueueLaw", name := "total", desc := "(LTelescopeQueue;I[J)I" } : Jvm.MethodName)) ∈ lw_all := lw_g (lw_at lw_m8 226 rfl) rfl
theorem q2019 : (Jvm.Cond.static ({ cls := "TelescopeQueueLaw", name := "total", desc := "(LTelescopeQueue;I[J)I" } : Jvm.MethodName)) ∈ lw_all := lw_g (lw_at lw_m8 227 rfl) rfl
theorem q2020 : (Jvm.Cond.codeWith ({ cls := "TelescopeQueueLaw", name := "total", desc := "(LTelescopeQueue;I[J)I" } : Jvm.MethodName) method_33_code (4 : Nat) (Option.some Jvm.ClassFile.FieldType.int) [((0 : Nat), (9 : Nat), (12 : Nat), (21 : Nat)), ((0 : Nat), (9 : Nat), (15 : Nat), (15 : Nat))]) ∈ lw_all := lw_g (lw_at lw_m8 228 rfl) rfl
theorem q2021 : (Jvm.Cond.methodLink "TelescopeQueueLaw" (110 : Nat) ({ cls := "TelescopeQueue", name := "total", desc := "(I)I" } : Jvm.MethodName)) ∈ lw_all := lw_g (lw_at lw_m8 229 rfl) rfl
theorem q2025 : (Jvm.Cond.methodLink "TelescopeQueueLaw" (322 : Nat) ({ cls := "TelescopeQueueLaw", name := "share", desc := "(LTelescopeQueue;I[D)I" } : Jvm.MethodName)) ∈ lw_all := lw_g (lw_at lw_m8 233 rfl) rfl
theorem q2026 : (Jvm.Cond.static ({ cls := "TelescopeQueueLaw", name := "share", desc := "(LTelescopeQueue;I[D)I" } : Jvm.MethodName)) ∈ lw_all := lw_g (lw_at lw_m8 234 rfl) rfl
theorem q2027 : (Jvm.Cond.codeWith ({ cls := "TelescopeQueueLaw", name := "share", desc := "(LTelescopeQueue;I[D)I" } : Jvm.MethodName) method_34_code (4 : Nat) (Option.some Jvm.ClassFile.FieldType.int) [((0 : Nat), (9 : Nat), (12 : Nat), (21 : Nat)), ((0 : Nat), (9 : Nat), (15 : Nat), (13 : Nat))]) ∈ lw_all := lw_g (lw_at lw_m8 235 rfl) rfl
theorem q2028 : (Jvm.Cond.methodLink "TelescopeQueueLaw" (113 : Nat) ({ cls := "TelescopeQueue", name := "share", desc := "(I)F" } : Jvm.MethodName)) ∈ lw_all := lw_g (lw_at lw_m8 236 rfl) rfl
theorem q2036 : (Jvm.Cond.methodLink "TelescopeQueueLaw" (326 : Nat) ({ cls := "TelescopeQueueLaw", name := "spread", desc := "(LTelescopeQueue;[D)I" } : Jvm.MethodName)) ∈ lw_all := lw_g (lw_at lw_m9 4 rfl) rfl
theorem q2037 : (Jvm.Cond.static ({ cls := "TelescopeQueueLaw", name := "spread", desc := "(LTelescopeQueue;[D)I" } : Jvm.MethodName)) ∈ lw_all := lw_g (lw_at lw_m9 5 rfl) rfl
theorem q2038 : (Jvm.Cond.codeWith ({ cls := "TelescopeQueueLaw", name := "spread", desc := "(LTelescopeQueue;[D)I" } : Jvm.MethodName) method_35_code (3 : Nat) (Option.some Jvm.ClassFile.FieldType.int) [((0 : Nat), (8 : Nat), (11 : Nat), (21 : Nat))]) ∈ lw_all := lw_g (lw_at lw_m9 6 rfl) rfl
theorem q2039 : (Jvm.Cond.methodLink "TelescopeQueueLaw" (117 : Nat) ({ cls := "TelescopeQueue", name := "spread", desc := "()F" } : Jvm.MethodName)) ∈ lw_all := lw_g (lw_at lw_m9 7 rfl) rfl
theorem q2054 : (Jvm.Cond.methodLink "TelescopeQueueLaw" (334 : Nat) ({ cls := "TelescopeQueueLaw", name := "entry", desc := "(LTelescopeQueue;II[J)I" } : Jvm.MethodName)) ∈ lw_all := lw_g (lw_at lw_m9 22 rfl) rfl
theorem q2055 : (Jvm.Cond.static ({ cls := "TelescopeQueueLaw", name := "entry", desc := "(LTelescopeQueue;II[J)I" } : Jvm.MethodName)) ∈ lw_all := lw_g (lw_at lw_m9 23 rfl) rfl
theorem q2056 : (Jvm.Cond.codeWith ({ cls := "TelescopeQueueLaw", name := "entry", desc := "(LTelescopeQueue;II[J)I" } : Jvm.MethodName) method_36_code (5 : Nat) (Option.some Jvm.ClassFile.FieldType.int) [((0 : Nat), (10 : Nat), (13 : Nat), (21 : Nat)), ((0 : Nat), (10 : Nat), (17 : Nat), (13 : Nat)), ((0 : Nat), (10 : Nat), (21 : Nat), (15 : Nat))]) ∈ lw_all := lw_g (lw_at lw_m9 24 rfl) rfl
theorem q2057 : (Jvm.Cond.methodLink "TelescopeQueueLaw" (121 : Nat) ({ cls := "TelescopeQueue", name := "entry", desc := "(II)I" } : Jvm.MethodName)) ∈ lw_all := lw_g (lw_at lw_m9 25 rfl) rfl
theorem q2062 : (Jvm.Cond.methodLink "TelescopeQueueLaw" (337 : Nat) ({ cls := "TelescopeQueueLaw", name := "longest", desc := "(LTelescopeQueue;I[J)I" } : Jvm.MethodName)) ∈ lw_all := lw_g (lw_at lw_m9 30 rfl) rfl
theorem q2063 : (Jvm.Cond.static ({ cls := "TelescopeQueueLaw", name := "longest", desc := "(LTelescopeQueue;I[J)I" } : Jvm.MethodName)) ∈ lw_all := lw_g (lw_at lw_m9 31 rfl) rfl
theorem q2064 : (Jvm.Cond.codeWith ({ cls := "TelescopeQueueLaw", name := "longest", desc := "(LTelescopeQueue;I[J)I" } : Jvm.MethodName) method_37_code (4 : Nat) (Option.some Jvm.ClassFile.FieldType.int) [((0 : Nat), (9 : Nat), (12 : Nat), (21 : Nat)), ((0 : Nat), (9 : Nat), (15 : Nat), (15 : Nat))]) ∈ lw_all := lw_g (lw_at lw_m9 32 rfl) rfl
theorem q2065 : (Jvm.Cond.methodLink "TelescopeQueueLaw" (124 : Nat) ({ cls := "TelescopeQueue", name := "longest", desc := "(I)I" } : Jvm.MethodName)) ∈ lw_all := lw_g (lw_at lw_m9 33 rfl) rfl
theorem q2070 : (Jvm.Cond.methodLink "TelescopeQueueLaw" (340 : Nat) ({ cls := "TelescopeQueueLaw", name := "usedIn", desc := "(LTelescopeQueue;I[J)I" } : Jvm.MethodName)) ∈ lw_all := lw_g (lw_at lw_m9 38 rfl) rfl
theorem q2071 : (Jvm.Cond.static ({ cls := "TelescopeQueueLaw", name := "usedIn", desc := "(LTelescopeQueue;I[J)I" } : Jvm.MethodName)) ∈ lw_all := lw_g (lw_at lw_m9 39 rfl) rfl
theorem q2072 : (Jvm.Cond.codeWith ({ cls := "TelescopeQueueLaw", name := "usedIn", desc := "(LTelescopeQueue;I[J)I" } : Jvm.MethodName) method_38_code (4 : Nat) (Option.some Jvm.ClassFile.FieldType.int) [((0 : Nat), (9 : Nat), (12 : Nat), (21 : Nat)), ((0 : Nat), (9 : Nat), (15 : Nat), (15 : Nat))]) ∈ lw_all := lw_g (lw_at lw_m9 40 rfl) rfl
theorem q2073 : (Jvm.Cond.methodLink "TelescopeQueueLaw" (127 : Nat) ({ cls := "TelescopeQueue", name := "usedIn", desc := "(I)I" } : Jvm.MethodName)) ∈ lw_all := lw_g (lw_at lw_m9 41 rfl) rfl
theorem q2148 : (Jvm.Cond.methodLink "TelescopeQueueLaw" (343 : Nat) ({ cls := "TelescopeQueueLaw", name := "doneBy", desc := "(LTelescopeQueue;I[J)I" } : Jvm.MethodName)) ∈ lw_all := lw_g (lw_at lw_m9 116 rfl) rfl
theorem q2149 : (Jvm.Cond.static ({ cls := "TelescopeQueueLaw", name := "doneBy", desc := "(LTelescopeQueue;I[J)I" } : Jvm.MethodName)) ∈ lw_all := lw_g (lw_at lw_m9 117 rfl) rfl
theorem q2150 : (Jvm.Cond.codeWith ({ cls := "TelescopeQueueLaw", name := "doneBy", desc := "(LTelescopeQueue;I[J)I" } : Jvm.MethodName) method_39_code (4 : Nat) (Option.some Jvm.ClassFile.FieldType.int) [((0 : Nat), (9 : Nat), (12 : Nat), (21 : Nat)), ((0 : Nat), (9 : Nat), (15 : Nat), (15 : Nat))]) ∈ lw_all := lw_g (lw_at lw_m9 118 rfl) rfl
theorem q2151 : (Jvm.Cond.methodLink "TelescopeQueueLaw" (130 : Nat) ({ cls := "TelescopeQueue", name := "doneBy", desc := "(I)I" } : Jvm.MethodName)) ∈ lw_all := lw_g (lw_at lw_m9 119 rfl) rfl
theorem q2171 : (Jvm.Cond.methodLink "TelescopeQueueLaw" (346 : Nat) ({ cls := "TelescopeQueueLaw", name := "bestPolicy", desc := "(LTelescopeQueue;[J)I" } : Jvm.MethodName)) ∈ lw_all := lw_g (lw_at lw_m9 139 rfl) rfl
theorem q2172 : (Jvm.Cond.static ({ cls := "TelescopeQueueLaw", name := "bestPolicy", desc := "(LTelescopeQueue;[J)I" } : Jvm.MethodName)) ∈ lw_all := lw_g (lw_at lw_m9 140 rfl) rfl
theorem q2173 : (Jvm.Cond.codeWith ({ cls := "TelescopeQueueLaw", name := "bestPolicy", desc := "(LTelescopeQueue;[J)I" } : Jvm.MethodName) method_40_code (3 : Nat) (Option.some Jvm.ClassFile.FieldType.int) [((0 : Nat), (8 : Nat), (11 : Nat), (21 : Nat))]) ∈ lw_all := lw_g (lw_at lw_m9 141 rfl) rfl
theorem q2174 : (Jvm.Cond.methodLink "TelescopeQueueLaw" (133 : Nat) ({ cls := "TelescopeQueue", name := "bestPolicy", desc := "()I" } : Jvm.MethodName)) ∈ lw_all := lw_g (lw_at lw_m9 142 rfl) rfl
theorem q2178 : (Jvm.Cond.methodLink "TelescopeQueueLaw" (349 : Nat) ({ cls := "TelescopeQueueLaw", name := "usedWith", desc := "(LTelescopeQueue;I[J)I" } : Jvm.MethodName)) ∈ lw_all := lw_g (lw_at lw_m9 146 rfl) rfl
theorem q2179 : (Jvm.Cond.static ({ cls := "TelescopeQueueLaw", name := "usedWith", desc := "(LTelescopeQueue;I[J)I" } : Jvm.MethodName)) ∈ lw_all := lw_g (lw_at lw_m9 147 rfl) rfl
theorem q2180 : (Jvm.Cond.codeWith ({ cls := "TelescopeQueueLaw", name := "usedWith", desc := "(LTelescopeQueue;I[J)I" } : Jvm.MethodName) method_41_code (4 : Nat) (Option.some Jvm.ClassFile.FieldType.int) [((0 : Nat), (9 : Nat), (12 : Nat), (21 : Nat)), ((0 : Nat), (9 : Nat), (15 : Nat), (15 : Nat))]) ∈ lw_all := lw_g (lw_at lw_m9 148 rfl) rfl
theorem q2181 : (Jvm.Cond.methodLink "TelescopeQueueLaw" (136 : Nat) ({ cls := "TelescopeQueue", name := "usedWith", desc := "(I)I" } : Jvm.MethodName)) ∈ lw_all := lw_g (lw_at lw_m9 149 rfl) rfl
theorem q2186 : (Jvm.Cond.methodLink "TelescopeQueueLaw" (352 : Nat) ({ cls := "TelescopeQueueLaw", name := "shortfall", desc := "(LTelescopeQueue;I[J)I" } : Jvm.MethodName)) ∈ lw_all := lw_g (lw_at lw_m9 154 rfl) rfl
theorem q2187 : (Jvm.Cond.static ({ cls := "TelescopeQueueLaw", name := "shortfall", desc := "(LTelescopeQueue;I[J)I" } : Jvm.MethodName)) ∈ lw_all := lw_g (lw_at lw_m9 155 rfl) rfl
theorem q2188 : (Jvm.Cond.codeWith ({ cls := "TelescopeQueueLaw", name := "shortfall", desc := "(LTelescopeQueue;I[J)I" } : Jvm.MethodName) method_42_code (4 : Nat) (Option.some Jvm.ClassFile.FieldType.int) [((0 : Nat), (9 : Nat), (12 : Nat), (21 : Nat)), ((0 : Nat), (9 : Nat), (15 : Nat), (13 : Nat))]) ∈ lw_all := lw_g (lw_at lw_m9 156 rfl) rfl
theorem q2189 : (Jvm.Cond.methodLink "TelescopeQueueLaw" (139 : Nat) ({ cls := "TelescopeQueue", name := "shortfall", desc := "(I)I" } : Jvm.MethodName)) ∈ lw_all := lw_g (lw_at lw_m9 157 rfl) rfl
theorem q2193 : (Jvm.Cond.methodLink "TelescopeQueueLaw" (355 : Nat) ({ cls := "TelescopeQueueLaw", name := "writeEntry", desc := "(LTelescopeQueue;I[J)I" } : Jvm.MethodName)) ∈ lw_all := lw_g (lw_at lw_m9 161 rfl) rfl
theorem q2194 : (Jvm.Cond.static ({ cls := "TelescopeQueueLaw", name := "writeEntry", desc := "(LTelescopeQueue;I[J)I" } : Jvm.MethodName)) ∈ lw_all := lw_g (lw_at lw_m9 162 rfl) rfl
theorem q2195 : (Jvm.Cond.codeWith ({ cls := "TelescopeQueueLaw", name := "writeEntry", desc := "(LTelescopeQueue;I[J)I" } : Jvm.MethodName) method_43_code (4 : Nat) (Option.some Jvm.ClassFile.FieldType.int) [((0 : Nat), (9 : Nat), (12 : Nat), (21 : Nat)), ((0 : Nat), (9 : Nat), (15 : Nat), (13 : Nat))]) ∈ lw_all := lw_g (lw_at lw_m9 163 rfl) rfl
theorem q2196 : (Jvm.Cond.methodLink "TelescopeQueueLaw" (142 : Nat) ({ cls := "TelescopeQueue", name := "writeEntry", desc := "(I)I" } : Jvm.MethodName)) ∈ lw_all := lw_g (lw_at lw_m9 164 rfl) rfl
theorem q2362 : (Jvm.Cond.methodLink "TelescopeQueueLaw" (358 : Nat) ({ cls := "TelescopeQueueLaw", name := "writeAccount", desc := "(LTelescopeQueue;I[J)I" } : Jvm.MethodName)) ∈ lw_all := lw_g (lw_at lw_m10 90 rfl) rfl
theorem q2363 : (Jvm.Cond.static ({ cls := "TelescopeQueueLaw", name := "writeAccount", desc := "(LTelescopeQueue;I[J)I" } : Jvm.MethodName)) ∈ lw_all := lw_g (lw_at lw_m10 91 rfl) rfl
theorem q2364 : (Jvm.Cond.codeWith ({ cls := "TelescopeQueueLaw", name := "writeAccount", desc := "(LTelescopeQueue;I[J)I" } : Jvm.MethodName) method_44_code (4 : Nat) (Option.some Jvm.ClassFile.FieldType.int) [((0 : Nat), (9 : Nat), (12 : Nat), (21 : Nat)), ((0 : Nat), (9 : Nat), (15 : Nat), (13 : Nat))]) ∈ lw_all := lw_g (lw_at lw_m10 92 rfl) rfl
theorem q2365 : (Jvm.Cond.methodLink "TelescopeQueueLaw" (145 : Nat) ({ cls := "TelescopeQueue", name := "writeAccount", desc := "(I)I" } : Jvm.MethodName)) ∈ lw_all := lw_g (lw_at lw_m10 93 rfl) rfl
theorem q2370 : (Jvm.Cond.methodLink "TelescopeQueueLaw" (361 : Nat) ({ cls := "TelescopeQueueLaw", name := "textByte", desc := "(LTelescopeQueue;I[J)I" } : Jvm.MethodName)) ∈ lw_all := lw_g (lw_at lw_m10 98 rfl) rfl
theorem q2371 : (Jvm.Cond.static ({ cls := "TelescopeQueueLaw", name := "textByte", desc := "(LTelescopeQueue;I[J)I" } : Jvm.MethodName)) ∈ lw_all := lw_g (lw_at lw_m10 99 rfl) rfl
theorem q2372 : (Jvm.Cond.codeWith ({ cls := "TelescopeQueueLaw", name := "textByte", desc := "(LTelescopeQueue;I[J)I" } : Jvm.MethodName) method_45_code (4 : Nat) (Option.some Jvm.ClassFile.FieldType.int) [((0 : Nat), (9 : Nat), (12 : Nat), (13 : Nat))]) ∈ lw_all := lw_g (lw_at lw_m10 100 rfl) rfl
theorem q2373 : (Jvm.Cond.methodLink "TelescopeQueueLaw" (148 : Nat) ({ cls := "TelescopeQueue", name := "textByte", desc := "(I)I" } : Jvm.MethodName)) ∈ lw_all := lw_g (lw_at lw_m10 101 rfl) rfl
theorem q2378 : (Jvm.Cond.methodLink "TelescopeQueueLaw" (364 : Nat) ({ cls := "TelescopeQueueLaw", name := "run", desc := "(LTelescopeQueue;I[J)I" } : Jvm.MethodName)) ∈ lw_all := lw_g (lw_at lw_m10 106 rfl) rfl
theorem q2379 : (Jvm.Cond.static ({ cls := "TelescopeQueueLaw", name := "run", desc := "(LTelescopeQueue;I[J)I" } : Jvm.MethodName)) ∈ lw_all := lw_g (lw_at lw_m10 107 rfl) rfl
theorem q2380 : (Jvm.Cond.codeWith ({ cls := "TelescopeQueueLaw", name := "run", desc := "(LTelescopeQueue;I[J)I" } : Jvm.MethodName) method_46_code (4 : Nat) (Option.some Jvm.ClassFile.FieldType.int) [((0 : Nat), (9 : Nat), (12 : Nat), (21 : Nat)), ((0 : Nat), (9 : Nat), (15 : Nat), (15 : Nat))]) ∈ lw_all := lw_g (lw_at lw_m10 108 rfl) rfl
theorem q2381 : (Jvm.Cond.methodLink "TelescopeQueueLaw" (151 : Nat) ({ cls := "TelescopeQueue", name := "run", desc := "(I)I" } : Jvm.MethodName)) ∈ lw_all := lw_g (lw_at lw_m10 109 rfl) rfl
theorem q2443 : (Jvm.Cond.methodLink "TelescopeQueueLaw" (367 : Nat) ({ cls := "TelescopeQueueLaw", name := "setPolicy", desc := "(LTelescopeQueue;I[J)I" } : Jvm.MethodName)) ∈ lw_all := lw_g (lw_at lw_m10 171 rfl) rfl
theorem q2444 : (Jvm.Cond.static ({ cls := "TelescopeQueueLaw", name := "setPolicy", desc := "(LTelescopeQueue;I[J)I" } : Jvm.MethodName)) ∈ lw_all := lw_g (lw_at lw_m10 172 rfl) rfl
theorem q2445 : (Jvm.Cond.codeWith ({ cls := "TelescopeQueueLaw", name := "setPolicy", desc := "(LTelescopeQueue;I[J)I" } : Jvm.MethodName) method_47_code (4 : Nat) (Option.some Jvm.ClassFile.FieldType.int) [((0 : Nat), (9 : Nat), (12 : Nat), (21 : Nat)), ((0 : Nat), (9 : Nat), (15 : Nat), (15 : Nat))]) ∈ lw_all := lw_g (lw_at lw_m10 173 rfl) rfl
theorem q2446 : (Jvm.Cond.methodLink "TelescopeQueueLaw" (154 : Nat) ({ cls := "TelescopeQueue", name := "setPolicy", desc := "(I)I" } : Jvm.MethodName)) ∈ lw_all := lw_g (lw_at lw_m10 174 rfl) rfl
theorem q2450 : (Jvm.Cond.methodLink "TelescopeQueueLaw" (370 : Nat) ({ cls := "TelescopeQueueLaw", name := "cancel", desc := "(LTelescopeQueue;I[J)I" } : Jvm.MethodName)) ∈ lw_all := lw_g (lw_at lw_m10 178 rfl) rfl
theorem q2451 : (Jvm.Cond.static ({ cls := "TelescopeQueueLaw", name := "cancel", desc := "(LTelescopeQueue;I[J)I" } : Jvm.MethodName)) ∈ lw_all := lw_g (lw_at lw_m10 179 rfl) rfl
theorem q2452 : (Jvm.Cond.codeWith ({ cls := "TelescopeQueueLaw", name := "cancel", desc := "(LTelescopeQueue;I[J)I" } : Jvm.MethodName) method_48_code (4 : Nat) (Option.some Jvm.ClassFile.FieldType.int) [((0 : Nat), (16 : Nat), (19 : Nat), (21 : Nat)), ((0 : Nat), (16 : Nat), (22 : Nat), (13 : Nat))]) ∈ lw_all := lw_g (lw_at lw_m10 180 rfl) rfl
theorem q2453 : (Jvm.Cond.methodLink "TelescopeQueueLaw" (157 : Nat) ({ cls := "TelescopeQueue", name := "cancel", desc := "(I)Z" } : Jvm.MethodName)) ∈ lw_all := lw_g (lw_at lw_m10 181 rfl) rfl
theorem q2461 : (Jvm.Cond.methodLink "TelescopeQueueLaw" (373 : Nat) ({ cls := "TelescopeQueueLaw", name := "requeue", desc := "(LTelescopeQueue;I[J)I" } : Jvm.MethodName)) ∈ lw_all := lw_g (lw_at lw_m10 189 rfl) rfl
theorem q2462 : (Jvm.Cond.static ({ cls := "TelescopeQueueLaw", name := "requeue", desc := "(LTelescopeQueue;I[J)I" } : Jvm.MethodName)) ∈ lw_all := lw_g (lw_at lw_m10 190 rfl) rfl
theorem q2463 : (Jvm.Cond.codeWith ({ cls := "TelescopeQueueLaw", name := "requeue", desc := "(LTelescopeQueue;I[J)I" } : Jvm.MethodName) method_49_code (4 : Nat) (Option.some Jvm.ClassFile.FieldType.int) [((0 : Nat), (16 : Nat), (19 : Nat), (21 : Nat)), ((0 : Nat), (16 : Nat), (22 : Nat), (13 : Nat))]) ∈ lw_all := lw_g (lw_at lw_m10 191 rfl) rfl
theorem q2464 : (Jvm.Cond.methodLink "TelescopeQueueLaw" (160 : Nat) ({ cls := "TelescopeQueue", name := "requeue", desc := "(I)Z" } : Jvm.MethodName)) ∈ lw_all := lw_g (lw_at lw_m10 192 rfl) rfl
theorem q2468 : (Jvm.Cond.methodLink "TelescopeQueueLaw" (376 : Nat) ({ cls := "TelescopeQueueLaw", name := "setPriority", desc := "(LTelescopeQueue;II[J)I" } : Jvm.MethodName)) ∈ lw_all := lw_g (lw_at lw_m10 196 rfl) rfl
theorem q2469 : (Jvm.Cond.static ({ cls := "TelescopeQueueLaw", name := "setPriority", desc := "(LTelescopeQueue;II[J)I" } : Jvm.MethodName)) ∈ lw_all := lw_g (lw_at lw_m10 197 rfl) rfl
theorem q2470 : (Jvm.Cond.codeWith ({ cls := "TelescopeQueueLaw", name := "setPriority", desc := "(LTelescopeQueue;II[J)I" } : Jvm.MethodName) method_50_code (5 : Nat) (Option.some Jvm.ClassFile.FieldType.int) [((0 : Nat), (10 : Nat), (13 : Nat), (21 : Nat)), ((0 : Nat), (10 : Nat), (17 : Nat), (13 : Nat)), ((0 : Nat), (10 : Nat), (21 : Nat), (15 : Nat))]) ∈ lw_all := lw_g (lw_at lw_m10 198 rfl) rfl
theorem q2471 : (Jvm.Cond.methodLink "TelescopeQueueLaw" (163 : Nat) ({ cls := "TelescopeQueue", name := "setPriority", desc := "(II)I" } : Jvm.MethodName)) ∈ lw_all := lw_g (lw_at lw_m10 199 rfl) rfl
theorem q2476 : (Jvm.Cond.methodLink "TelescopeQueueLaw" (379 : Nat) ({ cls := "TelescopeQueueLaw", name := "grant", desc := "(LTelescopeQueue;II[J)I" } : Jvm.MethodName)) ∈ lw_all := lw_g (lw_at lw_m10 204 rfl) rfl
theorem q2477 : (Jvm.Cond.static ({ cls := "TelescopeQueueLaw", name := "grant", desc := "(LTelescopeQueue;II[J)I" } : Jvm.MethodName)) ∈ lw_all := lw_g (lw_at lw_m10 205 rfl) rfl
theorem q2478 : (Jvm.Cond.codeWith ({ cls := "TelescopeQueueLaw", name := "grant", desc := "(LTelescopeQueue;II[J)I" } : Jvm.MethodName) method_51_code (5 : Nat) (Option.some Jvm.ClassFile.FieldType.int) [((0 : Nat), (10 : Nat), (13 : Nat), (21 : Nat)), ((0 : Nat), (10 : Nat), (17 : Nat), (13 : Nat)), ((0 : Nat), (10 : Nat), (21 : Nat), (15 : Nat))]) ∈ lw_all := lw_g (lw_at lw_m10 206 rfl) rfl
theorem q2479 : (Jvm.Cond.methodLink "TelescopeQueueLaw" (166 : Nat) ({ cls := "TelescopeQueue", name := "grant", desc := "(II)I" } : Jvm.MethodName)) ∈ lw_all := lw_g (lw_at lw_m10 207 rfl) rfl
theorem q2484 : (Jvm.Cond.methodLink "TelescopeQueueLaw" (382 : Nat) ({ cls := "TelescopeQueueLaw", name := "dump", desc := "(LTelescopeQueue;[J)I" } : Jvm.MethodName)) ∈ lw_all := lw_g (lw_at lw_m10 212 rfl) rfl
theorem q2485 : (Jvm.Cond.static ({ cls := "TelescopeQueueLaw", name := "dump", desc := "(LTelescopeQueue;[J)I" } : Jvm.MethodName)) ∈ lw_all := lw_g (lw_at lw_m10 213 rfl) rfl
theorem q2486 : (Jvm.Cond.codeWith ({ cls := "TelescopeQueueLaw", name := "dump", desc := "(LTelescopeQueue;[J)I" } : Jvm.MethodName) method_52_code (3 : Nat) (Option.some Jvm.ClassFile.FieldType.int) [((0 : Nat), (8 : Nat), (11 : Nat), (21 : Nat)), ((0 : Nat), (8 : Nat), (14 : Nat), (15 : Nat))]) ∈ lw_all := lw_g (lw_at lw_m10 214 rfl) rfl
theorem q2487 : (Jvm.Cond.methodLink "TelescopeQueueLaw" (169 : Nat) ({ cls := "TelescopeQueue", name := "dump", desc := "()I" } : Jvm.MethodName)) ∈ lw_all := lw_g (lw_at lw_m10 215 rfl) rfl
theorem q2492 : (Jvm.Cond.methodLink "TelescopeQueueLaw" (385 : Nat) ({ cls := "TelescopeQueueLaw", name := "calibrate", desc := "(LTelescopeQueue;[J)I" } : Jvm.MethodName)) ∈ lw_all := lw_g (lw_at lw_m10 220 rfl) rfl
theorem q2493 : (Jvm.Cond.static ({ cls := "TelescopeQueueLaw", name := "calibrate", desc := "(LTelescopeQueue;[J)I" } : Jvm.MethodName)) ∈ lw_all := lw_g (lw_at lw_m10 221 rfl) rfl
theorem q2494 : (Jvm.Cond.codeWith ({ cls := "TelescopeQueueLaw", name := "calibrate", desc := "(LTelescopeQueue;[J)I" } : Jvm.MethodName) method_53_code (3 : Nat) (Option.some Jvm.ClassFile.FieldType.int) [((0 : Nat), (8 : Nat), (11 : Nat), (21 : Nat)), ((0 : Nat), (8 : Nat), (14 : Nat), (15 : Nat))]) ∈ lw_all := lw_g (lw_at lw_m10 222 rfl) rfl
theorem q2495 : (Jvm.Cond.methodLink "TelescopeQueueLaw" (172 : Nat) ({ cls := "TelescopeQueue", name := "calibrate", desc := "()I" } : Jvm.MethodName)) ∈ lw_all := lw_g (lw_at lw_m10 223 rfl) rfl
theorem q2500 : (Jvm.Cond.methodLink "TelescopeQueueLaw" (388 : Nat) ({ cls := "TelescopeQueueLaw", name := "addAlert", desc := "(LTelescopeQueue;IIIIII[J)I" } : Jvm.MethodName)) ∈ lw_all := lw_g (lw_at lw_m10 228 rfl) rfl
theorem q2501 : (Jvm.Cond.static ({ cls := "TelescopeQueueLaw", name := "addAlert", desc := "(LTelescopeQueue;IIIIII[J)I" } : Jvm.MethodName)) ∈ lw_all := lw_g (lw_at lw_m10 229 rfl) rfl
theorem q2502 : (Jvm.Cond.codeWith ({ cls := "TelescopeQueueLaw", name := "addAlert", desc := "(LTelescopeQueue;IIIIII[J)I" } : Jvm.MethodName) method_54_code (9 : Nat) (Option.some Jvm.ClassFile.FieldType.int) [((0 : Nat), (18 : Nat), (21 : Nat), (21 : Nat)), ((0 : Nat), (18 : Nat), (25 : Nat), (13 : Nat)), ((0 : Nat), (18 : Nat), (29 : Nat), (15 : Nat))]) ∈ lw_all := lw_g (lw_at lw_m10 230 rfl) rfl
theorem q2503 : (Jvm.Cond.methodLink "TelescopeQueueLaw" (175 : Nat) ({ cls := "TelescopeQueue", name := "addAlert", desc := "(IIIIII)I" } : Jvm.MethodName)) ∈ lw_all := lw_g (lw_at lw_m10 231 rfl) rfl
theorem q2512 : (Jvm.Cond.methodLink "TelescopeQueueLaw" (392 : Nat) ({ cls := "TelescopeQueueLaw", name := "undo", desc := "(LTelescopeQueue;[J)I" } : Jvm.MethodName)) ∈ lw_all := lw_g (lw_at lw_m11 0 rfl) rfl
theorem q2513 : (Jvm.Cond.static ({ cls := "TelescopeQueueLaw", name := "undo", desc := "(LTelescopeQueue;[J)I" } : Jvm.MethodName)) ∈ lw_all := lw_g (lw_at lw_m11 1 rfl) rfl
theorem q2514 : (Jvm.Cond.codeWith ({ cls := "TelescopeQueueLaw", name := "undo", desc := "(LTelescopeQueue;[J)I" } : Jvm.MethodName) method_55_code (3 : Nat) (Option.some Jvm.ClassFile.FieldType.int) [((0 : Nat), (8 : Nat), (11 : Nat), (21 : Nat))]) ∈ lw_all := lw_g (lw_at lw_m11 2 rfl) rfl
theorem q2515 : (Jvm.Cond.methodLink "TelescopeQueueLaw" (179 : Nat) ({ cls := "TelescopeQueue", name := "undo", desc := "()I" } : Jvm.MethodName)) ∈ lw_all := lw_g (lw_at lw_m11 3 rfl) rfl
theorem q2534 : (Jvm.Cond.methodLink "TelescopeQueueLaw" (399 : Nat) ({ cls := "TelescopeQueueLaw", name := "save", desc := "(LTelescopeQueue;I[J)I" } : Jvm.MethodName)) ∈ lw_all := lw_g (lw_at lw_m11 22 rfl) rfl
theorem q2535 : (Jvm.Cond.static ({ cls := "TelescopeQueueLaw", name := "save", desc := "(LTelescopeQueue;I[J)I" } : Jvm.MethodName)) ∈ lw_all := lw_g (lw_at lw_m11 23 rfl) rfl
theorem q2536 : (Jvm.Cond.codeWith ({ cls := "TelescopeQueueLaw", name := "save", desc := "(LTelescopeQueue;I[J)I" } : Jvm.MethodName) method_56_code (4 : Nat) (Option.some Jvm.ClassFile.FieldType.int) [((0 : Nat), (9 : Nat), (12 : Nat), (21 : Nat)), ((0 : Nat), (9 : Nat), (15 : Nat), (13 : Nat))]) ∈ lw_all := lw_g (lw_at lw_m11 24 rfl) rfl
theorem q2537 : (Jvm.Cond.methodLink "TelescopeQueueLaw" (182 : Nat) ({ cls := "TelescopeQueue", name := "save", desc := "(I)I" } : Jvm.MethodName)) ∈ lw_all := lw_g (lw_at lw_m11 25 rfl) rfl
theorem q2542 : (Jvm.Cond.methodLink "TelescopeQueueLaw" (402 : Nat) ({ cls := "TelescopeQueueLaw", name := "restore", desc := "(LTelescopeQueue;I[J)I" } : Jvm.MethodName)) ∈ lw_all := lw_g (lw_at lw_m11 30 rfl) rfl
theorem q2543 : (Jvm.Cond.static ({ cls := "TelescopeQueueLaw", name := "restore", desc := "(LTelescopeQueue;I[J)I" } : Jvm.MethodName)) ∈ lw_all := lw_g (lw_at lw_m11 31 rfl) rfl
theorem q2544 : (Jvm.Cond.codeWith ({ cls := "TelescopeQueueLaw", name := "restore", desc := "(LTelescopeQueue;I[J)I" } : Jvm.MethodName) method_57_code (4 : Nat) (Option.some Jvm.ClassFile.FieldType.int) [((0 : Nat), (9 : Nat), (12 : Nat), (13 : Nat)), ((0 : Nat), (9 : Nat), (15 : Nat), (21 : Nat))]) ∈ lw_all := lw_g (lw_at lw_m11 32 rfl) rfl
theorem q2545 : (Jvm.Cond.methodLink "TelescopeQueueLaw" (185 : Nat) ({ cls := "TelescopeQueue", name := "restore", desc := "(I)I" } : Jvm.MethodName)) ∈ lw_all := lw_g (lw_at lw_m11 33 rfl) rfl
theorem q2549 : (Jvm.Cond.classLink "TelescopeQueueLaw" (189 : Nat) "TelescopeQueueModel") ∈ lw_all := lw_g (lw_at lw_m11 37 rfl) rfl
theorem q2551 : (Jvm.Cond.methodLink "TelescopeQueueLaw" (191 : Nat) ({ cls := "TelescopeQueueModel", name := "<init>", desc := "()V" } : Jvm.MethodName)) ∈ lw_all := lw_g (lw_at lw_m11 39 rfl) rfl
theorem q2632 : (Jvm.Cond.methodLink "TelescopeQueueLaw" (203 : Nat) ({ cls := "TelescopeQueueModel", name := "thrown", desc := "()I" } : Jvm.MethodName)) ∈ lw_all := lw_g (lw_at lw_m11 120 rfl) rfl
theorem q2636 : (Jvm.Cond.methodLink "TelescopeQueueLaw" (196 : Nat) ({ cls := "TelescopeQueueModel", name := "append", desc := "(IIIII)I" } : Jvm.MethodName)) ∈ lw_all := lw_g (lw_at lw_m11 124 rfl) rfl
theorem q2644 : (Jvm.Cond.methodLink "TelescopeQueueLaw" (217 : Nat) ({ cls := "TelescopeQueueModel", name := "buffered", desc := "()I" } : Jvm.MethodName)) ∈ lw_all := lw_g (lw_at lw_m11 132 rfl) rfl
theorem q2648 : (Jvm.Cond.methodLink "TelescopeQueueLaw" (209 : Nat) ({ cls := "TelescopeQueueModel", name := "parseError", desc := "()I" } : Jvm.MethodName)) ∈ lw_all := lw_g (lw_at lw_m11 136 rfl) rfl
theorem q2652 : (Jvm.Cond.methodLink "TelescopeQueueLaw" (213 : Nat) ({ cls := "TelescopeQueueModel", name := "errorPosition", desc := "()I" } : Jvm.MethodName)) ∈ lw_all := lw_g (lw_at lw_m11 140 rfl) rfl
theorem q2656 : (Jvm.Cond.methodLink "TelescopeQueueLaw" (202 : Nat) ({ cls := "TelescopeQueueModel", name := "load", desc := "(I)I" } : Jvm.MethodName)) ∈ lw_all := lw_g (lw_at lw_m11 144 rfl) rfl
theorem q2770 : (Jvm.Cond.methodLink "TelescopeQueueLaw" (221 : Nat) ({ cls := "TelescopeQueueModel", name := "proposals", desc := "()I" } : Jvm.MethodName)) ∈ lw_all := lw_g (lw_at lw_m12 18 rfl) rfl
theorem q2778 : (Jvm.Cond.methodLink "TelescopeQueueLaw" (225 : Nat) ({ cls := "TelescopeQueueModel", name := "proposal", desc := "(II)I" } : Jvm.MethodName)) ∈ lw_all := lw_g (lw_at lw_m12 26 rfl) rfl
theorem q2805 : (Jvm.Cond.methodLink "TelescopeQueueLaw" (228 : Nat) ({ cls := "TelescopeQueueModel", name := "letter", desc := "(II)I" } : Jvm.MethodName)) ∈ lw_all := lw_g (lw_at lw_m12 53 rfl) rfl
theorem q2813 : (Jvm.Cond.methodLink "TelescopeQueueLaw" (232 : Nat) ({ cls := "TelescopeQueueModel", name := "visits", desc := "()I" } : Jvm.MethodName)) ∈ lw_all := lw_g (lw_at lw_m12 61 rfl) rfl
theorem q2817 : (Jvm.Cond.methodLink "TelescopeQueueLaw" (235 : Nat) ({ cls := "TelescopeQueueModel", name := "visit", desc := "(II)I" } : Jvm.MethodName)) ∈ lw_all := lw_g (lw_at lw_m12 65 rfl) rfl
theorem q2825 : (Jvm.Cond.methodLink "TelescopeQueueLaw" (238 : Nat) ({ cls := "TelescopeQueueModel", name := "stateOf", desc := "(I)I" } : Jvm.MethodName)) ∈ lw_all := lw_g (lw_at lw_m12 73 rfl) rfl
theorem q2829 : (Jvm.Cond.methodLink "TelescopeQueueLaw" (241 : Nat) ({ cls := "TelescopeQueueModel", name := "aborts", desc := "(I)I" } : Jvm.MethodName)) ∈ lw_all := lw_g (lw_at lw_m12 77 rfl) rfl
theorem q2833 : (Jvm.Cond.methodLink "TelescopeQueueLaw" (244 : Nat) ({ cls := "TelescopeQueueModel", name := "startOf", desc := "(I)I" } : Jvm.MethodName)) ∈ lw_all := lw_g (lw_at lw_m12 81 rfl) rfl
theorem q2837 : (Jvm.Cond.methodLink "TelescopeQueueLaw" (248 : Nat) ({ cls := "TelescopeQueueModel", name := "alerts", desc := "()I" } : Jvm.MethodName)) ∈ lw_all := lw_g (lw_at lw_m12 85 rfl) rfl
theorem q2841 : (Jvm.Cond.methodLink "TelescopeQueueLaw" (251 : Nat) ({ cls := "TelescopeQueueModel", name := "alert", desc := "(II)I" } : Jvm.MethodName)) ∈ lw_all := lw_g (lw_at lw_m12 89 rfl) rfl
theorem q2853 : (Jvm.Cond.methodLink "TelescopeQueueLaw" (254 : Nat) ({ cls := "TelescopeQueueModel", name := "alertState", desc := "(I)I" } : Jvm.MethodName)) ∈ lw_all := lw_g (lw_at lw_m12 101 rfl) rfl
theorem q2857 : (Jvm.Cond.methodLink "TelescopeQueueLaw" (257 : Nat) ({ cls := "TelescopeQueueModel", name := "alertDelay", desc := "(I)I" } : Jvm.MethodName)) ∈ lw_all := lw_g (lw_at lw_m12 105 rfl) rfl
theorem q2861 : (Jvm.Cond.methodLink "TelescopeQueueLaw" (261 : Nat) ({ cls := "TelescopeQueueModel", name := "waiting", desc := "()I" } : Jvm.MethodName)) ∈ lw_all := lw_g (lw_at lw_m12 109 rfl) rfl
theorem q2865 : (Jvm.Cond.methodLink "TelescopeQueueLaw" (264 : Nat) ({ cls := "TelescopeQueueModel", name := "now", desc := "()I" } : Jvm.MethodName)) ∈ lw_all := lw_g (lw_at lw_m12 113 rfl) rfl
theorem q2869 : (Jvm.Cond.methodLink "TelescopeQueueLaw" (267 : Nat) ({ cls := "TelescopeQueueModel", name := "pointing", desc := "(I)I" } : Jvm.MethodName)) ∈ lw_all := lw_g (lw_at lw_m12 117 rfl) rfl
theorem q2873 : (Jvm.Cond.methodLink "TelescopeQueueLaw" (270 : Nat) ({ cls := "TelescopeQueueModel", name := "momentum", desc := "()I" } : Jvm.MethodName)) ∈ lw_all := lw_g (lw_at lw_m12 121 rfl) rfl
theorem q2877 : (Jvm.Cond.methodLink "TelescopeQueueLaw" (273 : Nat) ({ cls := "TelescopeQueueModel", name := "sinceCalibration", desc := "()I" } : Jvm.MethodName)) ∈ lw_all := lw_g (lw_at lw_m12 125 rfl) rfl
theorem q2881 : (Jvm.Cond.methodLink "TelescopeQueueLaw" (276 : Nat) ({ cls := "TelescopeQueueModel", name := "setting", desc := "(I)I" } : Jvm.MethodName)) ∈ lw_all := lw_g (lw_at lw_m12 129 rfl) rfl
theorem q2885 : (Jvm.Cond.methodLink "TelescopeQueueLaw" (279 : Nat) ({ cls := "TelescopeQueueModel", name := "sun", desc := "(I)I" } : Jvm.MethodName)) ∈ lw_all := lw_g (lw_at lw_m12 133 rfl) rfl
theorem q2894 : (Jvm.Cond.methodLink "TelescopeQueueLaw" (282 : Nat) ({ cls := "TelescopeQueueModel", name := "angleTo", desc := "(II)I" } : Jvm.MethodName)) ∈ lw_all := lw_g (lw_at lw_m12 142 rfl) rfl
theorem q2913 : (Jvm.Cond.methodLink "TelescopeQueueLaw" (285 : Nat) ({ cls := "TelescopeQueueModel", name := "slewTo", desc := "(II)I" } : Jvm.MethodName)) ∈ lw_all := lw_g (lw_at lw_m12 161 rfl) rfl
theorem q2921 : (Jvm.Cond.methodLink "TelescopeQueueLaw" (288 : Nat) ({ cls := "TelescopeQueueModel", name := "isVisible", desc := "(II)Z" } : Jvm.MethodName)) ∈ lw_all := lw_g (lw_at lw_m12 169 rfl) rfl
theorem q2929 : (Jvm.Cond.methodLink "TelescopeQueueLaw" (291 : Nat) ({ cls := "TelescopeQueueModel", name := "nextVisible", desc := "(II)I" } : Jvm.MethodName)) ∈ lw_all := lw_g (lw_at lw_m12 177 rfl) rfl
theorem q2933 : (Jvm.Cond.methodLink "TelescopeQueueLaw" (294 : Nat) ({ cls := "TelescopeQueueModel", name := "growth", desc := "(I)I" } : Jvm.MethodName)) ∈ lw_all := lw_g (lw_at lw_m12 181 rfl) rfl
theorem q2945 : (Jvm.Cond.methodLink "TelescopeQueueLaw" (297 : Nat) ({ cls := "TelescopeQueueModel", name := "needsDump", desc := "(I)Z" } : Jvm.MethodName)) ∈ lw_all := lw_g (lw_at lw_m12 193 rfl) rfl
theorem q2953 : (Jvm.Cond.methodLink "TelescopeQueueLaw" (300 : Nat) ({ cls := "TelescopeQueueModel", name := "startIf", desc := "(I)I" } : Jvm.MethodName)) ∈ lw_all := lw_g (lw_at lw_m12 201 rfl) rfl
theorem q2969 : (Jvm.Cond.methodLink "TelescopeQueueLaw" (303 : Nat) ({ cls := "TelescopeQueueModel", name := "reason", desc := "(I)I" } : Jvm.MethodName)) ∈ lw_all := lw_g (lw_at lw_m12 217 rfl) rfl
theorem q2992 : (Jvm.Cond.methodLink "TelescopeQueueLaw" (306 : Nat) ({ cls := "TelescopeQueueModel", name := "chosen", desc := "()I" } : Jvm.MethodName)) ∈ lw_all := lw_g (lw_at lw_m13 0 rfl) rfl
theorem q3007 : (Jvm.Cond.methodLink "TelescopeQueueLaw" (309 : Nat) ({ cls := "TelescopeQueueModel", name := "nextKind", desc := "()I" } : Jvm.MethodName)) ∈ lw_all := lw_g (lw_at lw_m13 15 rfl) rfl
theorem q3076 : (Jvm.Cond.methodLink "TelescopeQueueLaw" (312 : Nat) ({ cls := "TelescopeQueueModel", name := "interrupting", desc := "(I)I" } : Jvm.MethodName)) ∈ lw_all := lw_g (lw_at lw_m13 84 rfl) rfl
theorem q3080 : (Jvm.Cond.methodLink "TelescopeQueueLaw" (315 : Nat) ({ cls := "TelescopeQueueModel", name := "alertReason", desc := "(I)I" } : Jvm.MethodName)) ∈ lw_all := lw_g (lw_at lw_m13 88 rfl) rfl
theorem q3084 : (Jvm.Cond.methodLink "TelescopeQueueLaw" (318 : Nat) ({ cls := "TelescopeQueueModel", name := "latestBegin", desc := "(I)I" } : Jvm.MethodName)) ∈ lw_all := lw_g (lw_at lw_m13 92 rfl) rfl
theorem q3088 : (Jvm.Cond.methodLink "TelescopeQueueLaw" (339 : Nat) ({ cls := "TelescopeQueueModel", name := "longest", desc := "(I)I" } : Jvm.MethodName)) ∈ lw_all := lw_g (lw_at lw_m13 96 rfl) rfl
theorem q3092 : (Jvm.Cond.methodLink "TelescopeQueueLaw" (321 : Nat) ({ cls := "TelescopeQueueModel", name := "total", desc := "(I)I" } : Jvm.MethodName)) ∈ lw_all := lw_g (lw_at lw_m13 100 rfl) rfl
theorem q3096 : (Jvm.Cond.methodLink "TelescopeQueueLaw" (325 : Nat) ({ cls := "TelescopeQueueModel", name := "share", desc := "(I)F" } : Jvm.MethodName)) ∈ lw_all := lw_g (lw_at lw_m13 104 rfl) rfl
theorem q3104 : (Jvm.Cond.methodLink "TelescopeQueueLaw" (329 : Nat) ({ cls := "TelescopeQueueModel", name := "spread", desc := "()F" } : Jvm.MethodName)) ∈ lw_all := lw_g (lw_at lw_m13 112 rfl) rfl
theorem q3108 : (Jvm.Cond.methodLink "TelescopeQueueLaw" (333 : Nat) ({ cls := "TelescopeQueueModel", name := "entries", desc := "()I" } : Jvm.MethodName)) ∈ lw_all := lw_g (lw_at lw_m13 116 rfl) rfl
theorem q3112 : (Jvm.Cond.methodLink "TelescopeQueueLaw" (336 : Nat) ({ cls := "TelescopeQueueModel", name := "entry", desc := "(II)I" } : Jvm.MethodName)) ∈ lw_all := lw_g (lw_at lw_m13 120 rfl) rfl
theorem q3120 : (Jvm.Cond.methodLink "TelescopeQueueLaw" (342 : Nat) ({ cls := "TelescopeQueueModel", name := "usedIn", desc := "(I)I" } : Jvm.MethodName)) ∈ lw_all := lw_g (lw_at lw_m13 128 rfl) rfl
theorem q3128 : (Jvm.Cond.methodLink "TelescopeQueueLaw" (345 : Nat) ({ cls := "TelescopeQueueModel", name := "doneBy", desc := "(I)I" } : Jvm.MethodName)) ∈ lw_all := lw_g (lw_at lw_m13 136 rfl) rfl
theorem q3136 : (Jvm.Cond.methodLink "TelescopeQueueLaw" (348 : Nat) ({ cls := "TelescopeQueueModel", name := "bestPolicy", desc := "()I" } : Jvm.MethodName)) ∈ lw_all := lw_g (lw_at lw_m13 144 rfl) rfl
theorem q3140 : (Jvm.Cond.methodLink "TelescopeQueueLaw" (351 : Nat) ({ cls := "TelescopeQueueModel", name := "usedWith", desc := "(I)I" } : Jvm.MethodName)) ∈ lw_all := lw_g (lw_at lw_m13 148 rfl) rfl
theorem q3144 : (Jvm.Cond.methodLink "TelescopeQueueLaw" (354 : Nat) ({ cls := "TelescopeQueueModel", name := "shortfall", desc := "(I)I" } : Jvm.MethodName)) ∈ lw_all := lw_g (lw_at lw_m13 152 rfl) rfl
theorem q3148 : (Jvm.Cond.methodLink "TelescopeQueueLaw" (357 : Nat) ({ cls := "TelescopeQueueModel", name := "writeEntry", desc := "(I)I" } : Jvm.MethodName)) ∈ lw_all := lw_g (lw_at lw_m13 156 rfl) rfl
theorem q3166 : (Jvm.Cond.methodLink "TelescopeQueueLaw" (360 : Nat) ({ cls := "TelescopeQueueModel", name := "writeAccount", desc := "(I)I" } : Jvm.MethodName)) ∈ lw_all := lw_g (lw_at lw_m13 174 rfl) rfl
theorem q3170 : (Jvm.Cond.methodLink "TelescopeQueueLaw" (363 : Nat) ({ cls := "TelescopeQueueModel", name := "textByte", desc := "(I)I" } : Jvm.MethodName)) ∈ lw_all := lw_g (lw_at lw_m13 178 rfl) rfl
theorem q3174 : (Jvm.Cond.methodLink "TelescopeQueueLaw" (366 : Nat) ({ cls := "TelescopeQueueModel", name := "run", desc := "(I)I" } : Jvm.MethodName)) ∈ lw_all := lw_g (lw_at lw_m13 182 rfl) rfl
theorem q3182 : (Jvm.Cond.methodLink "TelescopeQueueLaw" (369 : Nat) ({ cls := "TelescopeQueueModel", name := "setPolicy", desc := "(I)I" } : Jvm.MethodName)) ∈ lw_all := lw_g (lw_at lw_m13 190 rfl) rfl
theorem q3190 : (Jvm.Cond.methodLink "TelescopeQueueLaw" (372 : Nat) ({ cls := "TelescopeQueueModel", name := "cancel", desc := "(I)Z" } : Jvm.MethodName)) ∈ lw_all := lw_g (lw_at lw_m13 198 rfl) rfl
theorem q3198 : (Jvm.Cond.methodLink "TelescopeQueueLaw" (375 : Nat) ({ cls := "TelescopeQueueModel", name := "requeue", desc := "(I)Z" } : Jvm.MethodName)) ∈ lw_all := lw_g (lw_at lw_m13 206 rfl) rfl
theorem q3202 : (Jvm.Cond.methodLink "TelescopeQueueLaw" (378 : Nat) ({ cls := "TelescopeQueueModel", name := "setPriority", desc := "(II)I" } : Jvm.MethodName)) ∈ lw_all := lw_g (lw_at lw_m13 210 rfl) rfl
theorem q3206 : (Jvm.Cond.methodLink "TelescopeQueueLaw" (381 : Nat) ({ cls := "TelescopeQueueModel", name := "grant", desc := "(II)I" } : Jvm.MethodName)) ∈ lw_all := lw_g (lw_at lw_m13 214 rfl) rfl
theorem q3210 : (Jvm.Cond.methodLink "TelescopeQueueLaw" (384 : Nat) ({ cls := "TelescopeQueueModel", name := "dump", desc := "()I" } : Jvm.MethodName)) ∈ lw_all := lw_g (lw_at lw_m13 218 rfl) rfl
theorem q3214 : (Jvm.Cond.methodLink "TelescopeQueueLaw" (387 : Nat) ({ cls := "TelescopeQueueModel", name := "calibrate", desc := "()I" } : Jvm.MethodName)) ∈ lw_all := lw_g (lw_at lw_m13 222 rfl) rfl
theorem q3218 : (Jvm.Cond.methodLink "TelescopeQueueLaw" (391 : Nat) ({ cls := "TelescopeQueueModel", name := "addAlert", desc := "(IIIIII)I" } : Jvm.MethodName)) ∈ lw_all := lw_g (lw_at lw_m13 226 rfl) rfl
theorem q3222 : (Jvm.Cond.methodLink "TelescopeQueueLaw" (394 : Nat) ({ cls := "TelescopeQueueModel", name := "undo", desc := "()I" } : Jvm.MethodName)) ∈ lw_all := lw_g (lw_at lw_m13 230 rfl) rfl
theorem q3226 : (Jvm.Cond.methodLink "TelescopeQueueLaw" (398 : Nat) ({ cls := "TelescopeQueueModel", name := "undoable", desc := "()I" } : Jvm.MethodName)) ∈ lw_all := lw_g (lw_at lw_m13 234 rfl) rfl
theorem q3230 : (Jvm.Cond.methodLink "TelescopeQueueLaw" (401 : Nat) ({ cls := "TelescopeQueueModel", name := "save", desc := "(I)I" } : Jvm.MethodName)) ∈ lw_all := lw_g (lw_at lw_m13 238 rfl) rfl
theorem q3234 : (Jvm.Cond.methodLink "TelescopeQueueLaw" (404 : Nat) ({ cls := "TelescopeQueueModel", name := "restore", desc := "(I)I" } : Jvm.MethodName)) ∈ lw_all := lw_g (lw_at lw_m14 2 rfl) rfl

