/-! GreenwaveLaw -/
set_option maxRecDepth 100000
def RX0 : String := "GreenwaveLaw"
abbrev cX0_begin : ByteArray := method_3_code
def yX0_begin : MethodName := ⟨RX0, "begin", "(LGreenwave;II)I"⟩
def dkwX0_begin_0 : List UInt8 := [42, 27, 28, 182, 0, 7, 167, 0, 6, 78, 4, 172, 3, 172]
abbrev dktX0_begin_0 : List UInt8 := dkwX0_begin_0 ++ []
theorem dksX0_begin_0 : cX0_begin.data.toList.drop 0 = dktX0_begin_0 := by decide +kernel
theorem dX0_begin_0 : decode cX0_begin 0 = .ok (.aload_n 0, 1) := dk_42 (dk_at dksX0_begin_0 0 rfl rfl)
theorem dX0_begin_1 : decode cX0_begin 1 = .ok (.iload_n 1, 1) := dk_27 (dk_at dksX0_begin_0 1 rfl rfl)
theorem dX0_begin_2 : decode cX0_begin 2 = .ok (.iload_n 2, 1) := dk_28 (dk_at dksX0_begin_0 2 rfl rfl)
theorem dX0_begin_3 : decode cX0_begin 3 = .ok (.invokevirtual 7, 3) := dk_182 0 7 (dk_at dksX0_begin_0 3 rfl rfl)
theorem dX0_begin_6 : decode cX0_begin 6 = .ok (.goto 6, 3) := dk_167 0 6 (dk_at dksX0_begin_0 6 rfl rfl)
theorem dX0_begin_9 : decode cX0_begin 9 = .ok (.astore_n 3, 1) := dk_78 (dk_at dksX0_begin_0 9 rfl rfl)
theorem dX0_begin_10 : decode cX0_begin 10 = .ok (.iconst 1, 1) := dk_4 (dk_at dksX0_begin_0 10 rfl rfl)
theorem dX0_begin_11 : decode cX0_begin 11 = .ok (.ireturn, 1) := dk_172 (dk_at dksX0_begin_0 11 rfl rfl)
theorem dX0_begin_12 : decode cX0_begin 12 = .ok (.iconst 0, 1) := dk_3 (dk_at dksX0_begin_0 12 rfl rfl)
theorem dX0_begin_13 : decode cX0_begin 13 = .ok (.ireturn, 1) := dk_172 (dk_at dksX0_begin_0 13 rfl rfl)
abbrev cX0_setConflict : ByteArray := method_4_code
def yX0_setConflict : MethodName := ⟨RX0, "setConflict", "(LGreenwave;IIII[J)I"⟩
def dkwX0_setConflict_1 : List UInt8 := [172, 58, 6, 6, 172, 3, 172]
abbrev dktX0_setConflict_1 : List UInt8 := dkwX0_setConflict_1 ++ []
def dkwX0_setConflict_0 : List UInt8 := [25, 5, 3, 42, 27, 28, 29, 21, 4, 182, 0, 15, 133, 80, 167, 0, 15, 58, 6, 4, 172, 58, 6, 5]
abbrev dktX0_setConflict_0 : List UInt8 := dkwX0_setConflict_0 ++ dktX0_setConflict_1
theorem dksX0_setConflict_0 : cX0_setConflict.data.toList.drop 0 = dktX0_setConflict_0 := by decide +kernel
theorem dksX0_setConflict_1 : cX0_setConflict.data.toList.drop 24 = dktX0_setConflict_1 := dk_seg dksX0_setConflict_0 24 rfl rfl
theorem dX0_setConflict_0 : decode cX0_setConflict 0 = .ok (.aload 5, 2) := dk_25 5 (dk_at dksX0_setConflict_0 0 rfl rfl)
theorem dX0_setConflict_2 : decode cX0_setConflict 2 = .ok (.iconst 0, 1) := dk_3 (dk_at dksX0_setConflict_0 2 rfl rfl)
theorem dX0_setConflict_3 : decode cX0_setConflict 3 = .ok (.aload_n 0, 1) := dk_42 (dk_at dksX0_setConflict_0 3 rfl rfl)
theorem dX0_setConflict_4 : decode cX0_setConflict 4 = .ok (.iload_n 1, 1) := dk_27 (dk_at dksX0_setConflict_0 4 rfl rfl)
theorem dX0_setConflict_5 : decode cX0_setConflict 5 = .ok (.iload_n 2, 1) := dk_28 (dk_at dksX0_setConflict_0 5 rfl rfl)
theorem dX0_setConflict_6 : decode cX0_setConflict 6 = .ok (.iload_n 3, 1) := dk_29 (dk_at dksX0_setConflict_0 6 rfl rfl)
theorem dX0_setConflict_7 : decode cX0_setConflict 7 = .ok (.iload 4, 2) := dk_21 4 (dk_at dksX0_setConflict_0 7 rfl rfl)
theorem dX0_setConflict_9 : decode cX0_setConflict 9 = .ok (.invokevirtual 15, 3) := dk_182 0 15 (dk_at dksX0_setConflict_0 9 rfl rfl)
theorem dX0_setConflict_12 : decode cX0_setConflict 12 = .ok (.i2l, 1) := dk_133 (dk_at dksX0_setConflict_0 12 rfl rfl)
theorem dX0_setConflict_13 : decode cX0_setConflict 13 = .ok (.lastore, 1) := dk_80 (dk_at dksX0_setConflict_0 13 rfl rfl)
theorem dX0_setConflict_14 : decode cX0_setConflict 14 = .ok (.goto 15, 3) := dk_167 0 15 (dk_at dksX0_setConflict_0 14 rfl rfl)
theorem dX0_setConflict_17 : decode cX0_setConflict 17 = .ok (.astore 6, 2) := dk_58 6 (dk_at dksX0_setConflict_0 17 rfl rfl)
theorem dX0_setConflict_19 : decode cX0_setConflict 19 = .ok (.iconst 1, 1) := dk_4 (dk_at dksX0_setConflict_0 19 rfl rfl)
theorem dX0_setConflict_20 : decode cX0_setConflict 20 = .ok (.ireturn, 1) := dk_172 (dk_at dksX0_setConflict_0 20 rfl rfl)
theorem dX0_setConflict_21 : decode cX0_setConflict 21 = .ok (.astore 6, 2) := dk_58 6 (dk_at dksX0_setConflict_0 21 rfl rfl)
theorem dX0_setConflict_23 : decode cX0_setConflict 23 = .ok (.iconst 2, 1) := dk_5 (dk_at dksX0_setConflict_0 23 rfl rfl)
theorem dX0_setConflict_24 : decode cX0_setConflict 24 = .ok (.ireturn, 1) := dk_172 (dk_at dksX0_setConflict_1 0 rfl rfl)
theorem dX0_setConflict_25 : decode cX0_setConflict 25 = .ok (.astore 6, 2) := dk_58 6 (dk_at dksX0_setConflict_1 1 rfl rfl)
theorem dX0_setConflict_27 : decode cX0_setConflict 27 = .ok (.iconst 3, 1) := dk_6 (dk_at dksX0_setConflict_1 3 rfl rfl)
theorem dX0_setConflict_28 : decode cX0_setConflict 28 = .ok (.ireturn, 1) := dk_172 (dk_at dksX0_setConflict_1 4 rfl rfl)
theorem dX0_setConflict_29 : decode cX0_setConflict 29 = .ok (.iconst 0, 1) := dk_3 (dk_at dksX0_setConflict_1 5 rfl rfl)
theorem dX0_setConflict_30 : decode cX0_setConflict 30 = .ok (.ireturn, 1) := dk_172 (dk_at dksX0_setConflict_1 6 rfl rfl)
abbrev cX0_setPhases : ByteArray := method_5_code
def yX0_setPhases : MethodName := ⟨RX0, "setPhases", "(LGreenwave;IIIII[J)I"⟩
def dkwX0_setPhases_1 : List UInt8 := [58, 7, 5, 172, 58, 7, 6, 172, 3, 172]
abbrev dktX0_setPhases_1 : List UInt8 := dkwX0_setPhases_1 ++ []
def dkwX0_setPhases_0 : List UInt8 := [25, 6, 3, 42, 27, 28, 29, 21, 4, 21, 5, 182, 0, 23, 133, 80, 167, 0, 15, 58, 7, 4, 172]
abbrev dktX0_setPhases_0 : List UInt8 := dkwX0_setPhases_0 ++ dktX0_setPhases_1
theorem dksX0_setPhases_0 : cX0_setPhases.data.toList.drop 0 = dktX0_setPhases_0 := by decide +kernel
theorem dksX0_setPhases_1 : cX0_setPhases.data.toList.drop 23 = dktX0_setPhases_1 := dk_seg dksX0_setPhases_0 23 rfl rfl
theorem dX0_setPhases_0 : decode cX0_setPhases 0 = .ok (.aload 6, 2) := dk_25 6 (dk_at dksX0_setPhases_0 0 rfl rfl)
theorem dX0_setPhases_2 : decode cX0_setPhases 2 = .ok (.iconst 0, 1) := dk_3 (dk_at dksX0_setPhases_0 2 rfl rfl)
theorem dX0_setPhases_3 : decode cX0_setPhases 3 = .ok (.aload_n 0, 1) := dk_42 (dk_at dksX0_setPhases_0 3 rfl rfl)
theorem dX0_setPhases_4 : decode cX0_setPhases 4 = .ok (.iload_n 1, 1) := dk_27 (dk_at dksX0_setPhases_0 4 rfl rfl)
theorem dX0_setPhases_5 : decode cX0_setPhases 5 = .ok (.iload_n 2, 1) := dk_28 (dk_at dksX0_setPhases_0 5 rfl rfl)
theorem dX0_setPhases_6 : decode cX0_setPhases 6 = .ok (.iload_n 3, 1) := dk_29 (dk_at dksX0_setPhases_0 6 rfl rfl)
theorem dX0_setPhases_7 : decode cX0_setPhases 7 = .ok (.iload 4, 2) := dk_21 4 (dk_at dksX0_setPhases_0 7 rfl rfl)
theorem dX0_setPhases_9 : decode cX0_setPhases 9 = .ok (.iload 5, 2) := dk_21 5 (dk_at dksX0_setPhases_0 9 rfl rfl)
theorem dX0_setPhases_11 : decode cX0_setPhases 11 = .ok (.invokevirtual 23, 3) := dk_182 0 23 (dk_at dksX0_setPhases_0 11 rfl rfl)
theorem dX0_setPhases_14 : decode cX0_setPhases 14 = .ok (.i2l, 1) := dk_133 (dk_at dksX0_setPhases_0 14 rfl rfl)
theorem dX0_setPhases_15 : decode cX0_setPhases 15 = .ok (.lastore, 1) := dk_80 (dk_at dksX0_setPhases_0 15 rfl rfl)
theorem dX0_setPhases_16 : decode cX0_setPhases 16 = .ok (.goto 15, 3) := dk_167 0 15 (dk_at dksX0_setPhases_0 16 rfl rfl)
theorem dX0_setPhases_19 : decode cX0_setPhases 19 = .ok (.astore 7, 2) := dk_58 7 (dk_at dksX0_setPhases_0 19 rfl rfl)
theorem dX0_setPhases_21 : decode cX0_setPhases 21 = .ok (.iconst 1, 1) := dk_4 (dk_at dksX0_setPhases_0 21 rfl rfl)
theorem dX0_setPhases_22 : decode cX0_setPhases 22 = .ok (.ireturn, 1) := dk_172 (dk_at dksX0_setPhases_0 22 rfl rfl)
theorem dX0_setPhases_23 : decode cX0_setPhases 23 = .ok (.astore 7, 2) := dk_58 7 (dk_at dksX0_setPhases_1 0 rfl rfl)
theorem dX0_setPhases_25 : decode cX0_setPhases 25 = .ok (.iconst 2, 1) := dk_5 (dk_at dksX0_setPhases_1 2 rfl rfl)
theorem dX0_setPhases_26 : decode cX0_setPhases 26 = .ok (.ireturn, 1) := dk_172 (dk_at dksX0_setPhases_1 3 rfl rfl)
theorem dX0_setPhases_27 : decode cX0_setPhases 27 = .ok (.astore 7, 2) := dk_58 7 (dk_at dksX0_setPhases_1 4 rfl rfl)
theorem dX0_setPhases_29 : decode cX0_setPhases 29 = .ok (.iconst 3, 1) := dk_6 (dk_at dksX0_setPhases_1 6 rfl rfl)
theorem dX0_setPhases_30 : decode cX0_setPhases 30 = .ok (.ireturn, 1) := dk_172 (dk_at dksX0_setPhases_1 7 rfl rfl)
theorem dX0_setPhases_31 : decode cX0_setPhases 31 = .ok (.iconst 0, 1) := dk_3 (dk_at dksX0_setPhases_1 8 rfl rfl)
theorem dX0_setPhases_32 : decode cX0_setPhases 32 = .ok (.ireturn, 1) := dk_172 (dk_at dksX0_setPhases_1 9 rfl rfl)
abbrev cX0_setFlow : ByteArray := method_6_code
def yX0_setFlow : MethodName := ⟨RX0, "setFlow", "(LGreenwave;III[J)I"⟩
def dkwX0_setFlow_1 : List UInt8 := [58, 5, 6, 172, 3, 172]
abbrev dktX0_setFlow_1 : List UInt8 := dkwX0_setFlow_1 ++ []
def dkwX0_setFlow_0 : List UInt8 := [25, 4, 3, 42, 27, 28, 29, 182, 0, 27, 133, 80, 167, 0, 15, 58, 5, 4, 172, 58, 5, 5, 172]
abbrev dktX0_setFlow_0 : List UInt8 := dkwX0_setFlow_0 ++ dktX0_setFlow_1
theorem dksX0_setFlow_0 : cX0_setFlow.data.toList.drop 0 = dktX0_setFlow_0 := by decide +kernel
theorem dksX0_setFlow_1 : cX0_setFlow.data.toList.drop 23 = dktX0_setFlow_1 := dk_seg dksX0_setFlow_0 23 rfl rfl
theorem dX0_setFlow_0 : decode cX0_setFlow 0 = .ok (.aload 4, 2) := dk_25 4 (dk_at dksX0_setFlow_0 0 rfl rfl)
theorem dX0_setFlow_2 : decode cX0_setFlow 2 = .ok (.iconst 0, 1) := dk_3 (dk_at dksX0_setFlow_0 2 rfl rfl)
theorem dX0_setFlow_3 : decode cX0_setFlow 3 = .ok (.aload_n 0, 1) := dk_42 (dk_at dksX0_setFlow_0 3 rfl rfl)
theorem dX0_setFlow_4 : decode cX0_setFlow 4 = .ok (.iload_n 1, 1) := dk_27 (dk_at dksX0_setFlow_0 4 rfl rfl)
theorem dX0_setFlow_5 : decode cX0_setFlow 5 = .ok (.iload_n 2, 1) := dk_28 (dk_at dksX0_setFlow_0 5 rfl rfl)
theorem dX0_setFlow_6 : decode cX0_setFlow 6 = .ok (.iload_n 3, 1) := dk_29 (dk_at dksX0_setFlow_0 6 rfl rfl)
theorem dX0_setFlow_7 : decode cX0_setFlow 7 = .ok (.invokevirtual 27, 3) := dk_182 0 27 (dk_at dksX0_setFlow_0 7 rfl rfl)
theorem dX0_setFlow_10 : decode cX0_setFlow 10 = .ok (.i2l, 1) := dk_133 (dk_at dksX0_setFlow_0 10 rfl rfl)
theorem dX0_setFlow_11 : decode cX0_setFlow 11 = .ok (.lastore, 1) := dk_80 (dk_at dksX0_setFlow_0 11 rfl rfl)
theorem dX0_setFlow_12 : decode cX0_setFlow 12 = .ok (.goto 15, 3) := dk_167 0 15 (dk_at dksX0_setFlow_0 12 rfl rfl)
theorem dX0_setFlow_15 : decode cX0_setFlow 15 = .ok (.astore 5, 2) := dk_58 5 (dk_at dksX0_setFlow_0 15 rfl rfl)
theorem dX0_setFlow_17 : decode cX0_setFlow 17 = .ok (.iconst 1, 1) := dk_4 (dk_at dksX0_setFlow_0 17 rfl rfl)
theorem dX0_setFlow_18 : decode cX0_setFlow 18 = .ok (.ireturn, 1) := dk_172 (dk_at dksX0_setFlow_0 18 rfl rfl)
theorem dX0_setFlow_19 : decode cX0_setFlow 19 = .ok (.astore 5, 2) := dk_58 5 (dk_at dksX0_setFlow_0 19 rfl rfl)
theorem dX0_setFlow_21 : decode cX0_setFlow 21 = .ok (.iconst 2, 1) := dk_5 (dk_at dksX0_setFlow_0 21 rfl rfl)
theorem dX0_setFlow_22 : decode cX0_setFlow 22 = .ok (.ireturn, 1) := dk_172 (dk_at dksX0_setFlow_0 22 rfl rfl)
theorem dX0_setFlow_23 : decode cX0_setFlow 23 = .ok (.astore 5, 2) := dk_58 5 (dk_at dksX0_setFlow_1 0 rfl rfl)
theorem dX0_setFlow_25 : decode cX0_setFlow 25 = .ok (.iconst 3, 1) := dk_6 (dk_at dksX0_setFlow_1 2 rfl rfl)
theorem dX0_setFlow_26 : decode cX0_setFlow 26 = .ok (.ireturn, 1) := dk_172 (dk_at dksX0_setFlow_1 3 rfl rfl)
theorem dX0_setFlow_27 : decode cX0_setFlow 27 = .ok (.iconst 0, 1) := dk_3 (dk_at dksX0_setFlow_1 4 rfl rfl)
theorem dX0_setFlow_28 : decode cX0_setFlow 28 = .ok (.ireturn, 1) := dk_172 (dk_at dksX0_setFlow_1 5 rfl rfl)
abbrev cX0_setLink : ByteArray := method_7_code
def yX0_setLink : MethodName := ⟨RX0, "setLink", "(LGreenwave;III)I"⟩
def dkwX0_setLink_0 : List UInt8 := [42, 27, 28, 29, 182, 0, 31, 167, 0, 15, 58, 4, 4, 172, 58, 4, 5, 172, 58, 4, 6, 172, 3, 172]
abbrev dktX0_setLink_0 : List UInt8 := dkwX0_setLink_0 ++ []
theorem dksX0_setLink_0 : cX0_setLink.data.toList.drop 0 = dktX0_setLink_0 := by decide +kernel
theorem dX0_setLink_0 : decode cX0_setLink 0 = .ok (.aload_n 0, 1) := dk_42 (dk_at dksX0_setLink_0 0 rfl rfl)
theorem dX0_setLink_1 : decode cX0_setLink 1 = .ok (.iload_n 1, 1) := dk_27 (dk_at dksX0_setLink_0 1 rfl rfl)
theorem dX0_setLink_2 : decode cX0_setLink 2 = .ok (.iload_n 2, 1) := dk_28 (dk_at dksX0_setLink_0 2 rfl rfl)
theorem dX0_setLink_3 : decode cX0_setLink 3 = .ok (.iload_n 3, 1) := dk_29 (dk_at dksX0_setLink_0 3 rfl rfl)
theorem dX0_setLink_4 : decode cX0_setLink 4 = .ok (.invokevirtual 31, 3) := dk_182 0 31 (dk_at dksX0_setLink_0 4 rfl rfl)
theorem dX0_setLink_7 : decode cX0_setLink 7 = .ok (.goto 15, 3) := dk_167 0 15 (dk_at dksX0_setLink_0 7 rfl rfl)
theorem dX0_setLink_10 : decode cX0_setLink 10 = .ok (.astore 4, 2) := dk_58 4 (dk_at dksX0_setLink_0 10 rfl rfl)
theorem dX0_setLink_12 : decode cX0_setLink 12 = .ok (.iconst 1, 1) := dk_4 (dk_at dksX0_setLink_0 12 rfl rfl)
theorem dX0_setLink_13 : decode cX0_setLink 13 = .ok (.ireturn, 1) := dk_172 (dk_at dksX0_setLink_0 13 rfl rfl)
theorem dX0_setLink_14 : decode cX0_setLink 14 = .ok (.astore 4, 2) := dk_58 4 (dk_at dksX0_setLink_0 14 rfl rfl)
theorem dX0_setLink_16 : decode cX0_setLink 16 = .ok (.iconst 2, 1) := dk_5 (dk_at dksX0_setLink_0 16 rfl rfl)
theorem dX0_setLink_17 : decode cX0_setLink 17 = .ok (.ireturn, 1) := dk_172 (dk_at dksX0_setLink_0 17 rfl rfl)
theorem dX0_setLink_18 : decode cX0_setLink 18 = .ok (.astore 4, 2) := dk_58 4 (dk_at dksX0_setLink_0 18 rfl rfl)
theorem dX0_setLink_20 : decode cX0_setLink 20 = .ok (.iconst 3, 1) := dk_6 (dk_at dksX0_setLink_0 20 rfl rfl)
theorem dX0_setLink_21 : decode cX0_setLink 21 = .ok (.ireturn, 1) := dk_172 (dk_at dksX0_setLink_0 21 rfl rfl)
theorem dX0_setLink_22 : decode cX0_setLink 22 = .ok (.iconst 0, 1) := dk_3 (dk_at dksX0_setLink_0 22 rfl rfl)
theorem dX0_setLink_23 : decode cX0_setLink 23 = .ok (.ireturn, 1) := dk_172 (dk_at dksX0_setLink_0 23 rfl rfl)
abbrev cX0_setOffset : ByteArray := method_8_code
def yX0_setOffset : MethodName := ⟨RX0, "setOffset", "(LGreenwave;II[J)I"⟩
def dkwX0_setOffset_1 : List UInt8 := [172, 3, 172]
abbrev dktX0_setOffset_1 : List UInt8 := dkwX0_setOffset_1 ++ []
def dkwX0_setOffset_0 : List UInt8 := [45, 3, 42, 27, 28, 182, 0, 35, 133, 80, 167, 0, 15, 58, 4, 4, 172, 58, 4, 5, 172, 58, 4, 6]
abbrev dktX0_setOffset_0 : List UInt8 := dkwX0_setOffset_0 ++ dktX0_setOffset_1
theorem dksX0_setOffset_0 : cX0_setOffset.data.toList.drop 0 = dktX0_setOffset_0 := by decide +kernel
theorem dksX0_setOffset_1 : cX0_setOffset.data.toList.drop 24 = dktX0_setOffset_1 := dk_seg dksX0_setOffset_0 24 rfl rfl
theorem dX0_setOffset_0 : decode cX0_setOffset 0 = .ok (.aload_n 3, 1) := dk_45 (dk_at dksX0_setOffset_0 0 rfl rfl)
theorem dX0_setOffset_1 : decode cX0_setOffset 1 = .ok (.iconst 0, 1) := dk_3 (dk_at dksX0_setOffset_0 1 rfl rfl)
theorem dX0_setOffset_2 : decode cX0_setOffset 2 = .ok (.aload_n 0, 1) := dk_42 (dk_at dksX0_setOffset_0 2 rfl rfl)
theorem dX0_setOffset_3 : decode cX0_setOffset 3 = .ok (.iload_n 1, 1) := dk_27 (dk_at dksX0_setOffset_0 3 rfl rfl)
theorem dX0_setOffset_4 : decode cX0_setOffset 4 = .ok (.iload_n 2, 1) := dk_28 (dk_at dksX0_setOffset_0 4 rfl rfl)
theorem dX0_setOffset_5 : decode cX0_setOffset 5 = .ok (.invokevirtual 35, 3) := dk_182 0 35 (dk_at dksX0_setOffset_0 5 rfl rfl)
theorem dX0_setOffset_8 : decode cX0_setOffset 8 = .ok (.i2l, 1) := dk_133 (dk_at dksX0_setOffset_0 8 rfl rfl)
theorem dX0_setOffset_9 : decode cX0_setOffset 9 = .ok (.lastore, 1) := dk_80 (dk_at dksX0_setOffset_0 9 rfl rfl)
theorem dX0_setOffset_10 : decode cX0_setOffset 10 = .ok (.goto 15, 3) := dk_167 0 15 (dk_at dksX0_setOffset_0 10 rfl rfl)
theorem dX0_setOffset_13 : decode cX0_setOffset 13 = .ok (.astore 4, 2) := dk_58 4 (dk_at dksX0_setOffset_0 13 rfl rfl)
theorem dX0_setOffset_15 : decode cX0_setOffset 15 = .ok (.iconst 1, 1) := dk_4 (dk_at dksX0_setOffset_0 15 rfl rfl)
theorem dX0_setOffset_16 : decode cX0_setOffset 16 = .ok (.ireturn, 1) := dk_172 (dk_at dksX0_setOffset_0 16 rfl rfl)
theorem dX0_setOffset_17 : decode cX0_setOffset 17 = .ok (.astore 4, 2) := dk_58 4 (dk_at dksX0_setOffset_0 17 rfl rfl)
theorem dX0_setOffset_19 : decode cX0_setOffset 19 = .ok (.iconst 2, 1) := dk_5 (dk_at dksX0_setOffset_0 19 rfl rfl)
theorem dX0_setOffset_20 : decode cX0_setOffset 20 = .ok (.ireturn, 1) := dk_172 (dk_at dksX0_setOffset_0 20 rfl rfl)
theorem dX0_setOffset_21 : decode cX0_setOffset 21 = .ok (.astore 4, 2) := dk_58 4 (dk_at dksX0_setOffset_0 21 rfl rfl)
theorem dX0_setOffset_23 : decode cX0_setOffset 23 = .ok (.iconst 3, 1) := dk_6 (dk_at dksX0_setOffset_0 23 rfl rfl)
theorem dX0_setOffset_24 : decode cX0_setOffset 24 = .ok (.ireturn, 1) := dk_172 (dk_at dksX0_setOffset_1 0 rfl rfl)
theorem dX0_setOffset_25 : decode cX0_setOffset 25 = .ok (.iconst 0, 1) := dk_3 (dk_at dksX0_setOffset_1 1 rfl rfl)
theorem dX0_setOffset_26 : decode cX0_setOffset 26 = .ok (.ireturn, 1) := dk_172 (dk_at dksX0_setOffset_1 2 rfl rfl)
abbrev cX0_improve : ByteArray := method_9_code
def yX0_improve : MethodName := ⟨RX0, "improve", "(LGreenwave;[J)I"⟩
def dkwX0_improve_0 : List UInt8 := [43, 3, 42, 182, 0, 39, 133, 80, 167, 0, 6, 77, 4, 172, 3, 172]
abbrev dktX0_improve_0 : List UInt8 := dkwX0_improve_0 ++ []
theorem dksX0_improve_0 : cX0_improve.data.toList.drop 0 = dktX0_improve_0 := by decide +kernel
theorem dX0_improve_0 : decode cX0_improve 0 = .ok (.aload_n 1, 1) := dk_43 (dk_at dksX0_improve_0 0 rfl rfl)
theorem dX0_improve_1 : decode cX0_improve 1 = .ok (.iconst 0, 1) := dk_3 (dk_at dksX0_improve_0 1 rfl rfl)
theorem dX0_improve_2 : decode cX0_improve 2 = .ok (.aload_n 0, 1) := dk_42 (dk_at dksX0_improve_0 2 rfl rfl)
theorem dX0_improve_3 : decode cX0_improve 3 = .ok (.invokevirtual 39, 3) := dk_182 0 39 (dk_at dksX0_improve_0 3 rfl rfl)
theorem dX0_improve_6 : decode cX0_improve 6 = .ok (.i2l, 1) := dk_133 (dk_at dksX0_improve_0 6 rfl rfl)
theorem dX0_improve_7 : decode cX0_improve 7 = .ok (.lastore, 1) := dk_80 (dk_at dksX0_improve_0 7 rfl rfl)
theorem dX0_improve_8 : decode cX0_improve 8 = .ok (.goto 6, 3) := dk_167 0 6 (dk_at dksX0_improve_0 8 rfl rfl)
theorem dX0_improve_11 : decode cX0_improve 11 = .ok (.astore_n 2, 1) := dk_77 (dk_at dksX0_improve_0 11 rfl rfl)
theorem dX0_improve_12 : decode cX0_improve 12 = .ok (.iconst 1, 1) := dk_4 (dk_at dksX0_improve_0 12 rfl rfl)
theorem dX0_improve_13 : decode cX0_improve 13 = .ok (.ireturn, 1) := dk_172 (dk_at dksX0_improve_0 13 rfl rfl)
theorem dX0_improve_14 : decode cX0_improve 14 = .ok (.iconst 0, 1) := dk_3 (dk_at dksX0_improve_0 14 rfl rfl)
theorem dX0_improve_15 : decode cX0_improve 15 = .ok (.ireturn, 1) := dk_172 (dk_at dksX0_improve_0 15 rfl rfl)
abbrev cX0_hasPlan : ByteArray := method_10_code
def yX0_hasPlan : MethodName := ⟨RX0, "hasPlan", "(LGreenwave;I[J)I"⟩
def dkwX0_hasPlan_0 : List UInt8 := [44, 3, 42, 27, 182, 0, 43, 153, 0, 7, 10, 167, 0, 4, 9, 80, 167, 0, 6, 78, 4, 172, 3, 172]
abbrev dktX0_hasPlan_0 : List UInt8 := dkwX0_hasPlan_0 ++ []
theorem dksX0_hasPlan_0 : cX0_hasPlan.data.toList.drop 0 = dktX0_hasPlan_0 := by decide +kernel
theorem dX0_hasPlan_0 : decode cX0_hasPlan 0 = .ok (.aload_n 2, 1) := dk_44 (dk_at dksX0_hasPlan_0 0 rfl rfl)
theorem dX0_hasPlan_1 : decode cX0_hasPlan 1 = .ok (.iconst 0, 1) := dk_3 (dk_at dksX0_hasPlan_0 1 rfl rfl)
theorem dX0_hasPlan_2 : decode cX0_hasPlan 2 = .ok (.aload_n 0, 1) := dk_42 (dk_at dksX0_hasPlan_0 2 rfl rfl)
theorem dX0_hasPlan_3 : decode cX0_hasPlan 3 = .ok (.iload_n 1, 1) := dk_27 (dk_at dksX0_hasPlan_0 3 rfl rfl)
theorem dX0_hasPlan_4 : decode cX0_hasPlan 4 = .ok (.invokevirtual 43, 3) := dk_182 0 43 (dk_at dksX0_hasPlan_0 4 rfl rfl)
theorem dX0_hasPlan_7 : decode cX0_hasPlan 7 = .ok (.ifCond .eq 7, 3) := dk_153 0 7 (dk_at dksX0_hasPlan_0 7 rfl rfl)
theorem dX0_hasPlan_10 : decode cX0_hasPlan 10 = .ok (.lconst 1, 1) := dk_10 (dk_at dksX0_hasPlan_0 10 rfl rfl)
theorem dX0_hasPlan_11 : decode cX0_hasPlan 11 = .ok (.goto 4, 3) := dk_167 0 4 (dk_at dksX0_hasPlan_0 11 rfl rfl)
theorem dX0_hasPlan_14 : decode cX0_hasPlan 14 = .ok (.lconst 0, 1) := dk_9 (dk_at dksX0_hasPlan_0 14 rfl rfl)
theorem dX0_hasPlan_15 : decode cX0_hasPlan 15 = .ok (.lastore, 1) := dk_80 (dk_at dksX0_hasPlan_0 15 rfl rfl)
theorem dX0_hasPlan_16 : decode cX0_hasPlan 16 = .ok (.goto 6, 3) := dk_167 0 6 (dk_at dksX0_hasPlan_0 16 rfl rfl)
theorem dX0_hasPlan_19 : decode cX0_hasPlan 19 = .ok (.astore_n 3, 1) := dk_78 (dk_at dksX0_hasPlan_0 19 rfl rfl)
theorem dX0_hasPlan_20 : decode cX0_hasPlan 20 = .ok (.iconst 1, 1) := dk_4 (dk_at dksX0_hasPlan_0 20 rfl rfl)
theorem dX0_hasPlan_21 : decode cX0_hasPlan 21 = .ok (.ireturn, 1) := dk_172 (dk_at dksX0_hasPlan_0 21 rfl rfl)
theorem dX0_hasPlan_22 : decode cX0_hasPlan 22 = .ok (.iconst 0, 1) := dk_3 (dk_at dksX0_hasPlan_0 22 rfl rfl)
theorem dX0_hasPlan_23 : decode cX0_hasPlan 23 = .ok (.ireturn, 1) := dk_172 (dk_at dksX0_hasPlan_0 23 rfl rfl)
abbrev cX0_green : ByteArray := method_11_code
def yX0_green : MethodName := ⟨RX0, "green", "(LGreenwave;II[J)I"⟩
def dkwX0_green_0 : List UInt8 := [45, 3, 42, 27, 28, 182, 0, 47, 133, 80, 167, 0, 11, 58, 4, 4, 172, 58, 4, 5, 172, 3, 172]
abbrev dktX0_green_0 : List UInt8 := dkwX0_green_0 ++ []
theorem dksX0_green_0 : cX0_green.data.toList.drop 0 = dktX0_green_0 := by decide +kernel
theorem dX0_green_0 : decode cX0_green 0 = .ok (.aload_n 3, 1) := dk_45 (dk_at dksX0_green_0 0 rfl rfl)
theorem dX0_green_1 : decode cX0_green 1 = .ok (.iconst 0, 1) := dk_3 (dk_at dksX0_green_0 1 rfl rfl)
theorem dX0_green_2 : decode cX0_green 2 = .ok (.aload_n 0, 1) := dk_42 (dk_at dksX0_green_0 2 rfl rfl)
theorem dX0_green_3 : decode cX0_green 3 = .ok (.iload_n 1, 1) := dk_27 (dk_at dksX0_green_0 3 rfl rfl)
theorem dX0_green_4 : decode cX0_green 4 = .ok (.iload_n 2, 1) := dk_28 (dk_at dksX0_green_0 4 rfl rfl)
theorem dX0_green_5 : decode cX0_green 5 = .ok (.invokevirtual 47, 3) := dk_182 0 47 (dk_at dksX0_green_0 5 rfl rfl)
theorem dX0_green_8 : decode cX0_green 8 = .ok (.i2l, 1) := dk_133 (dk_at dksX0_green_0 8 rfl rfl)
theorem dX0_green_9 : decode cX0_green 9 = .ok (.lastore, 1) := dk_80 (dk_at dksX0_green_0 9 rfl rfl)
theorem dX0_green_10 : decode cX0_green 10 = .ok (.goto 11, 3) := dk_167 0 11 (dk_at dksX0_green_0 10 rfl rfl)
theorem dX0_green_13 : decode cX0_green 13 = .ok (.astore 4, 2) := dk_58 4 (dk_at dksX0_green_0 13 rfl rfl)
theorem dX0_green_15 : decode cX0_green 15 = .ok (.iconst 1, 1) := dk_4 (dk_at dksX0_green_0 15 rfl rfl)
theorem dX0_green_16 : decode cX0_green 16 = .ok (.ireturn, 1) := dk_172 (dk_at dksX0_green_0 16 rfl rfl)
theorem dX0_green_17 : decode cX0_green 17 = .ok (.astore 4, 2) := dk_58 4 (dk_at dksX0_green_0 17 rfl rfl)
theorem dX0_green_19 : decode cX0_green 19 = .ok (.iconst 2, 1) := dk_5 (dk_at dksX0_green_0 19 rfl rfl)
theorem dX0_green_20 : decode cX0_green 20 = .ok (.ireturn, 1) := dk_172 (dk_at dksX0_green_0 20 rfl rfl)
theorem dX0_green_21 : decode cX0_green 21 = .ok (.iconst 0, 1) := dk_3 (dk_at dksX0_green_0 21 rfl rfl)
theorem dX0_green_22 : decode cX0_green 22 = .ok (.ireturn, 1) := dk_172 (dk_at dksX0_green_0 22 rfl rfl)
abbrev cX0_clearing : ByteArray := method_12_code
def yX0_clearing : MethodName := ⟨RX0, "clearing", "(LGreenwave;II[J)I"⟩
def dkwX0_clearing_0 : List UInt8 := [45, 3, 42, 27, 28, 182, 0, 50, 133, 80, 167, 0, 7, 58, 4, 4, 172, 3, 172]
abbrev dktX0_clearing_0 : List UInt8 := dkwX0_clearing_0 ++ []
theorem dksX0_clearing_0 : cX0_clearing.data.toList.drop 0 = dktX0_clearing_0 := by decide +kernel
theorem dX0_clearing_0 : decode cX0_clearing 0 = .ok (.aload_n 3, 1) := dk_45 (dk_at dksX0_clearing_0 0 rfl rfl)
theorem dX0_clearing_1 : decode cX0_clearing 1 = .ok (.iconst 0, 1) := dk_3 (dk_at dksX0_clearing_0 1 rfl rfl)
theorem dX0_clearing_2 : decode cX0_clearing 2 = .ok (.aload_n 0, 1) := dk_42 (dk_at dksX0_clearing_0 2 rfl rfl)
theorem dX0_clearing_3 : decode cX0_clearing 3 = .ok (.iload_n 1, 1) := dk_27 (dk_at dksX0_clearing_0 3 rfl rfl)
theorem dX0_clearing_4 : decode cX0_clearing 4 = .ok (.iload_n 2, 1) := dk_28 (dk_at dksX0_clearing_0 4 rfl rfl)
theorem dX0_clearing_5 : decode cX0_clearing 5 = .ok (.invokevirtual 50, 3) := dk_182 0 50 (dk_at dksX0_clearing_0 5 rfl rfl)
theorem dX0_clearing_8 : decode cX0_clearing 8 = .ok (.i2l, 1) := dk_133 (dk_at dksX0_clearing_0 8 rfl rfl)
theorem dX0_clearing_9 : decode cX0_clearing 9 = .ok (.lastore, 1) := dk_80 (dk_at dksX0_clearing_0 9 rfl rfl)
theorem dX0_clearing_10 : decode cX0_clearing 10 = .ok (.goto 7, 3) := dk_167 0 7 (dk_at dksX0_clearing_0 10 rfl rfl)
theorem dX0_clearing_13 : decode cX0_clearing 13 = .ok (.astore 4, 2) := dk_58 4 (dk_at dksX0_clearing_0 13 rfl rfl)
theorem dX0_clearing_15 : decode cX0_clearing 15 = .ok (.iconst 1, 1) := dk_4 (dk_at dksX0_clearing_0 15 rfl rfl)
theorem dX0_clearing_16 : decode cX0_clearing 16 = .ok (.ireturn, 1) := dk_172 (dk_at dksX0_clearing_0 16 rfl rfl)
theorem dX0_clearing_17 : decode cX0_clearing 17 = .ok (.iconst 0, 1) := dk_3 (dk_at dksX0_clearing_0 17 rfl rfl)
theorem dX0_clearing_18 : decode cX0_clearing 18 = .ok (.ireturn, 1) := dk_172 (dk_at dksX0_clearing_0 18 rfl rfl)
abbrev cX0_offset : ByteArray := method_13_code
def yX0_offset : MethodName := ⟨RX0, "offset", "(LGreenwave;I[J)I"⟩
def dkwX0_offset_0 : List UInt8 := [44, 3, 42, 27, 182, 0, 53, 133, 80, 167, 0, 6, 78, 4, 172, 3, 172]
abbrev dktX0_offset_0 : List UInt8 := dkwX0_offset_0 ++ []
theorem dksX0_offset_0 : cX0_offset.data.toList.drop 0 = dktX0_offset_0 := by decide +kernel
theorem dX0_offset_0 : decode cX0_offset 0 = .ok (.aload_n 2, 1) := dk_44 (dk_at dksX0_offset_0 0 rfl rfl)
theorem dX0_offset_1 : decode cX0_offset 1 = .ok (.iconst 0, 1) := dk_3 (dk_at dksX0_offset_0 1 rfl rfl)
theorem dX0_offset_2 : decode cX0_offset 2 = .ok (.aload_n 0, 1) := dk_42 (dk_at dksX0_offset_0 2 rfl rfl)
theorem dX0_offset_3 : decode cX0_offset 3 = .ok (.iload_n 1, 1) := dk_27 (dk_at dksX0_offset_0 3 rfl rfl)
theorem dX0_offset_4 : decode cX0_offset 4 = .ok (.invokevirtual 53, 3) := dk_182 0 53 (dk_at dksX0_offset_0 4 rfl rfl)
theorem dX0_offset_7 : decode cX0_offset 7 = .ok (.i2l, 1) := dk_133 (dk_at dksX0_offset_0 7 rfl rfl)
theorem dX0_offset_8 : decode cX0_offset 8 = .ok (.lastore, 1) := dk_80 (dk_at dksX0_offset_0 8 rfl rfl)
theorem dX0_offset_9 : decode cX0_offset 9 = .ok (.goto 6, 3) := dk_167 0 6 (dk_at dksX0_offset_0 9 rfl rfl)
theorem dX0_offset_12 : decode cX0_offset 12 = .ok (.astore_n 3, 1) := dk_78 (dk_at dksX0_offset_0 12 rfl rfl)
theorem dX0_offset_13 : decode cX0_offset 13 = .ok (.iconst 1, 1) := dk_4 (dk_at dksX0_offset_0 13 rfl rfl)
theorem dX0_offset_14 : decode cX0_offset 14 = .ok (.ireturn, 1) := dk_172 (dk_at dksX0_offset_0 14 rfl rfl)
theorem dX0_offset_15 : decode cX0_offset 15 = .ok (.iconst 0, 1) := dk_3 (dk_at dksX0_offset_0 15 rfl rfl)
theorem dX0_offset_16 : decode cX0_offset 16 = .ok (.ireturn, 1) := dk_172 (dk_at dksX0_offset_0 16 rfl rfl)
abbrev cX0_isGreen : ByteArray := method_14_code
def yX0_isGreen : MethodName := ⟨RX0, "isGreen", "(LGreenwave;III[J)I"⟩
def dkwX0_isGreen_1 : List UInt8 := [4, 172, 58, 5, 5, 172, 58, 5, 6, 172, 3, 172]
abbrev dktX0_isGreen_1 : List UInt8 := dkwX0_isGreen_1 ++ []
def dkwX0_isGreen_0 : List UInt8 := [25, 4, 3, 42, 27, 28, 29, 182, 0, 57, 153, 0, 7, 10, 167, 0, 4, 9, 80, 167, 0, 15, 58, 5]
abbrev dktX0_isGreen_0 : List UInt8 := dkwX0_isGreen_0 ++ dktX0_isGreen_1
theorem dksX0_isGreen_0 : cX0_isGreen.data.toList.drop 0 = dktX0_isGreen_0 := by decide +kernel
theorem dksX0_isGreen_1 : cX0_isGreen.data.toList.drop 24 = dktX0_isGreen_1 := dk_seg dksX0_isGreen_0 24 rfl rfl
theorem dX0_isGreen_0 : decode cX0_isGreen 0 = .ok (.aload 4, 2) := dk_25 4 (dk_at dksX0_isGreen_0 0 rfl rfl)
theorem dX0_isGreen_2 : decode cX0_isGreen 2 = .ok (.iconst 0, 1) := dk_3 (dk_at dksX0_isGreen_0 2 rfl rfl)
theorem dX0_isGreen_3 : decode cX0_isGreen 3 = .ok (.aload_n 0, 1) := dk_42 (dk_at dksX0_isGreen_0 3 rfl rfl)
theorem dX0_isGreen_4 : decode cX0_isGreen 4 = .ok (.iload_n 1, 1) := dk_27 (dk_at dksX0_isGreen_0 4 rfl rfl)
theorem dX0_isGreen_5 : decode cX0_isGreen 5 = .ok (.iload_n 2, 1) := dk_28 (dk_at dksX0_isGreen_0 5 rfl rfl)
theorem dX0_isGreen_6 : decode cX0_isGreen 6 = .ok (.iload_n 3, 1) := dk_29 (dk_at dksX0_isGreen_0 6 rfl rfl)
theorem dX0_isGreen_7 : decode cX0_isGreen 7 = .ok (.invokevirtual 57, 3) := dk_182 0 57 (dk_at dksX0_isGreen_0 7 rfl rfl)
theorem dX0_isGreen_10 : decode cX0_isGreen 10 = .ok (.ifCond .eq 7, 3) := dk_153 0 7 (dk_at dksX0_isGreen_0 10 rfl rfl)
theorem dX0_isGreen_13 : decode cX0_isGreen 13 = .ok (.lconst 1, 1) := dk_10 (dk_at dksX0_isGreen_0 13 rfl rfl)
theorem dX0_isGreen_14 : decode cX0_isGreen 14 = .ok (.goto 4, 3) := dk_167 0 4 (dk_at dksX0_isGreen_0 14 rfl rfl)
theorem dX0_isGreen_17 : decode cX0_isGreen 17 = .ok (.lconst 0, 1) := dk_9 (dk_at dksX0_isGreen_0 17 rfl rfl)
theorem dX0_isGreen_18 : decode cX0_isGreen 18 = .ok (.lastore, 1) := dk_80 (dk_at dksX0_isGreen_0 18 rfl rfl)
theorem dX0_isGreen_19 : decode cX0_isGreen 19 = .ok (.goto 15, 3) := dk_167 0 15 (dk_at dksX0_isGreen_0 19 rfl rfl)
theorem dX0_isGreen_22 : decode cX0_isGreen 22 = .ok (.astore 5, 2) := dk_58 5 (dk_at dksX0_isGreen_0 22 rfl rfl)
theorem dX0_isGreen_24 : decode cX0_isGreen 24 = .ok (.iconst 1, 1) := dk_4 (dk_at dksX0_isGreen_1 0 rfl rfl)
theorem dX0_isGreen_25 : decode cX0_isGreen 25 = .ok (.ireturn, 1) := dk_172 (dk_at dksX0_isGreen_1 1 rfl rfl)
theorem dX0_isGreen_26 : decode cX0_isGreen 26 = .ok (.astore 5, 2) := dk_58 5 (dk_at dksX0_isGreen_1 2 rfl rfl)
theorem dX0_isGreen_28 : decode cX0_isGreen 28 = .ok (.iconst 2, 1) := dk_5 (dk_at dksX0_isGreen_1 4 rfl rfl)
theorem dX0_isGreen_29 : decode cX0_isGreen 29 = .ok (.ireturn, 1) := dk_172 (dk_at dksX0_isGreen_1 5 rfl rfl)
theorem dX0_isGreen_30 : decode cX0_isGreen 30 = .ok (.astore 5, 2) := dk_58 5 (dk_at dksX0_isGreen_1 6 rfl rfl)
theorem dX0_isGreen_32 : decode cX0_isGreen 32 = .ok (.iconst 3, 1) := dk_6 (dk_at dksX0_isGreen_1 8 rfl rfl)
theorem dX0_isGreen_33 : decode cX0_isGreen 33 = .ok (.ireturn, 1) := dk_172 (dk_at dksX0_isGreen_1 9 rfl rfl)
theorem dX0_isGreen_34 : decode cX0_isGreen 34 = .ok (.iconst 0, 1) := dk_3 (dk_at dksX0_isGreen_1 10 rfl rfl)
theorem dX0_isGreen_35 : decode cX0_isGreen 35 = .ok (.ireturn, 1) := dk_172 (dk_at dksX0_isGreen_1 11 rfl rfl)
abbrev cX0_breaches : ByteArray := method_15_code
def yX0_breaches : MethodName := ⟨RX0, "breaches", "(LGreenwave;I[J)I"⟩
def dkwX0_breaches_0 : List UInt8 := [44, 3, 42, 27, 182, 0, 61, 133, 80, 167, 0, 9, 78, 4, 172, 78, 5, 172, 3, 172]
abbrev dktX0_breaches_0 : List UInt8 := dkwX0_breaches_0 ++ []
theorem dksX0_breaches_0 : cX0_breaches.data.toList.drop 0 = dktX0_breaches_0 := by decide +kernel
theorem dX0_breaches_0 : decode cX0_breaches 0 = .ok (.aload_n 2, 1) := dk_44 (dk_at dksX0_breaches_0 0 rfl rfl)
theorem dX0_breaches_1 : decode cX0_breaches 1 = .ok (.iconst 0, 1) := dk_3 (dk_at dksX0_breaches_0 1 rfl rfl)
theorem dX0_breaches_2 : decode cX0_breaches 2 = .ok (.aload_n 0, 1) := dk_42 (dk_at dksX0_breaches_0 2 rfl rfl)
theorem dX0_breaches_3 : decode cX0_breaches 3 = .ok (.iload_n 1, 1) := dk_27 (dk_at dksX0_breaches_0 3 rfl rfl)
theorem dX0_breaches_4 : decode cX0_breaches 4 = .ok (.invokevirtual 61, 3) := dk_182 0 61 (dk_at dksX0_breaches_0 4 rfl rfl)
theorem dX0_breaches_7 : decode cX0_breaches 7 = .ok (.i2l, 1) := dk_133 (dk_at dksX0_breaches_0 7 rfl rfl)
theorem dX0_breaches_8 : decode cX0_breaches 8 = .ok (.lastore, 1) := dk_80 (dk_at dksX0_breaches_0 8 rfl rfl)
theorem dX0_breaches_9 : decode cX0_breaches 9 = .ok (.goto 9, 3) := dk_167 0 9 (dk_at dksX0_breaches_0 9 rfl rfl)
theorem dX0_breaches_12 : decode cX0_breaches 12 = .ok (.astore_n 3, 1) := dk_78 (dk_at dksX0_breaches_0 12 rfl rfl)
theorem dX0_breaches_13 : decode cX0_breaches 13 = .ok (.iconst 1, 1) := dk_4 (dk_at dksX0_breaches_0 13 rfl rfl)
theorem dX0_breaches_14 : decode cX0_breaches 14 = .ok (.ireturn, 1) := dk_172 (dk_at dksX0_breaches_0 14 rfl rfl)
theorem dX0_breaches_15 : decode cX0_breaches 15 = .ok (.astore_n 3, 1) := dk_78 (dk_at dksX0_breaches_0 15 rfl rfl)
theorem dX0_breaches_16 : decode cX0_breaches 16 = .ok (.iconst 2, 1) := dk_5 (dk_at dksX0_breaches_0 16 rfl rfl)
theorem dX0_breaches_17 : decode cX0_breaches 17 = .ok (.ireturn, 1) := dk_172 (dk_at dksX0_breaches_0 17 rfl rfl)
theorem dX0_breaches_18 : decode cX0_breaches 18 = .ok (.iconst 0, 1) := dk_3 (dk_at dksX0_breaches_0 18 rfl rfl)
theorem dX0_breaches_19 : decode cX0_breaches 19 = .ok (.ireturn, 1) := dk_172 (dk_at dksX0_breaches_0 19 rfl rfl)
abbrev cX0_band : ByteArray := method_16_code
def yX0_band : MethodName := ⟨RX0, "band", "(LGreenwave;Z[J)I"⟩
def dkwX0_band_0 : List UInt8 := [44, 3, 42, 27, 182, 0, 64, 133, 80, 167, 0, 6, 78, 4, 172, 3, 172]
abbrev dktX0_band_0 : List UInt8 := dkwX0_band_0 ++ []
theorem dksX0_band_0 : cX0_band.data.toList.drop 0 = dktX0_band_0 := by decide +kernel
theorem dX0_band_0 : decode cX0_band 0 = .ok (.aload_n 2, 1) := dk_44 (dk_at dksX0_band_0 0 rfl rfl)
theorem dX0_band_1 : decode cX0_band 1 = .ok (.iconst 0, 1) := dk_3 (dk_at dksX0_band_0 1 rfl rfl)
theorem dX0_band_2 : decode cX0_band 2 = .ok (.aload_n 0, 1) := dk_42 (dk_at dksX0_band_0 2 rfl rfl)
theorem dX0_band_3 : decode cX0_band 3 = .ok (.iload_n 1, 1) := dk_27 (dk_at dksX0_band_0 3 rfl rfl)
theorem dX0_band_4 : decode cX0_band 4 = .ok (.invokevirtual 64, 3) := dk_182 0 64 (dk_at dksX0_band_0 4 rfl rfl)
theorem dX0_band_7 : decode cX0_band 7 = .ok (.i2l, 1) := dk_133 (dk_at dksX0_band_0 7 rfl rfl)
theorem dX0_band_8 : decode cX0_band 8 = .ok (.lastore, 1) := dk_80 (dk_at dksX0_band_0 8 rfl rfl)
theorem dX0_band_9 : decode cX0_band 9 = .ok (.goto 6, 3) := dk_167 0 6 (dk_at dksX0_band_0 9 rfl rfl)
theorem dX0_band_12 : decode cX0_band 12 = .ok (.astore_n 3, 1) := dk_78 (dk_at dksX0_band_0 12 rfl rfl)
theorem dX0_band_13 : decode cX0_band 13 = .ok (.iconst 1, 1) := dk_4 (dk_at dksX0_band_0 13 rfl rfl)
theorem dX0_band_14 : decode cX0_band 14 = .ok (.ireturn, 1) := dk_172 (dk_at dksX0_band_0 14 rfl rfl)
theorem dX0_band_15 : decode cX0_band 15 = .ok (.iconst 0, 1) := dk_3 (dk_at dksX0_band_0 15 rfl rfl)
theorem dX0_band_16 : decode cX0_band 16 = .ok (.ireturn, 1) := dk_172 (dk_at dksX0_band_0 16 rfl rfl)
abbrev cX0_bestByAll : ByteArray := method_17_code
def yX0_bestByAll : MethodName := ⟨RX0, "bestByAll", "(LGreenwave;[J)I"⟩
def dkwX0_bestByAll_0 : List UInt8 := [43, 3, 42, 182, 0, 68, 133, 80, 167, 0, 6, 77, 4, 172, 3, 172]
abbrev dktX0_bestByAll_0 : List UInt8 := dkwX0_bestByAll_0 ++ []
theorem dksX0_bestByAll_0 : cX0_bestByAll.data.toList.drop 0 = dktX0_bestByAll_0 := by decide +kernel
theorem dX0_bestByAll_0 : decode cX0_bestByAll 0 = .ok (.aload_n 1, 1) := dk_43 (dk_at dksX0_bestByAll_0 0 rfl rfl)
theorem dX0_bestByAll_1 : decode cX0_bestByAll 1 = .ok (.iconst 0, 1) := dk_3 (dk_at dksX0_bestByAll_0 1 rfl rfl)
theorem dX0_bestByAll_2 : decode cX0_bestByAll 2 = .ok (.aload_n 0, 1) := dk_42 (dk_at dksX0_bestByAll_0 2 rfl rfl)
theorem dX0_bestByAll_3 : decode cX0_bestByAll 3 = .ok (.invokevirtual 68, 3) := dk_182 0 68 (dk_at dksX0_bestByAll_0 3 rfl rfl)
theorem dX0_bestByAll_6 : decode cX0_bestByAll 6 = .ok (.i2l, 1) := dk_133 (dk_at dksX0_bestByAll_0 6 rfl rfl)
theorem dX0_bestByAll_7 : decode cX0_bestByAll 7 = .ok (.lastore, 1) := dk_80 (dk_at dksX0_bestByAll_0 7 rfl rfl)
theorem dX0_bestByAll_8 : decode cX0_bestByAll 8 = .ok (.goto 6, 3) := dk_167 0 6 (dk_at dksX0_bestByAll_0 8 rfl rfl)
theorem dX0_bestByAll_11 : decode cX0_bestByAll 11 = .ok (.astore_n 2, 1) := dk_77 (dk_at dksX0_bestByAll_0 11 rfl rfl)
theorem dX0_bestByAll_12 : decode cX0_bestByAll 12 = .ok (.iconst 1, 1) := dk_4 (dk_at dksX0_bestByAll_0 12 rfl rfl)
theorem dX0_bestByAll_13 : decode cX0_bestByAll 13 = .ok (.ireturn, 1) := dk_172 (dk_at dksX0_bestByAll_0 13 rfl rfl)
theorem dX0_bestByAll_14 : decode cX0_bestByAll 14 = .ok (.iconst 0, 1) := dk_3 (dk_at dksX0_bestByAll_0 14 rfl rfl)
theorem dX0_bestByAll_15 : decode cX0_bestByAll 15 = .ok (.ireturn, 1) := dk_172 (dk_at dksX0_bestByAll_0 15 rfl rfl)
abbrev cX0_run : ByteArray := method_18_code
def yX0_run : MethodName := ⟨RX0, "run", "(LGreenwave;I[J)I"⟩
def dkwX0_run_0 : List UInt8 := [44, 3, 42, 27, 182, 0, 71, 133, 80, 167, 0, 9, 78, 4, 172, 78, 5, 172, 3, 172]
abbrev dktX0_run_0 : List UInt8 := dkwX0_run_0 ++ []
theorem dksX0_run_0 : cX0_run.data.toList.drop 0 = dktX0_run_0 := by decide +kernel
theorem dX0_run_0 : decode cX0_run 0 = .ok (.aload_n 2, 1) := dk_44 (dk_at dksX0_run_0 0 rfl rfl)
theorem dX0_run_1 : decode cX0_run 1 = .ok (.iconst 0, 1) := dk_3 (dk_at dksX0_run_0 1 rfl rfl)
theorem dX0_run_2 : decode cX0_run 2 = .ok (.aload_n 0, 1) := dk_42 (dk_at dksX0_run_0 2 rfl rfl)
theorem dX0_run_3 : decode cX0_run 3 = .ok (.iload_n 1, 1) := dk_27 (dk_at dksX0_run_0 3 rfl rfl)
theorem dX0_run_4 : decode cX0_run 4 = .ok (.invokevirtual 71, 3) := dk_182 0 71 (dk_at dksX0_run_0 4 rfl rfl)
theorem dX0_run_7 : decode cX0_run 7 = .ok (.i2l, 1) := dk_133 (dk_at dksX0_run_0 7 rfl rfl)
theorem dX0_run_8 : decode cX0_run 8 = .ok (.lastore, 1) := dk_80 (dk_at dksX0_run_0 8 rfl rfl)
theorem dX0_run_9 : decode cX0_run 9 = .ok (.goto 9, 3) := dk_167 0 9 (dk_at dksX0_run_0 9 rfl rfl)
theorem dX0_run_12 : decode cX0_run 12 = .ok (.astore_n 3, 1) := dk_78 (dk_at dksX0_run_0 12 rfl rfl)
theorem dX0_run_13 : decode cX0_run 13 = .ok (.iconst 1, 1) := dk_4 (dk_at dksX0_run_0 13 rfl rfl)
theorem dX0_run_14 : decode cX0_run 14 = .ok (.ireturn, 1) := dk_172 (dk_at dksX0_run_0 14 rfl rfl)
theorem dX0_run_15 : decode cX0_run 15 = .ok (.astore_n 3, 1) := dk_78 (dk_at dksX0_run_0 15 rfl rfl)
theorem dX0_run_16 : decode cX0_run 16 = .ok (.iconst 2, 1) := dk_5 (dk_at dksX0_run_0 16 rfl rfl)
theorem dX0_run_17 : decode cX0_run 17 = .ok (.ireturn, 1) := dk_172 (dk_at dksX0_run_0 17 rfl rfl)
theorem dX0_run_18 : decode cX0_run 18 = .ok (.iconst 0, 1) := dk_3 (dk_at dksX0_run_0 18 rfl rfl)
theorem dX0_run_19 : decode cX0_run 19 = .ok (.ireturn, 1) := dk_172 (dk_at dksX0_run_0 19 rfl rfl)
abbrev cX0_callBus : ByteArray := method_19_code
def yX0_callBus : MethodName := ⟨RX0, "callBus", "(LGreenwave;II[J)I"⟩
def dkwX0_callBus_0 : List UInt8 := [45, 3, 42, 27, 28, 182, 0, 74, 133, 80, 167, 0, 11, 58, 4, 4, 172, 58, 4, 5, 172, 3, 172]
abbrev dktX0_callBus_0 : List UInt8 := dkwX0_callBus_0 ++ []
theorem dksX0_callBus_0 : cX0_callBus.data.toList.drop 0 = dktX0_callBus_0 := by decide +kernel
theorem dX0_callBus_0 : decode cX0_callBus 0 = .ok (.aload_n 3, 1) := dk_45 (dk_at dksX0_callBus_0 0 rfl rfl)
theorem dX0_callBus_1 : decode cX0_callBus 1 = .ok (.iconst 0, 1) := dk_3 (dk_at dksX0_callBus_0 1 rfl rfl)
theorem dX0_callBus_2 : decode cX0_callBus 2 = .ok (.aload_n 0, 1) := dk_42 (dk_at dksX0_callBus_0 2 rfl rfl)
theorem dX0_callBus_3 : decode cX0_callBus 3 = .ok (.iload_n 1, 1) := dk_27 (dk_at dksX0_callBus_0 3 rfl rfl)
theorem dX0_callBus_4 : decode cX0_callBus 4 = .ok (.iload_n 2, 1) := dk_28 (dk_at dksX0_callBus_0 4 rfl rfl)
theorem dX0_callBus_5 : decode cX0_callBus 5 = .ok (.invokevirtual 74, 3) := dk_182 0 74 (dk_at dksX0_callBus_0 5 rfl rfl)
theorem dX0_callBus_8 : decode cX0_callBus 8 = .ok (.i2l, 1) := dk_133 (dk_at dksX0_callBus_0 8 rfl rfl)
theorem dX0_callBus_9 : decode cX0_callBus 9 = .ok (.lastore, 1) := dk_80 (dk_at dksX0_callBus_0 9 rfl rfl)
theorem dX0_callBus_10 : decode cX0_callBus 10 = .ok (.goto 11, 3) := dk_167 0 11 (dk_at dksX0_callBus_0 10 rfl rfl)
theorem dX0_callBus_13 : decode cX0_callBus 13 = .ok (.astore 4, 2) := dk_58 4 (dk_at dksX0_callBus_0 13 rfl rfl)
theorem dX0_callBus_15 : decode cX0_callBus 15 = .ok (.iconst 1, 1) := dk_4 (dk_at dksX0_callBus_0 15 rfl rfl)
theorem dX0_callBus_16 : decode cX0_callBus 16 = .ok (.ireturn, 1) := dk_172 (dk_at dksX0_callBus_0 16 rfl rfl)
theorem dX0_callBus_17 : decode cX0_callBus 17 = .ok (.astore 4, 2) := dk_58 4 (dk_at dksX0_callBus_0 17 rfl rfl)
theorem dX0_callBus_19 : decode cX0_callBus 19 = .ok (.iconst 2, 1) := dk_5 (dk_at dksX0_callBus_0 19 rfl rfl)
theorem dX0_callBus_20 : decode cX0_callBus 20 = .ok (.ireturn, 1) := dk_172 (dk_at dksX0_callBus_0 20 rfl rfl)
theorem dX0_callBus_21 : decode cX0_callBus 21 = .ok (.iconst 0, 1) := dk_3 (dk_at dksX0_callBus_0 21 rfl rfl)
theorem dX0_callBus_22 : decode cX0_callBus 22 = .ok (.ireturn, 1) := dk_172 (dk_at dksX0_callBus_0 22 rfl rfl)
abbrev cX0_phaseNow : ByteArray := method_20_code
def yX0_phaseNow : MethodName := ⟨RX0, "phaseNow", "(LGreenwave;I[J)I"⟩
def dkwX0_phaseNow_0 : List UInt8 := [44, 3, 42, 27, 182, 0, 77, 133, 80, 167, 0, 9, 78, 4, 172, 78, 5, 172, 3, 172]
abbrev dktX0_phaseNow_0 : List UInt8 := dkwX0_phaseNow_0 ++ []
theorem dksX0_phaseNow_0 : cX0_phaseNow.data.toList.drop 0 = dktX0_phaseNow_0 := by decide +kernel
theorem dX0_phaseNow_0 : decode cX0_phaseNow 0 = .ok (.aload_n 2, 1) := dk_44 (dk_at dksX0_phaseNow_0 0 rfl rfl)
theorem dX0_phaseNow_1 : decode cX0_phaseNow 1 = .ok (.iconst 0, 1) := dk_3 (dk_at dksX0_phaseNow_0 1 rfl rfl)
theorem dX0_phaseNow_2 : decode cX0_phaseNow 2 = .ok (.aload_n 0, 1) := dk_42 (dk_at dksX0_phaseNow_0 2 rfl rfl)
theorem dX0_phaseNow_3 : decode cX0_phaseNow 3 = .ok (.iload_n 1, 1) := dk_27 (dk_at dksX0_phaseNow_0 3 rfl rfl)
theorem dX0_phaseNow_4 : decode cX0_phaseNow 4 = .ok (.invokevirtual 77, 3) := dk_182 0 77 (dk_at dksX0_phaseNow_0 4 rfl rfl)
theorem dX0_phaseNow_7 : decode cX0_phaseNow 7 = .ok (.i2l, 1) := dk_133 (dk_at dksX0_phaseNow_0 7 rfl rfl)
theorem dX0_phaseNow_8 : decode cX0_phaseNow 8 = .ok (.lastore, 1) := dk_80 (dk_at dksX0_phaseNow_0 8 rfl rfl)
theorem dX0_phaseNow_9 : decode cX0_phaseNow 9 = .ok (.goto 9, 3) := dk_167 0 9 (dk_at dksX0_phaseNow_0 9 rfl rfl)
theorem dX0_phaseNow_12 : decode cX0_phaseNow 12 = .ok (.astore_n 3, 1) := dk_78 (dk_at dksX0_phaseNow_0 12 rfl rfl)
theorem dX0_phaseNow_13 : decode cX0_phaseNow 13 = .ok (.iconst 1, 1) := dk_4 (dk_at dksX0_phaseNow_0 13 rfl rfl)
theorem dX0_phaseNow_14 : decode cX0_phaseNow 14 = .ok (.ireturn, 1) := dk_172 (dk_at dksX0_phaseNow_0 14 rfl rfl)
theorem dX0_phaseNow_15 : decode cX0_phaseNow 15 = .ok (.astore_n 3, 1) := dk_78 (dk_at dksX0_phaseNow_0 15 rfl rfl)
theorem dX0_phaseNow_16 : decode cX0_phaseNow 16 = .ok (.iconst 2, 1) := dk_5 (dk_at dksX0_phaseNow_0 16 rfl rfl)
theorem dX0_phaseNow_17 : decode cX0_phaseNow 17 = .ok (.ireturn, 1) := dk_172 (dk_at dksX0_phaseNow_0 17 rfl rfl)
theorem dX0_phaseNow_18 : decode cX0_phaseNow 18 = .ok (.iconst 0, 1) := dk_3 (dk_at dksX0_phaseNow_0 18 rfl rfl)
theorem dX0_phaseNow_19 : decode cX0_phaseNow 19 = .ok (.ireturn, 1) := dk_172 (dk_at dksX0_phaseNow_0 19 rfl rfl)
abbrev cX0_queue : ByteArray := method_21_code
def yX0_queue : MethodName := ⟨RX0, "queue", "(LGreenwave;I[J)I"⟩
def dkwX0_queue_0 : List UInt8 := [44, 3, 42, 27, 182, 0, 80, 133, 80, 167, 0, 6, 78, 4, 172, 3, 172]
abbrev dktX0_queue_0 : List UInt8 := dkwX0_queue_0 ++ []
theorem dksX0_queue_0 : cX0_queue.data.toList.drop 0 = dktX0_queue_0 := by decide +kernel
theorem dX0_queue_0 : decode cX0_queue 0 = .ok (.aload_n 2, 1) := dk_44 (dk_at dksX0_queue_0 0 rfl rfl)
theorem dX0_queue_1 : decode cX0_queue 1 = .ok (.iconst 0, 1) := dk_3 (dk_at dksX0_queue_0 1 rfl rfl)
theorem dX0_queue_2 : decode cX0_queue 2 = .ok (.aload_n 0, 1) := dk_42 (dk_at dksX0_queue_0 2 rfl rfl)
theorem dX0_queue_3 : decode cX0_queue 3 = .ok (.iload_n 1, 1) := dk_27 (dk_at dksX0_queue_0 3 rfl rfl)
theorem dX0_queue_4 : decode cX0_queue 4 = .ok (.invokevirtual 80, 3) := dk_182 0 80 (dk_at dksX0_queue_0 4 rfl rfl)
theorem dX0_queue_7 : decode cX0_queue 7 = .ok (.i2l, 1) := dk_133 (dk_at dksX0_queue_0 7 rfl rfl)
theorem dX0_queue_8 : decode cX0_queue 8 = .ok (.lastore, 1) := dk_80 (dk_at dksX0_queue_0 8 rfl rfl)
theorem dX0_queue_9 : decode cX0_queue 9 = .ok (.goto 6, 3) := dk_167 0 6 (dk_at dksX0_queue_0 9 rfl rfl)
theorem dX0_queue_12 : decode cX0_queue 12 = .ok (.astore_n 3, 1) := dk_78 (dk_at dksX0_queue_0 12 rfl rfl)
theorem dX0_queue_13 : decode cX0_queue 13 = .ok (.iconst 1, 1) := dk_4 (dk_at dksX0_queue_0 13 rfl rfl)
theorem dX0_queue_14 : decode cX0_queue 14 = .ok (.ireturn, 1) := dk_172 (dk_at dksX0_queue_0 14 rfl rfl)
theorem dX0_queue_15 : decode cX0_queue 15 = .ok (.iconst 0, 1) := dk_3 (dk_at dksX0_queue_0 15 rfl rfl)
theorem dX0_queue_16 : decode cX0_queue 16 = .ok (.ireturn, 1) := dk_172 (dk_at dksX0_queue_0 16 rfl rfl)
abbrev cX0_held : ByteArray := method_22_code
def yX0_held : MethodName := ⟨RX0, "held", "(LGreenwave;I[J)I"⟩
def dkwX0_held_0 : List UInt8 := [44, 3, 42, 27, 182, 0, 83, 133, 80, 167, 0, 6, 78, 4, 172, 3, 172]
abbrev dktX0_held_0 : List UInt8 := dkwX0_held_0 ++ []
theorem dksX0_held_0 : cX0_held.data.toList.drop 0 = dktX0_held_0 := by decide +kernel
theorem dX0_held_0 : decode cX0_held 0 = .ok (.aload_n 2, 1) := dk_44 (dk_at dksX0_held_0 0 rfl rfl)
theorem dX0_held_1 : decode cX0_held 1 = .ok (.iconst 0, 1) := dk_3 (dk_at dksX0_held_0 1 rfl rfl)
theorem dX0_held_2 : decode cX0_held 2 = .ok (.aload_n 0, 1) := dk_42 (dk_at dksX0_held_0 2 rfl rfl)
theorem dX0_held_3 : decode cX0_held 3 = .ok (.iload_n 1, 1) := dk_27 (dk_at dksX0_held_0 3 rfl rfl)
theorem dX0_held_4 : decode cX0_held 4 = .ok (.invokevirtual 83, 3) := dk_182 0 83 (dk_at dksX0_held_0 4 rfl rfl)
theorem dX0_held_7 : decode cX0_held 7 = .ok (.i2l, 1) := dk_133 (dk_at dksX0_held_0 7 rfl rfl)
theorem dX0_held_8 : decode cX0_held 8 = .ok (.lastore, 1) := dk_80 (dk_at dksX0_held_0 8 rfl rfl)
theorem dX0_held_9 : decode cX0_held 9 = .ok (.goto 6, 3) := dk_167 0 6 (dk_at dksX0_held_0 9 rfl rfl)
theorem dX0_held_12 : decode cX0_held 12 = .ok (.astore_n 3, 1) := dk_78 (dk_at dksX0_held_0 12 rfl rfl)
theorem dX0_held_13 : decode cX0_held 13 = .ok (.iconst 1, 1) := dk_4 (dk_at dksX0_held_0 13 rfl rfl)
theorem dX0_held_14 : decode cX0_held 14 = .ok (.ireturn, 1) := dk_172 (dk_at dksX0_held_0 14 rfl rfl)
theorem dX0_held_15 : decode cX0_held 15 = .ok (.iconst 0, 1) := dk_3 (dk_at dksX0_held_0 15 rfl rfl)
theorem dX0_held_16 : decode cX0_held 16 = .ok (.ireturn, 1) := dk_172 (dk_at dksX0_held_0 16 rfl rfl)
theorem q45 : (Jvm.Cond.initialized "GreenwaveLaw") ∈ lw_all := lw_g (lw_at lw_m1 0 rfl) rfl
theorem q58 : (Jvm.Cond.classLink "GreenwaveLaw" (8 : Nat) "Greenwave") ∈ lw_all := lw_g (lw_at lw_m1 13 rfl) rfl
theorem q60 : (Jvm.Cond.methodLink "GreenwaveLaw" (86 : Nat) ({ cls := "Greenwave", name := "<init>", desc := "()V" } : Jvm.MethodName)) ∈ lw_all := lw_g (lw_at lw_m1 15 rfl) rfl
theorem q161 : (Jvm.Cond.methodLink "GreenwaveLaw" (123 : Nat) ({ cls := "Greenwave", name := "junctions", desc := "()I" } : Jvm.MethodName)) ∈ lw_all := lw_g (lw_at lw_m1 116 rfl) rfl
theorem q165 : (Jvm.Cond.methodLink "GreenwaveLaw" (159 : Nat) ({ cls := "Greenwave", name := "clock", desc := "()I" } : Jvm.MethodName)) ∈ lw_all := lw_g (lw_at lw_m1 120 rfl) rfl
theorem q169 : (Jvm.Cond.methodLink "GreenwaveLaw" (172 : Nat) ({ cls := "Greenwave", name := "come", desc := "()I" } : Jvm.MethodName)) ∈ lw_all := lw_g (lw_at lw_m1 124 rfl) rfl
theorem q173 : (Jvm.Cond.methodLink "GreenwaveLaw" (176 : Nat) ({ cls := "Greenwave", name := "through", desc := "()I" } : Jvm.MethodName)) ∈ lw_all := lw_g (lw_at lw_m1 128 rfl) rfl
theorem q177 : (Jvm.Cond.methodLink "GreenwaveLaw" (90 : Nat) ({ cls := "GreenwaveLaw", name := "begin", desc := "(LGreenwave;II)I" } : Jvm.MethodName)) ∈ lw_all := lw_g (lw_at lw_m1 132 rfl) rfl
theorem q178 : (Jvm.Cond.static ({ cls := "GreenwaveLaw", name := "begin", desc := "(LGreenwave;II)I" } : Jvm.MethodName)) ∈ lw_all := lw_g (lw_at lw_m1 133 rfl) rfl
theorem q179 : (Jvm.Cond.codeWith ({ cls := "GreenwaveLaw", name := "begin", desc := "(LGreenwave;II)I" } : Jvm.MethodName) method_3_code (4 : Nat) (Option.some Jvm.ClassFile.FieldType.int) [((0 : Nat), (6 : Nat), (9 : Nat), (13 : Nat))]) ∈ lw_all := lw_g (lw_at lw_m1 134 rfl) rfl
theorem q180 : (Jvm.Cond.classLink "GreenwaveLaw" (13 : Nat) "java/lang/IllegalArgumentException") ∈ lw_all := lw_g (lw_at lw_m1 135 rfl) rfl
theorem q181 : (Jvm.Cond.methodLink "GreenwaveLaw" (7 : Nat) ({ cls := "Greenwave", name := "begin", desc := "(II)V" } : Jvm.MethodName)) ∈ lw_all := lw_g (lw_at lw_m1 136 rfl) rfl
theorem q256 : (Jvm.Cond.methodLink "GreenwaveLaw" (99 : Nat) ({ cls := "GreenwaveLaw", name := "setConflict", desc := "(LGreenwave;IIII[J)I" } : Jvm.MethodName)) ∈ lw_all := lw_g (lw_at lw_m1 211 rfl) rfl
theorem q257 : (Jvm.Cond.static ({ cls := "GreenwaveLaw", name := "setConflict", desc := "(LGreenwave;IIII[J)I" } : Jvm.MethodName)) ∈ lw_all := lw_g (lw_at lw_m1 212 rfl) rfl
theorem q258 : (Jvm.Cond.codeWith ({ cls := "GreenwaveLaw", name := "setConflict", desc := "(LGreenwave;IIII[J)I" } : Jvm.MethodName) method_4_code (7 : Nat) (Option.some Jvm.ClassFile.FieldType.int) [((0 : Nat), (14 : Nat), (17 : Nat), (19 : Nat)), ((0 : Nat), (14 : Nat), (21 : Nat), (13 : Nat)), ((0 : Nat), (14 : Nat), (25 : Nat), (21 : Nat))]) ∈ lw_all := lw_g (lw_at lw_m1 213 rfl) rfl
theorem q259 : (Jvm.Cond.classLink "GreenwaveLaw" (19 : Nat) "java/lang/IndexOutOfBoundsException") ∈ lw_all := lw_g (lw_at lw_m1 214 rfl) rfl
theorem q292 : (Jvm.Cond.classLink "GreenwaveLaw" (21 : Nat) "java/lang/IllegalStateException") ∈ lw_all := lw_g (lw_at lw_m2 7 rfl) rfl
theorem q293 : (Jvm.Cond.methodLink "GreenwaveLaw" (15 : Nat) ({ cls := "Greenwave", name := "setConflict", desc := "(IIII)I" } : Jvm.MethodName)) ∈ lw_all := lw_g (lw_at lw_m2 8 rfl) rfl
theorem q348 : (Jvm.Cond.methodLink "GreenwaveLaw" (103 : Nat) ({ cls := "GreenwaveLaw", name := "setPhases", desc := "(LGreenwave;IIIII[J)I" } : Jvm.MethodName)) ∈ lw_all := lw_g (lw_at lw_m2 63 rfl) rfl
theorem q349 : (Jvm.Cond.static ({ cls := "GreenwaveLaw", name := "setPhases", desc := "(LGreenwave;IIIII[J)I" } : Jvm.MethodName)) ∈ lw_all := lw_g (lw_at lw_m2 64 rfl) rfl
theorem q350 : (Jvm.Cond.codeWith ({ cls := "GreenwaveLaw", name := "setPhases", desc := "(LGreenwave;IIIII[J)I" } : Jvm.MethodName) method_5_code (8 : Nat) (Option.some Jvm.ClassFile.FieldType.int) [((0 : Nat), (16 : Nat), (19 : Nat), (19 : Nat)), ((0 : Nat), (16 : Nat), (23 : Nat), (13 : Nat)), ((0 : Nat), (16 : Nat), (27 : Nat), (21 : Nat))]) ∈ lw_all := lw_g (lw_at lw_m2 65 rfl) rfl
theorem q351 : (Jvm.Cond.methodLink "GreenwaveLaw" (23 : Nat) ({ cls := "Greenwave", name := "setPhases", desc := "(IIIII)I" } : Jvm.MethodName)) ∈ lw_all := lw_g (lw_at lw_m2 66 rfl) rfl
theorem q360 : (Jvm.Cond.methodLink "GreenwaveLaw" (107 : Nat) ({ cls := "GreenwaveLaw", name := "setFlow", desc := "(LGreenwave;III[J)I" } : Jvm.MethodName)) ∈ lw_all := lw_g (lw_at lw_m2 75 rfl) rfl
theorem q361 : (Jvm.Cond.static ({ cls := "GreenwaveLaw", name := "setFlow", desc := "(LGreenwave;III[J)I" } : Jvm.MethodName)) ∈ lw_all := lw_g (lw_at lw_m2 76 rfl) rfl
theorem q362 : (Jvm.Cond.codeWith ({ cls := "GreenwaveLaw", name := "setFlow", desc := "(LGreenwave;III[J)I" } : Jvm.MethodName) method_6_code (6 : Nat) (Option.some Jvm.ClassFile.FieldType.int) [((0 : Nat), (12 : Nat), (15 : Nat), (19 : Nat)), ((0 : Nat), (12 : Nat), (19 : Nat), (13 : Nat)), ((0 : Nat), (12 : Nat), (23 : Nat), (21 : Nat))]) ∈ lw_all := lw_g (lw_at lw_m2 77 rfl) rfl
theorem q363 : (Jvm.Cond.methodLink "GreenwaveLaw" (27 : Nat) ({ cls := "Greenwave", name := "setFlow", desc := "(III)I" } : Jvm.MethodName)) ∈ lw_all := lw_g (lw_at lw_m2 78 rfl) rfl
theorem q367 : (Jvm.Cond.methodLink "GreenwaveLaw" (111 : Nat) ({ cls := "GreenwaveLaw", name := "setLink", desc := "(LGreenwave;III)I" } : Jvm.MethodName)) ∈ lw_all := lw_g (lw_at lw_m2 82 rfl) rfl
theorem q368 : (Jvm.Cond.static ({ cls := "GreenwaveLaw", name := "setLink", desc := "(LGreenwave;III)I" } : Jvm.MethodName)) ∈ lw_all := lw_g (lw_at lw_m2 83 rfl) rfl
theorem q369 : (Jvm.Cond.codeWith ({ cls := "GreenwaveLaw", name := "setLink", desc := "(LGreenwave;III)I" } : Jvm.MethodName) method_7_code (5 : Nat) (Option.some Jvm.ClassFile.FieldType.int) [((0 : Nat), (7 : Nat), (10 : Nat), (19 : Nat)), ((0 : Nat), (7 : Nat), (14 : Nat), (13 : Nat)), ((0 : Nat), (7 : Nat), (18 : Nat), (21 : Nat))]) ∈ lw_all := lw_g (lw_at lw_m2 84 rfl) rfl
theorem q370 : (Jvm.Cond.methodLink "GreenwaveLaw" (31 : Nat) ({ cls := "Greenwave", name := "setLink", desc := "(III)V" } : Jvm.MethodName)) ∈ lw_all := lw_g (lw_at lw_m2 85 rfl) rfl
theorem q378 : (Jvm.Cond.methodLink "GreenwaveLaw" (115 : Nat) ({ cls := "GreenwaveLaw", name := "setOffset", desc := "(LGreenwave;II[J)I" } : Jvm.MethodName)) ∈ lw_all := lw_g (lw_at lw_m2 93 rfl) rfl
theorem q379 : (Jvm.Cond.static ({ cls := "GreenwaveLaw", name := "setOffset", desc := "(LGreenwave;II[J)I" } : Jvm.MethodName)) ∈ lw_all := lw_g (lw_at lw_m2 94 rfl) rfl
theorem q380 : (Jvm.Cond.codeWith ({ cls := "GreenwaveLaw", name := "setOffset", desc := "(LGreenwave;II[J)I" } : Jvm.MethodName) method_8_code (5 : Nat) (Option.some Jvm.ClassFile.FieldType.int) [((0 : Nat), (10 : Nat), (13 : Nat), (19 : Nat)), ((0 : Nat), (10 : Nat), (17 : Nat), (13 : Nat)), ((0 : Nat), (10 : Nat), (21 : Nat), (21 : Nat))]) ∈ lw_all := lw_g (lw_at lw_m2 95 rfl) rfl
theorem q381 : (Jvm.Cond.methodLink "GreenwaveLaw" (35 : Nat) ({ cls := "Greenwave", name := "setOffset", desc := "(II)I" } : Jvm.MethodName)) ∈ lw_all := lw_g (lw_at lw_m2 96 rfl) rfl
theorem q385 : (Jvm.Cond.methodLink "GreenwaveLaw" (119 : Nat) ({ cls := "GreenwaveLaw", name := "improve", desc := "(LGreenwave;[J)I" } : Jvm.MethodName)) ∈ lw_all := lw_g (lw_at lw_m2 100 rfl) rfl
theorem q386 : (Jvm.Cond.static ({ cls := "GreenwaveLaw", name := "improve", desc := "(LGreenwave;[J)I" } : Jvm.MethodName)) ∈ lw_all := lw_g (lw_at lw_m2 101 rfl) rfl
theorem q387 : (Jvm.Cond.codeWith ({ cls := "GreenwaveLaw", name := "improve", desc := "(LGreenwave;[J)I" } : Jvm.MethodName) method_9_code (3 : Nat) (Option.some Jvm.ClassFile.FieldType.int) [((0 : Nat), (8 : Nat), (11 : Nat), (21 : Nat))]) ∈ lw_all := lw_g (lw_at lw_m2 102 rfl) rfl
theorem q388 : (Jvm.Cond.methodLink "GreenwaveLaw" (39 : Nat) ({ cls := "Greenwave", name := "improve", desc := "()I" } : Jvm.MethodName)) ∈ lw_all := lw_g (lw_at lw_m2 103 rfl) rfl
theorem q451 : (Jvm.Cond.methodLink "GreenwaveLaw" (127 : Nat) ({ cls := "GreenwaveLaw", name := "hasPlan", desc := "(LGreenwave;I[J)I" } : Jvm.MethodName)) ∈ lw_all := lw_g (lw_at lw_m2 166 rfl) rfl
theorem q452 : (Jvm.Cond.static ({ cls := "GreenwaveLaw", name := "hasPlan", desc := "(LGreenwave;I[J)I" } : Jvm.MethodName)) ∈ lw_all := lw_g (lw_at lw_m2 167 rfl) rfl
theorem q453 : (Jvm.Cond.codeWith ({ cls := "GreenwaveLaw", name := "hasPlan", desc := "(LGreenwave;I[J)I" } : Jvm.MethodName) method_10_code (4 : Nat) (Option.some Jvm.ClassFile.FieldType.int) [((0 : Nat), (16 : Nat), (19 : Nat), (19 : Nat))]) ∈ lw_all := lw_g (lw_at lw_m2 168 rfl) rfl
theorem q454 : (Jvm.Cond.methodLink "GreenwaveLaw" (43 : Nat) ({ cls := "Greenwave", name := "hasPlan", desc := "(I)Z" } : Jvm.MethodName)) ∈ lw_all := lw_g (lw_at lw_m2 169 rfl) rfl
theorem q458 : (Jvm.Cond.methodLink "GreenwaveLaw" (131 : Nat) ({ cls := "GreenwaveLaw", name := "green", desc := "(LGreenwave;II[J)I" } : Jvm.MethodName)) ∈ lw_all := lw_g (lw_at lw_m2 173 rfl) rfl
theorem q459 : (Jvm.Cond.static ({ cls := "GreenwaveLaw", name := "green", desc := "(LGreenwave;II[J)I" } : Jvm.MethodName)) ∈ lw_all := lw_g (lw_at lw_m2 174 rfl) rfl
theorem q460 : (Jvm.Cond.codeWith ({ cls := "GreenwaveLaw", name := "green", desc := "(LGreenwave;II[J)I" } : Jvm.MethodName) method_11_code (5 : Nat) (Option.some Jvm.ClassFile.FieldType.int) [((0 : Nat), (10 : Nat), (13 : Nat), (19 : Nat)), ((0 : Nat), (10 : Nat), (17 : Nat), (21 : Nat))]) ∈ lw_all := lw_g (lw_at lw_m2 175 rfl) rfl
theorem q461 : (Jvm.Cond.methodLink "GreenwaveLaw" (47 : Nat) ({ cls := "Greenwave", name := "green", desc := "(II)I" } : Jvm.MethodName)) ∈ lw_all := lw_g (lw_at lw_m2 176 rfl) rfl
theorem q472 : (Jvm.Cond.methodLink "GreenwaveLaw" (134 : Nat) ({ cls := "GreenwaveLaw", name := "clearing", desc := "(LGreenwave;II[J)I" } : Jvm.MethodName)) ∈ lw_all := lw_g (lw_at lw_m2 187 rfl) rfl
theorem q473 : (Jvm.Cond.static ({ cls := "GreenwaveLaw", name := "clearing", desc := "(LGreenwave;II[J)I" } : Jvm.MethodName)) ∈ lw_all := lw_g (lw_at lw_m2 188 rfl) rfl
theorem q474 : (Jvm.Cond.codeWith ({ cls := "GreenwaveLaw", name := "clearing", desc := "(LGreenwave;II[J)I" } : Jvm.MethodName) method_12_code (5 : Nat) (Option.some Jvm.ClassFile.FieldType.int) [((0 : Nat), (10 : Nat), (13 : Nat), (19 : Nat))]) ∈ lw_all := lw_g (lw_at lw_m2 189 rfl) rfl
theorem q475 : (Jvm.Cond.methodLink "GreenwaveLaw" (50 : Nat) ({ cls := "Greenwave", name := "clearing", desc := "(II)I" } : Jvm.MethodName)) ∈ lw_all := lw_g (lw_at lw_m2 190 rfl) rfl
theorem q480 : (Jvm.Cond.methodLink "GreenwaveLaw" (137 : Nat) ({ cls := "GreenwaveLaw", name := "offset", desc := "(LGreenwave;I[J)I" } : Jvm.MethodName)) ∈ lw_all := lw_g (lw_at lw_m2 195 rfl) rfl
theorem q481 : (Jvm.Cond.static ({ cls := "GreenwaveLaw", name := "offset", desc := "(LGreenwave;I[J)I" } : Jvm.MethodName)) ∈ lw_all := lw_g (lw_at lw_m2 196 rfl) rfl
theorem q482 : (Jvm.Cond.codeWith ({ cls := "GreenwaveLaw", name := "offset", desc := "(LGreenwave;I[J)I" } : Jvm.MethodName) method_13_code (4 : Nat) (Option.some Jvm.ClassFile.FieldType.int) [((0 : Nat), (9 : Nat), (12 : Nat), (19 : Nat))]) ∈ lw_all := lw_g (lw_at lw_m2 197 rfl) rfl
theorem q483 : (Jvm.Cond.methodLink "GreenwaveLaw" (53 : Nat) ({ cls := "Greenwave", name := "offset", desc := "(I)I" } : Jvm.MethodName)) ∈ lw_all := lw_g (lw_at lw_m2 198 rfl) rfl
theorem q487 : (Jvm.Cond.methodLink "GreenwaveLaw" (140 : Nat) ({ cls := "GreenwaveLaw", name := "isGreen", desc := "(LGreenwave;III[J)I" } : Jvm.MethodName)) ∈ lw_all := lw_g (lw_at lw_m2 202 rfl) rfl
theorem q488 : (Jvm.Cond.static ({ cls := "GreenwaveLaw", name := "isGreen", desc := "(LGreenwave;III[J)I" } : Jvm.MethodName)) ∈ lw_all := lw_g (lw_at lw_m2 203 rfl) rfl
theorem q489 : (Jvm.Cond.codeWith ({ cls := "GreenwaveLaw", name := "isGreen", desc := "(LGreenwave;III[J)I" } : Jvm.MethodName) method_14_code (6 : Nat) (Option.some Jvm.ClassFile.FieldType.int) [((0 : Nat), (19 : Nat), (22 : Nat), (19 : Nat)), ((0 : Nat), (19 : Nat), (26 : Nat), (13 : Nat)), ((0 : Nat), (19 : Nat), (30 : Nat), (21 : Nat))]) ∈ lw_all := lw_g (lw_at lw_m2 204 rfl) rfl
theorem q490 : (Jvm.Cond.methodLink "GreenwaveLaw" (57 : Nat) ({ cls := "Greenwave", name := "isGreen", desc := "(III)Z" } : Jvm.MethodName)) ∈ lw_all := lw_g (lw_at lw_m2 205 rfl) rfl
theorem q495 : (Jvm.Cond.methodLink "GreenwaveLaw" (143 : Nat) ({ cls := "GreenwaveLaw", name := "breaches", desc := "(LGreenwave;I[J)I" } : Jvm.MethodName)) ∈ lw_all := lw_g (lw_at lw_m2 210 rfl) rfl
theorem q496 : (Jvm.Cond.static ({ cls := "GreenwaveLaw", name := "breaches", desc := "(LGreenwave;I[J)I" } : Jvm.MethodName)) ∈ lw_all := lw_g (lw_at lw_m2 211 rfl) rfl
theorem q497 : (Jvm.Cond.codeWith ({ cls := "GreenwaveLaw", name := "breaches", desc := "(LGreenwave;I[J)I" } : Jvm.MethodName) method_15_code (4 : Nat) (Option.some Jvm.ClassFile.FieldType.int) [((0 : Nat), (9 : Nat), (12 : Nat), (19 : Nat)), ((0 : Nat), (9 : Nat), (15 : Nat), (21 : Nat))]) ∈ lw_all := lw_g (lw_at lw_m2 212 rfl) rfl
theorem q498 : (Jvm.Cond.methodLink "GreenwaveLaw" (61 : Nat) ({ cls := "Greenwave", name := "breaches", desc := "(I)I" } : Jvm.MethodName)) ∈ lw_all := lw_g (lw_at lw_m2 213 rfl) rfl
theorem q502 : (Jvm.Cond.methodLink "GreenwaveLaw" (146 : Nat) ({ cls := "GreenwaveLaw", name := "band", desc := "(LGreenwave;Z[J)I" } : Jvm.MethodName)) ∈ lw_all := lw_g (lw_at lw_m2 217 rfl) rfl
theorem q503 : (Jvm.Cond.static ({ cls := "GreenwaveLaw", name := "band", desc := "(LGreenwave;Z[J)I" } : Jvm.MethodName)) ∈ lw_all := lw_g (lw_at lw_m2 218 rfl) rfl
theorem q504 : (Jvm.Cond.codeWith ({ cls := "GreenwaveLaw", name := "band", desc := "(LGreenwave;Z[J)I" } : Jvm.MethodName) method_16_code (4 : Nat) (Option.some Jvm.ClassFile.FieldType.int) [((0 : Nat), (9 : Nat), (12 : Nat), (21 : Nat))]) ∈ lw_all := lw_g (lw_at lw_m2 219 rfl) rfl
theorem q505 : (Jvm.Cond.methodLink "GreenwaveLaw" (64 : Nat) ({ cls := "Greenwave", name := "band", desc := "(Z)I" } : Jvm.MethodName)) ∈ lw_all := lw_g (lw_at lw_m2 220 rfl) rfl
theorem q509 : (Jvm.Cond.methodLink "GreenwaveLaw" (150 : Nat) ({ cls := "GreenwaveLaw", name := "bestByAll", desc := "(LGreenwave;[J)I" } : Jvm.MethodName)) ∈ lw_all := lw_g (lw_at lw_m2 224 rfl) rfl
theorem q510 : (Jvm.Cond.static ({ cls := "GreenwaveLaw", name := "bestByAll", desc := "(LGreenwave;[J)I" } : Jvm.MethodName)) ∈ lw_all := lw_g (lw_at lw_m2 225 rfl) rfl
theorem q511 : (Jvm.Cond.codeWith ({ cls := "GreenwaveLaw", name := "bestByAll", desc := "(LGreenwave;[J)I" } : Jvm.MethodName) method_17_code (3 : Nat) (Option.some Jvm.ClassFile.FieldType.int) [((0 : Nat), (8 : Nat), (11 : Nat), (21 : Nat))]) ∈ lw_all := lw_g (lw_at lw_m2 226 rfl) rfl
theorem q512 : (Jvm.Cond.methodLink "GreenwaveLaw" (68 : Nat) ({ cls := "Greenwave", name := "bestByAll", desc := "()I" } : Jvm.MethodName)) ∈ lw_all := lw_g (lw_at lw_m2 227 rfl) rfl
theorem q516 : (Jvm.Cond.methodLink "GreenwaveLaw" (153 : Nat) ({ cls := "GreenwaveLaw", name := "run", desc := "(LGreenwave;I[J)I" } : Jvm.MethodName)) ∈ lw_all := lw_g (lw_at lw_m2 231 rfl) rfl
theorem q517 : (Jvm.Cond.static ({ cls := "GreenwaveLaw", name := "run", desc := "(LGreenwave;I[J)I" } : Jvm.MethodName)) ∈ lw_all := lw_g (lw_at lw_m2 232 rfl) rfl
theorem q518 : (Jvm.Cond.codeWith ({ cls := "GreenwaveLaw", name := "run", desc := "(LGreenwave;I[J)I" } : Jvm.MethodName) method_18_code (4 : Nat) (Option.some Jvm.ClassFile.FieldType.int) [((0 : Nat), (9 : Nat), (12 : Nat), (13 : Nat)), ((0 : Nat), (9 : Nat), (15 : Nat), (21 : Nat))]) ∈ lw_all := lw_g (lw_at lw_m2 233 rfl) rfl
theorem q519 : (Jvm.Cond.methodLink "GreenwaveLaw" (71 : Nat) ({ cls := "Greenwave", name := "run", desc := "(I)I" } : Jvm.MethodName)) ∈ lw_all := lw_g (lw_at lw_m2 234 rfl) rfl
theorem q546 : (Jvm.Cond.methodLink "GreenwaveLaw" (156 : Nat) ({ cls := "GreenwaveLaw", name := "callBus", desc := "(LGreenwave;II[J)I" } : Jvm.MethodName)) ∈ lw_all := lw_g (lw_at lw_m3 21 rfl) rfl
theorem q547 : (Jvm.Cond.static ({ cls := "GreenwaveLaw", name := "callBus", desc := "(LGreenwave;II[J)I" } : Jvm.MethodName)) ∈ lw_all := lw_g (lw_at lw_m3 22 rfl) rfl
theorem q548 : (Jvm.Cond.codeWith ({ cls := "GreenwaveLaw", name := "callBus", desc := "(LGreenwave;II[J)I" } : Jvm.MethodName) method_19_code (5 : Nat) (Option.some Jvm.ClassFile.FieldType.int) [((0 : Nat), (10 : Nat), (13 : Nat), (19 : Nat)), ((0 : Nat), (10 : Nat), (17 : Nat), (21 : Nat))]) ∈ lw_all := lw_g (lw_at lw_m3 23 rfl) rfl
theorem q549 : (Jvm.Cond.methodLink "GreenwaveLaw" (74 : Nat) ({ cls := "Greenwave", name := "callBus", desc := "(II)I" } : Jvm.MethodName)) ∈ lw_all := lw_g (lw_at lw_m3 24 rfl) rfl
theorem q565 : (Jvm.Cond.methodLink "GreenwaveLaw" (163 : Nat) ({ cls := "GreenwaveLaw", name := "phaseNow", desc := "(LGreenwave;I[J)I" } : Jvm.MethodName)) ∈ lw_all := lw_g (lw_at lw_m3 40 rfl) rfl
theorem q566 : (Jvm.Cond.static ({ cls := "GreenwaveLaw", name := "phaseNow", desc := "(LGreenwave;I[J)I" } : Jvm.MethodName)) ∈ lw_all := lw_g (lw_at lw_m3 41 rfl) rfl
theorem q567 : (Jvm.Cond.codeWith ({ cls := "GreenwaveLaw", name := "phaseNow", desc := "(LGreenwave;I[J)I" } : Jvm.MethodName) method_20_code (4 : Nat) (Option.some Jvm.ClassFile.FieldType.int) [((0 : Nat), (9 : Nat), (12 : Nat), (19 : Nat)), ((0 : Nat), (9 : Nat), (15 : Nat), (21 : Nat))]) ∈ lw_all := lw_g (lw_at lw_m3 42 rfl) rfl
theorem q568 : (Jvm.Cond.methodLink "GreenwaveLaw" (77 : Nat) ({ cls := "Greenwave", name := "phaseNow", desc := "(I)I" } : Jvm.MethodName)) ∈ lw_all := lw_g (lw_at lw_m3 43 rfl) rfl
theorem q577 : (Jvm.Cond.methodLink "GreenwaveLaw" (166 : Nat) ({ cls := "GreenwaveLaw", name := "queue", desc := "(LGreenwave;I[J)I" } : Jvm.MethodName)) ∈ lw_all := lw_g (lw_at lw_m3 52 rfl) rfl
theorem q578 : (Jvm.Cond.static ({ cls := "GreenwaveLaw", name := "queue", desc := "(LGreenwave;I[J)I" } : Jvm.MethodName)) ∈ lw_all := lw_g (lw_at lw_m3 53 rfl) rfl
theorem q579 : (Jvm.Cond.codeWith ({ cls := "GreenwaveLaw", name := "queue", desc := "(LGreenwave;I[J)I" } : Jvm.MethodName) method_21_code (4 : Nat) (Option.some Jvm.ClassFile.FieldType.int) [((0 : Nat), (9 : Nat), (12 : Nat), (19 : Nat))]) ∈ lw_all := lw_g (lw_at lw_m3 54 rfl) rfl
theorem q580 : (Jvm.Cond.methodLink "GreenwaveLaw" (80 : Nat) ({ cls := "Greenwave", name := "queue", desc := "(I)I" } : Jvm.MethodName)) ∈ lw_all := lw_g (lw_at lw_m3 55 rfl) rfl
theorem q584 : (Jvm.Cond.methodLink "GreenwaveLaw" (169 : Nat) ({ cls := "GreenwaveLaw", name := "held", desc := "(LGreenwave;I[J)I" } : Jvm.MethodName)) ∈ lw_all := lw_g (lw_at lw_m3 59 rfl) rfl
theorem q585 : (Jvm.Cond.static ({ cls := "GreenwaveLaw", name := "held", desc := "(LGreenwave;I[J)I" } : Jvm.MethodName)) ∈ lw_all := lw_g (lw_at lw_m3 60 rfl) rfl
theorem q586 : (Jvm.Cond.codeWith ({ cls := "GreenwaveLaw", name := "held", desc := "(LGreenwave;I[J)I" } : Jvm.MethodName) method_22_code (4 : Nat) (Option.some Jvm.ClassFile.FieldType.int) [((0 : Nat), (9 : Nat), (12 : Nat), (19 : Nat))]) ∈ lw_all := lw_g (lw_at lw_m3 61 rfl) rfl
theorem q587 : (Jvm.Cond.methodLink "GreenwaveLaw" (83 : Nat) ({ cls := "Greenwave", name := "held", desc := "(I)I" } : Jvm.MethodName)) ∈ lw_all := lw_g (lw_at lw_m3 62 rfl) rfl
theorem q591 : (Jvm.Cond.classLink "GreenwaveLaw" (87 : Nat) "GreenwaveModel") ∈ lw_all := lw_g (lw_at lw_m3 66 rfl) rfl
theorem q593 : (Jvm.Cond.methodLink "GreenwaveLaw" (89 : Nat) ({ cls := "GreenwaveModel", name := "<init>", desc := "()V" } : Jvm.MethodName)) ∈ lw_all := lw_g (lw_at lw_m3 68 rfl) rfl
theorem q683 : (Jvm.Cond.methodLink "GreenwaveLaw" (96 : Nat) ({ cls := "GreenwaveModel", name := "thrown", desc := "()I" } : Jvm.MethodName)) ∈ lw_all := lw_g (lw_at lw_m3 158 rfl) rfl
theorem q687 : (Jvm.Cond.methodLink "GreenwaveLaw" (95 : Nat) ({ cls := "GreenwaveModel", name := "begin", desc := "(II)V" } : Jvm.MethodName)) ∈ lw_all := lw_g (lw_at lw_m3 162 rfl) rfl
theorem q698 : (Jvm.Cond.methodLink "GreenwaveLaw" (102 : Nat) ({ cls := "GreenwaveModel", name := "setConflict", desc := "(IIII)I" } : Jvm.MethodName)) ∈ lw_all := lw_g (lw_at lw_m3 173 rfl) rfl
theorem q719 : (Jvm.Cond.methodLink "GreenwaveLaw" (106 : Nat) ({ cls := "GreenwaveModel", name := "setPhases", desc := "(IIIII)I" } : Jvm.MethodName)) ∈ lw_all := lw_g (lw_at lw_m3 194 rfl) rfl
theorem q731 : (Jvm.Cond.methodLink "GreenwaveLaw" (110 : Nat) ({ cls := "GreenwaveModel", name := "setFlow", desc := "(III)I" } : Jvm.MethodName)) ∈ lw_all := lw_g (lw_at lw_m3 206 rfl) rfl
theorem q735 : (Jvm.Cond.methodLink "GreenwaveLaw" (114 : Nat) ({ cls := "GreenwaveModel", name := "setLink", desc := "(III)V" } : Jvm.MethodName)) ∈ lw_all := lw_g (lw_at lw_m3 210 rfl) rfl
theorem q743 : (Jvm.Cond.methodLink "GreenwaveLaw" (118 : Nat) ({ cls := "GreenwaveModel", name := "setOffset", desc := "(II)I" } : Jvm.MethodName)) ∈ lw_all := lw_g (lw_at lw_m3 218 rfl) rfl
theorem q747 : (Jvm.Cond.methodLink "GreenwaveLaw" (122 : Nat) ({ cls := "GreenwaveModel", name := "improve", desc := "()I" } : Jvm.MethodName)) ∈ lw_all := lw_g (lw_at lw_m3 222 rfl) rfl
theorem q803 : (Jvm.Cond.methodLink "GreenwaveLaw" (126 : Nat) ({ cls := "GreenwaveModel", name := "junctions", desc := "()I" } : Jvm.MethodName)) ∈ lw_all := lw_g (lw_at lw_m4 38 rfl) rfl
theorem q807 : (Jvm.Cond.methodLink "GreenwaveLaw" (130 : Nat) ({ cls := "GreenwaveModel", name := "hasPlan", desc := "(I)Z" } : Jvm.MethodName)) ∈ lw_all := lw_g (lw_at lw_m4 42 rfl) rfl
theorem q815 : (Jvm.Cond.methodLink "GreenwaveLaw" (133 : Nat) ({ cls := "GreenwaveModel", name := "green", desc := "(II)I" } : Jvm.MethodName)) ∈ lw_all := lw_g (lw_at lw_m4 50 rfl) rfl
theorem q823 : (Jvm.Cond.methodLink "GreenwaveLaw" (136 : Nat) ({ cls := "GreenwaveModel", name := "clearing", desc := "(II)I" } : Jvm.MethodName)) ∈ lw_all := lw_g (lw_at lw_m4 58 rfl) rfl
theorem q827 : (Jvm.Cond.methodLink "GreenwaveLaw" (139 : Nat) ({ cls := "GreenwaveModel", name := "offset", desc := "(I)I" } : Jvm.MethodName)) ∈ lw_all := lw_g (lw_at lw_m4 62 rfl) rfl
theorem q831 : (Jvm.Cond.methodLink "GreenwaveLaw" (142 : Nat) ({ cls := "GreenwaveModel", name := "isGreen", desc := "(III)Z" } : Jvm.MethodName)) ∈ lw_all := lw_g (lw_at lw_m4 66 rfl) rfl
theorem q836 : (Jvm.Cond.methodLink "GreenwaveLaw" (145 : Nat) ({ cls := "GreenwaveModel", name := "breaches", desc := "(I)I" } : Jvm.MethodName)) ∈ lw_all := lw_g (lw_at lw_m4 71 rfl) rfl
theorem q844 : (Jvm.Cond.methodLink "GreenwaveLaw" (149 : Nat) ({ cls := "GreenwaveModel", name := "band", desc := "(Z)I" } : Jvm.MethodName)) ∈ lw_all := lw_g (lw_at lw_m4 79 rfl) rfl
theorem q848 : (Jvm.Cond.methodLink "GreenwaveLaw" (152 : Nat) ({ cls := "GreenwaveModel", name := "bestByAll", desc := "()I" } : Jvm.MethodName)) ∈ lw_all := lw_g (lw_at lw_m4 83 rfl) rfl
theorem q852 : (Jvm.Cond.methodLink "GreenwaveLaw" (155 : Nat) ({ cls := "GreenwaveModel", name := "run", desc := "(I)I" } : Jvm.MethodName)) ∈ lw_all := lw_g (lw_at lw_m4 87 rfl) rfl
theorem q872 : (Jvm.Cond.methodLink "GreenwaveLaw" (158 : Nat) ({ cls := "GreenwaveModel", name := "callBus", desc := "(II)I" } : Jvm.MethodName)) ∈ lw_all := lw_g (lw_at lw_m4 107 rfl) rfl
theorem q895 : (Jvm.Cond.methodLink "GreenwaveLaw" (162 : Nat) ({ cls := "GreenwaveModel", name := "clock", desc := "()I" } : Jvm.MethodName)) ∈ lw_all := lw_g (lw_at lw_m4 130 rfl) rfl
theorem q899 : (Jvm.Cond.methodLink "GreenwaveLaw" (165 : Nat) ({ cls := "GreenwaveModel", name := "phaseNow", desc := "(I)I" } : Jvm.MethodName)) ∈ lw_all := lw_g (lw_at lw_m4 134 rfl) rfl
theorem q903 : (Jvm.Cond.methodLink "GreenwaveLaw" (168 : Nat) ({ cls := "GreenwaveModel", name := "queue", desc := "(I)I" } : Jvm.MethodName)) ∈ lw_all := lw_g (lw_at lw_m4 138 rfl) rfl
theorem q907 : (Jvm.Cond.methodLink "GreenwaveLaw" (171 : Nat) ({ cls := "GreenwaveModel", name := "held", desc := "(I)I" } : Jvm.MethodName)) ∈ lw_all := lw_g (lw_at lw_m4 142 rfl) rfl
theorem q911 : (Jvm.Cond.methodLink "GreenwaveLaw" (175 : Nat) ({ cls := "GreenwaveModel", name := "come", desc := "()I" } : Jvm.MethodName)) ∈ lw_all := lw_g (lw_at lw_m4 146 rfl) rfl
theorem q915 : (Jvm.Cond.methodLink "GreenwaveLaw" (179 : Nat) ({ cls := "GreenwaveModel", name := "through", desc := "()I" } : Jvm.MethodName)) ∈ lw_all := lw_g (lw_at lw_m4 150 rfl) rfl
