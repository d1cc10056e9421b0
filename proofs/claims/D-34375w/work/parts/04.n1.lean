/-! Greenwave -/
set_option maxRecDepth 100000
def RX1 : String := "Greenwave"
def TX1 : u_T := fun k => match k with
  | 0 => ("Greenwave", "corridor", "[LGreenwave$Junction;", false)
  | 1 => ("Greenwave", "cycle", "I", false)
  | 2 => ("Greenwave", "now", "I", false)
  | 3 => ("Greenwave", "isRunning", "Z", false)
  | 4 => ("Greenwave", "came", "I", false)
  | _ => ("Greenwave", "left", "I", false)
def tyX1 : Nat → FieldType := fun k => match k with
  | 0 => .array (.object "Greenwave$Junction")
  | 1 => .int
  | 2 => .int
  | 3 => .boolean
  | 4 => .int
  | _ => .int
abbrev wsX10 : List Cond := u_ws RX1 TX1 6
theorem nmX1 : ∀ a, a < 6 → ∀ b, b < 6 → a ≠ b → (TX1 a).2.1 ≠ (TX1 b).2.1 := by decide +kernel
theorem tyX1_ok : ∀ k, k < 6 → parseFieldDescriptor (TX1 k).2.2.1 = some (tyX1 k) := by decide +kernel
abbrev cX1_init : ByteArray := prog_1_method_7_code
def yX1_init : MethodName := ⟨RX1, "<init>", "()V"⟩
def dkwX1_init_0 : List UInt8 := [42, 183, 0, 19, 42, 5, 16, 60, 182, 0, 22, 177]
abbrev dktX1_init_0 : List UInt8 := dkwX1_init_0 ++ []
theorem dksX1_init_0 : cX1_init.data.toList.drop 0 = dktX1_init_0 := by decide +kernel
theorem dX1_init_0 : decode cX1_init 0 = .ok (.aload_n 0, 1) := dk_42 (dk_at dksX1_init_0 0 rfl rfl)
theorem dX1_init_1 : decode cX1_init 1 = .ok (.invokespecial 19, 3) := dk_183 0 19 (dk_at dksX1_init_0 1 rfl rfl)
theorem dX1_init_4 : decode cX1_init 4 = .ok (.aload_n 0, 1) := dk_42 (dk_at dksX1_init_0 4 rfl rfl)
theorem dX1_init_5 : decode cX1_init 5 = .ok (.iconst 2, 1) := dk_5 (dk_at dksX1_init_0 5 rfl rfl)
theorem dX1_init_6 : decode cX1_init 6 = .ok (.bipush 60, 2) := dk_16 60 (dk_at dksX1_init_0 6 rfl rfl)
theorem dX1_init_8 : decode cX1_init 8 = .ok (.invokevirtual 22, 3) := dk_182 0 22 (dk_at dksX1_init_0 8 rfl rfl)
theorem dX1_init_11 : decode cX1_init 11 = .ok (.return_, 1) := dk_177 (dk_at dksX1_init_0 11 rfl rfl)
abbrev cX1_clear : ByteArray := prog_1_method_8_code
def yX1_clear : MethodName := ⟨RX1, "clear", "(II)V"⟩
def dkwX1_clear_2 : List UInt8 := [181, 0, 44, 42, 3, 181, 0, 48, 42, 3, 181, 0, 51, 177]
abbrev dktX1_clear_2 : List UInt8 := dkwX1_clear_2 ++ []
def dkwX1_clear_1 : List UInt8 := [29, 187, 0, 28, 89, 28, 183, 0, 38, 83, 132, 3, 1, 167, 255, 234, 42, 3, 181, 0, 41, 42, 3]
abbrev dktX1_clear_1 : List UInt8 := dkwX1_clear_1 ++ dktX1_clear_2
def dkwX1_clear_0 : List UInt8 := [42, 27, 189, 0, 28, 181, 0, 30, 42, 28, 181, 0, 34, 3, 62, 29, 27, 162, 0, 23, 42, 180, 0, 30]
abbrev dktX1_clear_0 : List UInt8 := dkwX1_clear_0 ++ dktX1_clear_1
theorem dksX1_clear_0 : cX1_clear.data.toList.drop 0 = dktX1_clear_0 := by decide +kernel
theorem dksX1_clear_1 : cX1_clear.data.toList.drop 24 = dktX1_clear_1 := dk_seg dksX1_clear_0 24 rfl rfl
theorem dksX1_clear_2 : cX1_clear.data.toList.drop 47 = dktX1_clear_2 := dk_seg dksX1_clear_1 23 rfl rfl
theorem dX1_clear_0 : decode cX1_clear 0 = .ok (.aload_n 0, 1) := dk_42 (dk_at dksX1_clear_0 0 rfl rfl)
theorem dX1_clear_1 : decode cX1_clear 1 = .ok (.iload_n 1, 1) := dk_27 (dk_at dksX1_clear_0 1 rfl rfl)
theorem dX1_clear_2 : decode cX1_clear 2 = .ok (.anewarray 28, 3) := dk_189 0 28 (dk_at dksX1_clear_0 2 rfl rfl)
theorem dX1_clear_5 : decode cX1_clear 5 = .ok (.putfield 30, 3) := dk_181 0 30 (dk_at dksX1_clear_0 5 rfl rfl)
theorem dX1_clear_8 : decode cX1_clear 8 = .ok (.aload_n 0, 1) := dk_42 (dk_at dksX1_clear_0 8 rfl rfl)
theorem dX1_clear_9 : decode cX1_clear 9 = .ok (.iload_n 2, 1) := dk_28 (dk_at dksX1_clear_0 9 rfl rfl)
theorem dX1_clear_10 : decode cX1_clear 10 = .ok (.putfield 34, 3) := dk_181 0 34 (dk_at dksX1_clear_0 10 rfl rfl)
theorem dX1_clear_13 : decode cX1_clear 13 = .ok (.iconst 0, 1) := dk_3 (dk_at dksX1_clear_0 13 rfl rfl)
theorem dX1_clear_14 : decode cX1_clear 14 = .ok (.istore_n 3, 1) := dk_62 (dk_at dksX1_clear_0 14 rfl rfl)
theorem dX1_clear_15 : decode cX1_clear 15 = .ok (.iload_n 3, 1) := dk_29 (dk_at dksX1_clear_0 15 rfl rfl)
theorem dX1_clear_16 : decode cX1_clear 16 = .ok (.iload_n 1, 1) := dk_27 (dk_at dksX1_clear_0 16 rfl rfl)
theorem dX1_clear_17 : decode cX1_clear 17 = .ok (.if_icmp .ge 23, 3) := dk_162 0 23 (dk_at dksX1_clear_0 17 rfl rfl)
theorem dX1_clear_20 : decode cX1_clear 20 = .ok (.aload_n 0, 1) := dk_42 (dk_at dksX1_clear_0 20 rfl rfl)
theorem dX1_clear_21 : decode cX1_clear 21 = .ok (.getfield 30, 3) := dk_180 0 30 (dk_at dksX1_clear_0 21 rfl rfl)
theorem dX1_clear_24 : decode cX1_clear 24 = .ok (.iload_n 3, 1) := dk_29 (dk_at dksX1_clear_1 0 rfl rfl)
theorem dX1_clear_25 : decode cX1_clear 25 = .ok (.new 28, 3) := dk_187 0 28 (dk_at dksX1_clear_1 1 rfl rfl)
theorem dX1_clear_28 : decode cX1_clear 28 = .ok (.dup, 1) := dk_89 (dk_at dksX1_clear_1 4 rfl rfl)
theorem dX1_clear_29 : decode cX1_clear 29 = .ok (.iload_n 2, 1) := dk_28 (dk_at dksX1_clear_1 5 rfl rfl)
theorem dX1_clear_30 : decode cX1_clear 30 = .ok (.invokespecial 38, 3) := dk_183 0 38 (dk_at dksX1_clear_1 6 rfl rfl)
theorem dX1_clear_33 : decode cX1_clear 33 = .ok (.aastore, 1) := dk_83 (dk_at dksX1_clear_1 9 rfl rfl)
theorem dX1_clear_34 : decode cX1_clear 34 = .ok (.iinc 3 1, 3) := dk_132 3 1 (dk_at dksX1_clear_1 10 rfl rfl)
theorem dX1_clear_37 : decode cX1_clear 37 = .ok (.goto (-22), 3) := dk_167 255 234 (dk_at dksX1_clear_1 13 rfl rfl)
theorem dX1_clear_40 : decode cX1_clear 40 = .ok (.aload_n 0, 1) := dk_42 (dk_at dksX1_clear_1 16 rfl rfl)
theorem dX1_clear_41 : decode cX1_clear 41 = .ok (.iconst 0, 1) := dk_3 (dk_at dksX1_clear_1 17 rfl rfl)
theorem dX1_clear_42 : decode cX1_clear 42 = .ok (.putfield 41, 3) := dk_181 0 41 (dk_at dksX1_clear_1 18 rfl rfl)
theorem dX1_clear_45 : decode cX1_clear 45 = .ok (.aload_n 0, 1) := dk_42 (dk_at dksX1_clear_1 21 rfl rfl)
theorem dX1_clear_46 : decode cX1_clear 46 = .ok (.iconst 0, 1) := dk_3 (dk_at dksX1_clear_1 22 rfl rfl)
theorem dX1_clear_47 : decode cX1_clear 47 = .ok (.putfield 44, 3) := dk_181 0 44 (dk_at dksX1_clear_2 0 rfl rfl)
theorem dX1_clear_50 : decode cX1_clear 50 = .ok (.aload_n 0, 1) := dk_42 (dk_at dksX1_clear_2 3 rfl rfl)
theorem dX1_clear_51 : decode cX1_clear 51 = .ok (.iconst 0, 1) := dk_3 (dk_at dksX1_clear_2 4 rfl rfl)
theorem dX1_clear_52 : decode cX1_clear 52 = .ok (.putfield 48, 3) := dk_181 0 48 (dk_at dksX1_clear_2 5 rfl rfl)
theorem dX1_clear_55 : decode cX1_clear 55 = .ok (.aload_n 0, 1) := dk_42 (dk_at dksX1_clear_2 8 rfl rfl)
theorem dX1_clear_56 : decode cX1_clear 56 = .ok (.iconst 0, 1) := dk_3 (dk_at dksX1_clear_2 9 rfl rfl)
theorem dX1_clear_57 : decode cX1_clear 57 = .ok (.putfield 51, 3) := dk_181 0 51 (dk_at dksX1_clear_2 10 rfl rfl)
theorem dX1_clear_60 : decode cX1_clear 60 = .ok (.return_, 1) := dk_177 (dk_at dksX1_clear_2 13 rfl rfl)
abbrev cX1_junctions : ByteArray := prog_1_method_21_code
def yX1_junctions : MethodName := ⟨RX1, "junctions", "()I"⟩
def dkwX1_junctions_0 : List UInt8 := [42, 180, 0, 30, 190, 172]
abbrev dktX1_junctions_0 : List UInt8 := dkwX1_junctions_0 ++ []
theorem dksX1_junctions_0 : cX1_junctions.data.toList.drop 0 = dktX1_junctions_0 := by decide +kernel
theorem dX1_junctions_0 : decode cX1_junctions 0 = .ok (.aload_n 0, 1) := dk_42 (dk_at dksX1_junctions_0 0 rfl rfl)
theorem dX1_junctions_1 : decode cX1_junctions 1 = .ok (.getfield 30, 3) := dk_180 0 30 (dk_at dksX1_junctions_0 1 rfl rfl)
theorem dX1_junctions_4 : decode cX1_junctions 4 = .ok (.arraylength, 1) := dk_190 (dk_at dksX1_junctions_0 4 rfl rfl)
theorem dX1_junctions_5 : decode cX1_junctions 5 = .ok (.ireturn, 1) := dk_172 (dk_at dksX1_junctions_0 5 rfl rfl)
abbrev cX1_clock : ByteArray := prog_1_method_40_code
def yX1_clock : MethodName := ⟨RX1, "clock", "()I"⟩
theorem dX1_clock_0 : decode cX1_clock 0 = .ok (.aload_n 0, 1) := by decide +kernel
theorem dX1_clock_1 : decode cX1_clock 1 = .ok (.getfield 41, 3) := by decide +kernel
theorem dX1_clock_4 : decode cX1_clock 4 = .ok (.ireturn, 1) := by decide +kernel
abbrev cX1_come : ByteArray := prog_1_method_44_code
def yX1_come : MethodName := ⟨RX1, "come", "()I"⟩
theorem dX1_come_0 : decode cX1_come 0 = .ok (.aload_n 0, 1) := by decide +kernel
theorem dX1_come_1 : decode cX1_come 1 = .ok (.getfield 48, 3) := by decide +kernel
theorem dX1_come_4 : decode cX1_come 4 = .ok (.ireturn, 1) := by decide +kernel
abbrev cX1_through : ByteArray := prog_1_method_45_code
def yX1_through : MethodName := ⟨RX1, "through", "()I"⟩
theorem dX1_through_0 : decode cX1_through 0 = .ok (.aload_n 0, 1) := by decide +kernel
theorem dX1_through_1 : decode cX1_through 1 = .ok (.getfield 51, 3) := by decide +kernel
theorem dX1_through_4 : decode cX1_through 4 = .ok (.ireturn, 1) := by decide +kernel
abbrev cX1_begin : ByteArray := prog_1_method_14_code
def yX1_begin : MethodName := ⟨RX1, "begin", "(II)V"⟩
def dkwX1_begin_1 : List UInt8 := [3, 184, 0, 72, 42, 27, 28, 182, 0, 22, 177]
abbrev dktX1_begin_1 : List UInt8 := dkwX1_begin_1 ++ []
def dkwX1_begin_0 : List UInt8 := [27, 5, 8, 184, 0, 54, 153, 0, 18, 28, 16, 30, 16, 90, 184, 0, 54, 153, 0, 7, 4, 167, 0, 4]
abbrev dktX1_begin_0 : List UInt8 := dkwX1_begin_0 ++ dktX1_begin_1
theorem dksX1_begin_0 : cX1_begin.data.toList.drop 0 = dktX1_begin_0 := by decide +kernel
theorem dksX1_begin_1 : cX1_begin.data.toList.drop 24 = dktX1_begin_1 := dk_seg dksX1_begin_0 24 rfl rfl
theorem dX1_begin_0 : decode cX1_begin 0 = .ok (.iload_n 1, 1) := dk_27 (dk_at dksX1_begin_0 0 rfl rfl)
theorem dX1_begin_1 : decode cX1_begin 1 = .ok (.iconst 2, 1) := dk_5 (dk_at dksX1_begin_0 1 rfl rfl)
theorem dX1_begin_2 : decode cX1_begin 2 = .ok (.iconst 5, 1) := dk_8 (dk_at dksX1_begin_0 2 rfl rfl)
theorem dX1_begin_3 : decode cX1_begin 3 = .ok (.invokestatic 54, 3) := dk_184 0 54 (dk_at dksX1_begin_0 3 rfl rfl)
theorem dX1_begin_6 : decode cX1_begin 6 = .ok (.ifCond .eq 18, 3) := dk_153 0 18 (dk_at dksX1_begin_0 6 rfl rfl)
theorem dX1_begin_9 : decode cX1_begin 9 = .ok (.iload_n 2, 1) := dk_28 (dk_at dksX1_begin_0 9 rfl rfl)
theorem dX1_begin_10 : decode cX1_begin 10 = .ok (.bipush 30, 2) := dk_16 30 (dk_at dksX1_begin_0 10 rfl rfl)
theorem dX1_begin_12 : decode cX1_begin 12 = .ok (.bipush 90, 2) := dk_16 90 (dk_at dksX1_begin_0 12 rfl rfl)
theorem dX1_begin_14 : decode cX1_begin 14 = .ok (.invokestatic 54, 3) := dk_184 0 54 (dk_at dksX1_begin_0 14 rfl rfl)
theorem dX1_begin_17 : decode cX1_begin 17 = .ok (.ifCond .eq 7, 3) := dk_153 0 7 (dk_at dksX1_begin_0 17 rfl rfl)
theorem dX1_begin_20 : decode cX1_begin 20 = .ok (.iconst 1, 1) := dk_4 (dk_at dksX1_begin_0 20 rfl rfl)
theorem dX1_begin_21 : decode cX1_begin 21 = .ok (.goto 4, 3) := dk_167 0 4 (dk_at dksX1_begin_0 21 rfl rfl)
theorem dX1_begin_24 : decode cX1_begin 24 = .ok (.iconst 0, 1) := dk_3 (dk_at dksX1_begin_1 0 rfl rfl)
theorem dX1_begin_25 : decode cX1_begin 25 = .ok (.invokestatic 72, 3) := dk_184 0 72 (dk_at dksX1_begin_1 1 rfl rfl)
theorem dX1_begin_28 : decode cX1_begin 28 = .ok (.aload_n 0, 1) := dk_42 (dk_at dksX1_begin_1 4 rfl rfl)
theorem dX1_begin_29 : decode cX1_begin 29 = .ok (.iload_n 1, 1) := dk_27 (dk_at dksX1_begin_1 5 rfl rfl)
theorem dX1_begin_30 : decode cX1_begin 30 = .ok (.iload_n 2, 1) := dk_28 (dk_at dksX1_begin_1 6 rfl rfl)
theorem dX1_begin_31 : decode cX1_begin 31 = .ok (.invokevirtual 22, 3) := dk_182 0 22 (dk_at dksX1_begin_1 7 rfl rfl)
theorem dX1_begin_34 : decode cX1_begin 34 = .ok (.return_, 1) := dk_177 (dk_at dksX1_begin_1 10 rfl rfl)
abbrev cX1_inRange : ByteArray := prog_1_method_1_code
def yX1_inRange : MethodName := ⟨RX1, "inRange", "(III)Z"⟩
def dkwX1_inRange_0 : List UInt8 := [26, 27, 161, 0, 12, 26, 28, 163, 0, 7, 4, 167, 0, 4, 3, 172]
abbrev dktX1_inRange_0 : List UInt8 := dkwX1_inRange_0 ++ []
theorem dksX1_inRange_0 : cX1_inRange.data.toList.drop 0 = dktX1_inRange_0 := by decide +kernel
theorem dX1_inRange_0 : decode cX1_inRange 0 = .ok (.iload_n 0, 1) := dk_26 (dk_at dksX1_inRange_0 0 rfl rfl)
theorem dX1_inRange_1 : decode cX1_inRange 1 = .ok (.iload_n 1, 1) := dk_27 (dk_at dksX1_inRange_0 1 rfl rfl)
theorem dX1_inRange_2 : decode cX1_inRange 2 = .ok (.if_icmp .lt 12, 3) := dk_161 0 12 (dk_at dksX1_inRange_0 2 rfl rfl)
theorem dX1_inRange_5 : decode cX1_inRange 5 = .ok (.iload_n 0, 1) := dk_26 (dk_at dksX1_inRange_0 5 rfl rfl)
theorem dX1_inRange_6 : decode cX1_inRange 6 = .ok (.iload_n 2, 1) := dk_28 (dk_at dksX1_inRange_0 6 rfl rfl)
theorem dX1_inRange_7 : decode cX1_inRange 7 = .ok (.if_icmp .gt 7, 3) := dk_163 0 7 (dk_at dksX1_inRange_0 7 rfl rfl)
theorem dX1_inRange_10 : decode cX1_inRange 10 = .ok (.iconst 1, 1) := dk_4 (dk_at dksX1_inRange_0 10 rfl rfl)
theorem dX1_inRange_11 : decode cX1_inRange 11 = .ok (.goto 4, 3) := dk_167 0 4 (dk_at dksX1_inRange_0 11 rfl rfl)
theorem dX1_inRange_14 : decode cX1_inRange 14 = .ok (.iconst 0, 1) := dk_3 (dk_at dksX1_inRange_0 14 rfl rfl)
theorem dX1_inRange_15 : decode cX1_inRange 15 = .ok (.ireturn, 1) := dk_172 (dk_at dksX1_inRange_0 15 rfl rfl)
abbrev cX1_requireArgument : ByteArray := prog_1_method_3_code
def yX1_requireArgument : MethodName := ⟨RX1, "requireArgument", "(Z)V"⟩
def dkwX1_requireArgument_0 : List UInt8 := [26, 154, 0, 11, 187, 0, 7, 89, 183, 0, 9, 191, 177]
abbrev dktX1_requireArgument_0 : List UInt8 := dkwX1_requireArgument_0 ++ []
theorem dksX1_requireArgument_0 : cX1_requireArgument.data.toList.drop 0 = dktX1_requireArgument_0 := by decide +kernel
theorem dX1_requireArgument_0 : decode cX1_requireArgument 0 = .ok (.iload_n 0, 1) := dk_26 (dk_at dksX1_requireArgument_0 0 rfl rfl)
theorem dX1_requireArgument_1 : decode cX1_requireArgument 1 = .ok (.ifCond .ne 11, 3) := dk_154 0 11 (dk_at dksX1_requireArgument_0 1 rfl rfl)
theorem dX1_requireArgument_4 : decode cX1_requireArgument 4 = .ok (.new 7, 3) := dk_187 0 7 (dk_at dksX1_requireArgument_0 4 rfl rfl)
theorem dX1_requireArgument_7 : decode cX1_requireArgument 7 = .ok (.dup, 1) := dk_89 (dk_at dksX1_requireArgument_0 7 rfl rfl)
theorem dX1_requireArgument_8 : decode cX1_requireArgument 8 = .ok (.invokespecial 9, 3) := dk_183 0 9 (dk_at dksX1_requireArgument_0 8 rfl rfl)
theorem dX1_requireArgument_11 : decode cX1_requireArgument 11 = .ok (.athrow, 1) := dk_191 (dk_at dksX1_requireArgument_0 11 rfl rfl)
theorem dX1_requireArgument_12 : decode cX1_requireArgument 12 = .ok (.return_, 1) := dk_177 (dk_at dksX1_requireArgument_0 12 rfl rfl)
abbrev cX1_setConflict : ByteArray := prog_1_method_15_code
def yX1_setConflict : MethodName := ⟨RX1, "setConflict", "(IIII)I"⟩
def dkwX1_setConflict_7 : List UInt8 := [29, 104, 28, 96, 21, 4, 79, 21, 7, 172]
abbrev dktX1_setConflict_7 : List UInt8 := dkwX1_setConflict_7 ++ []
def dkwX1_setConflict_6 : List UInt8 := [182, 0, 87, 54, 7, 25, 5, 180, 0, 90, 7, 28, 104, 29, 96, 21, 4, 79, 25, 5, 180, 0, 90, 7]
abbrev dktX1_setConflict_6 : List UInt8 := dkwX1_setConflict_6 ++ dktX1_setConflict_7
def dkwX1_setConflict_5 : List UInt8 := [21, 4, 2, 159, 0, 8, 21, 6, 154, 0, 7, 4, 167, 0, 4, 3, 184, 0, 69, 25, 5, 28, 29]
abbrev dktX1_setConflict_5 : List UInt8 := dkwX1_setConflict_5 ++ dktX1_setConflict_6
def dkwX1_setConflict_4 : List UInt8 := [153, 0, 7, 4, 167, 0, 4, 3, 54, 6, 132, 9, 1, 167, 255, 209, 42, 180, 0, 44, 154, 0, 18]
abbrev dktX1_setConflict_4 : List UInt8 := dkwX1_setConflict_4 ++ dktX1_setConflict_5
def dkwX1_setConflict_3 : List UInt8 := [46, 54, 10, 21, 6, 154, 0, 21, 21, 10, 28, 184, 0, 83, 153, 0, 16, 21, 10, 29, 184, 0, 83]
abbrev dktX1_setConflict_3 : List UInt8 := dkwX1_setConflict_3 ++ dktX1_setConflict_4
def dkwX1_setConflict_2 : List UInt8 := [180, 0, 79, 58, 7, 25, 7, 190, 54, 8, 3, 54, 9, 21, 9, 21, 8, 162, 0, 46, 25, 7, 21, 9]
abbrev dktX1_setConflict_2 : List UInt8 := dkwX1_setConflict_2 ++ dktX1_setConflict_3
def dkwX1_setConflict_1 : List UInt8 := [21, 4, 2, 16, 9, 184, 0, 54, 153, 0, 7, 4, 167, 0, 4, 3, 184, 0, 72, 3, 54, 6, 25, 5]
abbrev dktX1_setConflict_1 : List UInt8 := dkwX1_setConflict_1 ++ dktX1_setConflict_2
def dkwX1_setConflict_0 : List UInt8 := [42, 27, 5, 188, 10, 89, 3, 28, 79, 89, 4, 29, 79, 182, 0, 75, 58, 5, 28, 29, 159, 0, 18]
abbrev dktX1_setConflict_0 : List UInt8 := dkwX1_setConflict_0 ++ dktX1_setConflict_1
theorem dksX1_setConflict_0 : cX1_setConflict.data.toList.drop 0 = dktX1_setConflict_0 := by decide +kernel
theorem dksX1_setConflict_1 : cX1_setConflict.data.toList.drop 23 = dktX1_setConflict_1 := dk_seg dksX1_setConflict_0 23 rfl rfl
theorem dksX1_setConflict_2 : cX1_setConflict.data.toList.drop 47 = dktX1_setConflict_2 := dk_seg dksX1_setConflict_1 24 rfl rfl
theorem dksX1_setConflict_3 : cX1_setConflict.data.toList.drop 71 = dktX1_setConflict_3 := dk_seg dksX1_setConflict_2 24 rfl rfl
theorem dksX1_setConflict_4 : cX1_setConflict.data.toList.drop 94 = dktX1_setConflict_4 := dk_seg dksX1_setConflict_3 23 rfl rfl
theorem dksX1_setConflict_5 : cX1_setConflict.data.toList.drop 117 = dktX1_setConflict_5 := dk_seg dksX1_setConflict_4 23 rfl rfl
theorem dksX1_setConflict_6 : cX1_setConflict.data.toList.drop 140 = dktX1_setConflict_6 := dk_seg dksX1_setConflict_5 23 rfl rfl
theorem dksX1_setConflict_7 : cX1_setConflict.data.toList.drop 164 = dktX1_setConflict_7 := dk_seg dksX1_setConflict_6 24 rfl rfl
theorem dX1_setConflict_0 : decode cX1_setConflict 0 = .ok (.aload_n 0, 1) := dk_42 (dk_at dksX1_setConflict_0 0 rfl rfl)
theorem dX1_setConflict_1 : decode cX1_setConflict 1 = .ok (.iload_n 1, 1) := dk_27 (dk_at dksX1_setConflict_0 1 rfl rfl)
theorem dX1_setConflict_2 : decode cX1_setConflict 2 = .ok (.iconst 2, 1) := dk_5 (dk_at dksX1_setConflict_0 2 rfl rfl)
theorem dX1_setConflict_3 : decode cX1_setConflict 3 = .ok (.newarray .int, 2) := dk_188_10 (dk_at dksX1_setConflict_0 3 rfl rfl)
theorem dX1_setConflict_5 : decode cX1_setConflict 5 = .ok (.dup, 1) := dk_89 (dk_at dksX1_setConflict_0 5 rfl rfl)
theorem dX1_setConflict_6 : decode cX1_setConflict 6 = .ok (.iconst 0, 1) := dk_3 (dk_at dksX1_setConflict_0 6 rfl rfl)
theorem dX1_setConflict_7 : decode cX1_setConflict 7 = .ok (.iload_n 2, 1) := dk_28 (dk_at dksX1_setConflict_0 7 rfl rfl)
theorem dX1_setConflict_8 : decode cX1_setConflict 8 = .ok (.iastore, 1) := dk_79 (dk_at dksX1_setConflict_0 8 rfl rfl)
theorem dX1_setConflict_9 : decode cX1_setConflict 9 = .ok (.dup, 1) := dk_89 (dk_at dksX1_setConflict_0 9 rfl rfl)
theorem dX1_setConflict_10 : decode cX1_setConflict 10 = .ok (.iconst 1, 1) := dk_4 (dk_at dksX1_setConflict_0 10 rfl rfl)
theorem dX1_setConflict_11 : decode cX1_setConflict 11 = .ok (.iload_n 3, 1) := dk_29 (dk_at dksX1_setConflict_0 11 rfl rfl)
theorem dX1_setConflict_12 : decode cX1_setConflict 12 = .ok (.iastore, 1) := dk_79 (dk_at dksX1_setConflict_0 12 rfl rfl)
theorem dX1_setConflict_13 : decode cX1_setConflict 13 = .ok (.invokevirtual 75, 3) := dk_182 0 75 (dk_at dksX1_setConflict_0 13 rfl rfl)
theorem dX1_setConflict_16 : decode cX1_setConflict 16 = .ok (.astore 5, 2) := dk_58 5 (dk_at dksX1_setConflict_0 16 rfl rfl)
theorem dX1_setConflict_18 : decode cX1_setConflict 18 = .ok (.iload_n 2, 1) := dk_28 (dk_at dksX1_setConflict_0 18 rfl rfl)
theorem dX1_setConflict_19 : decode cX1_setConflict 19 = .ok (.iload_n 3, 1) := dk_29 (dk_at dksX1_setConflict_0 19 rfl rfl)
theorem dX1_setConflict_20 : decode cX1_setConflict 20 = .ok (.if_icmp .eq 18, 3) := dk_159 0 18 (dk_at dksX1_setConflict_0 20 rfl rfl)
theorem dX1_setConflict_23 : decode cX1_setConflict 23 = .ok (.iload 4, 2) := dk_21 4 (dk_at dksX1_setConflict_1 0 rfl rfl)
theorem dX1_setConflict_25 : decode cX1_setConflict 25 = .ok (.iconst (-1), 1) := dk_2 (dk_at dksX1_setConflict_1 2 rfl rfl)
theorem dX1_setConflict_26 : decode cX1_setConflict 26 = .ok (.bipush 9, 2) := dk_16 9 (dk_at dksX1_setConflict_1 3 rfl rfl)
theorem dX1_setConflict_28 : decode cX1_setConflict 28 = .ok (.invokestatic 54, 3) := dk_184 0 54 (dk_at dksX1_setConflict_1 5 rfl rfl)
theorem dX1_setConflict_31 : decode cX1_setConflict 31 = .ok (.ifCond .eq 7, 3) := dk_153 0 7 (dk_at dksX1_setConflict_1 8 rfl rfl)
theorem dX1_setConflict_34 : decode cX1_setConflict 34 = .ok (.iconst 1, 1) := dk_4 (dk_at dksX1_setConflict_1 11 rfl rfl)
theorem dX1_setConflict_35 : decode cX1_setConflict 35 = .ok (.goto 4, 3) := dk_167 0 4 (dk_at dksX1_setConflict_1 12 rfl rfl)
theorem dX1_setConflict_38 : decode cX1_setConflict 38 = .ok (.iconst 0, 1) := dk_3 (dk_at dksX1_setConflict_1 15 rfl rfl)
theorem dX1_setConflict_39 : decode cX1_setConflict 39 = .ok (.invokestatic 72, 3) := dk_184 0 72 (dk_at dksX1_setConflict_1 16 rfl rfl)
theorem dX1_setConflict_42 : decode cX1_setConflict 42 = .ok (.iconst 0, 1) := dk_3 (dk_at dksX1_setConflict_1 19 rfl rfl)
theorem dX1_setConflict_43 : decode cX1_setConflict 43 = .ok (.istore 6, 2) := dk_54 6 (dk_at dksX1_setConflict_1 20 rfl rfl)
theorem dX1_setConflict_45 : decode cX1_setConflict 45 = .ok (.aload 5, 2) := dk_25 5 (dk_at dksX1_setConflict_1 22 rfl rfl)
theorem dX1_setConflict_47 : decode cX1_setConflict 47 = .ok (.getfield 79, 3) := dk_180 0 79 (dk_at dksX1_setConflict_2 0 rfl rfl)
theorem dX1_setConflict_50 : decode cX1_setConflict 50 = .ok (.astore 7, 2) := dk_58 7 (dk_at dksX1_setConflict_2 3 rfl rfl)
theorem dX1_setConflict_52 : decode cX1_setConflict 52 = .ok (.aload 7, 2) := dk_25 7 (dk_at dksX1_setConflict_2 5 rfl rfl)
theorem dX1_setConflict_54 : decode cX1_setConflict 54 = .ok (.arraylength, 1) := dk_190 (dk_at dksX1_setConflict_2 7 rfl rfl)
theorem dX1_setConflict_55 : decode cX1_setConflict 55 = .ok (.istore 8, 2) := dk_54 8 (dk_at dksX1_setConflict_2 8 rfl rfl)
theorem dX1_setConflict_57 : decode cX1_setConflict 57 = .ok (.iconst 0, 1) := dk_3 (dk_at dksX1_setConflict_2 10 rfl rfl)
theorem dX1_setConflict_58 : decode cX1_setConflict 58 = .ok (.istore 9, 2) := dk_54 9 (dk_at dksX1_setConflict_2 11 rfl rfl)
theorem dX1_setConflict_60 : decode cX1_setConflict 60 = .ok (.iload 9, 2) := dk_21 9 (dk_at dksX1_setConflict_2 13 rfl rfl)
theorem dX1_setConflict_62 : decode cX1_setConflict 62 = .ok (.iload 8, 2) := dk_21 8 (dk_at dksX1_setConflict_2 15 rfl rfl)
theorem dX1_setConflict_64 : decode cX1_setConflict 64 = .ok (.if_icmp .ge 46, 3) := dk_162 0 46 (dk_at dksX1_setConflict_2 17 rfl rfl)
theorem dX1_setConflict_67 : decode cX1_setConflict 67 = .ok (.aload 7, 2) := dk_25 7 (dk_at dksX1_setConflict_2 20 rfl rfl)
theorem dX1_setConflict_69 : decode cX1_setConflict 69 = .ok (.iload 9, 2) := dk_21 9 (dk_at dksX1_setConflict_2 22 rfl rfl)
theorem dX1_setConflict_71 : decode cX1_setConflict 71 = .ok (.iaload, 1) := dk_46 (dk_at dksX1_setConflict_3 0 rfl rfl)
theorem dX1_setConflict_72 : decode cX1_setConflict 72 = .ok (.istore 10, 2) := dk_54 10 (dk_at dksX1_setConflict_3 1 rfl rfl)
theorem dX1_setConflict_74 : decode cX1_setConflict 74 = .ok (.iload 6, 2) := dk_21 6 (dk_at dksX1_setConflict_3 3 rfl rfl)
theorem dX1_setConflict_76 : decode cX1_setConflict 76 = .ok (.ifCond .ne 21, 3) := dk_154 0 21 (dk_at dksX1_setConflict_3 5 rfl rfl)
theorem dX1_setConflict_79 : decode cX1_setConflict 79 = .ok (.iload 10, 2) := dk_21 10 (dk_at dksX1_setConflict_3 8 rfl rfl)
theorem dX1_setConflict_81 : decode cX1_setConflict 81 = .ok (.iload_n 2, 1) := dk_28 (dk_at dksX1_setConflict_3 10 rfl rfl)
theorem dX1_setConflict_82 : decode cX1_setConflict 82 = .ok (.invokestatic 83, 3) := dk_184 0 83 (dk_at dksX1_setConflict_3 11 rfl rfl)
theorem dX1_setConflict_85 : decode cX1_setConflict 85 = .ok (.ifCond .eq 16, 3) := dk_153 0 16 (dk_at dksX1_setConflict_3 14 rfl rfl)
theorem dX1_setConflict_88 : decode cX1_setConflict 88 = .ok (.iload 10, 2) := dk_21 10 (dk_at dksX1_setConflict_3 17 rfl rfl)
theorem dX1_setConflict_90 : decode cX1_setConflict 90 = .ok (.iload_n 3, 1) := dk_29 (dk_at dksX1_setConflict_3 19 rfl rfl)
theorem dX1_setConflict_91 : decode cX1_setConflict 91 = .ok (.invokestatic 83, 3) := dk_184 0 83 (dk_at dksX1_setConflict_3 20 rfl rfl)
theorem dX1_setConflict_94 : decode cX1_setConflict 94 = .ok (.ifCond .eq 7, 3) := dk_153 0 7 (dk_at dksX1_setConflict_4 0 rfl rfl)
theorem dX1_setConflict_97 : decode cX1_setConflict 97 = .ok (.iconst 1, 1) := dk_4 (dk_at dksX1_setConflict_4 3 rfl rfl)
theorem dX1_setConflict_98 : decode cX1_setConflict 98 = .ok (.goto 4, 3) := dk_167 0 4 (dk_at dksX1_setConflict_4 4 rfl rfl)
theorem dX1_setConflict_101 : decode cX1_setConflict 101 = .ok (.iconst 0, 1) := dk_3 (dk_at dksX1_setConflict_4 7 rfl rfl)
theorem dX1_setConflict_102 : decode cX1_setConflict 102 = .ok (.istore 6, 2) := dk_54 6 (dk_at dksX1_setConflict_4 8 rfl rfl)
theorem dX1_setConflict_104 : decode cX1_setConflict 104 = .ok (.iinc 9 1, 3) := dk_132 9 1 (dk_at dksX1_setConflict_4 10 rfl rfl)
theorem dX1_setConflict_107 : decode cX1_setConflict 107 = .ok (.goto (-47), 3) := dk_167 255 209 (dk_at dksX1_setConflict_4 13 rfl rfl)
theorem dX1_setConflict_110 : decode cX1_setConflict 110 = .ok (.aload_n 0, 1) := dk_42 (dk_at dksX1_setConflict_4 16 rfl rfl)
theorem dX1_setConflict_111 : decode cX1_setConflict 111 = .ok (.getfield 44, 3) := dk_180 0 44 (dk_at dksX1_setConflict_4 17 rfl rfl)
theorem dX1_setConflict_114 : decode cX1_setConflict 114 = .ok (.ifCond .ne 18, 3) := dk_154 0 18 (dk_at dksX1_setConflict_4 20 rfl rfl)
theorem dX1_setConflict_117 : decode cX1_setConflict 117 = .ok (.iload 4, 2) := dk_21 4 (dk_at dksX1_setConflict_5 0 rfl rfl)
theorem dX1_setConflict_119 : decode cX1_setConflict 119 = .ok (.iconst (-1), 1) := dk_2 (dk_at dksX1_setConflict_5 2 rfl rfl)
theorem dX1_setConflict_120 : decode cX1_setConflict 120 = .ok (.if_icmp .eq 8, 3) := dk_159 0 8 (dk_at dksX1_setConflict_5 3 rfl rfl)
theorem dX1_setConflict_123 : decode cX1_setConflict 123 = .ok (.iload 6, 2) := dk_21 6 (dk_at dksX1_setConflict_5 6 rfl rfl)
theorem dX1_setConflict_125 : decode cX1_setConflict 125 = .ok (.ifCond .ne 7, 3) := dk_154 0 7 (dk_at dksX1_setConflict_5 8 rfl rfl)
theorem dX1_setConflict_128 : decode cX1_setConflict 128 = .ok (.iconst 1, 1) := dk_4 (dk_at dksX1_setConflict_5 11 rfl rfl)
theorem dX1_setConflict_129 : decode cX1_setConflict 129 = .ok (.goto 4, 3) := dk_167 0 4 (dk_at dksX1_setConflict_5 12 rfl rfl)
theorem dX1_setConflict_132 : decode cX1_setConflict 132 = .ok (.iconst 0, 1) := dk_3 (dk_at dksX1_setConflict_5 15 rfl rfl)
theorem dX1_setConflict_133 : decode cX1_setConflict 133 = .ok (.invokestatic 69, 3) := dk_184 0 69 (dk_at dksX1_setConflict_5 16 rfl rfl)
theorem dX1_setConflict_136 : decode cX1_setConflict 136 = .ok (.aload 5, 2) := dk_25 5 (dk_at dksX1_setConflict_5 19 rfl rfl)
theorem dX1_setConflict_138 : decode cX1_setConflict 138 = .ok (.iload_n 2, 1) := dk_28 (dk_at dksX1_setConflict_5 21 rfl rfl)
theorem dX1_setConflict_139 : decode cX1_setConflict 139 = .ok (.iload_n 3, 1) := dk_29 (dk_at dksX1_setConflict_5 22 rfl rfl)
theorem dX1_setConflict_140 : decode cX1_setConflict 140 = .ok (.invokevirtual 87, 3) := dk_182 0 87 (dk_at dksX1_setConflict_6 0 rfl rfl)
theorem dX1_setConflict_143 : decode cX1_setConflict 143 = .ok (.istore 7, 2) := dk_54 7 (dk_at dksX1_setConflict_6 3 rfl rfl)
theorem dX1_setConflict_145 : decode cX1_setConflict 145 = .ok (.aload 5, 2) := dk_25 5 (dk_at dksX1_setConflict_6 5 rfl rfl)
theorem dX1_setConflict_147 : decode cX1_setConflict 147 = .ok (.getfield 90, 3) := dk_180 0 90 (dk_at dksX1_setConflict_6 7 rfl rfl)
theorem dX1_setConflict_150 : decode cX1_setConflict 150 = .ok (.iconst 4, 1) := dk_7 (dk_at dksX1_setConflict_6 10 rfl rfl)
theorem dX1_setConflict_151 : decode cX1_setConflict 151 = .ok (.iload_n 2, 1) := dk_28 (dk_at dksX1_setConflict_6 11 rfl rfl)
theorem dX1_setConflict_152 : decode cX1_setConflict 152 = .ok (.imul, 1) := dk_104 (dk_at dksX1_setConflict_6 12 rfl rfl)
theorem dX1_setConflict_153 : decode cX1_setConflict 153 = .ok (.iload_n 3, 1) := dk_29 (dk_at dksX1_setConflict_6 13 rfl rfl)
theorem dX1_setConflict_154 : decode cX1_setConflict 154 = .ok (.iadd, 1) := dk_96 (dk_at dksX1_setConflict_6 14 rfl rfl)
theorem dX1_setConflict_155 : decode cX1_setConflict 155 = .ok (.iload 4, 2) := dk_21 4 (dk_at dksX1_setConflict_6 15 rfl rfl)
theorem dX1_setConflict_157 : decode cX1_setConflict 157 = .ok (.iastore, 1) := dk_79 (dk_at dksX1_setConflict_6 17 rfl rfl)
theorem dX1_setConflict_158 : decode cX1_setConflict 158 = .ok (.aload 5, 2) := dk_25 5 (dk_at dksX1_setConflict_6 18 rfl rfl)
theorem dX1_setConflict_160 : decode cX1_setConflict 160 = .ok (.getfield 90, 3) := dk_180 0 90 (dk_at dksX1_setConflict_6 20 rfl rfl)
theorem dX1_setConflict_163 : decode cX1_setConflict 163 = .ok (.iconst 4, 1) := dk_7 (dk_at dksX1_setConflict_6 23 rfl rfl)
theorem dX1_setConflict_164 : decode cX1_setConflict 164 = .ok (.iload_n 3, 1) := dk_29 (dk_at dksX1_setConflict_7 0 rfl rfl)
theorem dX1_setConflict_165 : decode cX1_setConflict 165 = .ok (.imul, 1) := dk_104 (dk_at dksX1_setConflict_7 1 rfl rfl)
theorem dX1_setConflict_166 : decode cX1_setConflict 166 = .ok (.iload_n 2, 1) := dk_28 (dk_at dksX1_setConflict_7 2 rfl rfl)
theorem dX1_setConflict_167 : decode cX1_setConflict 167 = .ok (.iadd, 1) := dk_96 (dk_at dksX1_setConflict_7 3 rfl rfl)
theorem dX1_setConflict_168 : decode cX1_setConflict 168 = .ok (.iload 4, 2) := dk_21 4 (dk_at dksX1_setConflict_7 4 rfl rfl)
theorem dX1_setConflict_170 : decode cX1_setConflict 170 = .ok (.iastore, 1) := dk_79 (dk_at dksX1_setConflict_7 6 rfl rfl)
theorem dX1_setConflict_171 : decode cX1_setConflict 171 = .ok (.iload 7, 2) := dk_21 7 (dk_at dksX1_setConflict_7 7 rfl rfl)
theorem dX1_setConflict_173 : decode cX1_setConflict 173 = .ok (.ireturn, 1) := dk_172 (dk_at dksX1_setConflict_7 9 rfl rfl)
abbrev cX1_junctionWith : ByteArray := prog_1_method_10_code
def yX1_junctionWith : MethodName := ⟨RX1, "junctionWith", "(I[I)LGreenwave$Junction;"⟩
def dkwX1_junctionWith_2 : List UInt8 := [176]
abbrev dktX1_junctionWith_2 : List UInt8 := dkwX1_junctionWith_2 ++ []
def dkwX1_junctionWith_1 : List UInt8 := [25, 4, 21, 6, 46, 54, 7, 21, 7, 3, 6, 184, 0, 54, 184, 0, 58, 132, 6, 1, 167, 255, 229, 45]
abbrev dktX1_junctionWith_1 : List UInt8 := dkwX1_junctionWith_1 ++ dktX1_junctionWith_2
def dkwX1_junctionWith_0 : List UInt8 := [42, 27, 182, 0, 62, 78, 44, 58, 4, 25, 4, 190, 54, 5, 3, 54, 6, 21, 6, 21, 5, 162, 0, 26]
abbrev dktX1_junctionWith_0 : List UInt8 := dkwX1_junctionWith_0 ++ dktX1_junctionWith_1
theorem dksX1_junctionWith_0 : cX1_junctionWith.data.toList.drop 0 = dktX1_junctionWith_0 := by decide +kernel
theorem dksX1_junctionWith_1 : cX1_junctionWith.data.toList.drop 24 = dktX1_junctionWith_1 := dk_seg dksX1_junctionWith_0 24 rfl rfl
theorem dksX1_junctionWith_2 : cX1_junctionWith.data.toList.drop 48 = dktX1_junctionWith_2 := dk_seg dksX1_junctionWith_1 24 rfl rfl
theorem dX1_junctionWith_0 : decode cX1_junctionWith 0 = .ok (.aload_n 0, 1) := dk_42 (dk_at dksX1_junctionWith_0 0 rfl rfl)
theorem dX1_junctionWith_1 : decode cX1_junctionWith 1 = .ok (.iload_n 1, 1) := dk_27 (dk_at dksX1_junctionWith_0 1 rfl rfl)
theorem dX1_junctionWith_2 : decode cX1_junctionWith 2 = .ok (.invokevirtual 62, 3) := dk_182 0 62 (dk_at dksX1_junctionWith_0 2 rfl rfl)
theorem dX1_junctionWith_5 : decode cX1_junctionWith 5 = .ok (.astore_n 3, 1) := dk_78 (dk_at dksX1_junctionWith_0 5 rfl rfl)
theorem dX1_junctionWith_6 : decode cX1_junctionWith 6 = .ok (.aload_n 2, 1) := dk_44 (dk_at dksX1_junctionWith_0 6 rfl rfl)
theorem dX1_junctionWith_7 : decode cX1_junctionWith 7 = .ok (.astore 4, 2) := dk_58 4 (dk_at dksX1_junctionWith_0 7 rfl rfl)
theorem dX1_junctionWith_9 : decode cX1_junctionWith 9 = .ok (.aload 4, 2) := dk_25 4 (dk_at dksX1_junctionWith_0 9 rfl rfl)
theorem dX1_junctionWith_11 : decode cX1_junctionWith 11 = .ok (.arraylength, 1) := dk_190 (dk_at dksX1_junctionWith_0 11 rfl rfl)
theorem dX1_junctionWith_12 : decode cX1_junctionWith 12 = .ok (.istore 5, 2) := dk_54 5 (dk_at dksX1_junctionWith_0 12 rfl rfl)
theorem dX1_junctionWith_14 : decode cX1_junctionWith 14 = .ok (.iconst 0, 1) := dk_3 (dk_at dksX1_junctionWith_0 14 rfl rfl)
theorem dX1_junctionWith_15 : decode cX1_junctionWith 15 = .ok (.istore 6, 2) := dk_54 6 (dk_at dksX1_junctionWith_0 15 rfl rfl)
theorem dX1_junctionWith_17 : decode cX1_junctionWith 17 = .ok (.iload 6, 2) := dk_21 6 (dk_at dksX1_junctionWith_0 17 rfl rfl)
theorem dX1_junctionWith_19 : decode cX1_junctionWith 19 = .ok (.iload 5, 2) := dk_21 5 (dk_at dksX1_junctionWith_0 19 rfl rfl)
theorem dX1_junctionWith_21 : decode cX1_junctionWith 21 = .ok (.if_icmp .ge 26, 3) := dk_162 0 26 (dk_at dksX1_junctionWith_0 21 rfl rfl)
theorem dX1_junctionWith_24 : decode cX1_junctionWith 24 = .ok (.aload 4, 2) := dk_25 4 (dk_at dksX1_junctionWith_1 0 rfl rfl)
theorem dX1_junctionWith_26 : decode cX1_junctionWith 26 = .ok (.iload 6, 2) := dk_21 6 (dk_at dksX1_junctionWith_1 2 rfl rfl)
theorem dX1_junctionWith_28 : decode cX1_junctionWith 28 = .ok (.iaload, 1) := dk_46 (dk_at dksX1_junctionWith_1 4 rfl rfl)
theorem dX1_junctionWith_29 : decode cX1_junctionWith 29 = .ok (.istore 7, 2) := dk_54 7 (dk_at dksX1_junctionWith_1 5 rfl rfl)
theorem dX1_junctionWith_31 : decode cX1_junctionWith 31 = .ok (.iload 7, 2) := dk_21 7 (dk_at dksX1_junctionWith_1 7 rfl rfl)
theorem dX1_junctionWith_33 : decode cX1_junctionWith 33 = .ok (.iconst 0, 1) := dk_3 (dk_at dksX1_junctionWith_1 9 rfl rfl)
theorem dX1_junctionWith_34 : decode cX1_junctionWith 34 = .ok (.iconst 3, 1) := dk_6 (dk_at dksX1_junctionWith_1 10 rfl rfl)
theorem dX1_junctionWith_35 : decode cX1_junctionWith 35 = .ok (.invokestatic 54, 3) := dk_184 0 54 (dk_at dksX1_junctionWith_1 11 rfl rfl)
theorem dX1_junctionWith_38 : decode cX1_junctionWith 38 = .ok (.invokestatic 58, 3) := dk_184 0 58 (dk_at dksX1_junctionWith_1 14 rfl rfl)
theorem dX1_junctionWith_41 : decode cX1_junctionWith 41 = .ok (.iinc 6 1, 3) := dk_132 6 1 (dk_at dksX1_junctionWith_1 17 rfl rfl)
theorem dX1_junctionWith_44 : decode cX1_junctionWith 44 = .ok (.goto (-27), 3) := dk_167 255 229 (dk_at dksX1_junctionWith_1 20 rfl rfl)
theorem dX1_junctionWith_47 : decode cX1_junctionWith 47 = .ok (.aload_n 3, 1) := dk_45 (dk_at dksX1_junctionWith_1 23 rfl rfl)
theorem dX1_junctionWith_48 : decode cX1_junctionWith 48 = .ok (.areturn, 1) := dk_176 (dk_at dksX1_junctionWith_2 0 rfl rfl)
abbrev cX1_junctionAt : ByteArray := prog_1_method_9_code
def yX1_junctionAt : MethodName := ⟨RX1, "junctionAt", "(I)LGreenwave$Junction;"⟩
def dkwX1_junctionAt_0 : List UInt8 := [27, 3, 42, 180, 0, 30, 190, 4, 100, 184, 0, 54, 184, 0, 58, 42, 180, 0, 30, 27, 50, 176]
abbrev dktX1_junctionAt_0 : List UInt8 := dkwX1_junctionAt_0 ++ []
theorem dksX1_junctionAt_0 : cX1_junctionAt.data.toList.drop 0 = dktX1_junctionAt_0 := by decide +kernel
theorem dX1_junctionAt_0 : decode cX1_junctionAt 0 = .ok (.iload_n 1, 1) := dk_27 (dk_at dksX1_junctionAt_0 0 rfl rfl)
theorem dX1_junctionAt_1 : decode cX1_junctionAt 1 = .ok (.iconst 0, 1) := dk_3 (dk_at dksX1_junctionAt_0 1 rfl rfl)
theorem dX1_junctionAt_2 : decode cX1_junctionAt 2 = .ok (.aload_n 0, 1) := dk_42 (dk_at dksX1_junctionAt_0 2 rfl rfl)
theorem dX1_junctionAt_3 : decode cX1_junctionAt 3 = .ok (.getfield 30, 3) := dk_180 0 30 (dk_at dksX1_junctionAt_0 3 rfl rfl)
theorem dX1_junctionAt_6 : decode cX1_junctionAt 6 = .ok (.arraylength, 1) := dk_190 (dk_at dksX1_junctionAt_0 6 rfl rfl)
theorem dX1_junctionAt_7 : decode cX1_junctionAt 7 = .ok (.iconst 1, 1) := dk_4 (dk_at dksX1_junctionAt_0 7 rfl rfl)
theorem dX1_junctionAt_8 : decode cX1_junctionAt 8 = .ok (.isub, 1) := dk_100 (dk_at dksX1_junctionAt_0 8 rfl rfl)
theorem dX1_junctionAt_9 : decode cX1_junctionAt 9 = .ok (.invokestatic 54, 3) := dk_184 0 54 (dk_at dksX1_junctionAt_0 9 rfl rfl)
theorem dX1_junctionAt_12 : decode cX1_junctionAt 12 = .ok (.invokestatic 58, 3) := dk_184 0 58 (dk_at dksX1_junctionAt_0 12 rfl rfl)
theorem dX1_junctionAt_15 : decode cX1_junctionAt 15 = .ok (.aload_n 0, 1) := dk_42 (dk_at dksX1_junctionAt_0 15 rfl rfl)
theorem dX1_junctionAt_16 : decode cX1_junctionAt 16 = .ok (.getfield 30, 3) := dk_180 0 30 (dk_at dksX1_junctionAt_0 16 rfl rfl)
theorem dX1_junctionAt_19 : decode cX1_junctionAt 19 = .ok (.iload_n 1, 1) := dk_27 (dk_at dksX1_junctionAt_0 19 rfl rfl)
theorem dX1_junctionAt_20 : decode cX1_junctionAt 20 = .ok (.aaload, 1) := dk_50 (dk_at dksX1_junctionAt_0 20 rfl rfl)
theorem dX1_junctionAt_21 : decode cX1_junctionAt 21 = .ok (.areturn, 1) := dk_176 (dk_at dksX1_junctionAt_0 21 rfl rfl)
abbrev cX1_requireIndex : ByteArray := prog_1_method_2_code
def yX1_requireIndex : MethodName := ⟨RX1, "requireIndex", "(Z)V"⟩
def dkwX1_requireIndex_0 : List UInt8 := [26, 154, 0, 11, 187, 0, 1, 89, 183, 0, 3, 191, 177]
abbrev dktX1_requireIndex_0 : List UInt8 := dkwX1_requireIndex_0 ++ []
theorem dksX1_requireIndex_0 : cX1_requireIndex.data.toList.drop 0 = dktX1_requireIndex_0 := by decide +kernel
theorem dX1_requireIndex_0 : decode cX1_requireIndex 0 = .ok (.iload_n 0, 1) := dk_26 (dk_at dksX1_requireIndex_0 0 rfl rfl)
theorem dX1_requireIndex_1 : decode cX1_requireIndex 1 = .ok (.ifCond .ne 11, 3) := dk_154 0 11 (dk_at dksX1_requireIndex_0 1 rfl rfl)
theorem dX1_requireIndex_4 : decode cX1_requireIndex 4 = .ok (.new 1, 3) := dk_187 0 1 (dk_at dksX1_requireIndex_0 4 rfl rfl)
theorem dX1_requireIndex_7 : decode cX1_requireIndex 7 = .ok (.dup, 1) := dk_89 (dk_at dksX1_requireIndex_0 7 rfl rfl)
theorem dX1_requireIndex_8 : decode cX1_requireIndex 8 = .ok (.invokespecial 3, 3) := dk_183 0 3 (dk_at dksX1_requireIndex_0 8 rfl rfl)
theorem dX1_requireIndex_11 : decode cX1_requireIndex 11 = .ok (.athrow, 1) := dk_191 (dk_at dksX1_requireIndex_0 11 rfl rfl)
theorem dX1_requireIndex_12 : decode cX1_requireIndex 12 = .ok (.return_, 1) := dk_177 (dk_at dksX1_requireIndex_0 12 rfl rfl)
abbrev cX1_has : ByteArray := prog_1_method_5_code
def yX1_has : MethodName := ⟨RX1, "has", "(II)Z"⟩
def dkwX1_has_0 : List UInt8 := [26, 27, 122, 4, 126, 4, 160, 0, 7, 4, 167, 0, 4, 3, 172]
abbrev dktX1_has_0 : List UInt8 := dkwX1_has_0 ++ []
theorem dksX1_has_0 : cX1_has.data.toList.drop 0 = dktX1_has_0 := by decide +kernel
theorem dX1_has_0 : decode cX1_has 0 = .ok (.iload_n 0, 1) := dk_26 (dk_at dksX1_has_0 0 rfl rfl)
theorem dX1_has_1 : decode cX1_has 1 = .ok (.iload_n 1, 1) := dk_27 (dk_at dksX1_has_0 1 rfl rfl)
theorem dX1_has_2 : decode cX1_has 2 = .ok (.ishr, 1) := dk_122 (dk_at dksX1_has_0 2 rfl rfl)
theorem dX1_has_3 : decode cX1_has 3 = .ok (.iconst 1, 1) := dk_4 (dk_at dksX1_has_0 3 rfl rfl)
theorem dX1_has_4 : decode cX1_has 4 = .ok (.iand, 1) := dk_126 (dk_at dksX1_has_0 4 rfl rfl)
theorem dX1_has_5 : decode cX1_has 5 = .ok (.iconst 1, 1) := dk_4 (dk_at dksX1_has_0 5 rfl rfl)
theorem dX1_has_6 : decode cX1_has 6 = .ok (.if_icmp .ne 7, 3) := dk_160 0 7 (dk_at dksX1_has_0 6 rfl rfl)
theorem dX1_has_9 : decode cX1_has 9 = .ok (.iconst 1, 1) := dk_4 (dk_at dksX1_has_0 9 rfl rfl)
theorem dX1_has_10 : decode cX1_has 10 = .ok (.goto 4, 3) := dk_167 0 4 (dk_at dksX1_has_0 10 rfl rfl)
theorem dX1_has_13 : decode cX1_has 13 = .ok (.iconst 0, 1) := dk_3 (dk_at dksX1_has_0 13 rfl rfl)
theorem dX1_has_14 : decode cX1_has 14 = .ok (.ireturn, 1) := dk_172 (dk_at dksX1_has_0 14 rfl rfl)
abbrev cX1_requireState : ByteArray := prog_1_method_4_code
def yX1_requireState : MethodName := ⟨RX1, "requireState", "(Z)V"⟩
def dkwX1_requireState_0 : List UInt8 := [26, 154, 0, 11, 187, 0, 10, 89, 183, 0, 12, 191, 177]
abbrev dktX1_requireState_0 : List UInt8 := dkwX1_requireState_0 ++ []
theorem dksX1_requireState_0 : cX1_requireState.data.toList.drop 0 = dktX1_requireState_0 := by decide +kernel
theorem dX1_requireState_0 : decode cX1_requireState 0 = .ok (.iload_n 0, 1) := dk_26 (dk_at dksX1_requireState_0 0 rfl rfl)
theorem dX1_requireState_1 : decode cX1_requireState 1 = .ok (.ifCond .ne 11, 3) := dk_154 0 11 (dk_at dksX1_requireState_0 1 rfl rfl)
theorem dX1_requireState_4 : decode cX1_requireState 4 = .ok (.new 10, 3) := dk_187 0 10 (dk_at dksX1_requireState_0 4 rfl rfl)
theorem dX1_requireState_7 : decode cX1_requireState 7 = .ok (.dup, 1) := dk_89 (dk_at dksX1_requireState_0 7 rfl rfl)
theorem dX1_requireState_8 : decode cX1_requireState 8 = .ok (.invokespecial 12, 3) := dk_183 0 12 (dk_at dksX1_requireState_0 8 rfl rfl)
theorem dX1_requireState_11 : decode cX1_requireState 11 = .ok (.athrow, 1) := dk_191 (dk_at dksX1_requireState_0 11 rfl rfl)
theorem dX1_requireState_12 : decode cX1_requireState 12 = .ok (.return_, 1) := dk_177 (dk_at dksX1_requireState_0 12 rfl rfl)
abbrev cX1_setPhases : ByteArray := prog_1_method_16_code
def yX1_setPhases : MethodName := ⟨RX1, "setPhases", "(IIIII)I"⟩
def dkwX1_setPhases_9 : List UInt8 := [181, 0, 79, 21, 8, 172]
abbrev dktX1_setPhases_9 : List UInt8 := dkwX1_setPhases_9 ++ []
def dkwX1_setPhases_8 : List UInt8 := [162, 0, 19, 25, 9, 21, 10, 25, 7, 21, 10, 46, 79, 132, 10, 1, 167, 255, 236, 25, 6, 25, 9]
abbrev dktX1_setPhases_8 : List UInt8 := dkwX1_setPhases_8 ++ dktX1_setPhases_9
def dkwX1_setPhases_7 : List UInt8 := [153, 0, 9, 132, 8, 1, 167, 255, 239, 21, 8, 188, 10, 58, 9, 3, 54, 10, 21, 10, 21, 8]
abbrev dktX1_setPhases_7 : List UInt8 := dkwX1_setPhases_7 ++ dktX1_setPhases_8
def dkwX1_setPhases_6 : List UInt8 := [21, 4, 79, 89, 6, 21, 5, 79, 58, 7, 3, 54, 8, 21, 8, 7, 162, 0, 17, 25, 7, 21, 8, 46]
abbrev dktX1_setPhases_6 : List UInt8 := dkwX1_setPhases_6 ++ dktX1_setPhases_7
def dkwX1_setPhases_5 : List UInt8 := [153, 0, 7, 4, 167, 0, 4, 3, 184, 0, 69, 7, 188, 10, 89, 3, 28, 79, 89, 4, 29, 79, 89, 5]
abbrev dktX1_setPhases_5 : List UInt8 := dkwX1_setPhases_5 ++ dktX1_setPhases_6
def dkwX1_setPhases_4 : List UInt8 := [182, 0, 93, 153, 0, 27, 25, 6, 21, 4, 182, 0, 93, 153, 0, 17, 25, 6, 21, 5, 182, 0, 93]
abbrev dktX1_setPhases_4 : List UInt8 := dkwX1_setPhases_4 ++ dktX1_setPhases_5
def dkwX1_setPhases_3 : List UInt8 := [184, 0, 72, 42, 180, 0, 44, 154, 0, 45, 25, 6, 28, 182, 0, 93, 153, 0, 36, 25, 6, 29]
abbrev dktX1_setPhases_3 : List UInt8 := dkwX1_setPhases_3 ++ dktX1_setPhases_4
def dkwX1_setPhases_2 : List UInt8 := [3, 21, 4, 154, 0, 7, 3, 167, 0, 5, 16, 15, 184, 0, 54, 153, 0, 7, 4, 167, 0, 4, 3]
abbrev dktX1_setPhases_2 : List UInt8 := dkwX1_setPhases_2 ++ dktX1_setPhases_3
def dkwX1_setPhases_1 : List UInt8 := [153, 0, 46, 21, 4, 3, 29, 154, 0, 7, 3, 167, 0, 5, 16, 15, 184, 0, 54, 153, 0, 27, 21, 5]
abbrev dktX1_setPhases_1 : List UInt8 := dkwX1_setPhases_1 ++ dktX1_setPhases_2
def dkwX1_setPhases_0 : List UInt8 := [42, 27, 182, 0, 62, 58, 6, 28, 4, 16, 15, 184, 0, 54, 153, 0, 56, 29, 3, 16, 15, 184, 0, 54]
abbrev dktX1_setPhases_0 : List UInt8 := dkwX1_setPhases_0 ++ dktX1_setPhases_1
theorem dksX1_setPhases_0 : cX1_setPhases.data.toList.drop 0 = dktX1_setPhases_0 := by decide +kernel
theorem dksX1_setPhases_1 : cX1_setPhases.data.toList.drop 24 = dktX1_setPhases_1 := dk_seg dksX1_setPhases_0 24 rfl rfl
theorem dksX1_setPhases_2 : cX1_setPhases.data.toList.drop 48 = dktX1_setPhases_2 := dk_seg dksX1_setPhases_1 24 rfl rfl
theorem dksX1_setPhases_3 : cX1_setPhases.data.toList.drop 71 = dktX1_setPhases_3 := dk_seg dksX1_setPhases_2 23 rfl rfl
theorem dksX1_setPhases_4 : cX1_setPhases.data.toList.drop 93 = dktX1_setPhases_4 := dk_seg dksX1_setPhases_3 22 rfl rfl
theorem dksX1_setPhases_5 : cX1_setPhases.data.toList.drop 116 = dktX1_setPhases_5 := dk_seg dksX1_setPhases_4 23 rfl rfl
theorem dksX1_setPhases_6 : cX1_setPhases.data.toList.drop 140 = dktX1_setPhases_6 := dk_seg dksX1_setPhases_5 24 rfl rfl
theorem dksX1_setPhases_7 : cX1_setPhases.data.toList.drop 164 = dktX1_setPhases_7 := dk_seg dksX1_setPhases_6 24 rfl rfl
theorem dksX1_setPhases_8 : cX1_setPhases.data.toList.drop 186 = dktX1_setPhases_8 := dk_seg dksX1_setPhases_7 22 rfl rfl
theorem dksX1_setPhases_9 : cX1_setPhases.data.toList.drop 209 = dktX1_setPhases_9 := dk_seg dksX1_setPhases_8 23 rfl rfl
theorem dX1_setPhases_0 : decode cX1_setPhases 0 = .ok (.aload_n 0, 1) := dk_42 (dk_at dksX1_setPhases_0 0 rfl rfl)
theorem dX1_setPhases_1 : decode cX1_setPhases 1 = .ok (.iload_n 1, 1) := dk_27 (dk_at dksX1_setPhases_0 1 rfl rfl)
theorem dX1_setPhases_2 : decode cX1_setPhases 2 = .ok (.invokevirtual 62, 3) := dk_182 0 62 (dk_at dksX1_setPhases_0 2 rfl rfl)
theorem dX1_setPhases_5 : decode cX1_setPhases 5 = .ok (.astore 6, 2) := dk_58 6 (dk_at dksX1_setPhases_0 5 rfl rfl)
theorem dX1_setPhases_7 : decode cX1_setPhases 7 = .ok (.iload_n 2, 1) := dk_28 (dk_at dksX1_setPhases_0 7 rfl rfl)
theorem dX1_setPhases_8 : decode cX1_setPhases 8 = .ok (.iconst 1, 1) := dk_4 (dk_at dksX1_setPhases_0 8 rfl rfl)
theorem dX1_setPhases_9 : decode cX1_setPhases 9 = .ok (.bipush 15, 2) := dk_16 15 (dk_at dksX1_setPhases_0 9 rfl rfl)
theorem dX1_setPhases_11 : decode cX1_setPhases 11 = .ok (.invokestatic 54, 3) := dk_184 0 54 (dk_at dksX1_setPhases_0 11 rfl rfl)
theorem dX1_setPhases_14 : decode cX1_setPhases 14 = .ok (.ifCond .eq 56, 3) := dk_153 0 56 (dk_at dksX1_setPhases_0 14 rfl rfl)
theorem dX1_setPhases_17 : decode cX1_setPhases 17 = .ok (.iload_n 3, 1) := dk_29 (dk_at dksX1_setPhases_0 17 rfl rfl)
theorem dX1_setPhases_18 : decode cX1_setPhases 18 = .ok (.iconst 0, 1) := dk_3 (dk_at dksX1_setPhases_0 18 rfl rfl)
theorem dX1_setPhases_19 : decode cX1_setPhases 19 = .ok (.bipush 15, 2) := dk_16 15 (dk_at dksX1_setPhases_0 19 rfl rfl)
theorem dX1_setPhases_21 : decode cX1_setPhases 21 = .ok (.invokestatic 54, 3) := dk_184 0 54 (dk_at dksX1_setPhases_0 21 rfl rfl)
theorem dX1_setPhases_24 : decode cX1_setPhases 24 = .ok (.ifCond .eq 46, 3) := dk_153 0 46 (dk_at dksX1_setPhases_1 0 rfl rfl)
theorem dX1_setPhases_27 : decode cX1_setPhases 27 = .ok (.iload 4, 2) := dk_21 4 (dk_at dksX1_setPhases_1 3 rfl rfl)
theorem dX1_setPhases_29 : decode cX1_setPhases 29 = .ok (.iconst 0, 1) := dk_3 (dk_at dksX1_setPhases_1 5 rfl rfl)
theorem dX1_setPhases_30 : decode cX1_setPhases 30 = .ok (.iload_n 3, 1) := dk_29 (dk_at dksX1_setPhases_1 6 rfl rfl)
theorem dX1_setPhases_31 : decode cX1_setPhases 31 = .ok (.ifCond .ne 7, 3) := dk_154 0 7 (dk_at dksX1_setPhases_1 7 rfl rfl)
theorem dX1_setPhases_34 : decode cX1_setPhases 34 = .ok (.iconst 0, 1) := dk_3 (dk_at dksX1_setPhases_1 10 rfl rfl)
theorem dX1_setPhases_35 : decode cX1_setPhases 35 = .ok (.goto 5, 3) := dk_167 0 5 (dk_at dksX1_setPhases_1 11 rfl rfl)
theorem dX1_setPhases_38 : decode cX1_setPhases 38 = .ok (.bipush 15, 2) := dk_16 15 (dk_at dksX1_setPhases_1 14 rfl rfl)
theorem dX1_setPhases_40 : decode cX1_setPhases 40 = .ok (.invokestatic 54, 3) := dk_184 0 54 (dk_at dksX1_setPhases_1 16 rfl rfl)
theorem dX1_setPhases_43 : decode cX1_setPhases 43 = .ok (.ifCond .eq 27, 3) := dk_153 0 27 (dk_at dksX1_setPhases_1 19 rfl rfl)
theorem dX1_setPhases_46 : decode cX1_setPhases 46 = .ok (.iload 5, 2) := dk_21 5 (dk_at dksX1_setPhases_1 22 rfl rfl)
theorem dX1_setPhases_48 : decode cX1_setPhases 48 = .ok (.iconst 0, 1) := dk_3 (dk_at dksX1_setPhases_2 0 rfl rfl)
theorem dX1_setPhases_49 : decode cX1_setPhases 49 = .ok (.iload 4, 2) := dk_21 4 (dk_at dksX1_setPhases_2 1 rfl rfl)
theorem dX1_setPhases_51 : decode cX1_setPhases 51 = .ok (.ifCond .ne 7, 3) := dk_154 0 7 (dk_at dksX1_setPhases_2 3 rfl rfl)
theorem dX1_setPhases_54 : decode cX1_setPhases 54 = .ok (.iconst 0, 1) := dk_3 (dk_at dksX1_setPhases_2 6 rfl rfl)
theorem dX1_setPhases_55 : decode cX1_setPhases 55 = .ok (.goto 5, 3) := dk_167 0 5 (dk_at dksX1_setPhases_2 7 rfl rfl)
theorem dX1_setPhases_58 : decode cX1_setPhases 58 = .ok (.bipush 15, 2) := dk_16 15 (dk_at dksX1_setPhases_2 10 rfl rfl)
theorem dX1_setPhases_60 : decode cX1_setPhases 60 = .ok (.invokestatic 54, 3) := dk_184 0 54 (dk_at dksX1_setPhases_2 12 rfl rfl)
theorem dX1_setPhases_63 : decode cX1_setPhases 63 = .ok (.ifCond .eq 7, 3) := dk_153 0 7 (dk_at dksX1_setPhases_2 15 rfl rfl)
theorem dX1_setPhases_66 : decode cX1_setPhases 66 = .ok (.iconst 1, 1) := dk_4 (dk_at dksX1_setPhases_2 18 rfl rfl)
theorem dX1_setPhases_67 : decode cX1_setPhases 67 = .ok (.goto 4, 3) := dk_167 0 4 (dk_at dksX1_setPhases_2 19 rfl rfl)
theorem dX1_setPhases_70 : decode cX1_setPhases 70 = .ok (.iconst 0, 1) := dk_3 (dk_at dksX1_setPhases_2 22 rfl rfl)
theorem dX1_setPhases_71 : decode cX1_setPhases 71 = .ok (.invokestatic 72, 3) := dk_184 0 72 (dk_at dksX1_setPhases_3 0 rfl rfl)
theorem dX1_setPhases_74 : decode cX1_setPhases 74 = .ok (.aload_n 0, 1) := dk_42 (dk_at dksX1_setPhases_3 3 rfl rfl)
theorem dX1_setPhases_75 : decode cX1_setPhases 75 = .ok (.getfield 44, 3) := dk_180 0 44 (dk_at dksX1_setPhases_3 4 rfl rfl)
theorem dX1_setPhases_78 : decode cX1_setPhases 78 = .ok (.ifCond .ne 45, 3) := dk_154 0 45 (dk_at dksX1_setPhases_3 7 rfl rfl)
theorem dX1_setPhases_81 : decode cX1_setPhases 81 = .ok (.aload 6, 2) := dk_25 6 (dk_at dksX1_setPhases_3 10 rfl rfl)
theorem dX1_setPhases_83 : decode cX1_setPhases 83 = .ok (.iload_n 2, 1) := dk_28 (dk_at dksX1_setPhases_3 12 rfl rfl)
theorem dX1_setPhases_84 : decode cX1_setPhases 84 = .ok (.invokevirtual 93, 3) := dk_182 0 93 (dk_at dksX1_setPhases_3 13 rfl rfl)
theorem dX1_setPhases_87 : decode cX1_setPhases 87 = .ok (.ifCond .eq 36, 3) := dk_153 0 36 (dk_at dksX1_setPhases_3 16 rfl rfl)
theorem dX1_setPhases_90 : decode cX1_setPhases 90 = .ok (.aload 6, 2) := dk_25 6 (dk_at dksX1_setPhases_3 19 rfl rfl)
theorem dX1_setPhases_92 : decode cX1_setPhases 92 = .ok (.iload_n 3, 1) := dk_29 (dk_at dksX1_setPhases_3 21 rfl rfl)
theorem dX1_setPhases_93 : decode cX1_setPhases 93 = .ok (.invokevirtual 93, 3) := dk_182 0 93 (dk_at dksX1_setPhases_4 0 rfl rfl)
theorem dX1_setPhases_96 : decode cX1_setPhases 96 = .ok (.ifCond .eq 27, 3) := dk_153 0 27 (dk_at dksX1_setPhases_4 3 rfl rfl)
theorem dX1_setPhases_99 : decode cX1_setPhases 99 = .ok (.aload 6, 2) := dk_25 6 (dk_at dksX1_setPhases_4 6 rfl rfl)
theorem dX1_setPhases_101 : decode cX1_setPhases 101 = .ok (.iload 4, 2) := dk_21 4 (dk_at dksX1_setPhases_4 8 rfl rfl)
theorem dX1_setPhases_103 : decode cX1_setPhases 103 = .ok (.invokevirtual 93, 3) := dk_182 0 93 (dk_at dksX1_setPhases_4 10 rfl rfl)
theorem dX1_setPhases_106 : decode cX1_setPhases 106 = .ok (.ifCond .eq 17, 3) := dk_153 0 17 (dk_at dksX1_setPhases_4 13 rfl rfl)
theorem dX1_setPhases_109 : decode cX1_setPhases 109 = .ok (.aload 6, 2) := dk_25 6 (dk_at dksX1_setPhases_4 16 rfl rfl)
theorem dX1_setPhases_111 : decode cX1_setPhases 111 = .ok (.iload 5, 2) := dk_21 5 (dk_at dksX1_setPhases_4 18 rfl rfl)
theorem dX1_setPhases_113 : decode cX1_setPhases 113 = .ok (.invokevirtual 93, 3) := dk_182 0 93 (dk_at dksX1_setPhases_4 20 rfl rfl)
theorem dX1_setPhases_116 : decode cX1_setPhases 116 = .ok (.ifCond .eq 7, 3) := dk_153 0 7 (dk_at dksX1_setPhases_5 0 rfl rfl)
theorem dX1_setPhases_119 : decode cX1_setPhases 119 = .ok (.iconst 1, 1) := dk_4 (dk_at dksX1_setPhases_5 3 rfl rfl)
theorem dX1_setPhases_120 : decode cX1_setPhases 120 = .ok (.goto 4, 3) := dk_167 0 4 (dk_at dksX1_setPhases_5 4 rfl rfl)
theorem dX1_setPhases_123 : decode cX1_setPhases 123 = .ok (.iconst 0, 1) := dk_3 (dk_at dksX1_setPhases_5 7 rfl rfl)
theorem dX1_setPhases_124 : decode cX1_setPhases 124 = .ok (.invokestatic 69, 3) := dk_184 0 69 (dk_at dksX1_setPhases_5 8 rfl rfl)
theorem dX1_setPhases_127 : decode cX1_setPhases 127 = .ok (.iconst 4, 1) := dk_7 (dk_at dksX1_setPhases_5 11 rfl rfl)
theorem dX1_setPhases_128 : decode cX1_setPhases 128 = .ok (.newarray .int, 2) := dk_188_10 (dk_at dksX1_setPhases_5 12 rfl rfl)
theorem dX1_setPhases_130 : decode cX1_setPhases 130 = .ok (.dup, 1) := dk_89 (dk_at dksX1_setPhases_5 14 rfl rfl)
theorem dX1_setPhases_131 : decode cX1_setPhases 131 = .ok (.iconst 0, 1) := dk_3 (dk_at dksX1_setPhases_5 15 rfl rfl)
theorem dX1_setPhases_132 : decode cX1_setPhases 132 = .ok (.iload_n 2, 1) := dk_28 (dk_at dksX1_setPhases_5 16 rfl rfl)
theorem dX1_setPhases_133 : decode cX1_setPhases 133 = .ok (.iastore, 1) := dk_79 (dk_at dksX1_setPhases_5 17 rfl rfl)
theorem dX1_setPhases_134 : decode cX1_setPhases 134 = .ok (.dup, 1) := dk_89 (dk_at dksX1_setPhases_5 18 rfl rfl)
theorem dX1_setPhases_135 : decode cX1_setPhases 135 = .ok (.iconst 1, 1) := dk_4 (dk_at dksX1_setPhases_5 19 rfl rfl)
theorem dX1_setPhases_136 : decode cX1_setPhases 136 = .ok (.iload_n 3, 1) := dk_29 (dk_at dksX1_setPhases_5 20 rfl rfl)
theorem dX1_setPhases_137 : decode cX1_setPhases 137 = .ok (.iastore, 1) := dk_79 (dk_at dksX1_setPhases_5 21 rfl rfl)
theorem dX1_setPhases_138 : decode cX1_setPhases 138 = .ok (.dup, 1) := dk_89 (dk_at dksX1_setPhases_5 22 rfl rfl)
theorem dX1_setPhases_139 : decode cX1_setPhases 139 = .ok (.iconst 2, 1) := dk_5 (dk_at dksX1_setPhases_5 23 rfl rfl)
theorem dX1_setPhases_140 : decode cX1_setPhases 140 = .ok (.iload 4, 2) := dk_21 4 (dk_at dksX1_setPhases_6 0 rfl rfl)
theorem dX1_setPhases_142 : decode cX1_setPhases 142 = .ok (.iastore, 1) := dk_79 (dk_at dksX1_setPhases_6 2 rfl rfl)
theorem dX1_setPhases_143 : decode cX1_setPhases 143 = .ok (.dup, 1) := dk_89 (dk_at dksX1_setPhases_6 3 rfl rfl)
theorem dX1_setPhases_144 : decode cX1_setPhases 144 = .ok (.iconst 3, 1) := dk_6 (dk_at dksX1_setPhases_6 4 rfl rfl)
theorem dX1_setPhases_145 : decode cX1_setPhases 145 = .ok (.iload 5, 2) := dk_21 5 (dk_at dksX1_setPhases_6 5 rfl rfl)
theorem dX1_setPhases_147 : decode cX1_setPhases 147 = .ok (.iastore, 1) := dk_79 (dk_at dksX1_setPhases_6 7 rfl rfl)
theorem dX1_setPhases_148 : decode cX1_setPhases 148 = .ok (.astore 7, 2) := dk_58 7 (dk_at dksX1_setPhases_6 8 rfl rfl)
theorem dX1_setPhases_150 : decode cX1_setPhases 150 = .ok (.iconst 0, 1) := dk_3 (dk_at dksX1_setPhases_6 10 rfl rfl)
theorem dX1_setPhases_151 : decode cX1_setPhases 151 = .ok (.istore 8, 2) := dk_54 8 (dk_at dksX1_setPhases_6 11 rfl rfl)
theorem dX1_setPhases_153 : decode cX1_setPhases 153 = .ok (.iload 8, 2) := dk_21 8 (dk_at dksX1_setPhases_6 13 rfl rfl)
theorem dX1_setPhases_155 : decode cX1_setPhases 155 = .ok (.iconst 4, 1) := dk_7 (dk_at dksX1_setPhases_6 15 rfl rfl)
theorem dX1_setPhases_156 : decode cX1_setPhases 156 = .ok (.if_icmp .ge 17, 3) := dk_162 0 17 (dk_at dksX1_setPhases_6 16 rfl rfl)
theorem dX1_setPhases_159 : decode cX1_setPhases 159 = .ok (.aload 7, 2) := dk_25 7 (dk_at dksX1_setPhases_6 19 rfl rfl)
theorem dX1_setPhases_161 : decode cX1_setPhases 161 = .ok (.iload 8, 2) := dk_21 8 (dk_at dksX1_setPhases_6 21 rfl rfl)
theorem dX1_setPhases_163 : decode cX1_setPhases 163 = .ok (.iaload, 1) := dk_46 (dk_at dksX1_setPhases_6 23 rfl rfl)
theorem dX1_setPhases_164 : decode cX1_setPhases 164 = .ok (.ifCond .eq 9, 3) := dk_153 0 9 (dk_at dksX1_setPhases_7 0 rfl rfl)
theorem dX1_setPhases_167 : decode cX1_setPhases 167 = .ok (.iinc 8 1, 3) := dk_132 8 1 (dk_at dksX1_setPhases_7 3 rfl rfl)
theorem dX1_setPhases_170 : decode cX1_setPhases 170 = .ok (.goto (-17), 3) := dk_167 255 239 (dk_at dksX1_setPhases_7 6 rfl rfl)
theorem dX1_setPhases_173 : decode cX1_setPhases 173 = .ok (.iload 8, 2) := dk_21 8 (dk_at dksX1_setPhases_7 9 rfl rfl)
theorem dX1_setPhases_175 : decode cX1_setPhases 175 = .ok (.newarray .int, 2) := dk_188_10 (dk_at dksX1_setPhases_7 11 rfl rfl)
theorem dX1_setPhases_177 : decode cX1_setPhases 177 = .ok (.astore 9, 2) := dk_58 9 (dk_at dksX1_setPhases_7 13 rfl rfl)
theorem dX1_setPhases_179 : decode cX1_setPhases 179 = .ok (.iconst 0, 1) := dk_3 (dk_at dksX1_setPhases_7 15 rfl rfl)
theorem dX1_setPhases_180 : decode cX1_setPhases 180 = .ok (.istore 10, 2) := dk_54 10 (dk_at dksX1_setPhases_7 16 rfl rfl)
theorem dX1_setPhases_182 : decode cX1_setPhases 182 = .ok (.iload 10, 2) := dk_21 10 (dk_at dksX1_setPhases_7 18 rfl rfl)
theorem dX1_setPhases_184 : decode cX1_setPhases 184 = .ok (.iload 8, 2) := dk_21 8 (dk_at dksX1_setPhases_7 20 rfl rfl)
theorem dX1_setPhases_186 : decode cX1_setPhases 186 = .ok (.if_icmp .ge 19, 3) := dk_162 0 19 (dk_at dksX1_setPhases_8 0 rfl rfl)
theorem dX1_setPhases_189 : decode cX1_setPhases 189 = .ok (.aload 9, 2) := dk_25 9 (dk_at dksX1_setPhases_8 3 rfl rfl)
theorem dX1_setPhases_191 : decode cX1_setPhases 191 = .ok (.iload 10, 2) := dk_21 10 (dk_at dksX1_setPhases_8 5 rfl rfl)
theorem dX1_setPhases_193 : decode cX1_setPhases 193 = .ok (.aload 7, 2) := dk_25 7 (dk_at dksX1_setPhases_8 7 rfl rfl)
theorem dX1_setPhases_195 : decode cX1_setPhases 195 = .ok (.iload 10, 2) := dk_21 10 (dk_at dksX1_setPhases_8 9 rfl rfl)
theorem dX1_setPhases_197 : decode cX1_setPhases 197 = .ok (.iaload, 1) := dk_46 (dk_at dksX1_setPhases_8 11 rfl rfl)
theorem dX1_setPhases_198 : decode cX1_setPhases 198 = .ok (.iastore, 1) := dk_79 (dk_at dksX1_setPhases_8 12 rfl rfl)
theorem dX1_setPhases_199 : decode cX1_setPhases 199 = .ok (.iinc 10 1, 3) := dk_132 10 1 (dk_at dksX1_setPhases_8 13 rfl rfl)
theorem dX1_setPhases_202 : decode cX1_setPhases 202 = .ok (.goto (-20), 3) := dk_167 255 236 (dk_at dksX1_setPhases_8 16 rfl rfl)
theorem dX1_setPhases_205 : decode cX1_setPhases 205 = .ok (.aload 6, 2) := dk_25 6 (dk_at dksX1_setPhases_8 19 rfl rfl)
theorem dX1_setPhases_207 : decode cX1_setPhases 207 = .ok (.aload 9, 2) := dk_25 9 (dk_at dksX1_setPhases_8 21 rfl rfl)
theorem dX1_setPhases_209 : decode cX1_setPhases 209 = .ok (.putfield 79, 3) := dk_181 0 79 (dk_at dksX1_setPhases_9 0 rfl rfl)
theorem dX1_setPhases_212 : decode cX1_setPhases 212 = .ok (.iload 8, 2) := dk_21 8 (dk_at dksX1_setPhases_9 3 rfl rfl)
theorem dX1_setPhases_214 : decode cX1_setPhases 214 = .ok (.ireturn, 1) := dk_172 (dk_at dksX1_setPhases_9 5 rfl rfl)
abbrev cX1_setFlow : ByteArray := prog_1_method_17_code
def yX1_setFlow : MethodName := ⟨RX1, "setFlow", "(III)I"⟩
def dkwX1_setFlow_2 : List UInt8 := [46, 54, 5, 25, 4, 180, 0, 97, 28, 29, 79, 21, 5, 172]
abbrev dktX1_setFlow_2 : List UInt8 := dkwX1_setFlow_2 ++ []
def dkwX1_setFlow_1 : List UInt8 := [184, 0, 72, 42, 180, 0, 44, 154, 0, 7, 4, 167, 0, 4, 3, 184, 0, 69, 25, 4, 180, 0, 97, 28]
abbrev dktX1_setFlow_1 : List UInt8 := dkwX1_setFlow_1 ++ dktX1_setFlow_2
def dkwX1_setFlow_0 : List UInt8 := [42, 27, 4, 188, 10, 89, 3, 28, 79, 182, 0, 75, 58, 4, 29, 3, 17, 7, 8, 184, 0, 54]
abbrev dktX1_setFlow_0 : List UInt8 := dkwX1_setFlow_0 ++ dktX1_setFlow_1
theorem dksX1_setFlow_0 : cX1_setFlow.data.toList.drop 0 = dktX1_setFlow_0 := by decide +kernel
theorem dksX1_setFlow_1 : cX1_setFlow.data.toList.drop 22 = dktX1_setFlow_1 := dk_seg dksX1_setFlow_0 22 rfl rfl
theorem dksX1_setFlow_2 : cX1_setFlow.data.toList.drop 46 = dktX1_setFlow_2 := dk_seg dksX1_setFlow_1 24 rfl rfl
theorem dX1_setFlow_0 : decode cX1_setFlow 0 = .ok (.aload_n 0, 1) := dk_42 (dk_at dksX1_setFlow_0 0 rfl rfl)
theorem dX1_setFlow_1 : decode cX1_setFlow 1 = .ok (.iload_n 1, 1) := dk_27 (dk_at dksX1_setFlow_0 1 rfl rfl)
theorem dX1_setFlow_2 : decode cX1_setFlow 2 = .ok (.iconst 1, 1) := dk_4 (dk_at dksX1_setFlow_0 2 rfl rfl)
theorem dX1_setFlow_3 : decode cX1_setFlow 3 = .ok (.newarray .int, 2) := dk_188_10 (dk_at dksX1_setFlow_0 3 rfl rfl)
theorem dX1_setFlow_5 : decode cX1_setFlow 5 = .ok (.dup, 1) := dk_89 (dk_at dksX1_setFlow_0 5 rfl rfl)
theorem dX1_setFlow_6 : decode cX1_setFlow 6 = .ok (.iconst 0, 1) := dk_3 (dk_at dksX1_setFlow_0 6 rfl rfl)
theorem dX1_setFlow_7 : decode cX1_setFlow 7 = .ok (.iload_n 2, 1) := dk_28 (dk_at dksX1_setFlow_0 7 rfl rfl)
theorem dX1_setFlow_8 : decode cX1_setFlow 8 = .ok (.iastore, 1) := dk_79 (dk_at dksX1_setFlow_0 8 rfl rfl)
theorem dX1_setFlow_9 : decode cX1_setFlow 9 = .ok (.invokevirtual 75, 3) := dk_182 0 75 (dk_at dksX1_setFlow_0 9 rfl rfl)
theorem dX1_setFlow_12 : decode cX1_setFlow 12 = .ok (.astore 4, 2) := dk_58 4 (dk_at dksX1_setFlow_0 12 rfl rfl)
theorem dX1_setFlow_14 : decode cX1_setFlow 14 = .ok (.iload_n 3, 1) := dk_29 (dk_at dksX1_setFlow_0 14 rfl rfl)
theorem dX1_setFlow_15 : decode cX1_setFlow 15 = .ok (.iconst 0, 1) := dk_3 (dk_at dksX1_setFlow_0 15 rfl rfl)
theorem dX1_setFlow_16 : decode cX1_setFlow 16 = .ok (.sipush 1800, 3) := dk_17 7 8 (dk_at dksX1_setFlow_0 16 rfl rfl)
theorem dX1_setFlow_19 : decode cX1_setFlow 19 = .ok (.invokestatic 54, 3) := dk_184 0 54 (dk_at dksX1_setFlow_0 19 rfl rfl)
theorem dX1_setFlow_22 : decode cX1_setFlow 22 = .ok (.invokestatic 72, 3) := dk_184 0 72 (dk_at dksX1_setFlow_1 0 rfl rfl)
theorem dX1_setFlow_25 : decode cX1_setFlow 25 = .ok (.aload_n 0, 1) := dk_42 (dk_at dksX1_setFlow_1 3 rfl rfl)
theorem dX1_setFlow_26 : decode cX1_setFlow 26 = .ok (.getfield 44, 3) := dk_180 0 44 (dk_at dksX1_setFlow_1 4 rfl rfl)
theorem dX1_setFlow_29 : decode cX1_setFlow 29 = .ok (.ifCond .ne 7, 3) := dk_154 0 7 (dk_at dksX1_setFlow_1 7 rfl rfl)
theorem dX1_setFlow_32 : decode cX1_setFlow 32 = .ok (.iconst 1, 1) := dk_4 (dk_at dksX1_setFlow_1 10 rfl rfl)
theorem dX1_setFlow_33 : decode cX1_setFlow 33 = .ok (.goto 4, 3) := dk_167 0 4 (dk_at dksX1_setFlow_1 11 rfl rfl)
theorem dX1_setFlow_36 : decode cX1_setFlow 36 = .ok (.iconst 0, 1) := dk_3 (dk_at dksX1_setFlow_1 14 rfl rfl)
theorem dX1_setFlow_37 : decode cX1_setFlow 37 = .ok (.invokestatic 69, 3) := dk_184 0 69 (dk_at dksX1_setFlow_1 15 rfl rfl)
theorem dX1_setFlow_40 : decode cX1_setFlow 40 = .ok (.aload 4, 2) := dk_25 4 (dk_at dksX1_setFlow_1 18 rfl rfl)
theorem dX1_setFlow_42 : decode cX1_setFlow 42 = .ok (.getfield 97, 3) := dk_180 0 97 (dk_at dksX1_setFlow_1 20 rfl rfl)
theorem dX1_setFlow_45 : decode cX1_setFlow 45 = .ok (.iload_n 2, 1) := dk_28 (dk_at dksX1_setFlow_1 23 rfl rfl)
theorem dX1_setFlow_46 : decode cX1_setFlow 46 = .ok (.iaload, 1) := dk_46 (dk_at dksX1_setFlow_2 0 rfl rfl)
theorem dX1_setFlow_47 : decode cX1_setFlow 47 = .ok (.istore 5, 2) := dk_54 5 (dk_at dksX1_setFlow_2 1 rfl rfl)
theorem dX1_setFlow_49 : decode cX1_setFlow 49 = .ok (.aload 4, 2) := dk_25 4 (dk_at dksX1_setFlow_2 3 rfl rfl)
theorem dX1_setFlow_51 : decode cX1_setFlow 51 = .ok (.getfield 97, 3) := dk_180 0 97 (dk_at dksX1_setFlow_2 5 rfl rfl)
theorem dX1_setFlow_54 : decode cX1_setFlow 54 = .ok (.iload_n 2, 1) := dk_28 (dk_at dksX1_setFlow_2 8 rfl rfl)
theorem dX1_setFlow_55 : decode cX1_setFlow 55 = .ok (.iload_n 3, 1) := dk_29 (dk_at dksX1_setFlow_2 9 rfl rfl)
theorem dX1_setFlow_56 : decode cX1_setFlow 56 = .ok (.iastore, 1) := dk_79 (dk_at dksX1_setFlow_2 10 rfl rfl)
theorem dX1_setFlow_57 : decode cX1_setFlow 57 = .ok (.iload 5, 2) := dk_21 5 (dk_at dksX1_setFlow_2 11 rfl rfl)
theorem dX1_setFlow_59 : decode cX1_setFlow 59 = .ok (.ireturn, 1) := dk_172 (dk_at dksX1_setFlow_2 13 rfl rfl)
abbrev cX1_setLink : ByteArray := prog_1_method_18_code
def yX1_setLink : MethodName := ⟨RX1, "setLink", "(III)V"⟩
def dkwX1_setLink_2 : List UInt8 := [184, 0, 69, 25, 4, 28, 181, 0, 103, 25, 4, 29, 181, 0, 106, 177]
abbrev dktX1_setLink_2 : List UInt8 := dkwX1_setLink_2 ++ []
def dkwX1_setLink_1 : List UInt8 := [153, 0, 7, 4, 167, 0, 4, 3, 184, 0, 72, 42, 180, 0, 44, 154, 0, 7, 4, 167, 0, 4, 3]
abbrev dktX1_setLink_1 : List UInt8 := dkwX1_setLink_1 ++ dktX1_setLink_2
def dkwX1_setLink_0 : List UInt8 := [42, 27, 182, 0, 100, 58, 4, 28, 4, 16, 60, 184, 0, 54, 153, 0, 17, 29, 4, 16, 40, 184, 0, 54]
abbrev dktX1_setLink_0 : List UInt8 := dkwX1_setLink_0 ++ dktX1_setLink_1
theorem dksX1_setLink_0 : cX1_setLink.data.toList.drop 0 = dktX1_setLink_0 := by decide +kernel
theorem dksX1_setLink_1 : cX1_setLink.data.toList.drop 24 = dktX1_setLink_1 := dk_seg dksX1_setLink_0 24 rfl rfl
theorem dksX1_setLink_2 : cX1_setLink.data.toList.drop 47 = dktX1_setLink_2 := dk_seg dksX1_setLink_1 23 rfl rfl
theorem dX1_setLink_0 : decode cX1_setLink 0 = .ok (.aload_n 0, 1) := dk_42 (dk_at dksX1_setLink_0 0 rfl rfl)
theorem dX1_setLink_1 : decode cX1_setLink 1 = .ok (.iload_n 1, 1) := dk_27 (dk_at dksX1_setLink_0 1 rfl rfl)
theorem dX1_setLink_2 : decode cX1_setLink 2 = .ok (.invokevirtual 100, 3) := dk_182 0 100 (dk_at dksX1_setLink_0 2 rfl rfl)
theorem dX1_setLink_5 : decode cX1_setLink 5 = .ok (.astore 4, 2) := dk_58 4 (dk_at dksX1_setLink_0 5 rfl rfl)
theorem dX1_setLink_7 : decode cX1_setLink 7 = .ok (.iload_n 2, 1) := dk_28 (dk_at dksX1_setLink_0 7 rfl rfl)
theorem dX1_setLink_8 : decode cX1_setLink 8 = .ok (.iconst 1, 1) := dk_4 (dk_at dksX1_setLink_0 8 rfl rfl)
theorem dX1_setLink_9 : decode cX1_setLink 9 = .ok (.bipush 60, 2) := dk_16 60 (dk_at dksX1_setLink_0 9 rfl rfl)
theorem dX1_setLink_11 : decode cX1_setLink 11 = .ok (.invokestatic 54, 3) := dk_184 0 54 (dk_at dksX1_setLink_0 11 rfl rfl)
theorem dX1_setLink_14 : decode cX1_setLink 14 = .ok (.ifCond .eq 17, 3) := dk_153 0 17 (dk_at dksX1_setLink_0 14 rfl rfl)
theorem dX1_setLink_17 : decode cX1_setLink 17 = .ok (.iload_n 3, 1) := dk_29 (dk_at dksX1_setLink_0 17 rfl rfl)
theorem dX1_setLink_18 : decode cX1_setLink 18 = .ok (.iconst 1, 1) := dk_4 (dk_at dksX1_setLink_0 18 rfl rfl)
theorem dX1_setLink_19 : decode cX1_setLink 19 = .ok (.bipush 40, 2) := dk_16 40 (dk_at dksX1_setLink_0 19 rfl rfl)
theorem dX1_setLink_21 : decode cX1_setLink 21 = .ok (.invokestatic 54, 3) := dk_184 0 54 (dk_at dksX1_setLink_0 21 rfl rfl)
theorem dX1_setLink_24 : decode cX1_setLink 24 = .ok (.ifCond .eq 7, 3) := dk_153 0 7 (dk_at dksX1_setLink_1 0 rfl rfl)
theorem dX1_setLink_27 : decode cX1_setLink 27 = .ok (.iconst 1, 1) := dk_4 (dk_at dksX1_setLink_1 3 rfl rfl)
theorem dX1_setLink_28 : decode cX1_setLink 28 = .ok (.goto 4, 3) := dk_167 0 4 (dk_at dksX1_setLink_1 4 rfl rfl)
theorem dX1_setLink_31 : decode cX1_setLink 31 = .ok (.iconst 0, 1) := dk_3 (dk_at dksX1_setLink_1 7 rfl rfl)
theorem dX1_setLink_32 : decode cX1_setLink 32 = .ok (.invokestatic 72, 3) := dk_184 0 72 (dk_at dksX1_setLink_1 8 rfl rfl)
theorem dX1_setLink_35 : decode cX1_setLink 35 = .ok (.aload_n 0, 1) := dk_42 (dk_at dksX1_setLink_1 11 rfl rfl)
theorem dX1_setLink_36 : decode cX1_setLink 36 = .ok (.getfield 44, 3) := dk_180 0 44 (dk_at dksX1_setLink_1 12 rfl rfl)
theorem dX1_setLink_39 : decode cX1_setLink 39 = .ok (.ifCond .ne 7, 3) := dk_154 0 7 (dk_at dksX1_setLink_1 15 rfl rfl)
theorem dX1_setLink_42 : decode cX1_setLink 42 = .ok (.iconst 1, 1) := dk_4 (dk_at dksX1_setLink_1 18 rfl rfl)
theorem dX1_setLink_43 : decode cX1_setLink 43 = .ok (.goto 4, 3) := dk_167 0 4 (dk_at dksX1_setLink_1 19 rfl rfl)
theorem dX1_setLink_46 : decode cX1_setLink 46 = .ok (.iconst 0, 1) := dk_3 (dk_at dksX1_setLink_1 22 rfl rfl)
theorem dX1_setLink_47 : decode cX1_setLink 47 = .ok (.invokestatic 69, 3) := dk_184 0 69 (dk_at dksX1_setLink_2 0 rfl rfl)
theorem dX1_setLink_50 : decode cX1_setLink 50 = .ok (.aload 4, 2) := dk_25 4 (dk_at dksX1_setLink_2 3 rfl rfl)
theorem dX1_setLink_52 : decode cX1_setLink 52 = .ok (.iload_n 2, 1) := dk_28 (dk_at dksX1_setLink_2 5 rfl rfl)
theorem dX1_setLink_53 : decode cX1_setLink 53 = .ok (.putfield 103, 3) := dk_181 0 103 (dk_at dksX1_setLink_2 6 rfl rfl)
theorem dX1_setLink_56 : decode cX1_setLink 56 = .ok (.aload 4, 2) := dk_25 4 (dk_at dksX1_setLink_2 9 rfl rfl)
theorem dX1_setLink_58 : decode cX1_setLink 58 = .ok (.iload_n 3, 1) := dk_29 (dk_at dksX1_setLink_2 11 rfl rfl)
theorem dX1_setLink_59 : decode cX1_setLink 59 = .ok (.putfield 106, 3) := dk_181 0 106 (dk_at dksX1_setLink_2 12 rfl rfl)
theorem dX1_setLink_62 : decode cX1_setLink 62 = .ok (.return_, 1) := dk_177 (dk_at dksX1_setLink_2 15 rfl rfl)
abbrev cX1_linkedAt : ByteArray := prog_1_method_11_code
def yX1_linkedAt : MethodName := ⟨RX1, "linkedAt", "(I)LGreenwave$Junction;"⟩
def dkwX1_linkedAt_0 : List UInt8 := [27, 3, 42, 180, 0, 30, 190, 5, 100, 184, 0, 54, 184, 0, 58, 42, 180, 0, 30, 27, 50, 176]
abbrev dktX1_linkedAt_0 : List UInt8 := dkwX1_linkedAt_0 ++ []
theorem dksX1_linkedAt_0 : cX1_linkedAt.data.toList.drop 0 = dktX1_linkedAt_0 := by decide +kernel
theorem dX1_linkedAt_0 : decode cX1_linkedAt 0 = .ok (.iload_n 1, 1) := dk_27 (dk_at dksX1_linkedAt_0 0 rfl rfl)
theorem dX1_linkedAt_1 : decode cX1_linkedAt 1 = .ok (.iconst 0, 1) := dk_3 (dk_at dksX1_linkedAt_0 1 rfl rfl)
theorem dX1_linkedAt_2 : decode cX1_linkedAt 2 = .ok (.aload_n 0, 1) := dk_42 (dk_at dksX1_linkedAt_0 2 rfl rfl)
theorem dX1_linkedAt_3 : decode cX1_linkedAt 3 = .ok (.getfield 30, 3) := dk_180 0 30 (dk_at dksX1_linkedAt_0 3 rfl rfl)
theorem dX1_linkedAt_6 : decode cX1_linkedAt 6 = .ok (.arraylength, 1) := dk_190 (dk_at dksX1_linkedAt_0 6 rfl rfl)
theorem dX1_linkedAt_7 : decode cX1_linkedAt 7 = .ok (.iconst 2, 1) := dk_5 (dk_at dksX1_linkedAt_0 7 rfl rfl)
theorem dX1_linkedAt_8 : decode cX1_linkedAt 8 = .ok (.isub, 1) := dk_100 (dk_at dksX1_linkedAt_0 8 rfl rfl)
theorem dX1_linkedAt_9 : decode cX1_linkedAt 9 = .ok (.invokestatic 54, 3) := dk_184 0 54 (dk_at dksX1_linkedAt_0 9 rfl rfl)
theorem dX1_linkedAt_12 : decode cX1_linkedAt 12 = .ok (.invokestatic 58, 3) := dk_184 0 58 (dk_at dksX1_linkedAt_0 12 rfl rfl)
theorem dX1_linkedAt_15 : decode cX1_linkedAt 15 = .ok (.aload_n 0, 1) := dk_42 (dk_at dksX1_linkedAt_0 15 rfl rfl)
theorem dX1_linkedAt_16 : decode cX1_linkedAt 16 = .ok (.getfield 30, 3) := dk_180 0 30 (dk_at dksX1_linkedAt_0 16 rfl rfl)
theorem dX1_linkedAt_19 : decode cX1_linkedAt 19 = .ok (.iload_n 1, 1) := dk_27 (dk_at dksX1_linkedAt_0 19 rfl rfl)
theorem dX1_linkedAt_20 : decode cX1_linkedAt 20 = .ok (.aaload, 1) := dk_50 (dk_at dksX1_linkedAt_0 20 rfl rfl)
theorem dX1_linkedAt_21 : decode cX1_linkedAt 21 = .ok (.areturn, 1) := dk_176 (dk_at dksX1_linkedAt_0 21 rfl rfl)
abbrev cX1_setOffset : ByteArray := prog_1_method_19_code
def yX1_setOffset : MethodName := ⟨RX1, "setOffset", "(II)I"⟩
def dkwX1_setOffset_2 : List UInt8 := [172]
abbrev dktX1_setOffset_2 : List UInt8 := dkwX1_setOffset_2 ++ []
def dkwX1_setOffset_1 : List UInt8 := [154, 0, 7, 4, 167, 0, 4, 3, 184, 0, 69, 45, 180, 0, 109, 54, 4, 45, 28, 181, 0, 109, 21, 4]
abbrev dktX1_setOffset_1 : List UInt8 := dkwX1_setOffset_1 ++ dktX1_setOffset_2
def dkwX1_setOffset_0 : List UInt8 := [42, 27, 182, 0, 62, 78, 28, 3, 42, 180, 0, 34, 4, 100, 184, 0, 54, 184, 0, 72, 42, 180, 0, 44]
abbrev dktX1_setOffset_0 : List UInt8 := dkwX1_setOffset_0 ++ dktX1_setOffset_1
theorem dksX1_setOffset_0 : cX1_setOffset.data.toList.drop 0 = dktX1_setOffset_0 := by decide +kernel
theorem dksX1_setOffset_1 : cX1_setOffset.data.toList.drop 24 = dktX1_setOffset_1 := dk_seg dksX1_setOffset_0 24 rfl rfl
theorem dksX1_setOffset_2 : cX1_setOffset.data.toList.drop 48 = dktX1_setOffset_2 := dk_seg dksX1_setOffset_1 24 rfl rfl
theorem dX1_setOffset_0 : decode cX1_setOffset 0 = .ok (.aload_n 0, 1) := dk_42 (dk_at dksX1_setOffset_0 0 rfl rfl)
theorem dX1_setOffset_1 : decode cX1_setOffset 1 = .ok (.iload_n 1, 1) := dk_27 (dk_at dksX1_setOffset_0 1 rfl rfl)
theorem dX1_setOffset_2 : decode cX1_setOffset 2 = .ok (.invokevirtual 62, 3) := dk_182 0 62 (dk_at dksX1_setOffset_0 2 rfl rfl)
theorem dX1_setOffset_5 : decode cX1_setOffset 5 = .ok (.astore_n 3, 1) := dk_78 (dk_at dksX1_setOffset_0 5 rfl rfl)
theorem dX1_setOffset_6 : decode cX1_setOffset 6 = .ok (.iload_n 2, 1) := dk_28 (dk_at dksX1_setOffset_0 6 rfl rfl)
theorem dX1_setOffset_7 : decode cX1_setOffset 7 = .ok (.iconst 0, 1) := dk_3 (dk_at dksX1_setOffset_0 7 rfl rfl)
theorem dX1_setOffset_8 : decode cX1_setOffset 8 = .ok (.aload_n 0, 1) := dk_42 (dk_at dksX1_setOffset_0 8 rfl rfl)
theorem dX1_setOffset_9 : decode cX1_setOffset 9 = .ok (.getfield 34, 3) := dk_180 0 34 (dk_at dksX1_setOffset_0 9 rfl rfl)
theorem dX1_setOffset_12 : decode cX1_setOffset 12 = .ok (.iconst 1, 1) := dk_4 (dk_at dksX1_setOffset_0 12 rfl rfl)
theorem dX1_setOffset_13 : decode cX1_setOffset 13 = .ok (.isub, 1) := dk_100 (dk_at dksX1_setOffset_0 13 rfl rfl)
theorem dX1_setOffset_14 : decode cX1_setOffset 14 = .ok (.invokestatic 54, 3) := dk_184 0 54 (dk_at dksX1_setOffset_0 14 rfl rfl)
theorem dX1_setOffset_17 : decode cX1_setOffset 17 = .ok (.invokestatic 72, 3) := dk_184 0 72 (dk_at dksX1_setOffset_0 17 rfl rfl)
theorem dX1_setOffset_20 : decode cX1_setOffset 20 = .ok (.aload_n 0, 1) := dk_42 (dk_at dksX1_setOffset_0 20 rfl rfl)
theorem dX1_setOffset_21 : decode cX1_setOffset 21 = .ok (.getfield 44, 3) := dk_180 0 44 (dk_at dksX1_setOffset_0 21 rfl rfl)
theorem dX1_setOffset_24 : decode cX1_setOffset 24 = .ok (.ifCond .ne 7, 3) := dk_154 0 7 (dk_at dksX1_setOffset_1 0 rfl rfl)
theorem dX1_setOffset_27 : decode cX1_setOffset 27 = .ok (.iconst 1, 1) := dk_4 (dk_at dksX1_setOffset_1 3 rfl rfl)
theorem dX1_setOffset_28 : decode cX1_setOffset 28 = .ok (.goto 4, 3) := dk_167 0 4 (dk_at dksX1_setOffset_1 4 rfl rfl)
theorem dX1_setOffset_31 : decode cX1_setOffset 31 = .ok (.iconst 0, 1) := dk_3 (dk_at dksX1_setOffset_1 7 rfl rfl)
theorem dX1_setOffset_32 : decode cX1_setOffset 32 = .ok (.invokestatic 69, 3) := dk_184 0 69 (dk_at dksX1_setOffset_1 8 rfl rfl)
theorem dX1_setOffset_35 : decode cX1_setOffset 35 = .ok (.aload_n 3, 1) := dk_45 (dk_at dksX1_setOffset_1 11 rfl rfl)
theorem dX1_setOffset_36 : decode cX1_setOffset 36 = .ok (.getfield 109, 3) := dk_180 0 109 (dk_at dksX1_setOffset_1 12 rfl rfl)
theorem dX1_setOffset_39 : decode cX1_setOffset 39 = .ok (.istore 4, 2) := dk_54 4 (dk_at dksX1_setOffset_1 15 rfl rfl)
theorem dX1_setOffset_41 : decode cX1_setOffset 41 = .ok (.aload_n 3, 1) := dk_45 (dk_at dksX1_setOffset_1 17 rfl rfl)
theorem dX1_setOffset_42 : decode cX1_setOffset 42 = .ok (.iload_n 2, 1) := dk_28 (dk_at dksX1_setOffset_1 18 rfl rfl)
theorem dX1_setOffset_43 : decode cX1_setOffset 43 = .ok (.putfield 109, 3) := dk_181 0 109 (dk_at dksX1_setOffset_1 19 rfl rfl)
theorem dX1_setOffset_46 : decode cX1_setOffset 46 = .ok (.iload 4, 2) := dk_21 4 (dk_at dksX1_setOffset_1 22 rfl rfl)
theorem dX1_setOffset_48 : decode cX1_setOffset 48 = .ok (.ireturn, 1) := dk_172 (dk_at dksX1_setOffset_2 0 rfl rfl)
abbrev cX1_improve : ByteArray := prog_1_method_20_code
def yX1_improve : MethodName := ⟨RX1, "improve", "()I"⟩
def dkwX1_improve_7 : List UInt8 := [132, 4, 1, 167, 255, 134, 132, 3, 1, 167, 255, 113, 42, 43, 182, 0, 119, 172]
abbrev dktX1_improve_7 : List UInt8 := dkwX1_improve_7 ++ []
def dkwX1_improve_6 : List UInt8 := [21, 6, 181, 0, 109, 28, 154, 0, 10, 21, 6, 21, 5, 159, 0, 7, 4, 167, 0, 4, 3, 61]
abbrev dktX1_improve_6 : List UInt8 := dkwX1_improve_6 ++ dktX1_improve_7
def dkwX1_improve_5 : List UInt8 := [54, 6, 21, 7, 21, 9, 184, 0, 123, 54, 7, 132, 8, 1, 167, 255, 200, 42, 180, 0, 30, 21, 4, 50]
abbrev dktX1_improve_5 : List UInt8 := dkwX1_improve_5 ++ dktX1_improve_6
def dkwX1_improve_4 : List UInt8 := [181, 0, 109, 42, 43, 182, 0, 119, 54, 9, 21, 9, 21, 7, 164, 0, 8, 21, 8, 167, 0, 5, 21, 6]
abbrev dktX1_improve_4 : List UInt8 := dkwX1_improve_4 ++ dktX1_improve_5
def dkwX1_improve_3 : List UInt8 := [54, 7, 3, 54, 8, 21, 8, 42, 180, 0, 34, 162, 0, 53, 42, 180, 0, 30, 21, 4, 50, 21, 8]
abbrev dktX1_improve_3 : List UInt8 := dkwX1_improve_3 ++ dktX1_improve_4
def dkwX1_improve_2 : List UInt8 := [180, 0, 30, 190, 162, 0, 118, 42, 180, 0, 30, 21, 4, 50, 180, 0, 109, 54, 5, 3, 54, 6, 2]
abbrev dktX1_improve_2 : List UInt8 := dkwX1_improve_2 ++ dktX1_improve_3
def dkwX1_improve_1 : List UInt8 := [4, 61, 3, 62, 29, 16, 10, 162, 0, 143, 28, 153, 0, 139, 3, 61, 4, 54, 4, 21, 4, 42]
abbrev dktX1_improve_1 : List UInt8 := dkwX1_improve_1 ++ dktX1_improve_2
def dkwX1_improve_0 : List UInt8 := [42, 182, 0, 112, 42, 180, 0, 44, 154, 0, 7, 4, 167, 0, 4, 3, 184, 0, 69, 42, 182, 0, 115, 76]
abbrev dktX1_improve_0 : List UInt8 := dkwX1_improve_0 ++ dktX1_improve_1
theorem dksX1_improve_0 : cX1_improve.data.toList.drop 0 = dktX1_improve_0 := by decide +kernel
theorem dksX1_improve_1 : cX1_improve.data.toList.drop 24 = dktX1_improve_1 := dk_seg dksX1_improve_0 24 rfl rfl
theorem dksX1_improve_2 : cX1_improve.data.toList.drop 46 = dktX1_improve_2 := dk_seg dksX1_improve_1 22 rfl rfl
theorem dksX1_improve_3 : cX1_improve.data.toList.drop 69 = dktX1_improve_3 := dk_seg dksX1_improve_2 23 rfl rfl
theorem dksX1_improve_4 : cX1_improve.data.toList.drop 92 = dktX1_improve_4 := dk_seg dksX1_improve_3 23 rfl rfl
theorem dksX1_improve_5 : cX1_improve.data.toList.drop 116 = dktX1_improve_5 := dk_seg dksX1_improve_4 24 rfl rfl
theorem dksX1_improve_6 : cX1_improve.data.toList.drop 140 = dktX1_improve_6 := dk_seg dksX1_improve_5 24 rfl rfl
theorem dksX1_improve_7 : cX1_improve.data.toList.drop 162 = dktX1_improve_7 := dk_seg dksX1_improve_6 22 rfl rfl
theorem dX1_improve_0 : decode cX1_improve 0 = .ok (.aload_n 0, 1) := dk_42 (dk_at dksX1_improve_0 0 rfl rfl)
theorem dX1_improve_1 : decode cX1_improve 1 = .ok (.invokevirtual 112, 3) := dk_182 0 112 (dk_at dksX1_improve_0 1 rfl rfl)
theorem dX1_improve_4 : decode cX1_improve 4 = .ok (.aload_n 0, 1) := dk_42 (dk_at dksX1_improve_0 4 rfl rfl)
theorem dX1_improve_5 : decode cX1_improve 5 = .ok (.getfield 44, 3) := dk_180 0 44 (dk_at dksX1_improve_0 5 rfl rfl)
theorem dX1_improve_8 : decode cX1_improve 8 = .ok (.ifCond .ne 7, 3) := dk_154 0 7 (dk_at dksX1_improve_0 8 rfl rfl)
theorem dX1_improve_11 : decode cX1_improve 11 = .ok (.iconst 1, 1) := dk_4 (dk_at dksX1_improve_0 11 rfl rfl)
theorem dX1_improve_12 : decode cX1_improve 12 = .ok (.goto 4, 3) := dk_167 0 4 (dk_at dksX1_improve_0 12 rfl rfl)
theorem dX1_improve_15 : decode cX1_improve 15 = .ok (.iconst 0, 1) := dk_3 (dk_at dksX1_improve_0 15 rfl rfl)
theorem dX1_improve_16 : decode cX1_improve 16 = .ok (.invokestatic 69, 3) := dk_184 0 69 (dk_at dksX1_improve_0 16 rfl rfl)
theorem dX1_improve_19 : decode cX1_improve 19 = .ok (.aload_n 0, 1) := dk_42 (dk_at dksX1_improve_0 19 rfl rfl)
theorem dX1_improve_20 : decode cX1_improve 20 = .ok (.invokevirtual 115, 3) := dk_182 0 115 (dk_at dksX1_improve_0 20 rfl rfl)
theorem dX1_improve_23 : decode cX1_improve 23 = .ok (.astore_n 1, 1) := dk_76 (dk_at dksX1_improve_0 23 rfl rfl)
theorem dX1_improve_24 : decode cX1_improve 24 = .ok (.iconst 1, 1) := dk_4 (dk_at dksX1_improve_1 0 rfl rfl)
theorem dX1_improve_25 : decode cX1_improve 25 = .ok (.istore_n 2, 1) := dk_61 (dk_at dksX1_improve_1 1 rfl rfl)
theorem dX1_improve_26 : decode cX1_improve 26 = .ok (.iconst 0, 1) := dk_3 (dk_at dksX1_improve_1 2 rfl rfl)
theorem dX1_improve_27 : decode cX1_improve 27 = .ok (.istore_n 3, 1) := dk_62 (dk_at dksX1_improve_1 3 rfl rfl)
theorem dX1_improve_28 : decode cX1_improve 28 = .ok (.iload_n 3, 1) := dk_29 (dk_at dksX1_improve_1 4 rfl rfl)
theorem dX1_improve_29 : decode cX1_improve 29 = .ok (.bipush 10, 2) := dk_16 10 (dk_at dksX1_improve_1 5 rfl rfl)
theorem dX1_improve_31 : decode cX1_improve 31 = .ok (.if_icmp .ge 143, 3) := dk_162 0 143 (dk_at dksX1_improve_1 7 rfl rfl)
theorem dX1_improve_34 : decode cX1_improve 34 = .ok (.iload_n 2, 1) := dk_28 (dk_at dksX1_improve_1 10 rfl rfl)
theorem dX1_improve_35 : decode cX1_improve 35 = .ok (.ifCond .eq 139, 3) := dk_153 0 139 (dk_at dksX1_improve_1 11 rfl rfl)
theorem dX1_improve_38 : decode cX1_improve 38 = .ok (.iconst 0, 1) := dk_3 (dk_at dksX1_improve_1 14 rfl rfl)
theorem dX1_improve_39 : decode cX1_improve 39 = .ok (.istore_n 2, 1) := dk_61 (dk_at dksX1_improve_1 15 rfl rfl)
theorem dX1_improve_40 : decode cX1_improve 40 = .ok (.iconst 1, 1) := dk_4 (dk_at dksX1_improve_1 16 rfl rfl)
theorem dX1_improve_41 : decode cX1_improve 41 = .ok (.istore 4, 2) := dk_54 4 (dk_at dksX1_improve_1 17 rfl rfl)
theorem dX1_improve_43 : decode cX1_improve 43 = .ok (.iload 4, 2) := dk_21 4 (dk_at dksX1_improve_1 19 rfl rfl)
theorem dX1_improve_45 : decode cX1_improve 45 = .ok (.aload_n 0, 1) := dk_42 (dk_at dksX1_improve_1 21 rfl rfl)
theorem dX1_improve_46 : decode cX1_improve 46 = .ok (.getfield 30, 3) := dk_180 0 30 (dk_at dksX1_improve_2 0 rfl rfl)
theorem dX1_improve_49 : decode cX1_improve 49 = .ok (.arraylength, 1) := dk_190 (dk_at dksX1_improve_2 3 rfl rfl)
theorem dX1_improve_50 : decode cX1_improve 50 = .ok (.if_icmp .ge 118, 3) := dk_162 0 118 (dk_at dksX1_improve_2 4 rfl rfl)
theorem dX1_improve_53 : decode cX1_improve 53 = .ok (.aload_n 0, 1) := dk_42 (dk_at dksX1_improve_2 7 rfl rfl)
theorem dX1_improve_54 : decode cX1_improve 54 = .ok (.getfield 30, 3) := dk_180 0 30 (dk_at dksX1_improve_2 8 rfl rfl)
theorem dX1_improve_57 : decode cX1_improve 57 = .ok (.iload 4, 2) := dk_21 4 (dk_at dksX1_improve_2 11 rfl rfl)
theorem dX1_improve_59 : decode cX1_improve 59 = .ok (.aaload, 1) := dk_50 (dk_at dksX1_improve_2 13 rfl rfl)
theorem dX1_improve_60 : decode cX1_improve 60 = .ok (.getfield 109, 3) := dk_180 0 109 (dk_at dksX1_improve_2 14 rfl rfl)
theorem dX1_improve_63 : decode cX1_improve 63 = .ok (.istore 5, 2) := dk_54 5 (dk_at dksX1_improve_2 17 rfl rfl)
theorem dX1_improve_65 : decode cX1_improve 65 = .ok (.iconst 0, 1) := dk_3 (dk_at dksX1_improve_2 19 rfl rfl)
theorem dX1_improve_66 : decode cX1_improve 66 = .ok (.istore 6, 2) := dk_54 6 (dk_at dksX1_improve_2 20 rfl rfl)
theorem dX1_improve_68 : decode cX1_improve 68 = .ok (.iconst (-1), 1) := dk_2 (dk_at dksX1_improve_2 22 rfl rfl)
theorem dX1_improve_69 : decode cX1_improve 69 = .ok (.istore 7, 2) := dk_54 7 (dk_at dksX1_improve_3 0 rfl rfl)
theorem dX1_improve_71 : decode cX1_improve 71 = .ok (.iconst 0, 1) := dk_3 (dk_at dksX1_improve_3 2 rfl rfl)
theorem dX1_improve_72 : decode cX1_improve 72 = .ok (.istore 8, 2) := dk_54 8 (dk_at dksX1_improve_3 3 rfl rfl)
theorem dX1_improve_74 : decode cX1_improve 74 = .ok (.iload 8, 2) := dk_21 8 (dk_at dksX1_improve_3 5 rfl rfl)
theorem dX1_improve_76 : decode cX1_improve 76 = .ok (.aload_n 0, 1) := dk_42 (dk_at dksX1_improve_3 7 rfl rfl)
theorem dX1_improve_77 : decode cX1_improve 77 = .ok (.getfield 34, 3) := dk_180 0 34 (dk_at dksX1_improve_3 8 rfl rfl)
theorem dX1_improve_80 : decode cX1_improve 80 = .ok (.if_icmp .ge 53, 3) := dk_162 0 53 (dk_at dksX1_improve_3 11 rfl rfl)
theorem dX1_improve_83 : decode cX1_improve 83 = .ok (.aload_n 0, 1) := dk_42 (dk_at dksX1_improve_3 14 rfl rfl)
theorem dX1_improve_84 : decode cX1_improve 84 = .ok (.getfield 30, 3) := dk_180 0 30 (dk_at dksX1_improve_3 15 rfl rfl)
theorem dX1_improve_87 : decode cX1_improve 87 = .ok (.iload 4, 2) := dk_21 4 (dk_at dksX1_improve_3 18 rfl rfl)
theorem dX1_improve_89 : decode cX1_improve 89 = .ok (.aaload, 1) := dk_50 (dk_at dksX1_improve_3 20 rfl rfl)
theorem dX1_improve_90 : decode cX1_improve 90 = .ok (.iload 8, 2) := dk_21 8 (dk_at dksX1_improve_3 21 rfl rfl)
theorem dX1_improve_92 : decode cX1_improve 92 = .ok (.putfield 109, 3) := dk_181 0 109 (dk_at dksX1_improve_4 0 rfl rfl)
theorem dX1_improve_95 : decode cX1_improve 95 = .ok (.aload_n 0, 1) := dk_42 (dk_at dksX1_improve_4 3 rfl rfl)
theorem dX1_improve_96 : decode cX1_improve 96 = .ok (.aload_n 1, 1) := dk_43 (dk_at dksX1_improve_4 4 rfl rfl)
theorem dX1_improve_97 : decode cX1_improve 97 = .ok (.invokevirtual 119, 3) := dk_182 0 119 (dk_at dksX1_improve_4 5 rfl rfl)
theorem dX1_improve_100 : decode cX1_improve 100 = .ok (.istore 9, 2) := dk_54 9 (dk_at dksX1_improve_4 8 rfl rfl)
theorem dX1_improve_102 : decode cX1_improve 102 = .ok (.iload 9, 2) := dk_21 9 (dk_at dksX1_improve_4 10 rfl rfl)
theorem dX1_improve_104 : decode cX1_improve 104 = .ok (.iload 7, 2) := dk_21 7 (dk_at dksX1_improve_4 12 rfl rfl)
theorem dX1_improve_106 : decode cX1_improve 106 = .ok (.if_icmp .le 8, 3) := dk_164 0 8 (dk_at dksX1_improve_4 14 rfl rfl)
theorem dX1_improve_109 : decode cX1_improve 109 = .ok (.iload 8, 2) := dk_21 8 (dk_at dksX1_improve_4 17 rfl rfl)
theorem dX1_improve_111 : decode cX1_improve 111 = .ok (.goto 5, 3) := dk_167 0 5 (dk_at dksX1_improve_4 19 rfl rfl)
theorem dX1_improve_114 : decode cX1_improve 114 = .ok (.iload 6, 2) := dk_21 6 (dk_at dksX1_improve_4 22 rfl rfl)
theorem dX1_improve_116 : decode cX1_improve 116 = .ok (.istore 6, 2) := dk_54 6 (dk_at dksX1_improve_5 0 rfl rfl)
theorem dX1_improve_118 : decode cX1_improve 118 = .ok (.iload 7, 2) := dk_21 7 (dk_at dksX1_improve_5 2 rfl rfl)
theorem dX1_improve_120 : decode cX1_improve 120 = .ok (.iload 9, 2) := dk_21 9 (dk_at dksX1_improve_5 4 rfl rfl)
theorem dX1_improve_122 : decode cX1_improve 122 = .ok (.invokestatic 123, 3) := dk_184 0 123 (dk_at dksX1_improve_5 6 rfl rfl)
theorem dX1_improve_125 : decode cX1_improve 125 = .ok (.istore 7, 2) := dk_54 7 (dk_at dksX1_improve_5 9 rfl rfl)
theorem dX1_improve_127 : decode cX1_improve 127 = .ok (.iinc 8 1, 3) := dk_132 8 1 (dk_at dksX1_improve_5 11 rfl rfl)
theorem dX1_improve_130 : decode cX1_improve 130 = .ok (.goto (-56), 3) := dk_167 255 200 (dk_at dksX1_improve_5 14 rfl rfl)
theorem dX1_improve_133 : decode cX1_improve 133 = .ok (.aload_n 0, 1) := dk_42 (dk_at dksX1_improve_5 17 rfl rfl)
theorem dX1_improve_134 : decode cX1_improve 134 = .ok (.getfield 30, 3) := dk_180 0 30 (dk_at dksX1_improve_5 18 rfl rfl)
theorem dX1_improve_137 : decode cX1_improve 137 = .ok (.iload 4, 2) := dk_21 4 (dk_at dksX1_improve_5 21 rfl rfl)
theorem dX1_improve_139 : decode cX1_improve 139 = .ok (.aaload, 1) := dk_50 (dk_at dksX1_improve_5 23 rfl rfl)
theorem dX1_improve_140 : decode cX1_improve 140 = .ok (.iload 6, 2) := dk_21 6 (dk_at dksX1_improve_6 0 rfl rfl)
theorem dX1_improve_142 : decode cX1_improve 142 = .ok (.putfield 109, 3) := dk_181 0 109 (dk_at dksX1_improve_6 2 rfl rfl)
theorem dX1_improve_145 : decode cX1_improve 145 = .ok (.iload_n 2, 1) := dk_28 (dk_at dksX1_improve_6 5 rfl rfl)
theorem dX1_improve_146 : decode cX1_improve 146 = .ok (.ifCond .ne 10, 3) := dk_154 0 10 (dk_at dksX1_improve_6 6 rfl rfl)
theorem dX1_improve_149 : decode cX1_improve 149 = .ok (.iload 6, 2) := dk_21 6 (dk_at dksX1_improve_6 9 rfl rfl)
theorem dX1_improve_151 : decode cX1_improve 151 = .ok (.iload 5, 2) := dk_21 5 (dk_at dksX1_improve_6 11 rfl rfl)
theorem dX1_improve_153 : decode cX1_improve 153 = .ok (.if_icmp .eq 7, 3) := dk_159 0 7 (dk_at dksX1_improve_6 13 rfl rfl)
theorem dX1_improve_156 : decode cX1_improve 156 = .ok (.iconst 1, 1) := dk_4 (dk_at dksX1_improve_6 16 rfl rfl)
theorem dX1_improve_157 : decode cX1_improve 157 = .ok (.goto 4, 3) := dk_167 0 4 (dk_at dksX1_improve_6 17 rfl rfl)
theorem dX1_improve_160 : decode cX1_improve 160 = .ok (.iconst 0, 1) := dk_3 (dk_at dksX1_improve_6 20 rfl rfl)
theorem dX1_improve_161 : decode cX1_improve 161 = .ok (.istore_n 2, 1) := dk_61 (dk_at dksX1_improve_6 21 rfl rfl)
theorem dX1_improve_162 : decode cX1_improve 162 = .ok (.iinc 4 1, 3) := dk_132 4 1 (dk_at dksX1_improve_7 0 rfl rfl)
theorem dX1_improve_165 : decode cX1_improve 165 = .ok (.goto (-122), 3) := dk_167 255 134 (dk_at dksX1_improve_7 3 rfl rfl)
theorem dX1_improve_168 : decode cX1_improve 168 = .ok (.iinc 3 1, 3) := dk_132 3 1 (dk_at dksX1_improve_7 6 rfl rfl)
theorem dX1_improve_171 : decode cX1_improve 171 = .ok (.goto (-143), 3) := dk_167 255 113 (dk_at dksX1_improve_7 9 rfl rfl)
theorem dX1_improve_174 : decode cX1_improve 174 = .ok (.aload_n 0, 1) := dk_42 (dk_at dksX1_improve_7 12 rfl rfl)
theorem dX1_improve_175 : decode cX1_improve 175 = .ok (.aload_n 1, 1) := dk_43 (dk_at dksX1_improve_7 13 rfl rfl)
theorem dX1_improve_176 : decode cX1_improve 176 = .ok (.invokevirtual 119, 3) := dk_182 0 119 (dk_at dksX1_improve_7 14 rfl rfl)
theorem dX1_improve_179 : decode cX1_improve 179 = .ok (.ireturn, 1) := dk_172 (dk_at dksX1_improve_7 17 rfl rfl)
abbrev cX1_requirePlans : ByteArray := prog_1_method_13_code
def yX1_requirePlans : MethodName := ⟨RX1, "requirePlans", "()V"⟩
def dkwX1_requirePlans_1 : List UInt8 := [182, 0, 66, 155, 0, 7, 4, 167, 0, 4, 3, 184, 0, 69, 132, 3, 1, 167, 255, 227, 177]
abbrev dktX1_requirePlans_1 : List UInt8 := dkwX1_requirePlans_1 ++ []
def dkwX1_requirePlans_0 : List UInt8 := [42, 180, 0, 30, 76, 43, 190, 61, 3, 62, 29, 28, 162, 0, 30, 43, 29, 50, 58, 4, 25, 4]
abbrev dktX1_requirePlans_0 : List UInt8 := dkwX1_requirePlans_0 ++ dktX1_requirePlans_1
theorem dksX1_requirePlans_0 : cX1_requirePlans.data.toList.drop 0 = dktX1_requirePlans_0 := by decide +kernel
theorem dksX1_requirePlans_1 : cX1_requirePlans.data.toList.drop 22 = dktX1_requirePlans_1 := dk_seg dksX1_requirePlans_0 22 rfl rfl
theorem dX1_requirePlans_0 : decode cX1_requirePlans 0 = .ok (.aload_n 0, 1) := dk_42 (dk_at dksX1_requirePlans_0 0 rfl rfl)
theorem dX1_requirePlans_1 : decode cX1_requirePlans 1 = .ok (.getfield 30, 3) := dk_180 0 30 (dk_at dksX1_requirePlans_0 1 rfl rfl)
theorem dX1_requirePlans_4 : decode cX1_requirePlans 4 = .ok (.astore_n 1, 1) := dk_76 (dk_at dksX1_requirePlans_0 4 rfl rfl)
theorem dX1_requirePlans_5 : decode cX1_requirePlans 5 = .ok (.aload_n 1, 1) := dk_43 (dk_at dksX1_requirePlans_0 5 rfl rfl)
theorem dX1_requirePlans_6 : decode cX1_requirePlans 6 = .ok (.arraylength, 1) := dk_190 (dk_at dksX1_requirePlans_0 6 rfl rfl)
theorem dX1_requirePlans_7 : decode cX1_requirePlans 7 = .ok (.istore_n 2, 1) := dk_61 (dk_at dksX1_requirePlans_0 7 rfl rfl)
theorem dX1_requirePlans_8 : decode cX1_requirePlans 8 = .ok (.iconst 0, 1) := dk_3 (dk_at dksX1_requirePlans_0 8 rfl rfl)
theorem dX1_requirePlans_9 : decode cX1_requirePlans 9 = .ok (.istore_n 3, 1) := dk_62 (dk_at dksX1_requirePlans_0 9 rfl rfl)
theorem dX1_requirePlans_10 : decode cX1_requirePlans 10 = .ok (.iload_n 3, 1) := dk_29 (dk_at dksX1_requirePlans_0 10 rfl rfl)
theorem dX1_requirePlans_11 : decode cX1_requirePlans 11 = .ok (.iload_n 2, 1) := dk_28 (dk_at dksX1_requirePlans_0 11 rfl rfl)
theorem dX1_requirePlans_12 : decode cX1_requirePlans 12 = .ok (.if_icmp .ge 30, 3) := dk_162 0 30 (dk_at dksX1_requirePlans_0 12 rfl rfl)
theorem dX1_requirePlans_15 : decode cX1_requirePlans 15 = .ok (.aload_n 1, 1) := dk_43 (dk_at dksX1_requirePlans_0 15 rfl rfl)
theorem dX1_requirePlans_16 : decode cX1_requirePlans 16 = .ok (.iload_n 3, 1) := dk_29 (dk_at dksX1_requirePlans_0 16 rfl rfl)
theorem dX1_requirePlans_17 : decode cX1_requirePlans 17 = .ok (.aaload, 1) := dk_50 (dk_at dksX1_requirePlans_0 17 rfl rfl)
theorem dX1_requirePlans_18 : decode cX1_requirePlans 18 = .ok (.astore 4, 2) := dk_58 4 (dk_at dksX1_requirePlans_0 18 rfl rfl)
theorem dX1_requirePlans_20 : decode cX1_requirePlans 20 = .ok (.aload 4, 2) := dk_25 4 (dk_at dksX1_requirePlans_0 20 rfl rfl)
theorem dX1_requirePlans_22 : decode cX1_requirePlans 22 = .ok (.invokevirtual 66, 3) := dk_182 0 66 (dk_at dksX1_requirePlans_1 0 rfl rfl)
theorem dX1_requirePlans_25 : decode cX1_requirePlans 25 = .ok (.ifCond .lt 7, 3) := dk_155 0 7 (dk_at dksX1_requirePlans_1 3 rfl rfl)
theorem dX1_requirePlans_28 : decode cX1_requirePlans 28 = .ok (.iconst 1, 1) := dk_4 (dk_at dksX1_requirePlans_1 6 rfl rfl)
theorem dX1_requirePlans_29 : decode cX1_requirePlans 29 = .ok (.goto 4, 3) := dk_167 0 4 (dk_at dksX1_requirePlans_1 7 rfl rfl)
theorem dX1_requirePlans_32 : decode cX1_requirePlans 32 = .ok (.iconst 0, 1) := dk_3 (dk_at dksX1_requirePlans_1 10 rfl rfl)
theorem dX1_requirePlans_33 : decode cX1_requirePlans 33 = .ok (.invokestatic 69, 3) := dk_184 0 69 (dk_at dksX1_requirePlans_1 11 rfl rfl)
theorem dX1_requirePlans_36 : decode cX1_requirePlans 36 = .ok (.iinc 3 1, 3) := dk_132 3 1 (dk_at dksX1_requirePlans_1 14 rfl rfl)
theorem dX1_requirePlans_39 : decode cX1_requirePlans 39 = .ok (.goto (-29), 3) := dk_167 255 227 (dk_at dksX1_requirePlans_1 17 rfl rfl)
theorem dX1_requirePlans_42 : decode cX1_requirePlans 42 = .ok (.return_, 1) := dk_177 (dk_at dksX1_requirePlans_1 20 rfl rfl)
abbrev cX1_mainGreens : ByteArray := prog_1_method_30_code
def yX1_mainGreens : MethodName := ⟨RX1, "mainGreens", "()[[Z"⟩
def dkwX1_mainGreens_2 : List UInt8 := [180, 0, 30, 28, 50, 4, 182, 0, 142, 83, 132, 2, 1, 167, 255, 210, 43, 176]
abbrev dktX1_mainGreens_2 : List UInt8 := dkwX1_mainGreens_2 ++ []
def dkwX1_mainGreens_1 : List UInt8 := [28, 104, 42, 42, 180, 0, 30, 28, 50, 3, 182, 0, 142, 83, 43, 5, 28, 104, 4, 96, 42, 42]
abbrev dktX1_mainGreens_1 : List UInt8 := dkwX1_mainGreens_1 ++ dktX1_mainGreens_2
def dkwX1_mainGreens_0 : List UInt8 := [5, 42, 180, 0, 30, 190, 104, 189, 0, 153, 76, 3, 61, 28, 42, 180, 0, 30, 190, 162, 0, 43, 43, 5]
abbrev dktX1_mainGreens_0 : List UInt8 := dkwX1_mainGreens_0 ++ dktX1_mainGreens_1
theorem dksX1_mainGreens_0 : cX1_mainGreens.data.toList.drop 0 = dktX1_mainGreens_0 := by decide +kernel
theorem dksX1_mainGreens_1 : cX1_mainGreens.data.toList.drop 24 = dktX1_mainGreens_1 := dk_seg dksX1_mainGreens_0 24 rfl rfl
theorem dksX1_mainGreens_2 : cX1_mainGreens.data.toList.drop 46 = dktX1_mainGreens_2 := dk_seg dksX1_mainGreens_1 22 rfl rfl
theorem dX1_mainGreens_0 : decode cX1_mainGreens 0 = .ok (.iconst 2, 1) := dk_5 (dk_at dksX1_mainGreens_0 0 rfl rfl)
theorem dX1_mainGreens_1 : decode cX1_mainGreens 1 = .ok (.aload_n 0, 1) := dk_42 (dk_at dksX1_mainGreens_0 1 rfl rfl)
theorem dX1_mainGreens_2 : decode cX1_mainGreens 2 = .ok (.getfield 30, 3) := dk_180 0 30 (dk_at dksX1_mainGreens_0 2 rfl rfl)
theorem dX1_mainGreens_5 : decode cX1_mainGreens 5 = .ok (.arraylength, 1) := dk_190 (dk_at dksX1_mainGreens_0 5 rfl rfl)
theorem dX1_mainGreens_6 : decode cX1_mainGreens 6 = .ok (.imul, 1) := dk_104 (dk_at dksX1_mainGreens_0 6 rfl rfl)
theorem dX1_mainGreens_7 : decode cX1_mainGreens 7 = .ok (.anewarray 153, 3) := dk_189 0 153 (dk_at dksX1_mainGreens_0 7 rfl rfl)
theorem dX1_mainGreens_10 : decode cX1_mainGreens 10 = .ok (.astore_n 1, 1) := dk_76 (dk_at dksX1_mainGreens_0 10 rfl rfl)
theorem dX1_mainGreens_11 : decode cX1_mainGreens 11 = .ok (.iconst 0, 1) := dk_3 (dk_at dksX1_mainGreens_0 11 rfl rfl)
theorem dX1_mainGreens_12 : decode cX1_mainGreens 12 = .ok (.istore_n 2, 1) := dk_61 (dk_at dksX1_mainGreens_0 12 rfl rfl)
theorem dX1_mainGreens_13 : decode cX1_mainGreens 13 = .ok (.iload_n 2, 1) := dk_28 (dk_at dksX1_mainGreens_0 13 rfl rfl)
theorem dX1_mainGreens_14 : decode cX1_mainGreens 14 = .ok (.aload_n 0, 1) := dk_42 (dk_at dksX1_mainGreens_0 14 rfl rfl)
theorem dX1_mainGreens_15 : decode cX1_mainGreens 15 = .ok (.getfield 30, 3) := dk_180 0 30 (dk_at dksX1_mainGreens_0 15 rfl rfl)
theorem dX1_mainGreens_18 : decode cX1_mainGreens 18 = .ok (.arraylength, 1) := dk_190 (dk_at dksX1_mainGreens_0 18 rfl rfl)
theorem dX1_mainGreens_19 : decode cX1_mainGreens 19 = .ok (.if_icmp .ge 43, 3) := dk_162 0 43 (dk_at dksX1_mainGreens_0 19 rfl rfl)
theorem dX1_mainGreens_22 : decode cX1_mainGreens 22 = .ok (.aload_n 1, 1) := dk_43 (dk_at dksX1_mainGreens_0 22 rfl rfl)
theorem dX1_mainGreens_23 : decode cX1_mainGreens 23 = .ok (.iconst 2, 1) := dk_5 (dk_at dksX1_mainGreens_0 23 rfl rfl)
theorem dX1_mainGreens_24 : decode cX1_mainGreens 24 = .ok (.iload_n 2, 1) := dk_28 (dk_at dksX1_mainGreens_1 0 rfl rfl)
theorem dX1_mainGreens_25 : decode cX1_mainGreens 25 = .ok (.imul, 1) := dk_104 (dk_at dksX1_mainGreens_1 1 rfl rfl)
theorem dX1_mainGreens_26 : decode cX1_mainGreens 26 = .ok (.aload_n 0, 1) := dk_42 (dk_at dksX1_mainGreens_1 2 rfl rfl)
theorem dX1_mainGreens_27 : decode cX1_mainGreens 27 = .ok (.aload_n 0, 1) := dk_42 (dk_at dksX1_mainGreens_1 3 rfl rfl)
theorem dX1_mainGreens_28 : decode cX1_mainGreens 28 = .ok (.getfield 30, 3) := dk_180 0 30 (dk_at dksX1_mainGreens_1 4 rfl rfl)
theorem dX1_mainGreens_31 : decode cX1_mainGreens 31 = .ok (.iload_n 2, 1) := dk_28 (dk_at dksX1_mainGreens_1 7 rfl rfl)
theorem dX1_mainGreens_32 : decode cX1_mainGreens 32 = .ok (.aaload, 1) := dk_50 (dk_at dksX1_mainGreens_1 8 rfl rfl)
theorem dX1_mainGreens_33 : decode cX1_mainGreens 33 = .ok (.iconst 0, 1) := dk_3 (dk_at dksX1_mainGreens_1 9 rfl rfl)
theorem dX1_mainGreens_34 : decode cX1_mainGreens 34 = .ok (.invokevirtual 142, 3) := dk_182 0 142 (dk_at dksX1_mainGreens_1 10 rfl rfl)
theorem dX1_mainGreens_37 : decode cX1_mainGreens 37 = .ok (.aastore, 1) := dk_83 (dk_at dksX1_mainGreens_1 13 rfl rfl)
theorem dX1_mainGreens_38 : decode cX1_mainGreens 38 = .ok (.aload_n 1, 1) := dk_43 (dk_at dksX1_mainGreens_1 14 rfl rfl)
theorem dX1_mainGreens_39 : decode cX1_mainGreens 39 = .ok (.iconst 2, 1) := dk_5 (dk_at dksX1_mainGreens_1 15 rfl rfl)
theorem dX1_mainGreens_40 : decode cX1_mainGreens 40 = .ok (.iload_n 2, 1) := dk_28 (dk_at dksX1_mainGreens_1 16 rfl rfl)
theorem dX1_mainGreens_41 : decode cX1_mainGreens 41 = .ok (.imul, 1) := dk_104 (dk_at dksX1_mainGreens_1 17 rfl rfl)
theorem dX1_mainGreens_42 : decode cX1_mainGreens 42 = .ok (.iconst 1, 1) := dk_4 (dk_at dksX1_mainGreens_1 18 rfl rfl)
theorem dX1_mainGreens_43 : decode cX1_mainGreens 43 = .ok (.iadd, 1) := dk_96 (dk_at dksX1_mainGreens_1 19 rfl rfl)
theorem dX1_mainGreens_44 : decode cX1_mainGreens 44 = .ok (.aload_n 0, 1) := dk_42 (dk_at dksX1_mainGreens_1 20 rfl rfl)
theorem dX1_mainGreens_45 : decode cX1_mainGreens 45 = .ok (.aload_n 0, 1) := dk_42 (dk_at dksX1_mainGreens_1 21 rfl rfl)
theorem dX1_mainGreens_46 : decode cX1_mainGreens 46 = .ok (.getfield 30, 3) := dk_180 0 30 (dk_at dksX1_mainGreens_2 0 rfl rfl)
theorem dX1_mainGreens_49 : decode cX1_mainGreens 49 = .ok (.iload_n 2, 1) := dk_28 (dk_at dksX1_mainGreens_2 3 rfl rfl)
theorem dX1_mainGreens_50 : decode cX1_mainGreens 50 = .ok (.aaload, 1) := dk_50 (dk_at dksX1_mainGreens_2 4 rfl rfl)
theorem dX1_mainGreens_51 : decode cX1_mainGreens 51 = .ok (.iconst 1, 1) := dk_4 (dk_at dksX1_mainGreens_2 5 rfl rfl)
theorem dX1_mainGreens_52 : decode cX1_mainGreens 52 = .ok (.invokevirtual 142, 3) := dk_182 0 142 (dk_at dksX1_mainGreens_2 6 rfl rfl)
theorem dX1_mainGreens_55 : decode cX1_mainGreens 55 = .ok (.aastore, 1) := dk_83 (dk_at dksX1_mainGreens_2 9 rfl rfl)
theorem dX1_mainGreens_56 : decode cX1_mainGreens 56 = .ok (.iinc 2 1, 3) := dk_132 2 1 (dk_at dksX1_mainGreens_2 10 rfl rfl)
theorem dX1_mainGreens_59 : decode cX1_mainGreens 59 = .ok (.goto (-46), 3) := dk_167 255 210 (dk_at dksX1_mainGreens_2 13 rfl rfl)
theorem dX1_mainGreens_62 : decode cX1_mainGreens 62 = .ok (.aload_n 1, 1) := dk_43 (dk_at dksX1_mainGreens_2 16 rfl rfl)
theorem dX1_mainGreens_63 : decode cX1_mainGreens 63 = .ok (.areturn, 1) := dk_176 (dk_at dksX1_mainGreens_2 17 rfl rfl)
abbrev cX1_greensOf : ByteArray := prog_1_method_28_code
def yX1_greensOf : MethodName := ⟨RX1, "greensOf", "(LGreenwave$Junction;I)[Z"⟩
def dkwX1_greensOf_3 : List UInt8 := [167, 255, 205, 45, 176]
abbrev dktX1_greensOf_3 : List UInt8 := dkwX1_greensOf_3 ++ []
def dkwX1_greensOf_2 : List UInt8 := [180, 0, 79, 21, 6, 46, 28, 184, 0, 83, 153, 0, 7, 4, 167, 0, 4, 3, 84, 132, 5, 1]
abbrev dktX1_greensOf_2 : List UInt8 := dkwX1_greensOf_2 ++ dktX1_greensOf_3
def dkwX1_greensOf_1 : List UInt8 := [162, 0, 48, 43, 21, 5, 25, 4, 182, 0, 149, 54, 6, 45, 21, 5, 21, 6, 2, 159, 0, 21, 43]
abbrev dktX1_greensOf_1 : List UInt8 := dkwX1_greensOf_1 ++ dktX1_greensOf_2
def dkwX1_greensOf_0 : List UInt8 := [42, 180, 0, 34, 188, 4, 78, 43, 182, 0, 133, 58, 4, 3, 54, 5, 21, 5, 42, 180, 0, 34]
abbrev dktX1_greensOf_0 : List UInt8 := dkwX1_greensOf_0 ++ dktX1_greensOf_1
theorem dksX1_greensOf_0 : cX1_greensOf.data.toList.drop 0 = dktX1_greensOf_0 := by decide +kernel
theorem dksX1_greensOf_1 : cX1_greensOf.data.toList.drop 22 = dktX1_greensOf_1 := dk_seg dksX1_greensOf_0 22 rfl rfl
theorem dksX1_greensOf_2 : cX1_greensOf.data.toList.drop 45 = dktX1_greensOf_2 := dk_seg dksX1_greensOf_1 23 rfl rfl
theorem dksX1_greensOf_3 : cX1_greensOf.data.toList.drop 67 = dktX1_greensOf_3 := dk_seg dksX1_greensOf_2 22 rfl rfl
theorem dX1_greensOf_0 : decode cX1_greensOf 0 = .ok (.aload_n 0, 1) := dk_42 (dk_at dksX1_greensOf_0 0 rfl rfl)
theorem dX1_greensOf_1 : decode cX1_greensOf 1 = .ok (.getfield 34, 3) := dk_180 0 34 (dk_at dksX1_greensOf_0 1 rfl rfl)
theorem dX1_greensOf_4 : decode cX1_greensOf 4 = .ok (.newarray .boolean, 2) := dk_188_4 (dk_at dksX1_greensOf_0 4 rfl rfl)
theorem dX1_greensOf_6 : decode cX1_greensOf 6 = .ok (.astore_n 3, 1) := dk_78 (dk_at dksX1_greensOf_0 6 rfl rfl)
theorem dX1_greensOf_7 : decode cX1_greensOf 7 = .ok (.aload_n 1, 1) := dk_43 (dk_at dksX1_greensOf_0 7 rfl rfl)
theorem dX1_greensOf_8 : decode cX1_greensOf 8 = .ok (.invokevirtual 133, 3) := dk_182 0 133 (dk_at dksX1_greensOf_0 8 rfl rfl)
theorem dX1_greensOf_11 : decode cX1_greensOf 11 = .ok (.astore 4, 2) := dk_58 4 (dk_at dksX1_greensOf_0 11 rfl rfl)
theorem dX1_greensOf_13 : decode cX1_greensOf 13 = .ok (.iconst 0, 1) := dk_3 (dk_at dksX1_greensOf_0 13 rfl rfl)
theorem dX1_greensOf_14 : decode cX1_greensOf 14 = .ok (.istore 5, 2) := dk_54 5 (dk_at dksX1_greensOf_0 14 rfl rfl)
theorem dX1_greensOf_16 : decode cX1_greensOf 16 = .ok (.iload 5, 2) := dk_21 5 (dk_at dksX1_greensOf_0 16 rfl rfl)
theorem dX1_greensOf_18 : decode cX1_greensOf 18 = .ok (.aload_n 0, 1) := dk_42 (dk_at dksX1_greensOf_0 18 rfl rfl)
theorem dX1_greensOf_19 : decode cX1_greensOf 19 = .ok (.getfield 34, 3) := dk_180 0 34 (dk_at dksX1_greensOf_0 19 rfl rfl)
theorem dX1_greensOf_22 : decode cX1_greensOf 22 = .ok (.if_icmp .ge 48, 3) := dk_162 0 48 (dk_at dksX1_greensOf_1 0 rfl rfl)
theorem dX1_greensOf_25 : decode cX1_greensOf 25 = .ok (.aload_n 1, 1) := dk_43 (dk_at dksX1_greensOf_1 3 rfl rfl)
theorem dX1_greensOf_26 : decode cX1_greensOf 26 = .ok (.iload 5, 2) := dk_21 5 (dk_at dksX1_greensOf_1 4 rfl rfl)
theorem dX1_greensOf_28 : decode cX1_greensOf 28 = .ok (.aload 4, 2) := dk_25 4 (dk_at dksX1_greensOf_1 6 rfl rfl)
theorem dX1_greensOf_30 : decode cX1_greensOf 30 = .ok (.invokevirtual 149, 3) := dk_182 0 149 (dk_at dksX1_greensOf_1 8 rfl rfl)
theorem dX1_greensOf_33 : decode cX1_greensOf 33 = .ok (.istore 6, 2) := dk_54 6 (dk_at dksX1_greensOf_1 11 rfl rfl)
theorem dX1_greensOf_35 : decode cX1_greensOf 35 = .ok (.aload_n 3, 1) := dk_45 (dk_at dksX1_greensOf_1 13 rfl rfl)
theorem dX1_greensOf_36 : decode cX1_greensOf 36 = .ok (.iload 5, 2) := dk_21 5 (dk_at dksX1_greensOf_1 14 rfl rfl)
theorem dX1_greensOf_38 : decode cX1_greensOf 38 = .ok (.iload 6, 2) := dk_21 6 (dk_at dksX1_greensOf_1 16 rfl rfl)
theorem dX1_greensOf_40 : decode cX1_greensOf 40 = .ok (.iconst (-1), 1) := dk_2 (dk_at dksX1_greensOf_1 18 rfl rfl)
theorem dX1_greensOf_41 : decode cX1_greensOf 41 = .ok (.if_icmp .eq 21, 3) := dk_159 0 21 (dk_at dksX1_greensOf_1 19 rfl rfl)
theorem dX1_greensOf_44 : decode cX1_greensOf 44 = .ok (.aload_n 1, 1) := dk_43 (dk_at dksX1_greensOf_1 22 rfl rfl)
theorem dX1_greensOf_45 : decode cX1_greensOf 45 = .ok (.getfield 79, 3) := dk_180 0 79 (dk_at dksX1_greensOf_2 0 rfl rfl)
theorem dX1_greensOf_48 : decode cX1_greensOf 48 = .ok (.iload 6, 2) := dk_21 6 (dk_at dksX1_greensOf_2 3 rfl rfl)
theorem dX1_greensOf_50 : decode cX1_greensOf 50 = .ok (.iaload, 1) := dk_46 (dk_at dksX1_greensOf_2 5 rfl rfl)
theorem dX1_greensOf_51 : decode cX1_greensOf 51 = .ok (.iload_n 2, 1) := dk_28 (dk_at dksX1_greensOf_2 6 rfl rfl)
theorem dX1_greensOf_52 : decode cX1_greensOf 52 = .ok (.invokestatic 83, 3) := dk_184 0 83 (dk_at dksX1_greensOf_2 7 rfl rfl)
theorem dX1_greensOf_55 : decode cX1_greensOf 55 = .ok (.ifCond .eq 7, 3) := dk_153 0 7 (dk_at dksX1_greensOf_2 10 rfl rfl)
theorem dX1_greensOf_58 : decode cX1_greensOf 58 = .ok (.iconst 1, 1) := dk_4 (dk_at dksX1_greensOf_2 13 rfl rfl)
theorem dX1_greensOf_59 : decode cX1_greensOf 59 = .ok (.goto 4, 3) := dk_167 0 4 (dk_at dksX1_greensOf_2 14 rfl rfl)
theorem dX1_greensOf_62 : decode cX1_greensOf 62 = .ok (.iconst 0, 1) := dk_3 (dk_at dksX1_greensOf_2 17 rfl rfl)
theorem dX1_greensOf_63 : decode cX1_greensOf 63 = .ok (.bastore, 1) := dk_84 (dk_at dksX1_greensOf_2 18 rfl rfl)
theorem dX1_greensOf_64 : decode cX1_greensOf 64 = .ok (.iinc 5 1, 3) := dk_132 5 1 (dk_at dksX1_greensOf_2 19 rfl rfl)
theorem dX1_greensOf_67 : decode cX1_greensOf 67 = .ok (.goto (-51), 3) := dk_167 255 205 (dk_at dksX1_greensOf_3 0 rfl rfl)
theorem dX1_greensOf_70 : decode cX1_greensOf 70 = .ok (.aload_n 3, 1) := dk_45 (dk_at dksX1_greensOf_3 3 rfl rfl)
theorem dX1_greensOf_71 : decode cX1_greensOf 71 = .ok (.areturn, 1) := dk_176 (dk_at dksX1_greensOf_3 4 rfl rfl)
abbrev cX1_bands : ByteArray := prog_1_method_32_code
def yX1_bands : MethodName := ⟨RX1, "bands", "([[Z)I"⟩
def dkwX1_bands_0 : List UInt8 := [42, 43, 3, 182, 0, 155, 42, 43, 4, 182, 0, 155, 96, 172]
abbrev dktX1_bands_0 : List UInt8 := dkwX1_bands_0 ++ []
theorem dksX1_bands_0 : cX1_bands.data.toList.drop 0 = dktX1_bands_0 := by decide +kernel
theorem dX1_bands_0 : decode cX1_bands 0 = .ok (.aload_n 0, 1) := dk_42 (dk_at dksX1_bands_0 0 rfl rfl)
theorem dX1_bands_1 : decode cX1_bands 1 = .ok (.aload_n 1, 1) := dk_43 (dk_at dksX1_bands_0 1 rfl rfl)
theorem dX1_bands_2 : decode cX1_bands 2 = .ok (.iconst 0, 1) := dk_3 (dk_at dksX1_bands_0 2 rfl rfl)
theorem dX1_bands_3 : decode cX1_bands 3 = .ok (.invokevirtual 155, 3) := dk_182 0 155 (dk_at dksX1_bands_0 3 rfl rfl)
theorem dX1_bands_6 : decode cX1_bands 6 = .ok (.aload_n 0, 1) := dk_42 (dk_at dksX1_bands_0 6 rfl rfl)
theorem dX1_bands_7 : decode cX1_bands 7 = .ok (.aload_n 1, 1) := dk_43 (dk_at dksX1_bands_0 7 rfl rfl)
theorem dX1_bands_8 : decode cX1_bands 8 = .ok (.iconst 1, 1) := dk_4 (dk_at dksX1_bands_0 8 rfl rfl)
theorem dX1_bands_9 : decode cX1_bands 9 = .ok (.invokevirtual 155, 3) := dk_182 0 155 (dk_at dksX1_bands_0 9 rfl rfl)
theorem dX1_bands_12 : decode cX1_bands 12 = .ok (.iadd, 1) := dk_96 (dk_at dksX1_bands_0 12 rfl rfl)
theorem dX1_bands_13 : decode cX1_bands 13 = .ok (.ireturn, 1) := dk_172 (dk_at dksX1_bands_0 13 rfl rfl)
abbrev cX1_bandOf : ByteArray := prog_1_method_31_code
def yX1_bandOf : MethodName := ⟨RX1, "bandOf", "([[ZI)I"⟩
def dkwX1_bandOf_6 : List UInt8 := [167, 0, 4, 3, 96, 62, 132, 4, 1, 167, 255, 110, 29, 172]
abbrev dktX1_bandOf_6 : List UInt8 := dkwX1_bandOf_6 ++ []
def dkwX1_bandOf_5 : List UInt8 := [180, 0, 103, 167, 0, 4, 3, 96, 54, 5, 132, 7, 1, 167, 255, 148, 29, 21, 6, 153, 0, 7, 4]
abbrev dktX1_bandOf_5 : List UInt8 := dkwX1_bandOf_5 ++ dktX1_bandOf_6
def dkwX1_bandOf_4 : List UInt8 := [54, 9, 21, 5, 21, 7, 42, 180, 0, 30, 190, 4, 100, 162, 0, 16, 42, 180, 0, 30, 21, 9, 50]
abbrev dktX1_bandOf_4 : List UInt8 := dkwX1_bandOf_4 ++ dktX1_bandOf_5
def dkwX1_bandOf_3 : List UInt8 := [21, 8, 50, 21, 5, 182, 0, 146, 51, 54, 6, 28, 154, 0, 8, 21, 8, 167, 0, 7, 21, 8, 4, 100]
abbrev dktX1_bandOf_3 : List UInt8 := dkwX1_bandOf_3 ++ dktX1_bandOf_4
def dkwX1_bandOf_2 : List UInt8 := [42, 180, 0, 30, 190, 4, 100, 21, 7, 100, 54, 8, 43, 5, 21, 8, 104, 28, 96, 50, 42, 180, 0, 30]
abbrev dktX1_bandOf_2 : List UInt8 := dkwX1_bandOf_2 ++ dktX1_bandOf_3
def dkwX1_bandOf_1 : List UInt8 := [21, 7, 42, 180, 0, 30, 190, 162, 0, 104, 21, 6, 153, 0, 99, 28, 154, 0, 8, 21, 7, 167, 0, 13]
abbrev dktX1_bandOf_1 : List UInt8 := dkwX1_bandOf_1 ++ dktX1_bandOf_2
def dkwX1_bandOf_0 : List UInt8 := [3, 62, 3, 54, 4, 21, 4, 42, 180, 0, 34, 162, 0, 143, 21, 4, 54, 5, 4, 54, 6, 3, 54, 7]
abbrev dktX1_bandOf_0 : List UInt8 := dkwX1_bandOf_0 ++ dktX1_bandOf_1
theorem dksX1_bandOf_0 : cX1_bandOf.data.toList.drop 0 = dktX1_bandOf_0 := by decide +kernel
theorem dksX1_bandOf_1 : cX1_bandOf.data.toList.drop 24 = dktX1_bandOf_1 := dk_seg dksX1_bandOf_0 24 rfl rfl
theorem dksX1_bandOf_2 : cX1_bandOf.data.toList.drop 48 = dktX1_bandOf_2 := dk_seg dksX1_bandOf_1 24 rfl rfl
theorem dksX1_bandOf_3 : cX1_bandOf.data.toList.drop 72 = dktX1_bandOf_3 := dk_seg dksX1_bandOf_2 24 rfl rfl
theorem dksX1_bandOf_4 : cX1_bandOf.data.toList.drop 96 = dktX1_bandOf_4 := dk_seg dksX1_bandOf_3 24 rfl rfl
theorem dksX1_bandOf_5 : cX1_bandOf.data.toList.drop 119 = dktX1_bandOf_5 := dk_seg dksX1_bandOf_4 23 rfl rfl
theorem dksX1_bandOf_6 : cX1_bandOf.data.toList.drop 142 = dktX1_bandOf_6 := dk_seg dksX1_bandOf_5 23 rfl rfl
theorem dX1_bandOf_0 : decode cX1_bandOf 0 = .ok (.iconst 0, 1) := dk_3 (dk_at dksX1_bandOf_0 0 rfl rfl)
theorem dX1_bandOf_1 : decode cX1_bandOf 1 = .ok (.istore_n 3, 1) := dk_62 (dk_at dksX1_bandOf_0 1 rfl rfl)
theorem dX1_bandOf_2 : decode cX1_bandOf 2 = .ok (.iconst 0, 1) := dk_3 (dk_at dksX1_bandOf_0 2 rfl rfl)
theorem dX1_bandOf_3 : decode cX1_bandOf 3 = .ok (.istore 4, 2) := dk_54 4 (dk_at dksX1_bandOf_0 3 rfl rfl)
theorem dX1_bandOf_5 : decode cX1_bandOf 5 = .ok (.iload 4, 2) := dk_21 4 (dk_at dksX1_bandOf_0 5 rfl rfl)
theorem dX1_bandOf_7 : decode cX1_bandOf 7 = .ok (.aload_n 0, 1) := dk_42 (dk_at dksX1_bandOf_0 7 rfl rfl)
theorem dX1_bandOf_8 : decode cX1_bandOf 8 = .ok (.getfield 34, 3) := dk_180 0 34 (dk_at dksX1_bandOf_0 8 rfl rfl)
theorem dX1_bandOf_11 : decode cX1_bandOf 11 = .ok (.if_icmp .ge 143, 3) := dk_162 0 143 (dk_at dksX1_bandOf_0 11 rfl rfl)
theorem dX1_bandOf_14 : decode cX1_bandOf 14 = .ok (.iload 4, 2) := dk_21 4 (dk_at dksX1_bandOf_0 14 rfl rfl)
theorem dX1_bandOf_16 : decode cX1_bandOf 16 = .ok (.istore 5, 2) := dk_54 5 (dk_at dksX1_bandOf_0 16 rfl rfl)
theorem dX1_bandOf_18 : decode cX1_bandOf 18 = .ok (.iconst 1, 1) := dk_4 (dk_at dksX1_bandOf_0 18 rfl rfl)
theorem dX1_bandOf_19 : decode cX1_bandOf 19 = .ok (.istore 6, 2) := dk_54 6 (dk_at dksX1_bandOf_0 19 rfl rfl)
theorem dX1_bandOf_21 : decode cX1_bandOf 21 = .ok (.iconst 0, 1) := dk_3 (dk_at dksX1_bandOf_0 21 rfl rfl)
theorem dX1_bandOf_22 : decode cX1_bandOf 22 = .ok (.istore 7, 2) := dk_54 7 (dk_at dksX1_bandOf_0 22 rfl rfl)
theorem dX1_bandOf_24 : decode cX1_bandOf 24 = .ok (.iload 7, 2) := dk_21 7 (dk_at dksX1_bandOf_1 0 rfl rfl)
theorem dX1_bandOf_26 : decode cX1_bandOf 26 = .ok (.aload_n 0, 1) := dk_42 (dk_at dksX1_bandOf_1 2 rfl rfl)
theorem dX1_bandOf_27 : decode cX1_bandOf 27 = .ok (.getfield 30, 3) := dk_180 0 30 (dk_at dksX1_bandOf_1 3 rfl rfl)
theorem dX1_bandOf_30 : decode cX1_bandOf 30 = .ok (.arraylength, 1) := dk_190 (dk_at dksX1_bandOf_1 6 rfl rfl)
theorem dX1_bandOf_31 : decode cX1_bandOf 31 = .ok (.if_icmp .ge 104, 3) := dk_162 0 104 (dk_at dksX1_bandOf_1 7 rfl rfl)
theorem dX1_bandOf_34 : decode cX1_bandOf 34 = .ok (.iload 6, 2) := dk_21 6 (dk_at dksX1_bandOf_1 10 rfl rfl)
theorem dX1_bandOf_36 : decode cX1_bandOf 36 = .ok (.ifCond .eq 99, 3) := dk_153 0 99 (dk_at dksX1_bandOf_1 12 rfl rfl)
theorem dX1_bandOf_39 : decode cX1_bandOf 39 = .ok (.iload_n 2, 1) := dk_28 (dk_at dksX1_bandOf_1 15 rfl rfl)
theorem dX1_bandOf_40 : decode cX1_bandOf 40 = .ok (.ifCond .ne 8, 3) := dk_154 0 8 (dk_at dksX1_bandOf_1 16 rfl rfl)
theorem dX1_bandOf_43 : decode cX1_bandOf 43 = .ok (.iload 7, 2) := dk_21 7 (dk_at dksX1_bandOf_1 19 rfl rfl)
theorem dX1_bandOf_45 : decode cX1_bandOf 45 = .ok (.goto 13, 3) := dk_167 0 13 (dk_at dksX1_bandOf_1 21 rfl rfl)
theorem dX1_bandOf_48 : decode cX1_bandOf 48 = .ok (.aload_n 0, 1) := dk_42 (dk_at dksX1_bandOf_2 0 rfl rfl)
theorem dX1_bandOf_49 : decode cX1_bandOf 49 = .ok (.getfield 30, 3) := dk_180 0 30 (dk_at dksX1_bandOf_2 1 rfl rfl)
theorem dX1_bandOf_52 : decode cX1_bandOf 52 = .ok (.arraylength, 1) := dk_190 (dk_at dksX1_bandOf_2 4 rfl rfl)
theorem dX1_bandOf_53 : decode cX1_bandOf 53 = .ok (.iconst 1, 1) := dk_4 (dk_at dksX1_bandOf_2 5 rfl rfl)
theorem dX1_bandOf_54 : decode cX1_bandOf 54 = .ok (.isub, 1) := dk_100 (dk_at dksX1_bandOf_2 6 rfl rfl)
theorem dX1_bandOf_55 : decode cX1_bandOf 55 = .ok (.iload 7, 2) := dk_21 7 (dk_at dksX1_bandOf_2 7 rfl rfl)
theorem dX1_bandOf_57 : decode cX1_bandOf 57 = .ok (.isub, 1) := dk_100 (dk_at dksX1_bandOf_2 9 rfl rfl)
theorem dX1_bandOf_58 : decode cX1_bandOf 58 = .ok (.istore 8, 2) := dk_54 8 (dk_at dksX1_bandOf_2 10 rfl rfl)
theorem dX1_bandOf_60 : decode cX1_bandOf 60 = .ok (.aload_n 1, 1) := dk_43 (dk_at dksX1_bandOf_2 12 rfl rfl)
theorem dX1_bandOf_61 : decode cX1_bandOf 61 = .ok (.iconst 2, 1) := dk_5 (dk_at dksX1_bandOf_2 13 rfl rfl)
theorem dX1_bandOf_62 : decode cX1_bandOf 62 = .ok (.iload 8, 2) := dk_21 8 (dk_at dksX1_bandOf_2 14 rfl rfl)
theorem dX1_bandOf_64 : decode cX1_bandOf 64 = .ok (.imul, 1) := dk_104 (dk_at dksX1_bandOf_2 16 rfl rfl)
theorem dX1_bandOf_65 : decode cX1_bandOf 65 = .ok (.iload_n 2, 1) := dk_28 (dk_at dksX1_bandOf_2 17 rfl rfl)
theorem dX1_bandOf_66 : decode cX1_bandOf 66 = .ok (.iadd, 1) := dk_96 (dk_at dksX1_bandOf_2 18 rfl rfl)
theorem dX1_bandOf_67 : decode cX1_bandOf 67 = .ok (.aaload, 1) := dk_50 (dk_at dksX1_bandOf_2 19 rfl rfl)
theorem dX1_bandOf_68 : decode cX1_bandOf 68 = .ok (.aload_n 0, 1) := dk_42 (dk_at dksX1_bandOf_2 20 rfl rfl)
theorem dX1_bandOf_69 : decode cX1_bandOf 69 = .ok (.getfield 30, 3) := dk_180 0 30 (dk_at dksX1_bandOf_2 21 rfl rfl)
theorem dX1_bandOf_72 : decode cX1_bandOf 72 = .ok (.iload 8, 2) := dk_21 8 (dk_at dksX1_bandOf_3 0 rfl rfl)
theorem dX1_bandOf_74 : decode cX1_bandOf 74 = .ok (.aaload, 1) := dk_50 (dk_at dksX1_bandOf_3 2 rfl rfl)
theorem dX1_bandOf_75 : decode cX1_bandOf 75 = .ok (.iload 5, 2) := dk_21 5 (dk_at dksX1_bandOf_3 3 rfl rfl)
theorem dX1_bandOf_77 : decode cX1_bandOf 77 = .ok (.invokevirtual 146, 3) := dk_182 0 146 (dk_at dksX1_bandOf_3 5 rfl rfl)
theorem dX1_bandOf_80 : decode cX1_bandOf 80 = .ok (.baload, 1) := dk_51 (dk_at dksX1_bandOf_3 8 rfl rfl)
theorem dX1_bandOf_81 : decode cX1_bandOf 81 = .ok (.istore 6, 2) := dk_54 6 (dk_at dksX1_bandOf_3 9 rfl rfl)
theorem dX1_bandOf_83 : decode cX1_bandOf 83 = .ok (.iload_n 2, 1) := dk_28 (dk_at dksX1_bandOf_3 11 rfl rfl)
theorem dX1_bandOf_84 : decode cX1_bandOf 84 = .ok (.ifCond .ne 8, 3) := dk_154 0 8 (dk_at dksX1_bandOf_3 12 rfl rfl)
theorem dX1_bandOf_87 : decode cX1_bandOf 87 = .ok (.iload 8, 2) := dk_21 8 (dk_at dksX1_bandOf_3 15 rfl rfl)
theorem dX1_bandOf_89 : decode cX1_bandOf 89 = .ok (.goto 7, 3) := dk_167 0 7 (dk_at dksX1_bandOf_3 17 rfl rfl)
theorem dX1_bandOf_92 : decode cX1_bandOf 92 = .ok (.iload 8, 2) := dk_21 8 (dk_at dksX1_bandOf_3 20 rfl rfl)
theorem dX1_bandOf_94 : decode cX1_bandOf 94 = .ok (.iconst 1, 1) := dk_4 (dk_at dksX1_bandOf_3 22 rfl rfl)
theorem dX1_bandOf_95 : decode cX1_bandOf 95 = .ok (.isub, 1) := dk_100 (dk_at dksX1_bandOf_3 23 rfl rfl)
theorem dX1_bandOf_96 : decode cX1_bandOf 96 = .ok (.istore 9, 2) := dk_54 9 (dk_at dksX1_bandOf_4 0 rfl rfl)
theorem dX1_bandOf_98 : decode cX1_bandOf 98 = .ok (.iload 5, 2) := dk_21 5 (dk_at dksX1_bandOf_4 2 rfl rfl)
theorem dX1_bandOf_100 : decode cX1_bandOf 100 = .ok (.iload 7, 2) := dk_21 7 (dk_at dksX1_bandOf_4 4 rfl rfl)
theorem dX1_bandOf_102 : decode cX1_bandOf 102 = .ok (.aload_n 0, 1) := dk_42 (dk_at dksX1_bandOf_4 6 rfl rfl)
theorem dX1_bandOf_103 : decode cX1_bandOf 103 = .ok (.getfield 30, 3) := dk_180 0 30 (dk_at dksX1_bandOf_4 7 rfl rfl)
theorem dX1_bandOf_106 : decode cX1_bandOf 106 = .ok (.arraylength, 1) := dk_190 (dk_at dksX1_bandOf_4 10 rfl rfl)
theorem dX1_bandOf_107 : decode cX1_bandOf 107 = .ok (.iconst 1, 1) := dk_4 (dk_at dksX1_bandOf_4 11 rfl rfl)
theorem dX1_bandOf_108 : decode cX1_bandOf 108 = .ok (.isub, 1) := dk_100 (dk_at dksX1_bandOf_4 12 rfl rfl)
theorem dX1_bandOf_109 : decode cX1_bandOf 109 = .ok (.if_icmp .ge 16, 3) := dk_162 0 16 (dk_at dksX1_bandOf_4 13 rfl rfl)
theorem dX1_bandOf_112 : decode cX1_bandOf 112 = .ok (.aload_n 0, 1) := dk_42 (dk_at dksX1_bandOf_4 16 rfl rfl)
theorem dX1_bandOf_113 : decode cX1_bandOf 113 = .ok (.getfield 30, 3) := dk_180 0 30 (dk_at dksX1_bandOf_4 17 rfl rfl)
theorem dX1_bandOf_116 : decode cX1_bandOf 116 = .ok (.iload 9, 2) := dk_21 9 (dk_at dksX1_bandOf_4 20 rfl rfl)
theorem dX1_bandOf_118 : decode cX1_bandOf 118 = .ok (.aaload, 1) := dk_50 (dk_at dksX1_bandOf_4 22 rfl rfl)
theorem dX1_bandOf_119 : decode cX1_bandOf 119 = .ok (.getfield 103, 3) := dk_180 0 103 (dk_at dksX1_bandOf_5 0 rfl rfl)
theorem dX1_bandOf_122 : decode cX1_bandOf 122 = .ok (.goto 4, 3) := dk_167 0 4 (dk_at dksX1_bandOf_5 3 rfl rfl)
theorem dX1_bandOf_125 : decode cX1_bandOf 125 = .ok (.iconst 0, 1) := dk_3 (dk_at dksX1_bandOf_5 6 rfl rfl)
theorem dX1_bandOf_126 : decode cX1_bandOf 126 = .ok (.iadd, 1) := dk_96 (dk_at dksX1_bandOf_5 7 rfl rfl)
theorem dX1_bandOf_127 : decode cX1_bandOf 127 = .ok (.istore 5, 2) := dk_54 5 (dk_at dksX1_bandOf_5 8 rfl rfl)
theorem dX1_bandOf_129 : decode cX1_bandOf 129 = .ok (.iinc 7 1, 3) := dk_132 7 1 (dk_at dksX1_bandOf_5 10 rfl rfl)
theorem dX1_bandOf_132 : decode cX1_bandOf 132 = .ok (.goto (-108), 3) := dk_167 255 148 (dk_at dksX1_bandOf_5 13 rfl rfl)
theorem dX1_bandOf_135 : decode cX1_bandOf 135 = .ok (.iload_n 3, 1) := dk_29 (dk_at dksX1_bandOf_5 16 rfl rfl)
theorem dX1_bandOf_136 : decode cX1_bandOf 136 = .ok (.iload 6, 2) := dk_21 6 (dk_at dksX1_bandOf_5 17 rfl rfl)
theorem dX1_bandOf_138 : decode cX1_bandOf 138 = .ok (.ifCond .eq 7, 3) := dk_153 0 7 (dk_at dksX1_bandOf_5 19 rfl rfl)
theorem dX1_bandOf_141 : decode cX1_bandOf 141 = .ok (.iconst 1, 1) := dk_4 (dk_at dksX1_bandOf_5 22 rfl rfl)
theorem dX1_bandOf_142 : decode cX1_bandOf 142 = .ok (.goto 4, 3) := dk_167 0 4 (dk_at dksX1_bandOf_6 0 rfl rfl)
theorem dX1_bandOf_145 : decode cX1_bandOf 145 = .ok (.iconst 0, 1) := dk_3 (dk_at dksX1_bandOf_6 3 rfl rfl)
theorem dX1_bandOf_146 : decode cX1_bandOf 146 = .ok (.iadd, 1) := dk_96 (dk_at dksX1_bandOf_6 4 rfl rfl)
theorem dX1_bandOf_147 : decode cX1_bandOf 147 = .ok (.istore_n 3, 1) := dk_62 (dk_at dksX1_bandOf_6 5 rfl rfl)
theorem dX1_bandOf_148 : decode cX1_bandOf 148 = .ok (.iinc 4 1, 3) := dk_132 4 1 (dk_at dksX1_bandOf_6 6 rfl rfl)
theorem dX1_bandOf_151 : decode cX1_bandOf 151 = .ok (.goto (-146), 3) := dk_167 255 110 (dk_at dksX1_bandOf_6 9 rfl rfl)
theorem dX1_bandOf_154 : decode cX1_bandOf 154 = .ok (.iload_n 3, 1) := dk_29 (dk_at dksX1_bandOf_6 12 rfl rfl)
theorem dX1_bandOf_155 : decode cX1_bandOf 155 = .ok (.ireturn, 1) := dk_172 (dk_at dksX1_bandOf_6 13 rfl rfl)
abbrev cX1_hasPlan : ByteArray := prog_1_method_22_code
def yX1_hasPlan : MethodName := ⟨RX1, "hasPlan", "(I)Z"⟩
def dkwX1_hasPlan_0 : List UInt8 := [42, 27, 182, 0, 62, 182, 0, 66, 155, 0, 7, 4, 167, 0, 4, 3, 172]
abbrev dktX1_hasPlan_0 : List UInt8 := dkwX1_hasPlan_0 ++ []
theorem dksX1_hasPlan_0 : cX1_hasPlan.data.toList.drop 0 = dktX1_hasPlan_0 := by decide +kernel
theorem dX1_hasPlan_0 : decode cX1_hasPlan 0 = .ok (.aload_n 0, 1) := dk_42 (dk_at dksX1_hasPlan_0 0 rfl rfl)
theorem dX1_hasPlan_1 : decode cX1_hasPlan 1 = .ok (.iload_n 1, 1) := dk_27 (dk_at dksX1_hasPlan_0 1 rfl rfl)
theorem dX1_hasPlan_2 : decode cX1_hasPlan 2 = .ok (.invokevirtual 62, 3) := dk_182 0 62 (dk_at dksX1_hasPlan_0 2 rfl rfl)
theorem dX1_hasPlan_5 : decode cX1_hasPlan 5 = .ok (.invokevirtual 66, 3) := dk_182 0 66 (dk_at dksX1_hasPlan_0 5 rfl rfl)
theorem dX1_hasPlan_8 : decode cX1_hasPlan 8 = .ok (.ifCond .lt 7, 3) := dk_155 0 7 (dk_at dksX1_hasPlan_0 8 rfl rfl)
theorem dX1_hasPlan_11 : decode cX1_hasPlan 11 = .ok (.iconst 1, 1) := dk_4 (dk_at dksX1_hasPlan_0 11 rfl rfl)
theorem dX1_hasPlan_12 : decode cX1_hasPlan 12 = .ok (.goto 4, 3) := dk_167 0 4 (dk_at dksX1_hasPlan_0 12 rfl rfl)
theorem dX1_hasPlan_15 : decode cX1_hasPlan 15 = .ok (.iconst 0, 1) := dk_3 (dk_at dksX1_hasPlan_0 15 rfl rfl)
theorem dX1_hasPlan_16 : decode cX1_hasPlan 16 = .ok (.ireturn, 1) := dk_172 (dk_at dksX1_hasPlan_0 16 rfl rfl)
abbrev cX1_green : ByteArray := prog_1_method_24_code
def yX1_green : MethodName := ⟨RX1, "green", "(II)I"⟩
def dkwX1_green_0 : List UInt8 := [42, 27, 182, 0, 62, 28, 184, 0, 126, 42, 27, 182, 0, 130, 182, 0, 133, 28, 46, 172]
abbrev dktX1_green_0 : List UInt8 := dkwX1_green_0 ++ []
theorem dksX1_green_0 : cX1_green.data.toList.drop 0 = dktX1_green_0 := by decide +kernel
theorem dX1_green_0 : decode cX1_green 0 = .ok (.aload_n 0, 1) := dk_42 (dk_at dksX1_green_0 0 rfl rfl)
theorem dX1_green_1 : decode cX1_green 1 = .ok (.iload_n 1, 1) := dk_27 (dk_at dksX1_green_0 1 rfl rfl)
theorem dX1_green_2 : decode cX1_green 2 = .ok (.invokevirtual 62, 3) := dk_182 0 62 (dk_at dksX1_green_0 2 rfl rfl)
theorem dX1_green_5 : decode cX1_green 5 = .ok (.iload_n 2, 1) := dk_28 (dk_at dksX1_green_0 5 rfl rfl)
theorem dX1_green_6 : decode cX1_green 6 = .ok (.invokestatic 126, 3) := dk_184 0 126 (dk_at dksX1_green_0 6 rfl rfl)
theorem dX1_green_9 : decode cX1_green 9 = .ok (.aload_n 0, 1) := dk_42 (dk_at dksX1_green_0 9 rfl rfl)
theorem dX1_green_10 : decode cX1_green 10 = .ok (.iload_n 1, 1) := dk_27 (dk_at dksX1_green_0 10 rfl rfl)
theorem dX1_green_11 : decode cX1_green 11 = .ok (.invokevirtual 130, 3) := dk_182 0 130 (dk_at dksX1_green_0 11 rfl rfl)
theorem dX1_green_14 : decode cX1_green 14 = .ok (.invokevirtual 133, 3) := dk_182 0 133 (dk_at dksX1_green_0 14 rfl rfl)
theorem dX1_green_17 : decode cX1_green 17 = .ok (.iload_n 2, 1) := dk_28 (dk_at dksX1_green_0 17 rfl rfl)
theorem dX1_green_18 : decode cX1_green 18 = .ok (.iaload, 1) := dk_46 (dk_at dksX1_green_0 18 rfl rfl)
theorem dX1_green_19 : decode cX1_green 19 = .ok (.ireturn, 1) := dk_172 (dk_at dksX1_green_0 19 rfl rfl)
abbrev cX1_requirePhase : ByteArray := prog_1_method_23_code
def yX1_requirePhase : MethodName := ⟨RX1, "requirePhase", "(LGreenwave$Junction;I)V"⟩
def dkwX1_requirePhase_0 : List UInt8 := [27, 3, 42, 180, 0, 79, 190, 4, 100, 184, 0, 54, 184, 0, 58, 177]
abbrev dktX1_requirePhase_0 : List UInt8 := dkwX1_requirePhase_0 ++ []
theorem dksX1_requirePhase_0 : cX1_requirePhase.data.toList.drop 0 = dktX1_requirePhase_0 := by decide +kernel
theorem dX1_requirePhase_0 : decode cX1_requirePhase 0 = .ok (.iload_n 1, 1) := dk_27 (dk_at dksX1_requirePhase_0 0 rfl rfl)
theorem dX1_requirePhase_1 : decode cX1_requirePhase 1 = .ok (.iconst 0, 1) := dk_3 (dk_at dksX1_requirePhase_0 1 rfl rfl)
theorem dX1_requirePhase_2 : decode cX1_requirePhase 2 = .ok (.aload_n 0, 1) := dk_42 (dk_at dksX1_requirePhase_0 2 rfl rfl)
theorem dX1_requirePhase_3 : decode cX1_requirePhase 3 = .ok (.getfield 79, 3) := dk_180 0 79 (dk_at dksX1_requirePhase_0 3 rfl rfl)
theorem dX1_requirePhase_6 : decode cX1_requirePhase 6 = .ok (.arraylength, 1) := dk_190 (dk_at dksX1_requirePhase_0 6 rfl rfl)
theorem dX1_requirePhase_7 : decode cX1_requirePhase 7 = .ok (.iconst 1, 1) := dk_4 (dk_at dksX1_requirePhase_0 7 rfl rfl)
theorem dX1_requirePhase_8 : decode cX1_requirePhase 8 = .ok (.isub, 1) := dk_100 (dk_at dksX1_requirePhase_0 8 rfl rfl)
theorem dX1_requirePhase_9 : decode cX1_requirePhase 9 = .ok (.invokestatic 54, 3) := dk_184 0 54 (dk_at dksX1_requirePhase_0 9 rfl rfl)
theorem dX1_requirePhase_12 : decode cX1_requirePhase 12 = .ok (.invokestatic 58, 3) := dk_184 0 58 (dk_at dksX1_requirePhase_0 12 rfl rfl)
theorem dX1_requirePhase_15 : decode cX1_requirePhase 15 = .ok (.return_, 1) := dk_177 (dk_at dksX1_requirePhase_0 15 rfl rfl)
abbrev cX1_planned : ByteArray := prog_1_method_12_code
def yX1_planned : MethodName := ⟨RX1, "planned", "(I)LGreenwave$Junction;"⟩
def dkwX1_planned_0 : List UInt8 := [42, 27, 182, 0, 62, 77, 44, 182, 0, 66, 155, 0, 7, 4, 167, 0, 4, 3, 184, 0, 69, 44, 176]
abbrev dktX1_planned_0 : List UInt8 := dkwX1_planned_0 ++ []
theorem dksX1_planned_0 : cX1_planned.data.toList.drop 0 = dktX1_planned_0 := by decide +kernel
theorem dX1_planned_0 : decode cX1_planned 0 = .ok (.aload_n 0, 1) := dk_42 (dk_at dksX1_planned_0 0 rfl rfl)
theorem dX1_planned_1 : decode cX1_planned 1 = .ok (.iload_n 1, 1) := dk_27 (dk_at dksX1_planned_0 1 rfl rfl)
theorem dX1_planned_2 : decode cX1_planned 2 = .ok (.invokevirtual 62, 3) := dk_182 0 62 (dk_at dksX1_planned_0 2 rfl rfl)
theorem dX1_planned_5 : decode cX1_planned 5 = .ok (.astore_n 2, 1) := dk_77 (dk_at dksX1_planned_0 5 rfl rfl)
theorem dX1_planned_6 : decode cX1_planned 6 = .ok (.aload_n 2, 1) := dk_44 (dk_at dksX1_planned_0 6 rfl rfl)
theorem dX1_planned_7 : decode cX1_planned 7 = .ok (.invokevirtual 66, 3) := dk_182 0 66 (dk_at dksX1_planned_0 7 rfl rfl)
theorem dX1_planned_10 : decode cX1_planned 10 = .ok (.ifCond .lt 7, 3) := dk_155 0 7 (dk_at dksX1_planned_0 10 rfl rfl)
theorem dX1_planned_13 : decode cX1_planned 13 = .ok (.iconst 1, 1) := dk_4 (dk_at dksX1_planned_0 13 rfl rfl)
theorem dX1_planned_14 : decode cX1_planned 14 = .ok (.goto 4, 3) := dk_167 0 4 (dk_at dksX1_planned_0 14 rfl rfl)
theorem dX1_planned_17 : decode cX1_planned 17 = .ok (.iconst 0, 1) := dk_3 (dk_at dksX1_planned_0 17 rfl rfl)
theorem dX1_planned_18 : decode cX1_planned 18 = .ok (.invokestatic 69, 3) := dk_184 0 69 (dk_at dksX1_planned_0 18 rfl rfl)
theorem dX1_planned_21 : decode cX1_planned 21 = .ok (.aload_n 2, 1) := dk_44 (dk_at dksX1_planned_0 21 rfl rfl)
theorem dX1_planned_22 : decode cX1_planned 22 = .ok (.areturn, 1) := dk_176 (dk_at dksX1_planned_0 22 rfl rfl)
abbrev cX1_clearing : ByteArray := prog_1_method_25_code
def yX1_clearing : MethodName := ⟨RX1, "clearing", "(II)I"⟩
def dkwX1_clearing_0 : List UInt8 := [42, 27, 182, 0, 62, 78, 45, 28, 184, 0, 126, 45, 28, 182, 0, 137, 172]
abbrev dktX1_clearing_0 : List UInt8 := dkwX1_clearing_0 ++ []
theorem dksX1_clearing_0 : cX1_clearing.data.toList.drop 0 = dktX1_clearing_0 := by decide +kernel
theorem dX1_clearing_0 : decode cX1_clearing 0 = .ok (.aload_n 0, 1) := dk_42 (dk_at dksX1_clearing_0 0 rfl rfl)
theorem dX1_clearing_1 : decode cX1_clearing 1 = .ok (.iload_n 1, 1) := dk_27 (dk_at dksX1_clearing_0 1 rfl rfl)
theorem dX1_clearing_2 : decode cX1_clearing 2 = .ok (.invokevirtual 62, 3) := dk_182 0 62 (dk_at dksX1_clearing_0 2 rfl rfl)
theorem dX1_clearing_5 : decode cX1_clearing 5 = .ok (.astore_n 3, 1) := dk_78 (dk_at dksX1_clearing_0 5 rfl rfl)
theorem dX1_clearing_6 : decode cX1_clearing 6 = .ok (.aload_n 3, 1) := dk_45 (dk_at dksX1_clearing_0 6 rfl rfl)
theorem dX1_clearing_7 : decode cX1_clearing 7 = .ok (.iload_n 2, 1) := dk_28 (dk_at dksX1_clearing_0 7 rfl rfl)
theorem dX1_clearing_8 : decode cX1_clearing 8 = .ok (.invokestatic 126, 3) := dk_184 0 126 (dk_at dksX1_clearing_0 8 rfl rfl)
theorem dX1_clearing_11 : decode cX1_clearing 11 = .ok (.aload_n 3, 1) := dk_45 (dk_at dksX1_clearing_0 11 rfl rfl)
theorem dX1_clearing_12 : decode cX1_clearing 12 = .ok (.iload_n 2, 1) := dk_28 (dk_at dksX1_clearing_0 12 rfl rfl)
theorem dX1_clearing_13 : decode cX1_clearing 13 = .ok (.invokevirtual 137, 3) := dk_182 0 137 (dk_at dksX1_clearing_0 13 rfl rfl)
theorem dX1_clearing_16 : decode cX1_clearing 16 = .ok (.ireturn, 1) := dk_172 (dk_at dksX1_clearing_0 16 rfl rfl)
abbrev cX1_offset : ByteArray := prog_1_method_26_code
def yX1_offset : MethodName := ⟨RX1, "offset", "(I)I"⟩
def dkwX1_offset_0 : List UInt8 := [42, 27, 182, 0, 62, 180, 0, 109, 172]
abbrev dktX1_offset_0 : List UInt8 := dkwX1_offset_0 ++ []
theorem dksX1_offset_0 : cX1_offset.data.toList.drop 0 = dktX1_offset_0 := by decide +kernel
theorem dX1_offset_0 : decode cX1_offset 0 = .ok (.aload_n 0, 1) := dk_42 (dk_at dksX1_offset_0 0 rfl rfl)
theorem dX1_offset_1 : decode cX1_offset 1 = .ok (.iload_n 1, 1) := dk_27 (dk_at dksX1_offset_0 1 rfl rfl)
theorem dX1_offset_2 : decode cX1_offset 2 = .ok (.invokevirtual 62, 3) := dk_182 0 62 (dk_at dksX1_offset_0 2 rfl rfl)
theorem dX1_offset_5 : decode cX1_offset 5 = .ok (.getfield 109, 3) := dk_180 0 109 (dk_at dksX1_offset_0 5 rfl rfl)
theorem dX1_offset_8 : decode cX1_offset 8 = .ok (.ireturn, 1) := dk_172 (dk_at dksX1_offset_0 8 rfl rfl)
abbrev cX1_isGreen : ByteArray := prog_1_method_27_code
def yX1_isGreen : MethodName := ⟨RX1, "isGreen", "(III)Z"⟩
def dkwX1_isGreen_2 : List UInt8 := [25, 4, 29, 182, 0, 146, 51, 172]
abbrev dktX1_isGreen_2 : List UInt8 := dkwX1_isGreen_2 ++ []
def dkwX1_isGreen_1 : List UInt8 := [25, 4, 182, 0, 66, 155, 0, 7, 4, 167, 0, 4, 3, 184, 0, 69, 42, 25, 4, 28, 182, 0, 142]
abbrev dktX1_isGreen_1 : List UInt8 := dkwX1_isGreen_1 ++ dktX1_isGreen_2
def dkwX1_isGreen_0 : List UInt8 := [42, 27, 4, 188, 10, 89, 3, 28, 79, 182, 0, 75, 58, 4, 29, 3, 18, 141, 184, 0, 54, 184, 0, 72]
abbrev dktX1_isGreen_0 : List UInt8 := dkwX1_isGreen_0 ++ dktX1_isGreen_1
theorem dksX1_isGreen_0 : cX1_isGreen.data.toList.drop 0 = dktX1_isGreen_0 := by decide +kernel
theorem dksX1_isGreen_1 : cX1_isGreen.data.toList.drop 24 = dktX1_isGreen_1 := dk_seg dksX1_isGreen_0 24 rfl rfl
theorem dksX1_isGreen_2 : cX1_isGreen.data.toList.drop 47 = dktX1_isGreen_2 := dk_seg dksX1_isGreen_1 23 rfl rfl
theorem dX1_isGreen_0 : decode cX1_isGreen 0 = .ok (.aload_n 0, 1) := dk_42 (dk_at dksX1_isGreen_0 0 rfl rfl)
theorem dX1_isGreen_1 : decode cX1_isGreen 1 = .ok (.iload_n 1, 1) := dk_27 (dk_at dksX1_isGreen_0 1 rfl rfl)
theorem dX1_isGreen_2 : decode cX1_isGreen 2 = .ok (.iconst 1, 1) := dk_4 (dk_at dksX1_isGreen_0 2 rfl rfl)
theorem dX1_isGreen_3 : decode cX1_isGreen 3 = .ok (.newarray .int, 2) := dk_188_10 (dk_at dksX1_isGreen_0 3 rfl rfl)
theorem dX1_isGreen_5 : decode cX1_isGreen 5 = .ok (.dup, 1) := dk_89 (dk_at dksX1_isGreen_0 5 rfl rfl)
theorem dX1_isGreen_6 : decode cX1_isGreen 6 = .ok (.iconst 0, 1) := dk_3 (dk_at dksX1_isGreen_0 6 rfl rfl)
theorem dX1_isGreen_7 : decode cX1_isGreen 7 = .ok (.iload_n 2, 1) := dk_28 (dk_at dksX1_isGreen_0 7 rfl rfl)
theorem dX1_isGreen_8 : decode cX1_isGreen 8 = .ok (.iastore, 1) := dk_79 (dk_at dksX1_isGreen_0 8 rfl rfl)
theorem dX1_isGreen_9 : decode cX1_isGreen 9 = .ok (.invokevirtual 75, 3) := dk_182 0 75 (dk_at dksX1_isGreen_0 9 rfl rfl)
theorem dX1_isGreen_12 : decode cX1_isGreen 12 = .ok (.astore 4, 2) := dk_58 4 (dk_at dksX1_isGreen_0 12 rfl rfl)
theorem dX1_isGreen_14 : decode cX1_isGreen 14 = .ok (.iload_n 3, 1) := dk_29 (dk_at dksX1_isGreen_0 14 rfl rfl)
theorem dX1_isGreen_15 : decode cX1_isGreen 15 = .ok (.iconst 0, 1) := dk_3 (dk_at dksX1_isGreen_0 15 rfl rfl)
theorem dX1_isGreen_16 : decode cX1_isGreen 16 = .ok (.ldc 141, 2) := dk_18 141 (dk_at dksX1_isGreen_0 16 rfl rfl)
theorem dX1_isGreen_18 : decode cX1_isGreen 18 = .ok (.invokestatic 54, 3) := dk_184 0 54 (dk_at dksX1_isGreen_0 18 rfl rfl)
theorem dX1_isGreen_21 : decode cX1_isGreen 21 = .ok (.invokestatic 72, 3) := dk_184 0 72 (dk_at dksX1_isGreen_0 21 rfl rfl)
theorem dX1_isGreen_24 : decode cX1_isGreen 24 = .ok (.aload 4, 2) := dk_25 4 (dk_at dksX1_isGreen_1 0 rfl rfl)
theorem dX1_isGreen_26 : decode cX1_isGreen 26 = .ok (.invokevirtual 66, 3) := dk_182 0 66 (dk_at dksX1_isGreen_1 2 rfl rfl)
theorem dX1_isGreen_29 : decode cX1_isGreen 29 = .ok (.ifCond .lt 7, 3) := dk_155 0 7 (dk_at dksX1_isGreen_1 5 rfl rfl)
theorem dX1_isGreen_32 : decode cX1_isGreen 32 = .ok (.iconst 1, 1) := dk_4 (dk_at dksX1_isGreen_1 8 rfl rfl)
theorem dX1_isGreen_33 : decode cX1_isGreen 33 = .ok (.goto 4, 3) := dk_167 0 4 (dk_at dksX1_isGreen_1 9 rfl rfl)
theorem dX1_isGreen_36 : decode cX1_isGreen 36 = .ok (.iconst 0, 1) := dk_3 (dk_at dksX1_isGreen_1 12 rfl rfl)
theorem dX1_isGreen_37 : decode cX1_isGreen 37 = .ok (.invokestatic 69, 3) := dk_184 0 69 (dk_at dksX1_isGreen_1 13 rfl rfl)
theorem dX1_isGreen_40 : decode cX1_isGreen 40 = .ok (.aload_n 0, 1) := dk_42 (dk_at dksX1_isGreen_1 16 rfl rfl)
theorem dX1_isGreen_41 : decode cX1_isGreen 41 = .ok (.aload 4, 2) := dk_25 4 (dk_at dksX1_isGreen_1 17 rfl rfl)
theorem dX1_isGreen_43 : decode cX1_isGreen 43 = .ok (.iload_n 2, 1) := dk_28 (dk_at dksX1_isGreen_1 19 rfl rfl)
theorem dX1_isGreen_44 : decode cX1_isGreen 44 = .ok (.invokevirtual 142, 3) := dk_182 0 142 (dk_at dksX1_isGreen_1 20 rfl rfl)
theorem dX1_isGreen_47 : decode cX1_isGreen 47 = .ok (.aload 4, 2) := dk_25 4 (dk_at dksX1_isGreen_2 0 rfl rfl)
theorem dX1_isGreen_49 : decode cX1_isGreen 49 = .ok (.iload_n 3, 1) := dk_29 (dk_at dksX1_isGreen_2 2 rfl rfl)
theorem dX1_isGreen_50 : decode cX1_isGreen 50 = .ok (.invokevirtual 146, 3) := dk_182 0 146 (dk_at dksX1_isGreen_2 3 rfl rfl)
theorem dX1_isGreen_53 : decode cX1_isGreen 53 = .ok (.baload, 1) := dk_51 (dk_at dksX1_isGreen_2 6 rfl rfl)
theorem dX1_isGreen_54 : decode cX1_isGreen 54 = .ok (.ireturn, 1) := dk_172 (dk_at dksX1_isGreen_2 7 rfl rfl)
abbrev cX1_breaches : ByteArray := prog_1_method_29_code
def yX1_breaches : MethodName := ⟨RX1, "breaches", "(I)I"⟩
def dkwX1_breaches_6 : List UInt8 := [153, 0, 7, 4, 167, 0, 4, 3, 96, 54, 4, 132, 5, 1, 167, 255, 145, 21, 4, 172]
abbrev dktX1_breaches_6 : List UInt8 := dkwX1_breaches_6 ++ []
def dkwX1_breaches_5 : List UInt8 := [167, 0, 4, 3, 54, 6, 132, 8, 1, 167, 255, 197, 132, 7, 1, 167, 255, 181, 21, 4, 21, 6]
abbrev dktX1_breaches_5 : List UInt8 := dkwX1_breaches_5 ++ dktX1_breaches_6
def dkwX1_breaches_4 : List UInt8 := [153, 0, 27, 45, 21, 7, 7, 112, 50, 21, 5, 21, 8, 96, 42, 180, 0, 34, 112, 51, 153, 0, 7, 4]
abbrev dktX1_breaches_4 : List UInt8 := dkwX1_breaches_4 ++ dktX1_breaches_5
def dkwX1_breaches_3 : List UInt8 := [44, 180, 0, 90, 21, 7, 46, 163, 0, 53, 21, 6, 154, 0, 35, 45, 21, 7, 7, 108, 50, 21, 5, 51]
abbrev dktX1_breaches_3 : List UInt8 := dkwX1_breaches_3 ++ dktX1_breaches_4
def dkwX1_breaches_2 : List UInt8 := [180, 0, 34, 162, 0, 108, 3, 54, 6, 3, 54, 7, 21, 7, 16, 16, 162, 0, 74, 3, 54, 8, 21, 8]
abbrev dktX1_breaches_2 : List UInt8 := dkwX1_breaches_2 ++ dktX1_breaches_3
def dkwX1_breaches_1 : List UInt8 := [44, 21, 4, 182, 0, 142, 83, 132, 4, 1, 167, 255, 236, 3, 54, 4, 3, 54, 5, 21, 5, 42]
abbrev dktX1_breaches_1 : List UInt8 := dkwX1_breaches_1 ++ dktX1_breaches_2
def dkwX1_breaches_0 : List UInt8 := [42, 27, 182, 0, 130, 77, 7, 189, 0, 153, 78, 3, 54, 4, 21, 4, 7, 162, 0, 20, 45, 21, 4, 42]
abbrev dktX1_breaches_0 : List UInt8 := dkwX1_breaches_0 ++ dktX1_breaches_1
theorem dksX1_breaches_0 : cX1_breaches.data.toList.drop 0 = dktX1_breaches_0 := by decide +kernel
theorem dksX1_breaches_1 : cX1_breaches.data.toList.drop 24 = dktX1_breaches_1 := dk_seg dksX1_breaches_0 24 rfl rfl
theorem dksX1_breaches_2 : cX1_breaches.data.toList.drop 46 = dktX1_breaches_2 := dk_seg dksX1_breaches_1 22 rfl rfl
theorem dksX1_breaches_3 : cX1_breaches.data.toList.drop 70 = dktX1_breaches_3 := dk_seg dksX1_breaches_2 24 rfl rfl
theorem dksX1_breaches_4 : cX1_breaches.data.toList.drop 94 = dktX1_breaches_4 := dk_seg dksX1_breaches_3 24 rfl rfl
theorem dksX1_breaches_5 : cX1_breaches.data.toList.drop 118 = dktX1_breaches_5 := dk_seg dksX1_breaches_4 24 rfl rfl
theorem dksX1_breaches_6 : cX1_breaches.data.toList.drop 140 = dktX1_breaches_6 := dk_seg dksX1_breaches_5 22 rfl rfl
theorem dX1_breaches_0 : decode cX1_breaches 0 = .ok (.aload_n 0, 1) := dk_42 (dk_at dksX1_breaches_0 0 rfl rfl)
theorem dX1_breaches_1 : decode cX1_breaches 1 = .ok (.iload_n 1, 1) := dk_27 (dk_at dksX1_breaches_0 1 rfl rfl)
theorem dX1_breaches_2 : decode cX1_breaches 2 = .ok (.invokevirtual 130, 3) := dk_182 0 130 (dk_at dksX1_breaches_0 2 rfl rfl)
theorem dX1_breaches_5 : decode cX1_breaches 5 = .ok (.astore_n 2, 1) := dk_77 (dk_at dksX1_breaches_0 5 rfl rfl)
theorem dX1_breaches_6 : decode cX1_breaches 6 = .ok (.iconst 4, 1) := dk_7 (dk_at dksX1_breaches_0 6 rfl rfl)
theorem dX1_breaches_7 : decode cX1_breaches 7 = .ok (.anewarray 153, 3) := dk_189 0 153 (dk_at dksX1_breaches_0 7 rfl rfl)
theorem dX1_breaches_10 : decode cX1_breaches 10 = .ok (.astore_n 3, 1) := dk_78 (dk_at dksX1_breaches_0 10 rfl rfl)
theorem dX1_breaches_11 : decode cX1_breaches 11 = .ok (.iconst 0, 1) := dk_3 (dk_at dksX1_breaches_0 11 rfl rfl)
theorem dX1_breaches_12 : decode cX1_breaches 12 = .ok (.istore 4, 2) := dk_54 4 (dk_at dksX1_breaches_0 12 rfl rfl)
theorem dX1_breaches_14 : decode cX1_breaches 14 = .ok (.iload 4, 2) := dk_21 4 (dk_at dksX1_breaches_0 14 rfl rfl)
theorem dX1_breaches_16 : decode cX1_breaches 16 = .ok (.iconst 4, 1) := dk_7 (dk_at dksX1_breaches_0 16 rfl rfl)
theorem dX1_breaches_17 : decode cX1_breaches 17 = .ok (.if_icmp .ge 20, 3) := dk_162 0 20 (dk_at dksX1_breaches_0 17 rfl rfl)
theorem dX1_breaches_20 : decode cX1_breaches 20 = .ok (.aload_n 3, 1) := dk_45 (dk_at dksX1_breaches_0 20 rfl rfl)
theorem dX1_breaches_21 : decode cX1_breaches 21 = .ok (.iload 4, 2) := dk_21 4 (dk_at dksX1_breaches_0 21 rfl rfl)
theorem dX1_breaches_23 : decode cX1_breaches 23 = .ok (.aload_n 0, 1) := dk_42 (dk_at dksX1_breaches_0 23 rfl rfl)
theorem dX1_breaches_24 : decode cX1_breaches 24 = .ok (.aload_n 2, 1) := dk_44 (dk_at dksX1_breaches_1 0 rfl rfl)
theorem dX1_breaches_25 : decode cX1_breaches 25 = .ok (.iload 4, 2) := dk_21 4 (dk_at dksX1_breaches_1 1 rfl rfl)
theorem dX1_breaches_27 : decode cX1_breaches 27 = .ok (.invokevirtual 142, 3) := dk_182 0 142 (dk_at dksX1_breaches_1 3 rfl rfl)
theorem dX1_breaches_30 : decode cX1_breaches 30 = .ok (.aastore, 1) := dk_83 (dk_at dksX1_breaches_1 6 rfl rfl)
theorem dX1_breaches_31 : decode cX1_breaches 31 = .ok (.iinc 4 1, 3) := dk_132 4 1 (dk_at dksX1_breaches_1 7 rfl rfl)
theorem dX1_breaches_34 : decode cX1_breaches 34 = .ok (.goto (-20), 3) := dk_167 255 236 (dk_at dksX1_breaches_1 10 rfl rfl)
theorem dX1_breaches_37 : decode cX1_breaches 37 = .ok (.iconst 0, 1) := dk_3 (dk_at dksX1_breaches_1 13 rfl rfl)
theorem dX1_breaches_38 : decode cX1_breaches 38 = .ok (.istore 4, 2) := dk_54 4 (dk_at dksX1_breaches_1 14 rfl rfl)
theorem dX1_breaches_40 : decode cX1_breaches 40 = .ok (.iconst 0, 1) := dk_3 (dk_at dksX1_breaches_1 16 rfl rfl)
theorem dX1_breaches_41 : decode cX1_breaches 41 = .ok (.istore 5, 2) := dk_54 5 (dk_at dksX1_breaches_1 17 rfl rfl)
theorem dX1_breaches_43 : decode cX1_breaches 43 = .ok (.iload 5, 2) := dk_21 5 (dk_at dksX1_breaches_1 19 rfl rfl)
theorem dX1_breaches_45 : decode cX1_breaches 45 = .ok (.aload_n 0, 1) := dk_42 (dk_at dksX1_breaches_1 21 rfl rfl)
theorem dX1_breaches_46 : decode cX1_breaches 46 = .ok (.getfield 34, 3) := dk_180 0 34 (dk_at dksX1_breaches_2 0 rfl rfl)
theorem dX1_breaches_49 : decode cX1_breaches 49 = .ok (.if_icmp .ge 108, 3) := dk_162 0 108 (dk_at dksX1_breaches_2 3 rfl rfl)
theorem dX1_breaches_52 : decode cX1_breaches 52 = .ok (.iconst 0, 1) := dk_3 (dk_at dksX1_breaches_2 6 rfl rfl)
theorem dX1_breaches_53 : decode cX1_breaches 53 = .ok (.istore 6, 2) := dk_54 6 (dk_at dksX1_breaches_2 7 rfl rfl)
theorem dX1_breaches_55 : decode cX1_breaches 55 = .ok (.iconst 0, 1) := dk_3 (dk_at dksX1_breaches_2 9 rfl rfl)
theorem dX1_breaches_56 : decode cX1_breaches 56 = .ok (.istore 7, 2) := dk_54 7 (dk_at dksX1_breaches_2 10 rfl rfl)
theorem dX1_breaches_58 : decode cX1_breaches 58 = .ok (.iload 7, 2) := dk_21 7 (dk_at dksX1_breaches_2 12 rfl rfl)
theorem dX1_breaches_60 : decode cX1_breaches 60 = .ok (.bipush 16, 2) := dk_16 16 (dk_at dksX1_breaches_2 14 rfl rfl)
theorem dX1_breaches_62 : decode cX1_breaches 62 = .ok (.if_icmp .ge 74, 3) := dk_162 0 74 (dk_at dksX1_breaches_2 16 rfl rfl)
theorem dX1_breaches_65 : decode cX1_breaches 65 = .ok (.iconst 0, 1) := dk_3 (dk_at dksX1_breaches_2 19 rfl rfl)
theorem dX1_breaches_66 : decode cX1_breaches 66 = .ok (.istore 8, 2) := dk_54 8 (dk_at dksX1_breaches_2 20 rfl rfl)
theorem dX1_breaches_68 : decode cX1_breaches 68 = .ok (.iload 8, 2) := dk_21 8 (dk_at dksX1_breaches_2 22 rfl rfl)
theorem dX1_breaches_70 : decode cX1_breaches 70 = .ok (.aload_n 2, 1) := dk_44 (dk_at dksX1_breaches_3 0 rfl rfl)
theorem dX1_breaches_71 : decode cX1_breaches 71 = .ok (.getfield 90, 3) := dk_180 0 90 (dk_at dksX1_breaches_3 1 rfl rfl)
theorem dX1_breaches_74 : decode cX1_breaches 74 = .ok (.iload 7, 2) := dk_21 7 (dk_at dksX1_breaches_3 4 rfl rfl)
theorem dX1_breaches_76 : decode cX1_breaches 76 = .ok (.iaload, 1) := dk_46 (dk_at dksX1_breaches_3 6 rfl rfl)
theorem dX1_breaches_77 : decode cX1_breaches 77 = .ok (.if_icmp .gt 53, 3) := dk_163 0 53 (dk_at dksX1_breaches_3 7 rfl rfl)
theorem dX1_breaches_80 : decode cX1_breaches 80 = .ok (.iload 6, 2) := dk_21 6 (dk_at dksX1_breaches_3 10 rfl rfl)
theorem dX1_breaches_82 : decode cX1_breaches 82 = .ok (.ifCond .ne 35, 3) := dk_154 0 35 (dk_at dksX1_breaches_3 12 rfl rfl)
theorem dX1_breaches_85 : decode cX1_breaches 85 = .ok (.aload_n 3, 1) := dk_45 (dk_at dksX1_breaches_3 15 rfl rfl)
theorem dX1_breaches_86 : decode cX1_breaches 86 = .ok (.iload 7, 2) := dk_21 7 (dk_at dksX1_breaches_3 16 rfl rfl)
theorem dX1_breaches_88 : decode cX1_breaches 88 = .ok (.iconst 4, 1) := dk_7 (dk_at dksX1_breaches_3 18 rfl rfl)
theorem dX1_breaches_89 : decode cX1_breaches 89 = .ok (.idiv, 1) := dk_108 (dk_at dksX1_breaches_3 19 rfl rfl)
theorem dX1_breaches_90 : decode cX1_breaches 90 = .ok (.aaload, 1) := dk_50 (dk_at dksX1_breaches_3 20 rfl rfl)
theorem dX1_breaches_91 : decode cX1_breaches 91 = .ok (.iload 5, 2) := dk_21 5 (dk_at dksX1_breaches_3 21 rfl rfl)
theorem dX1_breaches_93 : decode cX1_breaches 93 = .ok (.baload, 1) := dk_51 (dk_at dksX1_breaches_3 23 rfl rfl)
theorem dX1_breaches_94 : decode cX1_breaches 94 = .ok (.ifCond .eq 27, 3) := dk_153 0 27 (dk_at dksX1_breaches_4 0 rfl rfl)
theorem dX1_breaches_97 : decode cX1_breaches 97 = .ok (.aload_n 3, 1) := dk_45 (dk_at dksX1_breaches_4 3 rfl rfl)
theorem dX1_breaches_98 : decode cX1_breaches 98 = .ok (.iload 7, 2) := dk_21 7 (dk_at dksX1_breaches_4 4 rfl rfl)
theorem dX1_breaches_100 : decode cX1_breaches 100 = .ok (.iconst 4, 1) := dk_7 (dk_at dksX1_breaches_4 6 rfl rfl)
theorem dX1_breaches_101 : decode cX1_breaches 101 = .ok (.irem, 1) := dk_112 (dk_at dksX1_breaches_4 7 rfl rfl)
theorem dX1_breaches_102 : decode cX1_breaches 102 = .ok (.aaload, 1) := dk_50 (dk_at dksX1_breaches_4 8 rfl rfl)
theorem dX1_breaches_103 : decode cX1_breaches 103 = .ok (.iload 5, 2) := dk_21 5 (dk_at dksX1_breaches_4 9 rfl rfl)
theorem dX1_breaches_105 : decode cX1_breaches 105 = .ok (.iload 8, 2) := dk_21 8 (dk_at dksX1_breaches_4 11 rfl rfl)
theorem dX1_breaches_107 : decode cX1_breaches 107 = .ok (.iadd, 1) := dk_96 (dk_at dksX1_breaches_4 13 rfl rfl)
theorem dX1_breaches_108 : decode cX1_breaches 108 = .ok (.aload_n 0, 1) := dk_42 (dk_at dksX1_breaches_4 14 rfl rfl)
theorem dX1_breaches_109 : decode cX1_breaches 109 = .ok (.getfield 34, 3) := dk_180 0 34 (dk_at dksX1_breaches_4 15 rfl rfl)
theorem dX1_breaches_112 : decode cX1_breaches 112 = .ok (.irem, 1) := dk_112 (dk_at dksX1_breaches_4 18 rfl rfl)
theorem dX1_breaches_113 : decode cX1_breaches 113 = .ok (.baload, 1) := dk_51 (dk_at dksX1_breaches_4 19 rfl rfl)
theorem dX1_breaches_114 : decode cX1_breaches 114 = .ok (.ifCond .eq 7, 3) := dk_153 0 7 (dk_at dksX1_breaches_4 20 rfl rfl)
theorem dX1_breaches_117 : decode cX1_breaches 117 = .ok (.iconst 1, 1) := dk_4 (dk_at dksX1_breaches_4 23 rfl rfl)
theorem dX1_breaches_118 : decode cX1_breaches 118 = .ok (.goto 4, 3) := dk_167 0 4 (dk_at dksX1_breaches_5 0 rfl rfl)
theorem dX1_breaches_121 : decode cX1_breaches 121 = .ok (.iconst 0, 1) := dk_3 (dk_at dksX1_breaches_5 3 rfl rfl)
theorem dX1_breaches_122 : decode cX1_breaches 122 = .ok (.istore 6, 2) := dk_54 6 (dk_at dksX1_breaches_5 4 rfl rfl)
theorem dX1_breaches_124 : decode cX1_breaches 124 = .ok (.iinc 8 1, 3) := dk_132 8 1 (dk_at dksX1_breaches_5 6 rfl rfl)
theorem dX1_breaches_127 : decode cX1_breaches 127 = .ok (.goto (-59), 3) := dk_167 255 197 (dk_at dksX1_breaches_5 9 rfl rfl)
theorem dX1_breaches_130 : decode cX1_breaches 130 = .ok (.iinc 7 1, 3) := dk_132 7 1 (dk_at dksX1_breaches_5 12 rfl rfl)
theorem dX1_breaches_133 : decode cX1_breaches 133 = .ok (.goto (-75), 3) := dk_167 255 181 (dk_at dksX1_breaches_5 15 rfl rfl)
theorem dX1_breaches_136 : decode cX1_breaches 136 = .ok (.iload 4, 2) := dk_21 4 (dk_at dksX1_breaches_5 18 rfl rfl)
theorem dX1_breaches_138 : decode cX1_breaches 138 = .ok (.iload 6, 2) := dk_21 6 (dk_at dksX1_breaches_5 20 rfl rfl)
theorem dX1_breaches_140 : decode cX1_breaches 140 = .ok (.ifCond .eq 7, 3) := dk_153 0 7 (dk_at dksX1_breaches_6 0 rfl rfl)
theorem dX1_breaches_143 : decode cX1_breaches 143 = .ok (.iconst 1, 1) := dk_4 (dk_at dksX1_breaches_6 3 rfl rfl)
theorem dX1_breaches_144 : decode cX1_breaches 144 = .ok (.goto 4, 3) := dk_167 0 4 (dk_at dksX1_breaches_6 4 rfl rfl)
theorem dX1_breaches_147 : decode cX1_breaches 147 = .ok (.iconst 0, 1) := dk_3 (dk_at dksX1_breaches_6 7 rfl rfl)
theorem dX1_breaches_148 : decode cX1_breaches 148 = .ok (.iadd, 1) := dk_96 (dk_at dksX1_breaches_6 8 rfl rfl)
theorem dX1_breaches_149 : decode cX1_breaches 149 = .ok (.istore 4, 2) := dk_54 4 (dk_at dksX1_breaches_6 9 rfl rfl)
theorem dX1_breaches_151 : decode cX1_breaches 151 = .ok (.iinc 5 1, 3) := dk_132 5 1 (dk_at dksX1_breaches_6 11 rfl rfl)
theorem dX1_breaches_154 : decode cX1_breaches 154 = .ok (.goto (-111), 3) := dk_167 255 145 (dk_at dksX1_breaches_6 14 rfl rfl)
theorem dX1_breaches_157 : decode cX1_breaches 157 = .ok (.iload 4, 2) := dk_21 4 (dk_at dksX1_breaches_6 17 rfl rfl)
theorem dX1_breaches_159 : decode cX1_breaches 159 = .ok (.ireturn, 1) := dk_172 (dk_at dksX1_breaches_6 19 rfl rfl)
abbrev cX1_band : ByteArray := prog_1_method_33_code
def yX1_band : MethodName := ⟨RX1, "band", "(Z)I"⟩
def dkwX1_band_0 : List UInt8 := [42, 182, 0, 112, 42, 42, 182, 0, 115, 27, 153, 0, 7, 3, 167, 0, 4, 4, 182, 0, 155, 172]
abbrev dktX1_band_0 : List UInt8 := dkwX1_band_0 ++ []
theorem dksX1_band_0 : cX1_band.data.toList.drop 0 = dktX1_band_0 := by decide +kernel
theorem dX1_band_0 : decode cX1_band 0 = .ok (.aload_n 0, 1) := dk_42 (dk_at dksX1_band_0 0 rfl rfl)
theorem dX1_band_1 : decode cX1_band 1 = .ok (.invokevirtual 112, 3) := dk_182 0 112 (dk_at dksX1_band_0 1 rfl rfl)
theorem dX1_band_4 : decode cX1_band 4 = .ok (.aload_n 0, 1) := dk_42 (dk_at dksX1_band_0 4 rfl rfl)
theorem dX1_band_5 : decode cX1_band 5 = .ok (.aload_n 0, 1) := dk_42 (dk_at dksX1_band_0 5 rfl rfl)
theorem dX1_band_6 : decode cX1_band 6 = .ok (.invokevirtual 115, 3) := dk_182 0 115 (dk_at dksX1_band_0 6 rfl rfl)
theorem dX1_band_9 : decode cX1_band 9 = .ok (.iload_n 1, 1) := dk_27 (dk_at dksX1_band_0 9 rfl rfl)
theorem dX1_band_10 : decode cX1_band 10 = .ok (.ifCond .eq 7, 3) := dk_153 0 7 (dk_at dksX1_band_0 10 rfl rfl)
theorem dX1_band_13 : decode cX1_band 13 = .ok (.iconst 0, 1) := dk_3 (dk_at dksX1_band_0 13 rfl rfl)
theorem dX1_band_14 : decode cX1_band 14 = .ok (.goto 4, 3) := dk_167 0 4 (dk_at dksX1_band_0 14 rfl rfl)
theorem dX1_band_17 : decode cX1_band 17 = .ok (.iconst 1, 1) := dk_4 (dk_at dksX1_band_0 17 rfl rfl)
theorem dX1_band_18 : decode cX1_band 18 = .ok (.invokevirtual 155, 3) := dk_182 0 155 (dk_at dksX1_band_0 18 rfl rfl)
theorem dX1_band_21 : decode cX1_band 21 = .ok (.ireturn, 1) := dk_172 (dk_at dksX1_band_0 21 rfl rfl)
abbrev cX1_bestByAll : ByteArray := prog_1_method_34_code
def yX1_bestByAll : MethodName := ⟨RX1, "bestByAll", "()I"⟩
def dkwX1_bestByAll_8 : List UInt8 := [21, 4, 46, 181, 0, 109, 132, 4, 1, 167, 255, 229, 29, 172]
abbrev dktX1_bestByAll_8 : List UInt8 := dkwX1_bestByAll_8 ++ []
def dkwX1_bestByAll_7 : List UInt8 := [167, 255, 161, 3, 54, 4, 21, 4, 42, 180, 0, 30, 190, 162, 0, 23, 42, 180, 0, 30, 21, 4, 50, 44]
abbrev dktX1_bestByAll_7 : List UInt8 := dkwX1_bestByAll_7 ++ dktX1_bestByAll_8
def dkwX1_bestByAll_6 : List UInt8 := [181, 0, 109, 29, 42, 43, 182, 0, 119, 184, 0, 123, 62, 132, 5, 1, 167, 255, 190, 132, 4, 1]
abbrev dktX1_bestByAll_6 : List UInt8 := dkwX1_bestByAll_6 ++ dktX1_bestByAll_7
def dkwX1_bestByAll_5 : List UInt8 := [180, 0, 30, 190, 4, 100, 50, 42, 180, 0, 30, 190, 6, 160, 0, 8, 21, 5, 167, 0, 5, 21, 4]
abbrev dktX1_bestByAll_5 : List UInt8 := dkwX1_bestByAll_5 ++ dktX1_bestByAll_6
def dkwX1_bestByAll_4 : List UInt8 := [180, 0, 30, 190, 6, 160, 0, 10, 42, 180, 0, 34, 167, 0, 4, 4, 162, 0, 50, 42, 180, 0, 30, 42]
abbrev dktX1_bestByAll_4 : List UInt8 := dkwX1_bestByAll_4 ++ dktX1_bestByAll_5
def dkwX1_bestByAll_3 : List UInt8 := [42, 180, 0, 34, 162, 0, 92, 42, 180, 0, 30, 4, 50, 21, 4, 181, 0, 109, 3, 54, 5, 21, 5, 42]
abbrev dktX1_bestByAll_3 : List UInt8 := dkwX1_bestByAll_3 ++ dktX1_bestByAll_4
def dkwX1_bestByAll_2 : List UInt8 := [29, 42, 180, 0, 30, 29, 50, 180, 0, 109, 79, 132, 3, 1, 167, 255, 232, 3, 62, 3, 54, 4, 21, 4]
abbrev dktX1_bestByAll_2 : List UInt8 := dkwX1_bestByAll_2 ++ dktX1_bestByAll_3
def dkwX1_bestByAll_1 : List UInt8 := [182, 0, 115, 76, 42, 180, 0, 30, 190, 188, 10, 77, 3, 62, 29, 42, 180, 0, 30, 190, 162, 0, 21, 44]
abbrev dktX1_bestByAll_1 : List UInt8 := dkwX1_bestByAll_1 ++ dktX1_bestByAll_2
def dkwX1_bestByAll_0 : List UInt8 := [42, 182, 0, 112, 42, 180, 0, 30, 190, 6, 163, 0, 7, 4, 167, 0, 4, 3, 184, 0, 69, 42]
abbrev dktX1_bestByAll_0 : List UInt8 := dkwX1_bestByAll_0 ++ dktX1_bestByAll_1
theorem dksX1_bestByAll_0 : cX1_bestByAll.data.toList.drop 0 = dktX1_bestByAll_0 := by decide +kernel
theorem dksX1_bestByAll_1 : cX1_bestByAll.data.toList.drop 22 = dktX1_bestByAll_1 := dk_seg dksX1_bestByAll_0 22 rfl rfl
theorem dksX1_bestByAll_2 : cX1_bestByAll.data.toList.drop 46 = dktX1_bestByAll_2 := dk_seg dksX1_bestByAll_1 24 rfl rfl
theorem dksX1_bestByAll_3 : cX1_bestByAll.data.toList.drop 70 = dktX1_bestByAll_3 := dk_seg dksX1_bestByAll_2 24 rfl rfl
theorem dksX1_bestByAll_4 : cX1_bestByAll.data.toList.drop 94 = dktX1_bestByAll_4 := dk_seg dksX1_bestByAll_3 24 rfl rfl
theorem dksX1_bestByAll_5 : cX1_bestByAll.data.toList.drop 118 = dktX1_bestByAll_5 := dk_seg dksX1_bestByAll_4 24 rfl rfl
theorem dksX1_bestByAll_6 : cX1_bestByAll.data.toList.drop 141 = dktX1_bestByAll_6 := dk_seg dksX1_bestByAll_5 23 rfl rfl
theorem dksX1_bestByAll_7 : cX1_bestByAll.data.toList.drop 163 = dktX1_bestByAll_7 := dk_seg dksX1_bestByAll_6 22 rfl rfl
theorem dksX1_bestByAll_8 : cX1_bestByAll.data.toList.drop 187 = dktX1_bestByAll_8 := dk_seg dksX1_bestByAll_7 24 rfl rfl
theorem dX1_bestByAll_0 : decode cX1_bestByAll 0 = .ok (.aload_n 0, 1) := dk_42 (dk_at dksX1_bestByAll_0 0 rfl rfl)
theorem dX1_bestByAll_1 : decode cX1_bestByAll 1 = .ok (.invokevirtual 112, 3) := dk_182 0 112 (dk_at dksX1_bestByAll_0 1 rfl rfl)
theorem dX1_bestByAll_4 : decode cX1_bestByAll 4 = .ok (.aload_n 0, 1) := dk_42 (dk_at dksX1_bestByAll_0 4 rfl rfl)
theorem dX1_bestByAll_5 : decode cX1_bestByAll 5 = .ok (.getfield 30, 3) := dk_180 0 30 (dk_at dksX1_bestByAll_0 5 rfl rfl)
theorem dX1_bestByAll_8 : decode cX1_bestByAll 8 = .ok (.arraylength, 1) := dk_190 (dk_at dksX1_bestByAll_0 8 rfl rfl)
theorem dX1_bestByAll_9 : decode cX1_bestByAll 9 = .ok (.iconst 3, 1) := dk_6 (dk_at dksX1_bestByAll_0 9 rfl rfl)
theorem dX1_bestByAll_10 : decode cX1_bestByAll 10 = .ok (.if_icmp .gt 7, 3) := dk_163 0 7 (dk_at dksX1_bestByAll_0 10 rfl rfl)
theorem dX1_bestByAll_13 : decode cX1_bestByAll 13 = .ok (.iconst 1, 1) := dk_4 (dk_at dksX1_bestByAll_0 13 rfl rfl)
theorem dX1_bestByAll_14 : decode cX1_bestByAll 14 = .ok (.goto 4, 3) := dk_167 0 4 (dk_at dksX1_bestByAll_0 14 rfl rfl)
theorem dX1_bestByAll_17 : decode cX1_bestByAll 17 = .ok (.iconst 0, 1) := dk_3 (dk_at dksX1_bestByAll_0 17 rfl rfl)
theorem dX1_bestByAll_18 : decode cX1_bestByAll 18 = .ok (.invokestatic 69, 3) := dk_184 0 69 (dk_at dksX1_bestByAll_0 18 rfl rfl)
theorem dX1_bestByAll_21 : decode cX1_bestByAll 21 = .ok (.aload_n 0, 1) := dk_42 (dk_at dksX1_bestByAll_0 21 rfl rfl)
theorem dX1_bestByAll_22 : decode cX1_bestByAll 22 = .ok (.invokevirtual 115, 3) := dk_182 0 115 (dk_at dksX1_bestByAll_1 0 rfl rfl)
theorem dX1_bestByAll_25 : decode cX1_bestByAll 25 = .ok (.astore_n 1, 1) := dk_76 (dk_at dksX1_bestByAll_1 3 rfl rfl)
theorem dX1_bestByAll_26 : decode cX1_bestByAll 26 = .ok (.aload_n 0, 1) := dk_42 (dk_at dksX1_bestByAll_1 4 rfl rfl)
theorem dX1_bestByAll_27 : decode cX1_bestByAll 27 = .ok (.getfield 30, 3) := dk_180 0 30 (dk_at dksX1_bestByAll_1 5 rfl rfl)
theorem dX1_bestByAll_30 : decode cX1_bestByAll 30 = .ok (.arraylength, 1) := dk_190 (dk_at dksX1_bestByAll_1 8 rfl rfl)
theorem dX1_bestByAll_31 : decode cX1_bestByAll 31 = .ok (.newarray .int, 2) := dk_188_10 (dk_at dksX1_bestByAll_1 9 rfl rfl)
theorem dX1_bestByAll_33 : decode cX1_bestByAll 33 = .ok (.astore_n 2, 1) := dk_77 (dk_at dksX1_bestByAll_1 11 rfl rfl)
theorem dX1_bestByAll_34 : decode cX1_bestByAll 34 = .ok (.iconst 0, 1) := dk_3 (dk_at dksX1_bestByAll_1 12 rfl rfl)
theorem dX1_bestByAll_35 : decode cX1_bestByAll 35 = .ok (.istore_n 3, 1) := dk_62 (dk_at dksX1_bestByAll_1 13 rfl rfl)
theorem dX1_bestByAll_36 : decode cX1_bestByAll 36 = .ok (.iload_n 3, 1) := dk_29 (dk_at dksX1_bestByAll_1 14 rfl rfl)
theorem dX1_bestByAll_37 : decode cX1_bestByAll 37 = .ok (.aload_n 0, 1) := dk_42 (dk_at dksX1_bestByAll_1 15 rfl rfl)
theorem dX1_bestByAll_38 : decode cX1_bestByAll 38 = .ok (.getfield 30, 3) := dk_180 0 30 (dk_at dksX1_bestByAll_1 16 rfl rfl)
theorem dX1_bestByAll_41 : decode cX1_bestByAll 41 = .ok (.arraylength, 1) := dk_190 (dk_at dksX1_bestByAll_1 19 rfl rfl)
theorem dX1_bestByAll_42 : decode cX1_bestByAll 42 = .ok (.if_icmp .ge 21, 3) := dk_162 0 21 (dk_at dksX1_bestByAll_1 20 rfl rfl)
theorem dX1_bestByAll_45 : decode cX1_bestByAll 45 = .ok (.aload_n 2, 1) := dk_44 (dk_at dksX1_bestByAll_1 23 rfl rfl)
theorem dX1_bestByAll_46 : decode cX1_bestByAll 46 = .ok (.iload_n 3, 1) := dk_29 (dk_at dksX1_bestByAll_2 0 rfl rfl)
theorem dX1_bestByAll_47 : decode cX1_bestByAll 47 = .ok (.aload_n 0, 1) := dk_42 (dk_at dksX1_bestByAll_2 1 rfl rfl)
theorem dX1_bestByAll_48 : decode cX1_bestByAll 48 = .ok (.getfield 30, 3) := dk_180 0 30 (dk_at dksX1_bestByAll_2 2 rfl rfl)
theorem dX1_bestByAll_51 : decode cX1_bestByAll 51 = .ok (.iload_n 3, 1) := dk_29 (dk_at dksX1_bestByAll_2 5 rfl rfl)
theorem dX1_bestByAll_52 : decode cX1_bestByAll 52 = .ok (.aaload, 1) := dk_50 (dk_at dksX1_bestByAll_2 6 rfl rfl)
theorem dX1_bestByAll_53 : decode cX1_bestByAll 53 = .ok (.getfield 109, 3) := dk_180 0 109 (dk_at dksX1_bestByAll_2 7 rfl rfl)
theorem dX1_bestByAll_56 : decode cX1_bestByAll 56 = .ok (.iastore, 1) := dk_79 (dk_at dksX1_bestByAll_2 10 rfl rfl)
theorem dX1_bestByAll_57 : decode cX1_bestByAll 57 = .ok (.iinc 3 1, 3) := dk_132 3 1 (dk_at dksX1_bestByAll_2 11 rfl rfl)
theorem dX1_bestByAll_60 : decode cX1_bestByAll 60 = .ok (.goto (-24), 3) := dk_167 255 232 (dk_at dksX1_bestByAll_2 14 rfl rfl)
theorem dX1_bestByAll_63 : decode cX1_bestByAll 63 = .ok (.iconst 0, 1) := dk_3 (dk_at dksX1_bestByAll_2 17 rfl rfl)
theorem dX1_bestByAll_64 : decode cX1_bestByAll 64 = .ok (.istore_n 3, 1) := dk_62 (dk_at dksX1_bestByAll_2 18 rfl rfl)
theorem dX1_bestByAll_65 : decode cX1_bestByAll 65 = .ok (.iconst 0, 1) := dk_3 (dk_at dksX1_bestByAll_2 19 rfl rfl)
theorem dX1_bestByAll_66 : decode cX1_bestByAll 66 = .ok (.istore 4, 2) := dk_54 4 (dk_at dksX1_bestByAll_2 20 rfl rfl)
theorem dX1_bestByAll_68 : decode cX1_bestByAll 68 = .ok (.iload 4, 2) := dk_21 4 (dk_at dksX1_bestByAll_2 22 rfl rfl)
theorem dX1_bestByAll_70 : decode cX1_bestByAll 70 = .ok (.aload_n 0, 1) := dk_42 (dk_at dksX1_bestByAll_3 0 rfl rfl)
theorem dX1_bestByAll_71 : decode cX1_bestByAll 71 = .ok (.getfield 34, 3) := dk_180 0 34 (dk_at dksX1_bestByAll_3 1 rfl rfl)
theorem dX1_bestByAll_74 : decode cX1_bestByAll 74 = .ok (.if_icmp .ge 92, 3) := dk_162 0 92 (dk_at dksX1_bestByAll_3 4 rfl rfl)
theorem dX1_bestByAll_77 : decode cX1_bestByAll 77 = .ok (.aload_n 0, 1) := dk_42 (dk_at dksX1_bestByAll_3 7 rfl rfl)
theorem dX1_bestByAll_78 : decode cX1_bestByAll 78 = .ok (.getfield 30, 3) := dk_180 0 30 (dk_at dksX1_bestByAll_3 8 rfl rfl)
theorem dX1_bestByAll_81 : decode cX1_bestByAll 81 = .ok (.iconst 1, 1) := dk_4 (dk_at dksX1_bestByAll_3 11 rfl rfl)
theorem dX1_bestByAll_82 : decode cX1_bestByAll 82 = .ok (.aaload, 1) := dk_50 (dk_at dksX1_bestByAll_3 12 rfl rfl)
theorem dX1_bestByAll_83 : decode cX1_bestByAll 83 = .ok (.iload 4, 2) := dk_21 4 (dk_at dksX1_bestByAll_3 13 rfl rfl)
theorem dX1_bestByAll_85 : decode cX1_bestByAll 85 = .ok (.putfield 109, 3) := dk_181 0 109 (dk_at dksX1_bestByAll_3 15 rfl rfl)
theorem dX1_bestByAll_88 : decode cX1_bestByAll 88 = .ok (.iconst 0, 1) := dk_3 (dk_at dksX1_bestByAll_3 18 rfl rfl)
theorem dX1_bestByAll_89 : decode cX1_bestByAll 89 = .ok (.istore 5, 2) := dk_54 5 (dk_at dksX1_bestByAll_3 19 rfl rfl)
theorem dX1_bestByAll_91 : decode cX1_bestByAll 91 = .ok (.iload 5, 2) := dk_21 5 (dk_at dksX1_bestByAll_3 21 rfl rfl)
theorem dX1_bestByAll_93 : decode cX1_bestByAll 93 = .ok (.aload_n 0, 1) := dk_42 (dk_at dksX1_bestByAll_3 23 rfl rfl)
theorem dX1_bestByAll_94 : decode cX1_bestByAll 94 = .ok (.getfield 30, 3) := dk_180 0 30 (dk_at dksX1_bestByAll_4 0 rfl rfl)
theorem dX1_bestByAll_97 : decode cX1_bestByAll 97 = .ok (.arraylength, 1) := dk_190 (dk_at dksX1_bestByAll_4 3 rfl rfl)
theorem dX1_bestByAll_98 : decode cX1_bestByAll 98 = .ok (.iconst 3, 1) := dk_6 (dk_at dksX1_bestByAll_4 4 rfl rfl)
theorem dX1_bestByAll_99 : decode cX1_bestByAll 99 = .ok (.if_icmp .ne 10, 3) := dk_160 0 10 (dk_at dksX1_bestByAll_4 5 rfl rfl)
theorem dX1_bestByAll_102 : decode cX1_bestByAll 102 = .ok (.aload_n 0, 1) := dk_42 (dk_at dksX1_bestByAll_4 8 rfl rfl)
theorem dX1_bestByAll_103 : decode cX1_bestByAll 103 = .ok (.getfield 34, 3) := dk_180 0 34 (dk_at dksX1_bestByAll_4 9 rfl rfl)
theorem dX1_bestByAll_106 : decode cX1_bestByAll 106 = .ok (.goto 4, 3) := dk_167 0 4 (dk_at dksX1_bestByAll_4 12 rfl rfl)
theorem dX1_bestByAll_109 : decode cX1_bestByAll 109 = .ok (.iconst 1, 1) := dk_4 (dk_at dksX1_bestByAll_4 15 rfl rfl)
theorem dX1_bestByAll_110 : decode cX1_bestByAll 110 = .ok (.if_icmp .ge 50, 3) := dk_162 0 50 (dk_at dksX1_bestByAll_4 16 rfl rfl)
theorem dX1_bestByAll_113 : decode cX1_bestByAll 113 = .ok (.aload_n 0, 1) := dk_42 (dk_at dksX1_bestByAll_4 19 rfl rfl)
theorem dX1_bestByAll_114 : decode cX1_bestByAll 114 = .ok (.getfield 30, 3) := dk_180 0 30 (dk_at dksX1_bestByAll_4 20 rfl rfl)
theorem dX1_bestByAll_117 : decode cX1_bestByAll 117 = .ok (.aload_n 0, 1) := dk_42 (dk_at dksX1_bestByAll_4 23 rfl rfl)
theorem dX1_bestByAll_118 : decode cX1_bestByAll 118 = .ok (.getfield 30, 3) := dk_180 0 30 (dk_at dksX1_bestByAll_5 0 rfl rfl)
theorem dX1_bestByAll_121 : decode cX1_bestByAll 121 = .ok (.arraylength, 1) := dk_190 (dk_at dksX1_bestByAll_5 3 rfl rfl)
theorem dX1_bestByAll_122 : decode cX1_bestByAll 122 = .ok (.iconst 1, 1) := dk_4 (dk_at dksX1_bestByAll_5 4 rfl rfl)
theorem dX1_bestByAll_123 : decode cX1_bestByAll 123 = .ok (.isub, 1) := dk_100 (dk_at dksX1_bestByAll_5 5 rfl rfl)
theorem dX1_bestByAll_124 : decode cX1_bestByAll 124 = .ok (.aaload, 1) := dk_50 (dk_at dksX1_bestByAll_5 6 rfl rfl)
theorem dX1_bestByAll_125 : decode cX1_bestByAll 125 = .ok (.aload_n 0, 1) := dk_42 (dk_at dksX1_bestByAll_5 7 rfl rfl)
theorem dX1_bestByAll_126 : decode cX1_bestByAll 126 = .ok (.getfield 30, 3) := dk_180 0 30 (dk_at dksX1_bestByAll_5 8 rfl rfl)
theorem dX1_bestByAll_129 : decode cX1_bestByAll 129 = .ok (.arraylength, 1) := dk_190 (dk_at dksX1_bestByAll_5 11 rfl rfl)
theorem dX1_bestByAll_130 : decode cX1_bestByAll 130 = .ok (.iconst 3, 1) := dk_6 (dk_at dksX1_bestByAll_5 12 rfl rfl)
theorem dX1_bestByAll_131 : decode cX1_bestByAll 131 = .ok (.if_icmp .ne 8, 3) := dk_160 0 8 (dk_at dksX1_bestByAll_5 13 rfl rfl)
theorem dX1_bestByAll_134 : decode cX1_bestByAll 134 = .ok (.iload 5, 2) := dk_21 5 (dk_at dksX1_bestByAll_5 16 rfl rfl)
theorem dX1_bestByAll_136 : decode cX1_bestByAll 136 = .ok (.goto 5, 3) := dk_167 0 5 (dk_at dksX1_bestByAll_5 18 rfl rfl)
theorem dX1_bestByAll_139 : decode cX1_bestByAll 139 = .ok (.iload 4, 2) := dk_21 4 (dk_at dksX1_bestByAll_5 21 rfl rfl)
theorem dX1_bestByAll_141 : decode cX1_bestByAll 141 = .ok (.putfield 109, 3) := dk_181 0 109 (dk_at dksX1_bestByAll_6 0 rfl rfl)
theorem dX1_bestByAll_144 : decode cX1_bestByAll 144 = .ok (.iload_n 3, 1) := dk_29 (dk_at dksX1_bestByAll_6 3 rfl rfl)
theorem dX1_bestByAll_145 : decode cX1_bestByAll 145 = .ok (.aload_n 0, 1) := dk_42 (dk_at dksX1_bestByAll_6 4 rfl rfl)
theorem dX1_bestByAll_146 : decode cX1_bestByAll 146 = .ok (.aload_n 1, 1) := dk_43 (dk_at dksX1_bestByAll_6 5 rfl rfl)
theorem dX1_bestByAll_147 : decode cX1_bestByAll 147 = .ok (.invokevirtual 119, 3) := dk_182 0 119 (dk_at dksX1_bestByAll_6 6 rfl rfl)
theorem dX1_bestByAll_150 : decode cX1_bestByAll 150 = .ok (.invokestatic 123, 3) := dk_184 0 123 (dk_at dksX1_bestByAll_6 9 rfl rfl)
theorem dX1_bestByAll_153 : decode cX1_bestByAll 153 = .ok (.istore_n 3, 1) := dk_62 (dk_at dksX1_bestByAll_6 12 rfl rfl)
theorem dX1_bestByAll_154 : decode cX1_bestByAll 154 = .ok (.iinc 5 1, 3) := dk_132 5 1 (dk_at dksX1_bestByAll_6 13 rfl rfl)
theorem dX1_bestByAll_157 : decode cX1_bestByAll 157 = .ok (.goto (-66), 3) := dk_167 255 190 (dk_at dksX1_bestByAll_6 16 rfl rfl)
theorem dX1_bestByAll_160 : decode cX1_bestByAll 160 = .ok (.iinc 4 1, 3) := dk_132 4 1 (dk_at dksX1_bestByAll_6 19 rfl rfl)
theorem dX1_bestByAll_163 : decode cX1_bestByAll 163 = .ok (.goto (-95), 3) := dk_167 255 161 (dk_at dksX1_bestByAll_7 0 rfl rfl)
theorem dX1_bestByAll_166 : decode cX1_bestByAll 166 = .ok (.iconst 0, 1) := dk_3 (dk_at dksX1_bestByAll_7 3 rfl rfl)
theorem dX1_bestByAll_167 : decode cX1_bestByAll 167 = .ok (.istore 4, 2) := dk_54 4 (dk_at dksX1_bestByAll_7 4 rfl rfl)
theorem dX1_bestByAll_169 : decode cX1_bestByAll 169 = .ok (.iload 4, 2) := dk_21 4 (dk_at dksX1_bestByAll_7 6 rfl rfl)
theorem dX1_bestByAll_171 : decode cX1_bestByAll 171 = .ok (.aload_n 0, 1) := dk_42 (dk_at dksX1_bestByAll_7 8 rfl rfl)
theorem dX1_bestByAll_172 : decode cX1_bestByAll 172 = .ok (.getfield 30, 3) := dk_180 0 30 (dk_at dksX1_bestByAll_7 9 rfl rfl)
theorem dX1_bestByAll_175 : decode cX1_bestByAll 175 = .ok (.arraylength, 1) := dk_190 (dk_at dksX1_bestByAll_7 12 rfl rfl)
theorem dX1_bestByAll_176 : decode cX1_bestByAll 176 = .ok (.if_icmp .ge 23, 3) := dk_162 0 23 (dk_at dksX1_bestByAll_7 13 rfl rfl)
theorem dX1_bestByAll_179 : decode cX1_bestByAll 179 = .ok (.aload_n 0, 1) := dk_42 (dk_at dksX1_bestByAll_7 16 rfl rfl)
theorem dX1_bestByAll_180 : decode cX1_bestByAll 180 = .ok (.getfield 30, 3) := dk_180 0 30 (dk_at dksX1_bestByAll_7 17 rfl rfl)
theorem dX1_bestByAll_183 : decode cX1_bestByAll 183 = .ok (.iload 4, 2) := dk_21 4 (dk_at dksX1_bestByAll_7 20 rfl rfl)
theorem dX1_bestByAll_185 : decode cX1_bestByAll 185 = .ok (.aaload, 1) := dk_50 (dk_at dksX1_bestByAll_7 22 rfl rfl)
theorem dX1_bestByAll_186 : decode cX1_bestByAll 186 = .ok (.aload_n 2, 1) := dk_44 (dk_at dksX1_bestByAll_7 23 rfl rfl)
theorem dX1_bestByAll_187 : decode cX1_bestByAll 187 = .ok (.iload 4, 2) := dk_21 4 (dk_at dksX1_bestByAll_8 0 rfl rfl)
theorem dX1_bestByAll_189 : decode cX1_bestByAll 189 = .ok (.iaload, 1) := dk_46 (dk_at dksX1_bestByAll_8 2 rfl rfl)
theorem dX1_bestByAll_190 : decode cX1_bestByAll 190 = .ok (.putfield 109, 3) := dk_181 0 109 (dk_at dksX1_bestByAll_8 3 rfl rfl)
theorem dX1_bestByAll_193 : decode cX1_bestByAll 193 = .ok (.iinc 4 1, 3) := dk_132 4 1 (dk_at dksX1_bestByAll_8 6 rfl rfl)
theorem dX1_bestByAll_196 : decode cX1_bestByAll 196 = .ok (.goto (-27), 3) := dk_167 255 229 (dk_at dksX1_bestByAll_8 9 rfl rfl)
theorem dX1_bestByAll_199 : decode cX1_bestByAll 199 = .ok (.iload_n 3, 1) := dk_29 (dk_at dksX1_bestByAll_8 12 rfl rfl)
theorem dX1_bestByAll_200 : decode cX1_bestByAll 200 = .ok (.ireturn, 1) := dk_172 (dk_at dksX1_bestByAll_8 13 rfl rfl)
abbrev cX1_run : ByteArray := prog_1_method_37_code
def yX1_run : MethodName := ⟨RX1, "run", "(I)I"⟩
def dkwX1_run_6 : List UInt8 := [167, 255, 208, 42, 180, 0, 51, 28, 100, 172]
abbrev dktX1_run_6 : List UInt8 := dkwX1_run_6 ++ []
def dkwX1_run_5 : List UInt8 := [182, 0, 182, 132, 5, 1, 167, 255, 233, 42, 89, 180, 0, 41, 4, 96, 181, 0, 41, 132, 4, 1]
abbrev dktX1_run_5 : List UInt8 := dkwX1_run_5 ++ dktX1_run_6
def dkwX1_run_4 : List UInt8 := [162, 0, 48, 3, 54, 5, 21, 5, 42, 180, 0, 30, 190, 162, 0, 19, 42, 21, 5, 45, 21, 5, 50]
abbrev dktX1_run_4 : List UInt8 := dkwX1_run_4 ++ dktX1_run_5
def dkwX1_run_3 : List UInt8 := [42, 180, 0, 30, 21, 4, 50, 182, 0, 133, 83, 132, 4, 1, 167, 255, 229, 3, 54, 4, 21, 4, 27]
abbrev dktX1_run_3 : List UInt8 := dkwX1_run_3 ++ dktX1_run_4
def dkwX1_run_2 : List UInt8 := [180, 0, 30, 190, 189, 0, 181, 78, 3, 54, 4, 21, 4, 42, 180, 0, 30, 190, 162, 0, 23, 45, 21, 4]
abbrev dktX1_run_2 : List UInt8 := dkwX1_run_2 ++ dktX1_run_3
def dkwX1_run_1 : List UInt8 := [163, 0, 7, 4, 167, 0, 4, 3, 184, 0, 69, 42, 4, 181, 0, 44, 42, 180, 0, 51, 61, 42]
abbrev dktX1_run_1 : List UInt8 := dkwX1_run_1 ++ dktX1_run_2
def dkwX1_run_0 : List UInt8 := [27, 4, 17, 2, 88, 184, 0, 54, 184, 0, 72, 42, 182, 0, 112, 42, 180, 0, 41, 27, 96, 17, 28, 32]
abbrev dktX1_run_0 : List UInt8 := dkwX1_run_0 ++ dktX1_run_1
theorem dksX1_run_0 : cX1_run.data.toList.drop 0 = dktX1_run_0 := by decide +kernel
theorem dksX1_run_1 : cX1_run.data.toList.drop 24 = dktX1_run_1 := dk_seg dksX1_run_0 24 rfl rfl
theorem dksX1_run_2 : cX1_run.data.toList.drop 46 = dktX1_run_2 := dk_seg dksX1_run_1 22 rfl rfl
theorem dksX1_run_3 : cX1_run.data.toList.drop 70 = dktX1_run_3 := dk_seg dksX1_run_2 24 rfl rfl
theorem dksX1_run_4 : cX1_run.data.toList.drop 93 = dktX1_run_4 := dk_seg dksX1_run_3 23 rfl rfl
theorem dksX1_run_5 : cX1_run.data.toList.drop 116 = dktX1_run_5 := dk_seg dksX1_run_4 23 rfl rfl
theorem dksX1_run_6 : cX1_run.data.toList.drop 138 = dktX1_run_6 := dk_seg dksX1_run_5 22 rfl rfl
theorem dX1_run_0 : decode cX1_run 0 = .ok (.iload_n 1, 1) := dk_27 (dk_at dksX1_run_0 0 rfl rfl)
theorem dX1_run_1 : decode cX1_run 1 = .ok (.iconst 1, 1) := dk_4 (dk_at dksX1_run_0 1 rfl rfl)
theorem dX1_run_2 : decode cX1_run 2 = .ok (.sipush 600, 3) := dk_17 2 88 (dk_at dksX1_run_0 2 rfl rfl)
theorem dX1_run_5 : decode cX1_run 5 = .ok (.invokestatic 54, 3) := dk_184 0 54 (dk_at dksX1_run_0 5 rfl rfl)
theorem dX1_run_8 : decode cX1_run 8 = .ok (.invokestatic 72, 3) := dk_184 0 72 (dk_at dksX1_run_0 8 rfl rfl)
theorem dX1_run_11 : decode cX1_run 11 = .ok (.aload_n 0, 1) := dk_42 (dk_at dksX1_run_0 11 rfl rfl)
theorem dX1_run_12 : decode cX1_run 12 = .ok (.invokevirtual 112, 3) := dk_182 0 112 (dk_at dksX1_run_0 12 rfl rfl)
theorem dX1_run_15 : decode cX1_run 15 = .ok (.aload_n 0, 1) := dk_42 (dk_at dksX1_run_0 15 rfl rfl)
theorem dX1_run_16 : decode cX1_run 16 = .ok (.getfield 41, 3) := dk_180 0 41 (dk_at dksX1_run_0 16 rfl rfl)
theorem dX1_run_19 : decode cX1_run 19 = .ok (.iload_n 1, 1) := dk_27 (dk_at dksX1_run_0 19 rfl rfl)
theorem dX1_run_20 : decode cX1_run 20 = .ok (.iadd, 1) := dk_96 (dk_at dksX1_run_0 20 rfl rfl)
theorem dX1_run_21 : decode cX1_run 21 = .ok (.sipush 7200, 3) := dk_17 28 32 (dk_at dksX1_run_0 21 rfl rfl)
theorem dX1_run_24 : decode cX1_run 24 = .ok (.if_icmp .gt 7, 3) := dk_163 0 7 (dk_at dksX1_run_1 0 rfl rfl)
theorem dX1_run_27 : decode cX1_run 27 = .ok (.iconst 1, 1) := dk_4 (dk_at dksX1_run_1 3 rfl rfl)
theorem dX1_run_28 : decode cX1_run 28 = .ok (.goto 4, 3) := dk_167 0 4 (dk_at dksX1_run_1 4 rfl rfl)
theorem dX1_run_31 : decode cX1_run 31 = .ok (.iconst 0, 1) := dk_3 (dk_at dksX1_run_1 7 rfl rfl)
theorem dX1_run_32 : decode cX1_run 32 = .ok (.invokestatic 69, 3) := dk_184 0 69 (dk_at dksX1_run_1 8 rfl rfl)
theorem dX1_run_35 : decode cX1_run 35 = .ok (.aload_n 0, 1) := dk_42 (dk_at dksX1_run_1 11 rfl rfl)
theorem dX1_run_36 : decode cX1_run 36 = .ok (.iconst 1, 1) := dk_4 (dk_at dksX1_run_1 12 rfl rfl)
theorem dX1_run_37 : decode cX1_run 37 = .ok (.putfield 44, 3) := dk_181 0 44 (dk_at dksX1_run_1 13 rfl rfl)
theorem dX1_run_40 : decode cX1_run 40 = .ok (.aload_n 0, 1) := dk_42 (dk_at dksX1_run_1 16 rfl rfl)
theorem dX1_run_41 : decode cX1_run 41 = .ok (.getfield 51, 3) := dk_180 0 51 (dk_at dksX1_run_1 17 rfl rfl)
theorem dX1_run_44 : decode cX1_run 44 = .ok (.istore_n 2, 1) := dk_61 (dk_at dksX1_run_1 20 rfl rfl)
theorem dX1_run_45 : decode cX1_run 45 = .ok (.aload_n 0, 1) := dk_42 (dk_at dksX1_run_1 21 rfl rfl)
theorem dX1_run_46 : decode cX1_run 46 = .ok (.getfield 30, 3) := dk_180 0 30 (dk_at dksX1_run_2 0 rfl rfl)
theorem dX1_run_49 : decode cX1_run 49 = .ok (.arraylength, 1) := dk_190 (dk_at dksX1_run_2 3 rfl rfl)
theorem dX1_run_50 : decode cX1_run 50 = .ok (.anewarray 181, 3) := dk_189 0 181 (dk_at dksX1_run_2 4 rfl rfl)
theorem dX1_run_53 : decode cX1_run 53 = .ok (.astore_n 3, 1) := dk_78 (dk_at dksX1_run_2 7 rfl rfl)
theorem dX1_run_54 : decode cX1_run 54 = .ok (.iconst 0, 1) := dk_3 (dk_at dksX1_run_2 8 rfl rfl)
theorem dX1_run_55 : decode cX1_run 55 = .ok (.istore 4, 2) := dk_54 4 (dk_at dksX1_run_2 9 rfl rfl)
theorem dX1_run_57 : decode cX1_run 57 = .ok (.iload 4, 2) := dk_21 4 (dk_at dksX1_run_2 11 rfl rfl)
theorem dX1_run_59 : decode cX1_run 59 = .ok (.aload_n 0, 1) := dk_42 (dk_at dksX1_run_2 13 rfl rfl)
theorem dX1_run_60 : decode cX1_run 60 = .ok (.getfield 30, 3) := dk_180 0 30 (dk_at dksX1_run_2 14 rfl rfl)
theorem dX1_run_63 : decode cX1_run 63 = .ok (.arraylength, 1) := dk_190 (dk_at dksX1_run_2 17 rfl rfl)
theorem dX1_run_64 : decode cX1_run 64 = .ok (.if_icmp .ge 23, 3) := dk_162 0 23 (dk_at dksX1_run_2 18 rfl rfl)
theorem dX1_run_67 : decode cX1_run 67 = .ok (.aload_n 3, 1) := dk_45 (dk_at dksX1_run_2 21 rfl rfl)
theorem dX1_run_68 : decode cX1_run 68 = .ok (.iload 4, 2) := dk_21 4 (dk_at dksX1_run_2 22 rfl rfl)
theorem dX1_run_70 : decode cX1_run 70 = .ok (.aload_n 0, 1) := dk_42 (dk_at dksX1_run_3 0 rfl rfl)
theorem dX1_run_71 : decode cX1_run 71 = .ok (.getfield 30, 3) := dk_180 0 30 (dk_at dksX1_run_3 1 rfl rfl)
theorem dX1_run_74 : decode cX1_run 74 = .ok (.iload 4, 2) := dk_21 4 (dk_at dksX1_run_3 4 rfl rfl)
theorem dX1_run_76 : decode cX1_run 76 = .ok (.aaload, 1) := dk_50 (dk_at dksX1_run_3 6 rfl rfl)
theorem dX1_run_77 : decode cX1_run 77 = .ok (.invokevirtual 133, 3) := dk_182 0 133 (dk_at dksX1_run_3 7 rfl rfl)
theorem dX1_run_80 : decode cX1_run 80 = .ok (.aastore, 1) := dk_83 (dk_at dksX1_run_3 10 rfl rfl)
theorem dX1_run_81 : decode cX1_run 81 = .ok (.iinc 4 1, 3) := dk_132 4 1 (dk_at dksX1_run_3 11 rfl rfl)
theorem dX1_run_84 : decode cX1_run 84 = .ok (.goto (-27), 3) := dk_167 255 229 (dk_at dksX1_run_3 14 rfl rfl)
theorem dX1_run_87 : decode cX1_run 87 = .ok (.iconst 0, 1) := dk_3 (dk_at dksX1_run_3 17 rfl rfl)
theorem dX1_run_88 : decode cX1_run 88 = .ok (.istore 4, 2) := dk_54 4 (dk_at dksX1_run_3 18 rfl rfl)
theorem dX1_run_90 : decode cX1_run 90 = .ok (.iload 4, 2) := dk_21 4 (dk_at dksX1_run_3 20 rfl rfl)
theorem dX1_run_92 : decode cX1_run 92 = .ok (.iload_n 1, 1) := dk_27 (dk_at dksX1_run_3 22 rfl rfl)
theorem dX1_run_93 : decode cX1_run 93 = .ok (.if_icmp .ge 48, 3) := dk_162 0 48 (dk_at dksX1_run_4 0 rfl rfl)
theorem dX1_run_96 : decode cX1_run 96 = .ok (.iconst 0, 1) := dk_3 (dk_at dksX1_run_4 3 rfl rfl)
theorem dX1_run_97 : decode cX1_run 97 = .ok (.istore 5, 2) := dk_54 5 (dk_at dksX1_run_4 4 rfl rfl)
theorem dX1_run_99 : decode cX1_run 99 = .ok (.iload 5, 2) := dk_21 5 (dk_at dksX1_run_4 6 rfl rfl)
theorem dX1_run_101 : decode cX1_run 101 = .ok (.aload_n 0, 1) := dk_42 (dk_at dksX1_run_4 8 rfl rfl)
theorem dX1_run_102 : decode cX1_run 102 = .ok (.getfield 30, 3) := dk_180 0 30 (dk_at dksX1_run_4 9 rfl rfl)
theorem dX1_run_105 : decode cX1_run 105 = .ok (.arraylength, 1) := dk_190 (dk_at dksX1_run_4 12 rfl rfl)
theorem dX1_run_106 : decode cX1_run 106 = .ok (.if_icmp .ge 19, 3) := dk_162 0 19 (dk_at dksX1_run_4 13 rfl rfl)
theorem dX1_run_109 : decode cX1_run 109 = .ok (.aload_n 0, 1) := dk_42 (dk_at dksX1_run_4 16 rfl rfl)
theorem dX1_run_110 : decode cX1_run 110 = .ok (.iload 5, 2) := dk_21 5 (dk_at dksX1_run_4 17 rfl rfl)
theorem dX1_run_112 : decode cX1_run 112 = .ok (.aload_n 3, 1) := dk_45 (dk_at dksX1_run_4 19 rfl rfl)
theorem dX1_run_113 : decode cX1_run 113 = .ok (.iload 5, 2) := dk_21 5 (dk_at dksX1_run_4 20 rfl rfl)
theorem dX1_run_115 : decode cX1_run 115 = .ok (.aaload, 1) := dk_50 (dk_at dksX1_run_4 22 rfl rfl)
theorem dX1_run_116 : decode cX1_run 116 = .ok (.invokevirtual 182, 3) := dk_182 0 182 (dk_at dksX1_run_5 0 rfl rfl)
theorem dX1_run_119 : decode cX1_run 119 = .ok (.iinc 5 1, 3) := dk_132 5 1 (dk_at dksX1_run_5 3 rfl rfl)
theorem dX1_run_122 : decode cX1_run 122 = .ok (.goto (-23), 3) := dk_167 255 233 (dk_at dksX1_run_5 6 rfl rfl)
theorem dX1_run_125 : decode cX1_run 125 = .ok (.aload_n 0, 1) := dk_42 (dk_at dksX1_run_5 9 rfl rfl)
theorem dX1_run_126 : decode cX1_run 126 = .ok (.dup, 1) := dk_89 (dk_at dksX1_run_5 10 rfl rfl)
theorem dX1_run_127 : decode cX1_run 127 = .ok (.getfield 41, 3) := dk_180 0 41 (dk_at dksX1_run_5 11 rfl rfl)
theorem dX1_run_130 : decode cX1_run 130 = .ok (.iconst 1, 1) := dk_4 (dk_at dksX1_run_5 14 rfl rfl)
theorem dX1_run_131 : decode cX1_run 131 = .ok (.iadd, 1) := dk_96 (dk_at dksX1_run_5 15 rfl rfl)
theorem dX1_run_132 : decode cX1_run 132 = .ok (.putfield 41, 3) := dk_181 0 41 (dk_at dksX1_run_5 16 rfl rfl)
theorem dX1_run_135 : decode cX1_run 135 = .ok (.iinc 4 1, 3) := dk_132 4 1 (dk_at dksX1_run_5 19 rfl rfl)
theorem dX1_run_138 : decode cX1_run 138 = .ok (.goto (-48), 3) := dk_167 255 208 (dk_at dksX1_run_6 0 rfl rfl)
theorem dX1_run_141 : decode cX1_run 141 = .ok (.aload_n 0, 1) := dk_42 (dk_at dksX1_run_6 3 rfl rfl)
theorem dX1_run_142 : decode cX1_run 142 = .ok (.getfield 51, 3) := dk_180 0 51 (dk_at dksX1_run_6 4 rfl rfl)
theorem dX1_run_145 : decode cX1_run 145 = .ok (.iload_n 2, 1) := dk_28 (dk_at dksX1_run_6 7 rfl rfl)
theorem dX1_run_146 : decode cX1_run 146 = .ok (.isub, 1) := dk_100 (dk_at dksX1_run_6 8 rfl rfl)
theorem dX1_run_147 : decode cX1_run 147 = .ok (.ireturn, 1) := dk_172 (dk_at dksX1_run_6 9 rfl rfl)
abbrev cX1_step : ByteArray := prog_1_method_36_code
def yX1_step : MethodName := ⟨RX1, "step", "(I[I)V"⟩
def dkwX1_step_12 : List UInt8 := [4, 96, 79, 177]
abbrev dktX1_step_12 : List UInt8 := dkwX1_step_12 ++ []
def dkwX1_step_11 : List UInt8 := [180, 0, 30, 27, 4, 96, 50, 180, 0, 165, 42, 180, 0, 41, 45, 180, 0, 103, 96, 16, 61, 112, 92, 46]
abbrev dktX1_step_11 : List UInt8 := dkwX1_step_11 ++ dktX1_step_12
def dkwX1_step_10 : List UInt8 := [89, 180, 0, 51, 4, 96, 181, 0, 51, 167, 0, 41, 45, 89, 180, 0, 159, 4, 96, 181, 0, 159, 42]
abbrev dktX1_step_10 : List UInt8 := dkwX1_step_10 ++ dktX1_step_11
def dkwX1_step_9 : List UInt8 := [162, 0, 74, 45, 89, 180, 0, 162, 4, 100, 181, 0, 162, 45, 3, 181, 0, 175, 21, 5, 153, 0, 16, 42]
abbrev dktX1_step_9 : List UInt8 := dkwX1_step_9 ++ dktX1_step_10
def dkwX1_step_8 : List UInt8 := [160, 0, 98, 45, 180, 0, 162, 158, 0, 91, 21, 5, 154, 0, 15, 42, 27, 182, 0, 178, 45, 180, 0, 106]
abbrev dktX1_step_8 : List UInt8 := dkwX1_step_8 ++ dktX1_step_9
def dkwX1_step_7 : List UInt8 := [42, 180, 0, 30, 190, 4, 100, 160, 0, 7, 4, 167, 0, 4, 3, 54, 5, 45, 180, 0, 175, 5]
abbrev dktX1_step_7 : List UInt8 := dkwX1_step_7 ++ dktX1_step_8
def dkwX1_step_6 : List UInt8 := [182, 0, 171, 153, 0, 16, 5, 45, 180, 0, 175, 4, 96, 184, 0, 13, 167, 0, 4, 3, 181, 0, 175, 27]
abbrev dktX1_step_6 : List UInt8 := dkwX1_step_6 ++ dktX1_step_7
def dkwX1_step_5 : List UInt8 := [96, 181, 0, 162, 42, 89, 180, 0, 48, 4, 96, 181, 0, 48, 45, 45, 3, 42, 180, 0, 41, 44]
abbrev dktX1_step_5 : List UInt8 := dkwX1_step_5 ++ dktX1_step_6
def dkwX1_step_4 : List UInt8 := [17, 14, 16, 161, 0, 35, 45, 89, 180, 0, 168, 17, 14, 16, 100, 181, 0, 168, 45, 89, 180, 0, 162, 4]
abbrev dktX1_step_4 : List UInt8 := dkwX1_step_4 ++ dktX1_step_5
def dkwX1_step_3 : List UInt8 := [154, 0, 60, 45, 89, 180, 0, 168, 45, 180, 0, 97, 3, 46, 96, 181, 0, 168, 45, 180, 0, 168]
abbrev dktX1_step_3 : List UInt8 := dkwX1_step_3 ++ dktX1_step_4
def dkwX1_step_2 : List UInt8 := [180, 0, 159, 45, 180, 0, 165, 21, 4, 46, 100, 181, 0, 159, 45, 180, 0, 165, 21, 4, 3, 79, 27]
abbrev dktX1_step_2 : List UInt8 := dkwX1_step_2 ++ dktX1_step_3
def dkwX1_step_1 : List UInt8 := [180, 0, 165, 21, 4, 46, 96, 181, 0, 162, 27, 158, 0, 26, 42, 180, 0, 30, 27, 4, 100, 50, 89]
abbrev dktX1_step_1 : List UInt8 := dkwX1_step_1 ++ dktX1_step_2
def dkwX1_step_0 : List UInt8 := [42, 180, 0, 30, 27, 50, 78, 42, 180, 0, 41, 16, 61, 112, 54, 4, 45, 89, 180, 0, 162, 45]
abbrev dktX1_step_0 : List UInt8 := dkwX1_step_0 ++ dktX1_step_1
theorem dksX1_step_0 : cX1_step.data.toList.drop 0 = dktX1_step_0 := by decide +kernel
theorem dksX1_step_1 : cX1_step.data.toList.drop 22 = dktX1_step_1 := dk_seg dksX1_step_0 22 rfl rfl
theorem dksX1_step_2 : cX1_step.data.toList.drop 45 = dktX1_step_2 := dk_seg dksX1_step_1 23 rfl rfl
theorem dksX1_step_3 : cX1_step.data.toList.drop 68 = dktX1_step_3 := dk_seg dksX1_step_2 23 rfl rfl
theorem dksX1_step_4 : cX1_step.data.toList.drop 90 = dktX1_step_4 := dk_seg dksX1_step_3 22 rfl rfl
theorem dksX1_step_5 : cX1_step.data.toList.drop 114 = dktX1_step_5 := dk_seg dksX1_step_4 24 rfl rfl
theorem dksX1_step_6 : cX1_step.data.toList.drop 136 = dktX1_step_6 := dk_seg dksX1_step_5 22 rfl rfl
theorem dksX1_step_7 : cX1_step.data.toList.drop 160 = dktX1_step_7 := dk_seg dksX1_step_6 24 rfl rfl
theorem dksX1_step_8 : cX1_step.data.toList.drop 182 = dktX1_step_8 := dk_seg dksX1_step_7 22 rfl rfl
theorem dksX1_step_9 : cX1_step.data.toList.drop 206 = dktX1_step_9 := dk_seg dksX1_step_8 24 rfl rfl
theorem dksX1_step_10 : cX1_step.data.toList.drop 230 = dktX1_step_10 := dk_seg dksX1_step_9 24 rfl rfl
theorem dksX1_step_11 : cX1_step.data.toList.drop 253 = dktX1_step_11 := dk_seg dksX1_step_10 23 rfl rfl
theorem dksX1_step_12 : cX1_step.data.toList.drop 277 = dktX1_step_12 := dk_seg dksX1_step_11 24 rfl rfl
theorem dX1_step_0 : decode cX1_step 0 = .ok (.aload_n 0, 1) := dk_42 (dk_at dksX1_step_0 0 rfl rfl)
theorem dX1_step_1 : decode cX1_step 1 = .ok (.getfield 30, 3) := dk_180 0 30 (dk_at dksX1_step_0 1 rfl rfl)
theorem dX1_step_4 : decode cX1_step 4 = .ok (.iload_n 1, 1) := dk_27 (dk_at dksX1_step_0 4 rfl rfl)
theorem dX1_step_5 : decode cX1_step 5 = .ok (.aaload, 1) := dk_50 (dk_at dksX1_step_0 5 rfl rfl)
theorem dX1_step_6 : decode cX1_step 6 = .ok (.astore_n 3, 1) := dk_78 (dk_at dksX1_step_0 6 rfl rfl)
theorem dX1_step_7 : decode cX1_step 7 = .ok (.aload_n 0, 1) := dk_42 (dk_at dksX1_step_0 7 rfl rfl)
theorem dX1_step_8 : decode cX1_step 8 = .ok (.getfield 41, 3) := dk_180 0 41 (dk_at dksX1_step_0 8 rfl rfl)
theorem dX1_step_11 : decode cX1_step 11 = .ok (.bipush 61, 2) := dk_16 61 (dk_at dksX1_step_0 11 rfl rfl)
theorem dX1_step_13 : decode cX1_step 13 = .ok (.irem, 1) := dk_112 (dk_at dksX1_step_0 13 rfl rfl)
theorem dX1_step_14 : decode cX1_step 14 = .ok (.istore 4, 2) := dk_54 4 (dk_at dksX1_step_0 14 rfl rfl)
theorem dX1_step_16 : decode cX1_step 16 = .ok (.aload_n 3, 1) := dk_45 (dk_at dksX1_step_0 16 rfl rfl)
theorem dX1_step_17 : decode cX1_step 17 = .ok (.dup, 1) := dk_89 (dk_at dksX1_step_0 17 rfl rfl)
theorem dX1_step_18 : decode cX1_step 18 = .ok (.getfield 162, 3) := dk_180 0 162 (dk_at dksX1_step_0 18 rfl rfl)
theorem dX1_step_21 : decode cX1_step 21 = .ok (.aload_n 3, 1) := dk_45 (dk_at dksX1_step_0 21 rfl rfl)
theorem dX1_step_22 : decode cX1_step 22 = .ok (.getfield 165, 3) := dk_180 0 165 (dk_at dksX1_step_1 0 rfl rfl)
theorem dX1_step_25 : decode cX1_step 25 = .ok (.iload 4, 2) := dk_21 4 (dk_at dksX1_step_1 3 rfl rfl)
theorem dX1_step_27 : decode cX1_step 27 = .ok (.iaload, 1) := dk_46 (dk_at dksX1_step_1 5 rfl rfl)
theorem dX1_step_28 : decode cX1_step 28 = .ok (.iadd, 1) := dk_96 (dk_at dksX1_step_1 6 rfl rfl)
theorem dX1_step_29 : decode cX1_step 29 = .ok (.putfield 162, 3) := dk_181 0 162 (dk_at dksX1_step_1 7 rfl rfl)
theorem dX1_step_32 : decode cX1_step 32 = .ok (.iload_n 1, 1) := dk_27 (dk_at dksX1_step_1 10 rfl rfl)
theorem dX1_step_33 : decode cX1_step 33 = .ok (.ifCond .le 26, 3) := dk_158 0 26 (dk_at dksX1_step_1 11 rfl rfl)
theorem dX1_step_36 : decode cX1_step 36 = .ok (.aload_n 0, 1) := dk_42 (dk_at dksX1_step_1 14 rfl rfl)
theorem dX1_step_37 : decode cX1_step 37 = .ok (.getfield 30, 3) := dk_180 0 30 (dk_at dksX1_step_1 15 rfl rfl)
theorem dX1_step_40 : decode cX1_step 40 = .ok (.iload_n 1, 1) := dk_27 (dk_at dksX1_step_1 18 rfl rfl)
theorem dX1_step_41 : decode cX1_step 41 = .ok (.iconst 1, 1) := dk_4 (dk_at dksX1_step_1 19 rfl rfl)
theorem dX1_step_42 : decode cX1_step 42 = .ok (.isub, 1) := dk_100 (dk_at dksX1_step_1 20 rfl rfl)
theorem dX1_step_43 : decode cX1_step 43 = .ok (.aaload, 1) := dk_50 (dk_at dksX1_step_1 21 rfl rfl)
theorem dX1_step_44 : decode cX1_step 44 = .ok (.dup, 1) := dk_89 (dk_at dksX1_step_1 22 rfl rfl)
theorem dX1_step_45 : decode cX1_step 45 = .ok (.getfield 159, 3) := dk_180 0 159 (dk_at dksX1_step_2 0 rfl rfl)
theorem dX1_step_48 : decode cX1_step 48 = .ok (.aload_n 3, 1) := dk_45 (dk_at dksX1_step_2 3 rfl rfl)
theorem dX1_step_49 : decode cX1_step 49 = .ok (.getfield 165, 3) := dk_180 0 165 (dk_at dksX1_step_2 4 rfl rfl)
theorem dX1_step_52 : decode cX1_step 52 = .ok (.iload 4, 2) := dk_21 4 (dk_at dksX1_step_2 7 rfl rfl)
theorem dX1_step_54 : decode cX1_step 54 = .ok (.iaload, 1) := dk_46 (dk_at dksX1_step_2 9 rfl rfl)
theorem dX1_step_55 : decode cX1_step 55 = .ok (.isub, 1) := dk_100 (dk_at dksX1_step_2 10 rfl rfl)
theorem dX1_step_56 : decode cX1_step 56 = .ok (.putfield 159, 3) := dk_181 0 159 (dk_at dksX1_step_2 11 rfl rfl)
theorem dX1_step_59 : decode cX1_step 59 = .ok (.aload_n 3, 1) := dk_45 (dk_at dksX1_step_2 14 rfl rfl)
theorem dX1_step_60 : decode cX1_step 60 = .ok (.getfield 165, 3) := dk_180 0 165 (dk_at dksX1_step_2 15 rfl rfl)
theorem dX1_step_63 : decode cX1_step 63 = .ok (.iload 4, 2) := dk_21 4 (dk_at dksX1_step_2 18 rfl rfl)
theorem dX1_step_65 : decode cX1_step 65 = .ok (.iconst 0, 1) := dk_3 (dk_at dksX1_step_2 20 rfl rfl)
theorem dX1_step_66 : decode cX1_step 66 = .ok (.iastore, 1) := dk_79 (dk_at dksX1_step_2 21 rfl rfl)
theorem dX1_step_67 : decode cX1_step 67 = .ok (.iload_n 1, 1) := dk_27 (dk_at dksX1_step_2 22 rfl rfl)
theorem dX1_step_68 : decode cX1_step 68 = .ok (.ifCond .ne 60, 3) := dk_154 0 60 (dk_at dksX1_step_3 0 rfl rfl)
theorem dX1_step_71 : decode cX1_step 71 = .ok (.aload_n 3, 1) := dk_45 (dk_at dksX1_step_3 3 rfl rfl)
theorem dX1_step_72 : decode cX1_step 72 = .ok (.dup, 1) := dk_89 (dk_at dksX1_step_3 4 rfl rfl)
theorem dX1_step_73 : decode cX1_step 73 = .ok (.getfield 168, 3) := dk_180 0 168 (dk_at dksX1_step_3 5 rfl rfl)
theorem dX1_step_76 : decode cX1_step 76 = .ok (.aload_n 3, 1) := dk_45 (dk_at dksX1_step_3 8 rfl rfl)
theorem dX1_step_77 : decode cX1_step 77 = .ok (.getfield 97, 3) := dk_180 0 97 (dk_at dksX1_step_3 9 rfl rfl)
theorem dX1_step_80 : decode cX1_step 80 = .ok (.iconst 0, 1) := dk_3 (dk_at dksX1_step_3 12 rfl rfl)
theorem dX1_step_81 : decode cX1_step 81 = .ok (.iaload, 1) := dk_46 (dk_at dksX1_step_3 13 rfl rfl)
theorem dX1_step_82 : decode cX1_step 82 = .ok (.iadd, 1) := dk_96 (dk_at dksX1_step_3 14 rfl rfl)
theorem dX1_step_83 : decode cX1_step 83 = .ok (.putfield 168, 3) := dk_181 0 168 (dk_at dksX1_step_3 15 rfl rfl)
theorem dX1_step_86 : decode cX1_step 86 = .ok (.aload_n 3, 1) := dk_45 (dk_at dksX1_step_3 18 rfl rfl)
theorem dX1_step_87 : decode cX1_step 87 = .ok (.getfield 168, 3) := dk_180 0 168 (dk_at dksX1_step_3 19 rfl rfl)
theorem dX1_step_90 : decode cX1_step 90 = .ok (.sipush 3600, 3) := dk_17 14 16 (dk_at dksX1_step_4 0 rfl rfl)
theorem dX1_step_93 : decode cX1_step 93 = .ok (.if_icmp .lt 35, 3) := dk_161 0 35 (dk_at dksX1_step_4 3 rfl rfl)
theorem dX1_step_96 : decode cX1_step 96 = .ok (.aload_n 3, 1) := dk_45 (dk_at dksX1_step_4 6 rfl rfl)
theorem dX1_step_97 : decode cX1_step 97 = .ok (.dup, 1) := dk_89 (dk_at dksX1_step_4 7 rfl rfl)
theorem dX1_step_98 : decode cX1_step 98 = .ok (.getfield 168, 3) := dk_180 0 168 (dk_at dksX1_step_4 8 rfl rfl)
theorem dX1_step_101 : decode cX1_step 101 = .ok (.sipush 3600, 3) := dk_17 14 16 (dk_at dksX1_step_4 11 rfl rfl)
theorem dX1_step_104 : decode cX1_step 104 = .ok (.isub, 1) := dk_100 (dk_at dksX1_step_4 14 rfl rfl)
theorem dX1_step_105 : decode cX1_step 105 = .ok (.putfield 168, 3) := dk_181 0 168 (dk_at dksX1_step_4 15 rfl rfl)
theorem dX1_step_108 : decode cX1_step 108 = .ok (.aload_n 3, 1) := dk_45 (dk_at dksX1_step_4 18 rfl rfl)
theorem dX1_step_109 : decode cX1_step 109 = .ok (.dup, 1) := dk_89 (dk_at dksX1_step_4 19 rfl rfl)
theorem dX1_step_110 : decode cX1_step 110 = .ok (.getfield 162, 3) := dk_180 0 162 (dk_at dksX1_step_4 20 rfl rfl)
theorem dX1_step_113 : decode cX1_step 113 = .ok (.iconst 1, 1) := dk_4 (dk_at dksX1_step_4 23 rfl rfl)
theorem dX1_step_114 : decode cX1_step 114 = .ok (.iadd, 1) := dk_96 (dk_at dksX1_step_5 0 rfl rfl)
theorem dX1_step_115 : decode cX1_step 115 = .ok (.putfield 162, 3) := dk_181 0 162 (dk_at dksX1_step_5 1 rfl rfl)
theorem dX1_step_118 : decode cX1_step 118 = .ok (.aload_n 0, 1) := dk_42 (dk_at dksX1_step_5 4 rfl rfl)
theorem dX1_step_119 : decode cX1_step 119 = .ok (.dup, 1) := dk_89 (dk_at dksX1_step_5 5 rfl rfl)
theorem dX1_step_120 : decode cX1_step 120 = .ok (.getfield 48, 3) := dk_180 0 48 (dk_at dksX1_step_5 6 rfl rfl)
theorem dX1_step_123 : decode cX1_step 123 = .ok (.iconst 1, 1) := dk_4 (dk_at dksX1_step_5 9 rfl rfl)
theorem dX1_step_124 : decode cX1_step 124 = .ok (.iadd, 1) := dk_96 (dk_at dksX1_step_5 10 rfl rfl)
theorem dX1_step_125 : decode cX1_step 125 = .ok (.putfield 48, 3) := dk_181 0 48 (dk_at dksX1_step_5 11 rfl rfl)
theorem dX1_step_128 : decode cX1_step 128 = .ok (.aload_n 3, 1) := dk_45 (dk_at dksX1_step_5 14 rfl rfl)
theorem dX1_step_129 : decode cX1_step 129 = .ok (.aload_n 3, 1) := dk_45 (dk_at dksX1_step_5 15 rfl rfl)
theorem dX1_step_130 : decode cX1_step 130 = .ok (.iconst 0, 1) := dk_3 (dk_at dksX1_step_5 16 rfl rfl)
theorem dX1_step_131 : decode cX1_step 131 = .ok (.aload_n 0, 1) := dk_42 (dk_at dksX1_step_5 17 rfl rfl)
theorem dX1_step_132 : decode cX1_step 132 = .ok (.getfield 41, 3) := dk_180 0 41 (dk_at dksX1_step_5 18 rfl rfl)
theorem dX1_step_135 : decode cX1_step 135 = .ok (.aload_n 2, 1) := dk_44 (dk_at dksX1_step_5 21 rfl rfl)
theorem dX1_step_136 : decode cX1_step 136 = .ok (.invokevirtual 171, 3) := dk_182 0 171 (dk_at dksX1_step_6 0 rfl rfl)
theorem dX1_step_139 : decode cX1_step 139 = .ok (.ifCond .eq 16, 3) := dk_153 0 16 (dk_at dksX1_step_6 3 rfl rfl)
theorem dX1_step_142 : decode cX1_step 142 = .ok (.iconst 2, 1) := dk_5 (dk_at dksX1_step_6 6 rfl rfl)
theorem dX1_step_143 : decode cX1_step 143 = .ok (.aload_n 3, 1) := dk_45 (dk_at dksX1_step_6 7 rfl rfl)
theorem dX1_step_144 : decode cX1_step 144 = .ok (.getfield 175, 3) := dk_180 0 175 (dk_at dksX1_step_6 8 rfl rfl)
theorem dX1_step_147 : decode cX1_step 147 = .ok (.iconst 1, 1) := dk_4 (dk_at dksX1_step_6 11 rfl rfl)
theorem dX1_step_148 : decode cX1_step 148 = .ok (.iadd, 1) := dk_96 (dk_at dksX1_step_6 12 rfl rfl)
theorem dX1_step_149 : decode cX1_step 149 = .ok (.invokestatic 13, 3) := dk_184 0 13 (dk_at dksX1_step_6 13 rfl rfl)
theorem dX1_step_152 : decode cX1_step 152 = .ok (.goto 4, 3) := dk_167 0 4 (dk_at dksX1_step_6 16 rfl rfl)
theorem dX1_step_155 : decode cX1_step 155 = .ok (.iconst 0, 1) := dk_3 (dk_at dksX1_step_6 19 rfl rfl)
theorem dX1_step_156 : decode cX1_step 156 = .ok (.putfield 175, 3) := dk_181 0 175 (dk_at dksX1_step_6 20 rfl rfl)
theorem dX1_step_159 : decode cX1_step 159 = .ok (.iload_n 1, 1) := dk_27 (dk_at dksX1_step_6 23 rfl rfl)
theorem dX1_step_160 : decode cX1_step 160 = .ok (.aload_n 0, 1) := dk_42 (dk_at dksX1_step_7 0 rfl rfl)
theorem dX1_step_161 : decode cX1_step 161 = .ok (.getfield 30, 3) := dk_180 0 30 (dk_at dksX1_step_7 1 rfl rfl)
theorem dX1_step_164 : decode cX1_step 164 = .ok (.arraylength, 1) := dk_190 (dk_at dksX1_step_7 4 rfl rfl)
theorem dX1_step_165 : decode cX1_step 165 = .ok (.iconst 1, 1) := dk_4 (dk_at dksX1_step_7 5 rfl rfl)
theorem dX1_step_166 : decode cX1_step 166 = .ok (.isub, 1) := dk_100 (dk_at dksX1_step_7 6 rfl rfl)
theorem dX1_step_167 : decode cX1_step 167 = .ok (.if_icmp .ne 7, 3) := dk_160 0 7 (dk_at dksX1_step_7 7 rfl rfl)
theorem dX1_step_170 : decode cX1_step 170 = .ok (.iconst 1, 1) := dk_4 (dk_at dksX1_step_7 10 rfl rfl)
theorem dX1_step_171 : decode cX1_step 171 = .ok (.goto 4, 3) := dk_167 0 4 (dk_at dksX1_step_7 11 rfl rfl)
theorem dX1_step_174 : decode cX1_step 174 = .ok (.iconst 0, 1) := dk_3 (dk_at dksX1_step_7 14 rfl rfl)
theorem dX1_step_175 : decode cX1_step 175 = .ok (.istore 5, 2) := dk_54 5 (dk_at dksX1_step_7 15 rfl rfl)
theorem dX1_step_177 : decode cX1_step 177 = .ok (.aload_n 3, 1) := dk_45 (dk_at dksX1_step_7 17 rfl rfl)
theorem dX1_step_178 : decode cX1_step 178 = .ok (.getfield 175, 3) := dk_180 0 175 (dk_at dksX1_step_7 18 rfl rfl)
theorem dX1_step_181 : decode cX1_step 181 = .ok (.iconst 2, 1) := dk_5 (dk_at dksX1_step_7 21 rfl rfl)
theorem dX1_step_182 : decode cX1_step 182 = .ok (.if_icmp .ne 98, 3) := dk_160 0 98 (dk_at dksX1_step_8 0 rfl rfl)
theorem dX1_step_185 : decode cX1_step 185 = .ok (.aload_n 3, 1) := dk_45 (dk_at dksX1_step_8 3 rfl rfl)
theorem dX1_step_186 : decode cX1_step 186 = .ok (.getfield 162, 3) := dk_180 0 162 (dk_at dksX1_step_8 4 rfl rfl)
theorem dX1_step_189 : decode cX1_step 189 = .ok (.ifCond .le 91, 3) := dk_158 0 91 (dk_at dksX1_step_8 7 rfl rfl)
theorem dX1_step_192 : decode cX1_step 192 = .ok (.iload 5, 2) := dk_21 5 (dk_at dksX1_step_8 10 rfl rfl)
theorem dX1_step_194 : decode cX1_step 194 = .ok (.ifCond .ne 15, 3) := dk_154 0 15 (dk_at dksX1_step_8 12 rfl rfl)
theorem dX1_step_197 : decode cX1_step 197 = .ok (.aload_n 0, 1) := dk_42 (dk_at dksX1_step_8 15 rfl rfl)
theorem dX1_step_198 : decode cX1_step 198 = .ok (.iload_n 1, 1) := dk_27 (dk_at dksX1_step_8 16 rfl rfl)
theorem dX1_step_199 : decode cX1_step 199 = .ok (.invokevirtual 178, 3) := dk_182 0 178 (dk_at dksX1_step_8 17 rfl rfl)
theorem dX1_step_202 : decode cX1_step 202 = .ok (.aload_n 3, 1) := dk_45 (dk_at dksX1_step_8 20 rfl rfl)
theorem dX1_step_203 : decode cX1_step 203 = .ok (.getfield 106, 3) := dk_180 0 106 (dk_at dksX1_step_8 21 rfl rfl)
theorem dX1_step_206 : decode cX1_step 206 = .ok (.if_icmp .ge 74, 3) := dk_162 0 74 (dk_at dksX1_step_9 0 rfl rfl)
theorem dX1_step_209 : decode cX1_step 209 = .ok (.aload_n 3, 1) := dk_45 (dk_at dksX1_step_9 3 rfl rfl)
theorem dX1_step_210 : decode cX1_step 210 = .ok (.dup, 1) := dk_89 (dk_at dksX1_step_9 4 rfl rfl)
theorem dX1_step_211 : decode cX1_step 211 = .ok (.getfield 162, 3) := dk_180 0 162 (dk_at dksX1_step_9 5 rfl rfl)
theorem dX1_step_214 : decode cX1_step 214 = .ok (.iconst 1, 1) := dk_4 (dk_at dksX1_step_9 8 rfl rfl)
theorem dX1_step_215 : decode cX1_step 215 = .ok (.isub, 1) := dk_100 (dk_at dksX1_step_9 9 rfl rfl)
theorem dX1_step_216 : decode cX1_step 216 = .ok (.putfield 162, 3) := dk_181 0 162 (dk_at dksX1_step_9 10 rfl rfl)
theorem dX1_step_219 : decode cX1_step 219 = .ok (.aload_n 3, 1) := dk_45 (dk_at dksX1_step_9 13 rfl rfl)
theorem dX1_step_220 : decode cX1_step 220 = .ok (.iconst 0, 1) := dk_3 (dk_at dksX1_step_9 14 rfl rfl)
theorem dX1_step_221 : decode cX1_step 221 = .ok (.putfield 175, 3) := dk_181 0 175 (dk_at dksX1_step_9 15 rfl rfl)
theorem dX1_step_224 : decode cX1_step 224 = .ok (.iload 5, 2) := dk_21 5 (dk_at dksX1_step_9 18 rfl rfl)
theorem dX1_step_226 : decode cX1_step 226 = .ok (.ifCond .eq 16, 3) := dk_153 0 16 (dk_at dksX1_step_9 20 rfl rfl)
theorem dX1_step_229 : decode cX1_step 229 = .ok (.aload_n 0, 1) := dk_42 (dk_at dksX1_step_9 23 rfl rfl)
theorem dX1_step_230 : decode cX1_step 230 = .ok (.dup, 1) := dk_89 (dk_at dksX1_step_10 0 rfl rfl)
theorem dX1_step_231 : decode cX1_step 231 = .ok (.getfield 51, 3) := dk_180 0 51 (dk_at dksX1_step_10 1 rfl rfl)
theorem dX1_step_234 : decode cX1_step 234 = .ok (.iconst 1, 1) := dk_4 (dk_at dksX1_step_10 4 rfl rfl)
theorem dX1_step_235 : decode cX1_step 235 = .ok (.iadd, 1) := dk_96 (dk_at dksX1_step_10 5 rfl rfl)
theorem dX1_step_236 : decode cX1_step 236 = .ok (.putfield 51, 3) := dk_181 0 51 (dk_at dksX1_step_10 6 rfl rfl)
theorem dX1_step_239 : decode cX1_step 239 = .ok (.goto 41, 3) := dk_167 0 41 (dk_at dksX1_step_10 9 rfl rfl)
theorem dX1_step_242 : decode cX1_step 242 = .ok (.aload_n 3, 1) := dk_45 (dk_at dksX1_step_10 12 rfl rfl)
theorem dX1_step_243 : decode cX1_step 243 = .ok (.dup, 1) := dk_89 (dk_at dksX1_step_10 13 rfl rfl)
theorem dX1_step_244 : decode cX1_step 244 = .ok (.getfield 159, 3) := dk_180 0 159 (dk_at dksX1_step_10 14 rfl rfl)
theorem dX1_step_247 : decode cX1_step 247 = .ok (.iconst 1, 1) := dk_4 (dk_at dksX1_step_10 17 rfl rfl)
theorem dX1_step_248 : decode cX1_step 248 = .ok (.iadd, 1) := dk_96 (dk_at dksX1_step_10 18 rfl rfl)
theorem dX1_step_249 : decode cX1_step 249 = .ok (.putfield 159, 3) := dk_181 0 159 (dk_at dksX1_step_10 19 rfl rfl)
theorem dX1_step_252 : decode cX1_step 252 = .ok (.aload_n 0, 1) := dk_42 (dk_at dksX1_step_10 22 rfl rfl)
theorem dX1_step_253 : decode cX1_step 253 = .ok (.getfield 30, 3) := dk_180 0 30 (dk_at dksX1_step_11 0 rfl rfl)
theorem dX1_step_256 : decode cX1_step 256 = .ok (.iload_n 1, 1) := dk_27 (dk_at dksX1_step_11 3 rfl rfl)
theorem dX1_step_257 : decode cX1_step 257 = .ok (.iconst 1, 1) := dk_4 (dk_at dksX1_step_11 4 rfl rfl)
theorem dX1_step_258 : decode cX1_step 258 = .ok (.iadd, 1) := dk_96 (dk_at dksX1_step_11 5 rfl rfl)
theorem dX1_step_259 : decode cX1_step 259 = .ok (.aaload, 1) := dk_50 (dk_at dksX1_step_11 6 rfl rfl)
theorem dX1_step_260 : decode cX1_step 260 = .ok (.getfield 165, 3) := dk_180 0 165 (dk_at dksX1_step_11 7 rfl rfl)
theorem dX1_step_263 : decode cX1_step 263 = .ok (.aload_n 0, 1) := dk_42 (dk_at dksX1_step_11 10 rfl rfl)
theorem dX1_step_264 : decode cX1_step 264 = .ok (.getfield 41, 3) := dk_180 0 41 (dk_at dksX1_step_11 11 rfl rfl)
theorem dX1_step_267 : decode cX1_step 267 = .ok (.aload_n 3, 1) := dk_45 (dk_at dksX1_step_11 14 rfl rfl)
theorem dX1_step_268 : decode cX1_step 268 = .ok (.getfield 103, 3) := dk_180 0 103 (dk_at dksX1_step_11 15 rfl rfl)
theorem dX1_step_271 : decode cX1_step 271 = .ok (.iadd, 1) := dk_96 (dk_at dksX1_step_11 18 rfl rfl)
theorem dX1_step_272 : decode cX1_step 272 = .ok (.bipush 61, 2) := dk_16 61 (dk_at dksX1_step_11 19 rfl rfl)
theorem dX1_step_274 : decode cX1_step 274 = .ok (.irem, 1) := dk_112 (dk_at dksX1_step_11 21 rfl rfl)
theorem dX1_step_275 : decode cX1_step 275 = .ok (.dup2, 1) := dk_92 (dk_at dksX1_step_11 22 rfl rfl)
theorem dX1_step_276 : decode cX1_step 276 = .ok (.iaload, 1) := dk_46 (dk_at dksX1_step_11 23 rfl rfl)
theorem dX1_step_277 : decode cX1_step 277 = .ok (.iconst 1, 1) := dk_4 (dk_at dksX1_step_12 0 rfl rfl)
theorem dX1_step_278 : decode cX1_step 278 = .ok (.iadd, 1) := dk_96 (dk_at dksX1_step_12 1 rfl rfl)
theorem dX1_step_279 : decode cX1_step 279 = .ok (.iastore, 1) := dk_79 (dk_at dksX1_step_12 2 rfl rfl)
theorem dX1_step_280 : decode cX1_step 280 = .ok (.return_, 1) := dk_177 (dk_at dksX1_step_12 3 rfl rfl)
abbrev cX1_heldBehind : ByteArray := prog_1_method_35_code
def yX1_heldBehind : MethodName := ⟨RX1, "heldBehind", "(I)I"⟩
def dkwX1_heldBehind_0 : List UInt8 := [42, 180, 0, 30, 27, 50, 180, 0, 159, 42, 180, 0, 30, 27, 4, 96, 50, 180, 0, 162, 96, 172]
abbrev dktX1_heldBehind_0 : List UInt8 := dkwX1_heldBehind_0 ++ []
theorem dksX1_heldBehind_0 : cX1_heldBehind.data.toList.drop 0 = dktX1_heldBehind_0 := by decide +kernel
theorem dX1_heldBehind_0 : decode cX1_heldBehind 0 = .ok (.aload_n 0, 1) := dk_42 (dk_at dksX1_heldBehind_0 0 rfl rfl)
theorem dX1_heldBehind_1 : decode cX1_heldBehind 1 = .ok (.getfield 30, 3) := dk_180 0 30 (dk_at dksX1_heldBehind_0 1 rfl rfl)
theorem dX1_heldBehind_4 : decode cX1_heldBehind 4 = .ok (.iload_n 1, 1) := dk_27 (dk_at dksX1_heldBehind_0 4 rfl rfl)
theorem dX1_heldBehind_5 : decode cX1_heldBehind 5 = .ok (.aaload, 1) := dk_50 (dk_at dksX1_heldBehind_0 5 rfl rfl)
theorem dX1_heldBehind_6 : decode cX1_heldBehind 6 = .ok (.getfield 159, 3) := dk_180 0 159 (dk_at dksX1_heldBehind_0 6 rfl rfl)
theorem dX1_heldBehind_9 : decode cX1_heldBehind 9 = .ok (.aload_n 0, 1) := dk_42 (dk_at dksX1_heldBehind_0 9 rfl rfl)
theorem dX1_heldBehind_10 : decode cX1_heldBehind 10 = .ok (.getfield 30, 3) := dk_180 0 30 (dk_at dksX1_heldBehind_0 10 rfl rfl)
theorem dX1_heldBehind_13 : decode cX1_heldBehind 13 = .ok (.iload_n 1, 1) := dk_27 (dk_at dksX1_heldBehind_0 13 rfl rfl)
theorem dX1_heldBehind_14 : decode cX1_heldBehind 14 = .ok (.iconst 1, 1) := dk_4 (dk_at dksX1_heldBehind_0 14 rfl rfl)
theorem dX1_heldBehind_15 : decode cX1_heldBehind 15 = .ok (.iadd, 1) := dk_96 (dk_at dksX1_heldBehind_0 15 rfl rfl)
theorem dX1_heldBehind_16 : decode cX1_heldBehind 16 = .ok (.aaload, 1) := dk_50 (dk_at dksX1_heldBehind_0 16 rfl rfl)
theorem dX1_heldBehind_17 : decode cX1_heldBehind 17 = .ok (.getfield 162, 3) := dk_180 0 162 (dk_at dksX1_heldBehind_0 17 rfl rfl)
theorem dX1_heldBehind_20 : decode cX1_heldBehind 20 = .ok (.iadd, 1) := dk_96 (dk_at dksX1_heldBehind_0 20 rfl rfl)
theorem dX1_heldBehind_21 : decode cX1_heldBehind 21 = .ok (.ireturn, 1) := dk_172 (dk_at dksX1_heldBehind_0 21 rfl rfl)
abbrev cX1_callBus : ByteArray := prog_1_method_39_code
def yX1_callBus : MethodName := ⟨RX1, "callBus", "(II)I"⟩
def dkwX1_callBus_10 : List UInt8 := [96, 79, 45, 25, 6, 181, 0, 204, 45, 42, 180, 0, 41, 21, 5, 100, 181, 0, 207, 21, 8, 172]
abbrev dktX1_callBus_10 : List UInt8 := dkwX1_callBus_10 ++ []
def dkwX1_callBus_9 : List UInt8 := [79, 184, 0, 196, 54, 8, 25, 6, 21, 7, 92, 46, 21, 8, 100, 79, 25, 6, 21, 4, 92, 46, 21, 8]
abbrev dktX1_callBus_9 : List UInt8 := dkwX1_callBus_9 ++ dktX1_callBus_10
def dkwX1_callBus_8 : List UInt8 := [21, 7, 21, 5, 25, 6, 182, 0, 200, 79, 89, 5, 25, 6, 21, 7, 46, 45, 21, 7, 182, 0, 193, 100]
abbrev dktX1_callBus_8 : List UInt8 := dkwX1_callBus_8 ++ dktX1_callBus_9
def dkwX1_callBus_7 : List UInt8 := [21, 7, 2, 159, 0, 70, 21, 4, 21, 7, 164, 0, 63, 6, 188, 10, 89, 3, 8, 79, 89, 4, 45]
abbrev dktX1_callBus_7 : List UInt8 := dkwX1_callBus_7 ++ dktX1_callBus_8
def dkwX1_callBus_6 : List UInt8 := [21, 4, 92, 46, 21, 8, 96, 79, 25, 6, 21, 4, 4, 96, 92, 46, 21, 8, 100, 79, 167, 0, 76]
abbrev dktX1_callBus_6 : List UInt8 := dkwX1_callBus_6 ++ dktX1_callBus_7
def dkwX1_callBus_5 : List UInt8 := [25, 6, 21, 4, 4, 96, 46, 45, 21, 4, 4, 96, 182, 0, 193, 100, 79, 184, 0, 196, 54, 8, 25, 6]
abbrev dktX1_callBus_5 : List UInt8 := dkwX1_callBus_5 ++ dktX1_callBus_6
def dkwX1_callBus_4 : List UInt8 := [160, 0, 71, 21, 4, 45, 180, 0, 79, 190, 4, 100, 162, 0, 59, 5, 188, 10, 89, 3, 8, 79, 89, 4]
abbrev dktX1_callBus_4 : List UInt8 := dkwX1_callBus_4 ++ dktX1_callBus_5
def dkwX1_callBus_3 : List UInt8 := [182, 0, 133, 58, 6, 45, 21, 5, 25, 6, 182, 0, 149, 54, 7, 3, 54, 8, 21, 7, 21, 4]
abbrev dktX1_callBus_3 : List UInt8 := dkwX1_callBus_3 ++ dktX1_callBus_4
def dkwX1_callBus_2 : List UInt8 := [167, 0, 4, 3, 184, 0, 69, 42, 4, 181, 0, 44, 45, 42, 180, 0, 41, 182, 0, 146, 54, 5, 45]
abbrev dktX1_callBus_2 : List UInt8 := dkwX1_callBus_2 ++ dktX1_callBus_3
def dkwX1_callBus_1 : List UInt8 := [21, 4, 45, 180, 0, 79, 190, 162, 0, 18, 45, 42, 180, 0, 41, 182, 0, 190, 154, 0, 7, 4]
abbrev dktX1_callBus_1 : List UInt8 := dkwX1_callBus_1 ++ dktX1_callBus_2
def dkwX1_callBus_0 : List UInt8 := [42, 27, 4, 188, 10, 89, 3, 28, 79, 182, 0, 75, 78, 42, 182, 0, 112, 45, 28, 184, 0, 186, 54, 4]
abbrev dktX1_callBus_0 : List UInt8 := dkwX1_callBus_0 ++ dktX1_callBus_1
theorem dksX1_callBus_0 : cX1_callBus.data.toList.drop 0 = dktX1_callBus_0 := by decide +kernel
theorem dksX1_callBus_1 : cX1_callBus.data.toList.drop 24 = dktX1_callBus_1 := dk_seg dksX1_callBus_0 24 rfl rfl
theorem dksX1_callBus_2 : cX1_callBus.data.toList.drop 46 = dktX1_callBus_2 := dk_seg dksX1_callBus_1 22 rfl rfl
theorem dksX1_callBus_3 : cX1_callBus.data.toList.drop 69 = dktX1_callBus_3 := dk_seg dksX1_callBus_2 23 rfl rfl
theorem dksX1_callBus_4 : cX1_callBus.data.toList.drop 91 = dktX1_callBus_4 := dk_seg dksX1_callBus_3 22 rfl rfl
theorem dksX1_callBus_5 : cX1_callBus.data.toList.drop 115 = dktX1_callBus_5 := dk_seg dksX1_callBus_4 24 rfl rfl
theorem dksX1_callBus_6 : cX1_callBus.data.toList.drop 139 = dktX1_callBus_6 := dk_seg dksX1_callBus_5 24 rfl rfl
theorem dksX1_callBus_7 : cX1_callBus.data.toList.drop 162 = dktX1_callBus_7 := dk_seg dksX1_callBus_6 23 rfl rfl
theorem dksX1_callBus_8 : cX1_callBus.data.toList.drop 185 = dktX1_callBus_8 := dk_seg dksX1_callBus_7 23 rfl rfl
theorem dksX1_callBus_9 : cX1_callBus.data.toList.drop 209 = dktX1_callBus_9 := dk_seg dksX1_callBus_8 24 rfl rfl
theorem dksX1_callBus_10 : cX1_callBus.data.toList.drop 233 = dktX1_callBus_10 := dk_seg dksX1_callBus_9 24 rfl rfl
theorem dX1_callBus_0 : decode cX1_callBus 0 = .ok (.aload_n 0, 1) := dk_42 (dk_at dksX1_callBus_0 0 rfl rfl)
theorem dX1_callBus_1 : decode cX1_callBus 1 = .ok (.iload_n 1, 1) := dk_27 (dk_at dksX1_callBus_0 1 rfl rfl)
theorem dX1_callBus_2 : decode cX1_callBus 2 = .ok (.iconst 1, 1) := dk_4 (dk_at dksX1_callBus_0 2 rfl rfl)
theorem dX1_callBus_3 : decode cX1_callBus 3 = .ok (.newarray .int, 2) := dk_188_10 (dk_at dksX1_callBus_0 3 rfl rfl)
theorem dX1_callBus_5 : decode cX1_callBus 5 = .ok (.dup, 1) := dk_89 (dk_at dksX1_callBus_0 5 rfl rfl)
theorem dX1_callBus_6 : decode cX1_callBus 6 = .ok (.iconst 0, 1) := dk_3 (dk_at dksX1_callBus_0 6 rfl rfl)
theorem dX1_callBus_7 : decode cX1_callBus 7 = .ok (.iload_n 2, 1) := dk_28 (dk_at dksX1_callBus_0 7 rfl rfl)
theorem dX1_callBus_8 : decode cX1_callBus 8 = .ok (.iastore, 1) := dk_79 (dk_at dksX1_callBus_0 8 rfl rfl)
theorem dX1_callBus_9 : decode cX1_callBus 9 = .ok (.invokevirtual 75, 3) := dk_182 0 75 (dk_at dksX1_callBus_0 9 rfl rfl)
theorem dX1_callBus_12 : decode cX1_callBus 12 = .ok (.astore_n 3, 1) := dk_78 (dk_at dksX1_callBus_0 12 rfl rfl)
theorem dX1_callBus_13 : decode cX1_callBus 13 = .ok (.aload_n 0, 1) := dk_42 (dk_at dksX1_callBus_0 13 rfl rfl)
theorem dX1_callBus_14 : decode cX1_callBus 14 = .ok (.invokevirtual 112, 3) := dk_182 0 112 (dk_at dksX1_callBus_0 14 rfl rfl)
theorem dX1_callBus_17 : decode cX1_callBus 17 = .ok (.aload_n 3, 1) := dk_45 (dk_at dksX1_callBus_0 17 rfl rfl)
theorem dX1_callBus_18 : decode cX1_callBus 18 = .ok (.iload_n 2, 1) := dk_28 (dk_at dksX1_callBus_0 18 rfl rfl)
theorem dX1_callBus_19 : decode cX1_callBus 19 = .ok (.invokestatic 186, 3) := dk_184 0 186 (dk_at dksX1_callBus_0 19 rfl rfl)
theorem dX1_callBus_22 : decode cX1_callBus 22 = .ok (.istore 4, 2) := dk_54 4 (dk_at dksX1_callBus_0 22 rfl rfl)
theorem dX1_callBus_24 : decode cX1_callBus 24 = .ok (.iload 4, 2) := dk_21 4 (dk_at dksX1_callBus_1 0 rfl rfl)
theorem dX1_callBus_26 : decode cX1_callBus 26 = .ok (.aload_n 3, 1) := dk_45 (dk_at dksX1_callBus_1 2 rfl rfl)
theorem dX1_callBus_27 : decode cX1_callBus 27 = .ok (.getfield 79, 3) := dk_180 0 79 (dk_at dksX1_callBus_1 3 rfl rfl)
theorem dX1_callBus_30 : decode cX1_callBus 30 = .ok (.arraylength, 1) := dk_190 (dk_at dksX1_callBus_1 6 rfl rfl)
theorem dX1_callBus_31 : decode cX1_callBus 31 = .ok (.if_icmp .ge 18, 3) := dk_162 0 18 (dk_at dksX1_callBus_1 7 rfl rfl)
theorem dX1_callBus_34 : decode cX1_callBus 34 = .ok (.aload_n 3, 1) := dk_45 (dk_at dksX1_callBus_1 10 rfl rfl)
theorem dX1_callBus_35 : decode cX1_callBus 35 = .ok (.aload_n 0, 1) := dk_42 (dk_at dksX1_callBus_1 11 rfl rfl)
theorem dX1_callBus_36 : decode cX1_callBus 36 = .ok (.getfield 41, 3) := dk_180 0 41 (dk_at dksX1_callBus_1 12 rfl rfl)
theorem dX1_callBus_39 : decode cX1_callBus 39 = .ok (.invokevirtual 190, 3) := dk_182 0 190 (dk_at dksX1_callBus_1 15 rfl rfl)
theorem dX1_callBus_42 : decode cX1_callBus 42 = .ok (.ifCond .ne 7, 3) := dk_154 0 7 (dk_at dksX1_callBus_1 18 rfl rfl)
theorem dX1_callBus_45 : decode cX1_callBus 45 = .ok (.iconst 1, 1) := dk_4 (dk_at dksX1_callBus_1 21 rfl rfl)
theorem dX1_callBus_46 : decode cX1_callBus 46 = .ok (.goto 4, 3) := dk_167 0 4 (dk_at dksX1_callBus_2 0 rfl rfl)
theorem dX1_callBus_49 : decode cX1_callBus 49 = .ok (.iconst 0, 1) := dk_3 (dk_at dksX1_callBus_2 3 rfl rfl)
theorem dX1_callBus_50 : decode cX1_callBus 50 = .ok (.invokestatic 69, 3) := dk_184 0 69 (dk_at dksX1_callBus_2 4 rfl rfl)
theorem dX1_callBus_53 : decode cX1_callBus 53 = .ok (.aload_n 0, 1) := dk_42 (dk_at dksX1_callBus_2 7 rfl rfl)
theorem dX1_callBus_54 : decode cX1_callBus 54 = .ok (.iconst 1, 1) := dk_4 (dk_at dksX1_callBus_2 8 rfl rfl)
theorem dX1_callBus_55 : decode cX1_callBus 55 = .ok (.putfield 44, 3) := dk_181 0 44 (dk_at dksX1_callBus_2 9 rfl rfl)
theorem dX1_callBus_58 : decode cX1_callBus 58 = .ok (.aload_n 3, 1) := dk_45 (dk_at dksX1_callBus_2 12 rfl rfl)
theorem dX1_callBus_59 : decode cX1_callBus 59 = .ok (.aload_n 0, 1) := dk_42 (dk_at dksX1_callBus_2 13 rfl rfl)
theorem dX1_callBus_60 : decode cX1_callBus 60 = .ok (.getfield 41, 3) := dk_180 0 41 (dk_at dksX1_callBus_2 14 rfl rfl)
theorem dX1_callBus_63 : decode cX1_callBus 63 = .ok (.invokevirtual 146, 3) := dk_182 0 146 (dk_at dksX1_callBus_2 17 rfl rfl)
theorem dX1_callBus_66 : decode cX1_callBus 66 = .ok (.istore 5, 2) := dk_54 5 (dk_at dksX1_callBus_2 20 rfl rfl)
theorem dX1_callBus_68 : decode cX1_callBus 68 = .ok (.aload_n 3, 1) := dk_45 (dk_at dksX1_callBus_2 22 rfl rfl)
theorem dX1_callBus_69 : decode cX1_callBus 69 = .ok (.invokevirtual 133, 3) := dk_182 0 133 (dk_at dksX1_callBus_3 0 rfl rfl)
theorem dX1_callBus_72 : decode cX1_callBus 72 = .ok (.astore 6, 2) := dk_58 6 (dk_at dksX1_callBus_3 3 rfl rfl)
theorem dX1_callBus_74 : decode cX1_callBus 74 = .ok (.aload_n 3, 1) := dk_45 (dk_at dksX1_callBus_3 5 rfl rfl)
theorem dX1_callBus_75 : decode cX1_callBus 75 = .ok (.iload 5, 2) := dk_21 5 (dk_at dksX1_callBus_3 6 rfl rfl)
theorem dX1_callBus_77 : decode cX1_callBus 77 = .ok (.aload 6, 2) := dk_25 6 (dk_at dksX1_callBus_3 8 rfl rfl)
theorem dX1_callBus_79 : decode cX1_callBus 79 = .ok (.invokevirtual 149, 3) := dk_182 0 149 (dk_at dksX1_callBus_3 10 rfl rfl)
theorem dX1_callBus_82 : decode cX1_callBus 82 = .ok (.istore 7, 2) := dk_54 7 (dk_at dksX1_callBus_3 13 rfl rfl)
theorem dX1_callBus_84 : decode cX1_callBus 84 = .ok (.iconst 0, 1) := dk_3 (dk_at dksX1_callBus_3 15 rfl rfl)
theorem dX1_callBus_85 : decode cX1_callBus 85 = .ok (.istore 8, 2) := dk_54 8 (dk_at dksX1_callBus_3 16 rfl rfl)
theorem dX1_callBus_87 : decode cX1_callBus 87 = .ok (.iload 7, 2) := dk_21 7 (dk_at dksX1_callBus_3 18 rfl rfl)
theorem dX1_callBus_89 : decode cX1_callBus 89 = .ok (.iload 4, 2) := dk_21 4 (dk_at dksX1_callBus_3 20 rfl rfl)
theorem dX1_callBus_91 : decode cX1_callBus 91 = .ok (.if_icmp .ne 71, 3) := dk_160 0 71 (dk_at dksX1_callBus_4 0 rfl rfl)
theorem dX1_callBus_94 : decode cX1_callBus 94 = .ok (.iload 4, 2) := dk_21 4 (dk_at dksX1_callBus_4 3 rfl rfl)
theorem dX1_callBus_96 : decode cX1_callBus 96 = .ok (.aload_n 3, 1) := dk_45 (dk_at dksX1_callBus_4 5 rfl rfl)
theorem dX1_callBus_97 : decode cX1_callBus 97 = .ok (.getfield 79, 3) := dk_180 0 79 (dk_at dksX1_callBus_4 6 rfl rfl)
theorem dX1_callBus_100 : decode cX1_callBus 100 = .ok (.arraylength, 1) := dk_190 (dk_at dksX1_callBus_4 9 rfl rfl)
theorem dX1_callBus_101 : decode cX1_callBus 101 = .ok (.iconst 1, 1) := dk_4 (dk_at dksX1_callBus_4 10 rfl rfl)
theorem dX1_callBus_102 : decode cX1_callBus 102 = .ok (.isub, 1) := dk_100 (dk_at dksX1_callBus_4 11 rfl rfl)
theorem dX1_callBus_103 : decode cX1_callBus 103 = .ok (.if_icmp .ge 59, 3) := dk_162 0 59 (dk_at dksX1_callBus_4 12 rfl rfl)
theorem dX1_callBus_106 : decode cX1_callBus 106 = .ok (.iconst 2, 1) := dk_5 (dk_at dksX1_callBus_4 15 rfl rfl)
theorem dX1_callBus_107 : decode cX1_callBus 107 = .ok (.newarray .int, 2) := dk_188_10 (dk_at dksX1_callBus_4 16 rfl rfl)
theorem dX1_callBus_109 : decode cX1_callBus 109 = .ok (.dup, 1) := dk_89 (dk_at dksX1_callBus_4 18 rfl rfl)
theorem dX1_callBus_110 : decode cX1_callBus 110 = .ok (.iconst 0, 1) := dk_3 (dk_at dksX1_callBus_4 19 rfl rfl)
theorem dX1_callBus_111 : decode cX1_callBus 111 = .ok (.iconst 5, 1) := dk_8 (dk_at dksX1_callBus_4 20 rfl rfl)
theorem dX1_callBus_112 : decode cX1_callBus 112 = .ok (.iastore, 1) := dk_79 (dk_at dksX1_callBus_4 21 rfl rfl)
theorem dX1_callBus_113 : decode cX1_callBus 113 = .ok (.dup, 1) := dk_89 (dk_at dksX1_callBus_4 22 rfl rfl)
theorem dX1_callBus_114 : decode cX1_callBus 114 = .ok (.iconst 1, 1) := dk_4 (dk_at dksX1_callBus_4 23 rfl rfl)
theorem dX1_callBus_115 : decode cX1_callBus 115 = .ok (.aload 6, 2) := dk_25 6 (dk_at dksX1_callBus_5 0 rfl rfl)
theorem dX1_callBus_117 : decode cX1_callBus 117 = .ok (.iload 4, 2) := dk_21 4 (dk_at dksX1_callBus_5 2 rfl rfl)
theorem dX1_callBus_119 : decode cX1_callBus 119 = .ok (.iconst 1, 1) := dk_4 (dk_at dksX1_callBus_5 4 rfl rfl)
theorem dX1_callBus_120 : decode cX1_callBus 120 = .ok (.iadd, 1) := dk_96 (dk_at dksX1_callBus_5 5 rfl rfl)
theorem dX1_callBus_121 : decode cX1_callBus 121 = .ok (.iaload, 1) := dk_46 (dk_at dksX1_callBus_5 6 rfl rfl)
theorem dX1_callBus_122 : decode cX1_callBus 122 = .ok (.aload_n 3, 1) := dk_45 (dk_at dksX1_callBus_5 7 rfl rfl)
theorem dX1_callBus_123 : decode cX1_callBus 123 = .ok (.iload 4, 2) := dk_21 4 (dk_at dksX1_callBus_5 8 rfl rfl)
theorem dX1_callBus_125 : decode cX1_callBus 125 = .ok (.iconst 1, 1) := dk_4 (dk_at dksX1_callBus_5 10 rfl rfl)
theorem dX1_callBus_126 : decode cX1_callBus 126 = .ok (.iadd, 1) := dk_96 (dk_at dksX1_callBus_5 11 rfl rfl)
theorem dX1_callBus_127 : decode cX1_callBus 127 = .ok (.invokevirtual 193, 3) := dk_182 0 193 (dk_at dksX1_callBus_5 12 rfl rfl)
theorem dX1_callBus_130 : decode cX1_callBus 130 = .ok (.isub, 1) := dk_100 (dk_at dksX1_callBus_5 15 rfl rfl)
theorem dX1_callBus_131 : decode cX1_callBus 131 = .ok (.iastore, 1) := dk_79 (dk_at dksX1_callBus_5 16 rfl rfl)
theorem dX1_callBus_132 : decode cX1_callBus 132 = .ok (.invokestatic 196, 3) := dk_184 0 196 (dk_at dksX1_callBus_5 17 rfl rfl)
theorem dX1_callBus_135 : decode cX1_callBus 135 = .ok (.istore 8, 2) := dk_54 8 (dk_at dksX1_callBus_5 20 rfl rfl)
theorem dX1_callBus_137 : decode cX1_callBus 137 = .ok (.aload 6, 2) := dk_25 6 (dk_at dksX1_callBus_5 22 rfl rfl)
theorem dX1_callBus_139 : decode cX1_callBus 139 = .ok (.iload 4, 2) := dk_21 4 (dk_at dksX1_callBus_6 0 rfl rfl)
theorem dX1_callBus_141 : decode cX1_callBus 141 = .ok (.dup2, 1) := dk_92 (dk_at dksX1_callBus_6 2 rfl rfl)
theorem dX1_callBus_142 : decode cX1_callBus 142 = .ok (.iaload, 1) := dk_46 (dk_at dksX1_callBus_6 3 rfl rfl)
theorem dX1_callBus_143 : decode cX1_callBus 143 = .ok (.iload 8, 2) := dk_21 8 (dk_at dksX1_callBus_6 4 rfl rfl)
theorem dX1_callBus_145 : decode cX1_callBus 145 = .ok (.iadd, 1) := dk_96 (dk_at dksX1_callBus_6 6 rfl rfl)
theorem dX1_callBus_146 : decode cX1_callBus 146 = .ok (.iastore, 1) := dk_79 (dk_at dksX1_callBus_6 7 rfl rfl)
theorem dX1_callBus_147 : decode cX1_callBus 147 = .ok (.aload 6, 2) := dk_25 6 (dk_at dksX1_callBus_6 8 rfl rfl)
theorem dX1_callBus_149 : decode cX1_callBus 149 = .ok (.iload 4, 2) := dk_21 4 (dk_at dksX1_callBus_6 10 rfl rfl)
theorem dX1_callBus_151 : decode cX1_callBus 151 = .ok (.iconst 1, 1) := dk_4 (dk_at dksX1_callBus_6 12 rfl rfl)
theorem dX1_callBus_152 : decode cX1_callBus 152 = .ok (.iadd, 1) := dk_96 (dk_at dksX1_callBus_6 13 rfl rfl)
theorem dX1_callBus_153 : decode cX1_callBus 153 = .ok (.dup2, 1) := dk_92 (dk_at dksX1_callBus_6 14 rfl rfl)
theorem dX1_callBus_154 : decode cX1_callBus 154 = .ok (.iaload, 1) := dk_46 (dk_at dksX1_callBus_6 15 rfl rfl)
theorem dX1_callBus_155 : decode cX1_callBus 155 = .ok (.iload 8, 2) := dk_21 8 (dk_at dksX1_callBus_6 16 rfl rfl)
theorem dX1_callBus_157 : decode cX1_callBus 157 = .ok (.isub, 1) := dk_100 (dk_at dksX1_callBus_6 18 rfl rfl)
theorem dX1_callBus_158 : decode cX1_callBus 158 = .ok (.iastore, 1) := dk_79 (dk_at dksX1_callBus_6 19 rfl rfl)
theorem dX1_callBus_159 : decode cX1_callBus 159 = .ok (.goto 76, 3) := dk_167 0 76 (dk_at dksX1_callBus_6 20 rfl rfl)
theorem dX1_callBus_162 : decode cX1_callBus 162 = .ok (.iload 7, 2) := dk_21 7 (dk_at dksX1_callBus_7 0 rfl rfl)
theorem dX1_callBus_164 : decode cX1_callBus 164 = .ok (.iconst (-1), 1) := dk_2 (dk_at dksX1_callBus_7 2 rfl rfl)
theorem dX1_callBus_165 : decode cX1_callBus 165 = .ok (.if_icmp .eq 70, 3) := dk_159 0 70 (dk_at dksX1_callBus_7 3 rfl rfl)
theorem dX1_callBus_168 : decode cX1_callBus 168 = .ok (.iload 4, 2) := dk_21 4 (dk_at dksX1_callBus_7 6 rfl rfl)
theorem dX1_callBus_170 : decode cX1_callBus 170 = .ok (.iload 7, 2) := dk_21 7 (dk_at dksX1_callBus_7 8 rfl rfl)
theorem dX1_callBus_172 : decode cX1_callBus 172 = .ok (.if_icmp .le 63, 3) := dk_164 0 63 (dk_at dksX1_callBus_7 10 rfl rfl)
theorem dX1_callBus_175 : decode cX1_callBus 175 = .ok (.iconst 3, 1) := dk_6 (dk_at dksX1_callBus_7 13 rfl rfl)
theorem dX1_callBus_176 : decode cX1_callBus 176 = .ok (.newarray .int, 2) := dk_188_10 (dk_at dksX1_callBus_7 14 rfl rfl)
theorem dX1_callBus_178 : decode cX1_callBus 178 = .ok (.dup, 1) := dk_89 (dk_at dksX1_callBus_7 16 rfl rfl)
theorem dX1_callBus_179 : decode cX1_callBus 179 = .ok (.iconst 0, 1) := dk_3 (dk_at dksX1_callBus_7 17 rfl rfl)
theorem dX1_callBus_180 : decode cX1_callBus 180 = .ok (.iconst 5, 1) := dk_8 (dk_at dksX1_callBus_7 18 rfl rfl)
theorem dX1_callBus_181 : decode cX1_callBus 181 = .ok (.iastore, 1) := dk_79 (dk_at dksX1_callBus_7 19 rfl rfl)
theorem dX1_callBus_182 : decode cX1_callBus 182 = .ok (.dup, 1) := dk_89 (dk_at dksX1_callBus_7 20 rfl rfl)
theorem dX1_callBus_183 : decode cX1_callBus 183 = .ok (.iconst 1, 1) := dk_4 (dk_at dksX1_callBus_7 21 rfl rfl)
theorem dX1_callBus_184 : decode cX1_callBus 184 = .ok (.aload_n 3, 1) := dk_45 (dk_at dksX1_callBus_7 22 rfl rfl)
theorem dX1_callBus_185 : decode cX1_callBus 185 = .ok (.iload 7, 2) := dk_21 7 (dk_at dksX1_callBus_8 0 rfl rfl)
theorem dX1_callBus_187 : decode cX1_callBus 187 = .ok (.iload 5, 2) := dk_21 5 (dk_at dksX1_callBus_8 2 rfl rfl)
theorem dX1_callBus_189 : decode cX1_callBus 189 = .ok (.aload 6, 2) := dk_25 6 (dk_at dksX1_callBus_8 4 rfl rfl)
theorem dX1_callBus_191 : decode cX1_callBus 191 = .ok (.invokevirtual 200, 3) := dk_182 0 200 (dk_at dksX1_callBus_8 6 rfl rfl)
theorem dX1_callBus_194 : decode cX1_callBus 194 = .ok (.iastore, 1) := dk_79 (dk_at dksX1_callBus_8 9 rfl rfl)
theorem dX1_callBus_195 : decode cX1_callBus 195 = .ok (.dup, 1) := dk_89 (dk_at dksX1_callBus_8 10 rfl rfl)
theorem dX1_callBus_196 : decode cX1_callBus 196 = .ok (.iconst 2, 1) := dk_5 (dk_at dksX1_callBus_8 11 rfl rfl)
theorem dX1_callBus_197 : decode cX1_callBus 197 = .ok (.aload 6, 2) := dk_25 6 (dk_at dksX1_callBus_8 12 rfl rfl)
theorem dX1_callBus_199 : decode cX1_callBus 199 = .ok (.iload 7, 2) := dk_21 7 (dk_at dksX1_callBus_8 14 rfl rfl)
theorem dX1_callBus_201 : decode cX1_callBus 201 = .ok (.iaload, 1) := dk_46 (dk_at dksX1_callBus_8 16 rfl rfl)
theorem dX1_callBus_202 : decode cX1_callBus 202 = .ok (.aload_n 3, 1) := dk_45 (dk_at dksX1_callBus_8 17 rfl rfl)
theorem dX1_callBus_203 : decode cX1_callBus 203 = .ok (.iload 7, 2) := dk_21 7 (dk_at dksX1_callBus_8 18 rfl rfl)
theorem dX1_callBus_205 : decode cX1_callBus 205 = .ok (.invokevirtual 193, 3) := dk_182 0 193 (dk_at dksX1_callBus_8 20 rfl rfl)
theorem dX1_callBus_208 : decode cX1_callBus 208 = .ok (.isub, 1) := dk_100 (dk_at dksX1_callBus_8 23 rfl rfl)
theorem dX1_callBus_209 : decode cX1_callBus 209 = .ok (.iastore, 1) := dk_79 (dk_at dksX1_callBus_9 0 rfl rfl)
theorem dX1_callBus_210 : decode cX1_callBus 210 = .ok (.invokestatic 196, 3) := dk_184 0 196 (dk_at dksX1_callBus_9 1 rfl rfl)
theorem dX1_callBus_213 : decode cX1_callBus 213 = .ok (.istore 8, 2) := dk_54 8 (dk_at dksX1_callBus_9 4 rfl rfl)
theorem dX1_callBus_215 : decode cX1_callBus 215 = .ok (.aload 6, 2) := dk_25 6 (dk_at dksX1_callBus_9 6 rfl rfl)
theorem dX1_callBus_217 : decode cX1_callBus 217 = .ok (.iload 7, 2) := dk_21 7 (dk_at dksX1_callBus_9 8 rfl rfl)
theorem dX1_callBus_219 : decode cX1_callBus 219 = .ok (.dup2, 1) := dk_92 (dk_at dksX1_callBus_9 10 rfl rfl)
theorem dX1_callBus_220 : decode cX1_callBus 220 = .ok (.iaload, 1) := dk_46 (dk_at dksX1_callBus_9 11 rfl rfl)
theorem dX1_callBus_221 : decode cX1_callBus 221 = .ok (.iload 8, 2) := dk_21 8 (dk_at dksX1_callBus_9 12 rfl rfl)
theorem dX1_callBus_223 : decode cX1_callBus 223 = .ok (.isub, 1) := dk_100 (dk_at dksX1_callBus_9 14 rfl rfl)
theorem dX1_callBus_224 : decode cX1_callBus 224 = .ok (.iastore, 1) := dk_79 (dk_at dksX1_callBus_9 15 rfl rfl)
theorem dX1_callBus_225 : decode cX1_callBus 225 = .ok (.aload 6, 2) := dk_25 6 (dk_at dksX1_callBus_9 16 rfl rfl)
theorem dX1_callBus_227 : decode cX1_callBus 227 = .ok (.iload 4, 2) := dk_21 4 (dk_at dksX1_callBus_9 18 rfl rfl)
theorem dX1_callBus_229 : decode cX1_callBus 229 = .ok (.dup2, 1) := dk_92 (dk_at dksX1_callBus_9 20 rfl rfl)
theorem dX1_callBus_230 : decode cX1_callBus 230 = .ok (.iaload, 1) := dk_46 (dk_at dksX1_callBus_9 21 rfl rfl)
theorem dX1_callBus_231 : decode cX1_callBus 231 = .ok (.iload 8, 2) := dk_21 8 (dk_at dksX1_callBus_9 22 rfl rfl)
theorem dX1_callBus_233 : decode cX1_callBus 233 = .ok (.iadd, 1) := dk_96 (dk_at dksX1_callBus_10 0 rfl rfl)
theorem dX1_callBus_234 : decode cX1_callBus 234 = .ok (.iastore, 1) := dk_79 (dk_at dksX1_callBus_10 1 rfl rfl)
theorem dX1_callBus_235 : decode cX1_callBus 235 = .ok (.aload_n 3, 1) := dk_45 (dk_at dksX1_callBus_10 2 rfl rfl)
theorem dX1_callBus_236 : decode cX1_callBus 236 = .ok (.aload 6, 2) := dk_25 6 (dk_at dksX1_callBus_10 3 rfl rfl)
theorem dX1_callBus_238 : decode cX1_callBus 238 = .ok (.putfield 204, 3) := dk_181 0 204 (dk_at dksX1_callBus_10 5 rfl rfl)
theorem dX1_callBus_241 : decode cX1_callBus 241 = .ok (.aload_n 3, 1) := dk_45 (dk_at dksX1_callBus_10 8 rfl rfl)
theorem dX1_callBus_242 : decode cX1_callBus 242 = .ok (.aload_n 0, 1) := dk_42 (dk_at dksX1_callBus_10 9 rfl rfl)
theorem dX1_callBus_243 : decode cX1_callBus 243 = .ok (.getfield 41, 3) := dk_180 0 41 (dk_at dksX1_callBus_10 10 rfl rfl)
theorem dX1_callBus_246 : decode cX1_callBus 246 = .ok (.iload 5, 2) := dk_21 5 (dk_at dksX1_callBus_10 13 rfl rfl)
theorem dX1_callBus_248 : decode cX1_callBus 248 = .ok (.isub, 1) := dk_100 (dk_at dksX1_callBus_10 15 rfl rfl)
theorem dX1_callBus_249 : decode cX1_callBus 249 = .ok (.putfield 207, 3) := dk_181 0 207 (dk_at dksX1_callBus_10 16 rfl rfl)
theorem dX1_callBus_252 : decode cX1_callBus 252 = .ok (.iload 8, 2) := dk_21 8 (dk_at dksX1_callBus_10 19 rfl rfl)
theorem dX1_callBus_254 : decode cX1_callBus 254 = .ok (.ireturn, 1) := dk_172 (dk_at dksX1_callBus_10 21 rfl rfl)
abbrev cX1_lowestWith : ByteArray := prog_1_method_38_code
def yX1_lowestWith : MethodName := ⟨RX1, "lowestWith", "(LGreenwave$Junction;I)I"⟩
def dkwX1_lowestWith_1 : List UInt8 := [132, 2, 1, 167, 255, 231, 28, 172]
abbrev dktX1_lowestWith_1 : List UInt8 := dkwX1_lowestWith_1 ++ []
def dkwX1_lowestWith_0 : List UInt8 := [3, 61, 28, 42, 180, 0, 79, 190, 162, 0, 22, 42, 180, 0, 79, 28, 46, 27, 184, 0, 83, 154, 0, 9]
abbrev dktX1_lowestWith_0 : List UInt8 := dkwX1_lowestWith_0 ++ dktX1_lowestWith_1
theorem dksX1_lowestWith_0 : cX1_lowestWith.data.toList.drop 0 = dktX1_lowestWith_0 := by decide +kernel
theorem dksX1_lowestWith_1 : cX1_lowestWith.data.toList.drop 24 = dktX1_lowestWith_1 := dk_seg dksX1_lowestWith_0 24 rfl rfl
theorem dX1_lowestWith_0 : decode cX1_lowestWith 0 = .ok (.iconst 0, 1) := dk_3 (dk_at dksX1_lowestWith_0 0 rfl rfl)
theorem dX1_lowestWith_1 : decode cX1_lowestWith 1 = .ok (.istore_n 2, 1) := dk_61 (dk_at dksX1_lowestWith_0 1 rfl rfl)
theorem dX1_lowestWith_2 : decode cX1_lowestWith 2 = .ok (.iload_n 2, 1) := dk_28 (dk_at dksX1_lowestWith_0 2 rfl rfl)
theorem dX1_lowestWith_3 : decode cX1_lowestWith 3 = .ok (.aload_n 0, 1) := dk_42 (dk_at dksX1_lowestWith_0 3 rfl rfl)
theorem dX1_lowestWith_4 : decode cX1_lowestWith 4 = .ok (.getfield 79, 3) := dk_180 0 79 (dk_at dksX1_lowestWith_0 4 rfl rfl)
theorem dX1_lowestWith_7 : decode cX1_lowestWith 7 = .ok (.arraylength, 1) := dk_190 (dk_at dksX1_lowestWith_0 7 rfl rfl)
theorem dX1_lowestWith_8 : decode cX1_lowestWith 8 = .ok (.if_icmp .ge 22, 3) := dk_162 0 22 (dk_at dksX1_lowestWith_0 8 rfl rfl)
theorem dX1_lowestWith_11 : decode cX1_lowestWith 11 = .ok (.aload_n 0, 1) := dk_42 (dk_at dksX1_lowestWith_0 11 rfl rfl)
theorem dX1_lowestWith_12 : decode cX1_lowestWith 12 = .ok (.getfield 79, 3) := dk_180 0 79 (dk_at dksX1_lowestWith_0 12 rfl rfl)
theorem dX1_lowestWith_15 : decode cX1_lowestWith 15 = .ok (.iload_n 2, 1) := dk_28 (dk_at dksX1_lowestWith_0 15 rfl rfl)
theorem dX1_lowestWith_16 : decode cX1_lowestWith 16 = .ok (.iaload, 1) := dk_46 (dk_at dksX1_lowestWith_0 16 rfl rfl)
theorem dX1_lowestWith_17 : decode cX1_lowestWith 17 = .ok (.iload_n 1, 1) := dk_27 (dk_at dksX1_lowestWith_0 17 rfl rfl)
theorem dX1_lowestWith_18 : decode cX1_lowestWith 18 = .ok (.invokestatic 83, 3) := dk_184 0 83 (dk_at dksX1_lowestWith_0 18 rfl rfl)
theorem dX1_lowestWith_21 : decode cX1_lowestWith 21 = .ok (.ifCond .ne 9, 3) := dk_154 0 9 (dk_at dksX1_lowestWith_0 21 rfl rfl)
theorem dX1_lowestWith_24 : decode cX1_lowestWith 24 = .ok (.iinc 2 1, 3) := dk_132 2 1 (dk_at dksX1_lowestWith_1 0 rfl rfl)
theorem dX1_lowestWith_27 : decode cX1_lowestWith 27 = .ok (.goto (-25), 3) := dk_167 255 231 (dk_at dksX1_lowestWith_1 3 rfl rfl)
theorem dX1_lowestWith_30 : decode cX1_lowestWith 30 = .ok (.iload_n 2, 1) := dk_28 (dk_at dksX1_lowestWith_1 6 rfl rfl)
theorem dX1_lowestWith_31 : decode cX1_lowestWith 31 = .ok (.ireturn, 1) := dk_172 (dk_at dksX1_lowestWith_1 7 rfl rfl)
abbrev cX1_least : ByteArray := prog_1_method_6_code
def yX1_least : MethodName := ⟨RX1, "least", "([I)I"⟩
def dkwX1_least_1 : List UInt8 := [27, 21, 5, 184, 0, 13, 60, 132, 4, 1, 167, 255, 234, 27, 172]
abbrev dktX1_least_1 : List UInt8 := dkwX1_least_1 ++ []
def dkwX1_least_0 : List UInt8 := [42, 3, 46, 60, 42, 77, 44, 190, 62, 3, 54, 4, 21, 4, 29, 162, 0, 22, 44, 21, 4, 46, 54, 5]
abbrev dktX1_least_0 : List UInt8 := dkwX1_least_0 ++ dktX1_least_1
theorem dksX1_least_0 : cX1_least.data.toList.drop 0 = dktX1_least_0 := by decide +kernel
theorem dksX1_least_1 : cX1_least.data.toList.drop 24 = dktX1_least_1 := dk_seg dksX1_least_0 24 rfl rfl
theorem dX1_least_0 : decode cX1_least 0 = .ok (.aload_n 0, 1) := dk_42 (dk_at dksX1_least_0 0 rfl rfl)
theorem dX1_least_1 : decode cX1_least 1 = .ok (.iconst 0, 1) := dk_3 (dk_at dksX1_least_0 1 rfl rfl)
theorem dX1_least_2 : decode cX1_least 2 = .ok (.iaload, 1) := dk_46 (dk_at dksX1_least_0 2 rfl rfl)
theorem dX1_least_3 : decode cX1_least 3 = .ok (.istore_n 1, 1) := dk_60 (dk_at dksX1_least_0 3 rfl rfl)
theorem dX1_least_4 : decode cX1_least 4 = .ok (.aload_n 0, 1) := dk_42 (dk_at dksX1_least_0 4 rfl rfl)
theorem dX1_least_5 : decode cX1_least 5 = .ok (.astore_n 2, 1) := dk_77 (dk_at dksX1_least_0 5 rfl rfl)
theorem dX1_least_6 : decode cX1_least 6 = .ok (.aload_n 2, 1) := dk_44 (dk_at dksX1_least_0 6 rfl rfl)
theorem dX1_least_7 : decode cX1_least 7 = .ok (.arraylength, 1) := dk_190 (dk_at dksX1_least_0 7 rfl rfl)
theorem dX1_least_8 : decode cX1_least 8 = .ok (.istore_n 3, 1) := dk_62 (dk_at dksX1_least_0 8 rfl rfl)
theorem dX1_least_9 : decode cX1_least 9 = .ok (.iconst 0, 1) := dk_3 (dk_at dksX1_least_0 9 rfl rfl)
theorem dX1_least_10 : decode cX1_least 10 = .ok (.istore 4, 2) := dk_54 4 (dk_at dksX1_least_0 10 rfl rfl)
theorem dX1_least_12 : decode cX1_least 12 = .ok (.iload 4, 2) := dk_21 4 (dk_at dksX1_least_0 12 rfl rfl)
theorem dX1_least_14 : decode cX1_least 14 = .ok (.iload_n 3, 1) := dk_29 (dk_at dksX1_least_0 14 rfl rfl)
theorem dX1_least_15 : decode cX1_least 15 = .ok (.if_icmp .ge 22, 3) := dk_162 0 22 (dk_at dksX1_least_0 15 rfl rfl)
theorem dX1_least_18 : decode cX1_least 18 = .ok (.aload_n 2, 1) := dk_44 (dk_at dksX1_least_0 18 rfl rfl)
theorem dX1_least_19 : decode cX1_least 19 = .ok (.iload 4, 2) := dk_21 4 (dk_at dksX1_least_0 19 rfl rfl)
theorem dX1_least_21 : decode cX1_least 21 = .ok (.iaload, 1) := dk_46 (dk_at dksX1_least_0 21 rfl rfl)
theorem dX1_least_22 : decode cX1_least 22 = .ok (.istore 5, 2) := dk_54 5 (dk_at dksX1_least_0 22 rfl rfl)
theorem dX1_least_24 : decode cX1_least 24 = .ok (.iload_n 1, 1) := dk_27 (dk_at dksX1_least_1 0 rfl rfl)
theorem dX1_least_25 : decode cX1_least 25 = .ok (.iload 5, 2) := dk_21 5 (dk_at dksX1_least_1 1 rfl rfl)
theorem dX1_least_27 : decode cX1_least 27 = .ok (.invokestatic 13, 3) := dk_184 0 13 (dk_at dksX1_least_1 3 rfl rfl)
theorem dX1_least_30 : decode cX1_least 30 = .ok (.istore_n 1, 1) := dk_60 (dk_at dksX1_least_1 6 rfl rfl)
theorem dX1_least_31 : decode cX1_least 31 = .ok (.iinc 4 1, 3) := dk_132 4 1 (dk_at dksX1_least_1 7 rfl rfl)
theorem dX1_least_34 : decode cX1_least 34 = .ok (.goto (-22), 3) := dk_167 255 234 (dk_at dksX1_least_1 10 rfl rfl)
theorem dX1_least_37 : decode cX1_least 37 = .ok (.iload_n 1, 1) := dk_27 (dk_at dksX1_least_1 13 rfl rfl)
theorem dX1_least_38 : decode cX1_least 38 = .ok (.ireturn, 1) := dk_172 (dk_at dksX1_least_1 14 rfl rfl)
abbrev cX1_phaseNow : ByteArray := prog_1_method_41_code
def yX1_phaseNow : MethodName := ⟨RX1, "phaseNow", "(I)I"⟩
def dkwX1_phaseNow_1 : List UInt8 := [182, 0, 149, 172]
abbrev dktX1_phaseNow_1 : List UInt8 := dkwX1_phaseNow_1 ++ []
def dkwX1_phaseNow_0 : List UInt8 := [42, 27, 182, 0, 130, 77, 44, 44, 42, 180, 0, 41, 182, 0, 146, 44, 42, 180, 0, 41, 182, 0, 210]
abbrev dktX1_phaseNow_0 : List UInt8 := dkwX1_phaseNow_0 ++ dktX1_phaseNow_1
theorem dksX1_phaseNow_0 : cX1_phaseNow.data.toList.drop 0 = dktX1_phaseNow_0 := by decide +kernel
theorem dksX1_phaseNow_1 : cX1_phaseNow.data.toList.drop 23 = dktX1_phaseNow_1 := dk_seg dksX1_phaseNow_0 23 rfl rfl
theorem dX1_phaseNow_0 : decode cX1_phaseNow 0 = .ok (.aload_n 0, 1) := dk_42 (dk_at dksX1_phaseNow_0 0 rfl rfl)
theorem dX1_phaseNow_1 : decode cX1_phaseNow 1 = .ok (.iload_n 1, 1) := dk_27 (dk_at dksX1_phaseNow_0 1 rfl rfl)
theorem dX1_phaseNow_2 : decode cX1_phaseNow 2 = .ok (.invokevirtual 130, 3) := dk_182 0 130 (dk_at dksX1_phaseNow_0 2 rfl rfl)
theorem dX1_phaseNow_5 : decode cX1_phaseNow 5 = .ok (.astore_n 2, 1) := dk_77 (dk_at dksX1_phaseNow_0 5 rfl rfl)
theorem dX1_phaseNow_6 : decode cX1_phaseNow 6 = .ok (.aload_n 2, 1) := dk_44 (dk_at dksX1_phaseNow_0 6 rfl rfl)
theorem dX1_phaseNow_7 : decode cX1_phaseNow 7 = .ok (.aload_n 2, 1) := dk_44 (dk_at dksX1_phaseNow_0 7 rfl rfl)
theorem dX1_phaseNow_8 : decode cX1_phaseNow 8 = .ok (.aload_n 0, 1) := dk_42 (dk_at dksX1_phaseNow_0 8 rfl rfl)
theorem dX1_phaseNow_9 : decode cX1_phaseNow 9 = .ok (.getfield 41, 3) := dk_180 0 41 (dk_at dksX1_phaseNow_0 9 rfl rfl)
theorem dX1_phaseNow_12 : decode cX1_phaseNow 12 = .ok (.invokevirtual 146, 3) := dk_182 0 146 (dk_at dksX1_phaseNow_0 12 rfl rfl)
theorem dX1_phaseNow_15 : decode cX1_phaseNow 15 = .ok (.aload_n 2, 1) := dk_44 (dk_at dksX1_phaseNow_0 15 rfl rfl)
theorem dX1_phaseNow_16 : decode cX1_phaseNow 16 = .ok (.aload_n 0, 1) := dk_42 (dk_at dksX1_phaseNow_0 16 rfl rfl)
theorem dX1_phaseNow_17 : decode cX1_phaseNow 17 = .ok (.getfield 41, 3) := dk_180 0 41 (dk_at dksX1_phaseNow_0 17 rfl rfl)
theorem dX1_phaseNow_20 : decode cX1_phaseNow 20 = .ok (.invokevirtual 210, 3) := dk_182 0 210 (dk_at dksX1_phaseNow_0 20 rfl rfl)
theorem dX1_phaseNow_23 : decode cX1_phaseNow 23 = .ok (.invokevirtual 149, 3) := dk_182 0 149 (dk_at dksX1_phaseNow_1 0 rfl rfl)
theorem dX1_phaseNow_26 : decode cX1_phaseNow 26 = .ok (.ireturn, 1) := dk_172 (dk_at dksX1_phaseNow_1 3 rfl rfl)
abbrev cX1_queue : ByteArray := prog_1_method_42_code
def yX1_queue : MethodName := ⟨RX1, "queue", "(I)I"⟩
def dkwX1_queue_0 : List UInt8 := [42, 27, 182, 0, 62, 180, 0, 162, 172]
abbrev dktX1_queue_0 : List UInt8 := dkwX1_queue_0 ++ []
theorem dksX1_queue_0 : cX1_queue.data.toList.drop 0 = dktX1_queue_0 := by decide +kernel
theorem dX1_queue_0 : decode cX1_queue 0 = .ok (.aload_n 0, 1) := dk_42 (dk_at dksX1_queue_0 0 rfl rfl)
theorem dX1_queue_1 : decode cX1_queue 1 = .ok (.iload_n 1, 1) := dk_27 (dk_at dksX1_queue_0 1 rfl rfl)
theorem dX1_queue_2 : decode cX1_queue 2 = .ok (.invokevirtual 62, 3) := dk_182 0 62 (dk_at dksX1_queue_0 2 rfl rfl)
theorem dX1_queue_5 : decode cX1_queue 5 = .ok (.getfield 162, 3) := dk_180 0 162 (dk_at dksX1_queue_0 5 rfl rfl)
theorem dX1_queue_8 : decode cX1_queue 8 = .ok (.ireturn, 1) := dk_172 (dk_at dksX1_queue_0 8 rfl rfl)
abbrev cX1_held : ByteArray := prog_1_method_43_code
def yX1_held : MethodName := ⟨RX1, "held", "(I)I"⟩
def dkwX1_held_0 : List UInt8 := [42, 27, 182, 0, 100, 87, 42, 27, 182, 0, 178, 172]
abbrev dktX1_held_0 : List UInt8 := dkwX1_held_0 ++ []
theorem dksX1_held_0 : cX1_held.data.toList.drop 0 = dktX1_held_0 := by decide +kernel
theorem dX1_held_0 : decode cX1_held 0 = .ok (.aload_n 0, 1) := dk_42 (dk_at dksX1_held_0 0 rfl rfl)
theorem dX1_held_1 : decode cX1_held 1 = .ok (.iload_n 1, 1) := dk_27 (dk_at dksX1_held_0 1 rfl rfl)
theorem dX1_held_2 : decode cX1_held 2 = .ok (.invokevirtual 100, 3) := dk_182 0 100 (dk_at dksX1_held_0 2 rfl rfl)
theorem dX1_held_5 : decode cX1_held 5 = .ok (.pop, 1) := dk_87 (dk_at dksX1_held_0 5 rfl rfl)
theorem dX1_held_6 : decode cX1_held 6 = .ok (.aload_n 0, 1) := dk_42 (dk_at dksX1_held_0 6 rfl rfl)
theorem dX1_held_7 : decode cX1_held 7 = .ok (.iload_n 1, 1) := dk_27 (dk_at dksX1_held_0 7 rfl rfl)
theorem dX1_held_8 : decode cX1_held 8 = .ok (.invokevirtual 178, 3) := dk_182 0 178 (dk_at dksX1_held_0 8 rfl rfl)
theorem dX1_held_11 : decode cX1_held 11 = .ok (.ireturn, 1) := dk_172 (dk_at dksX1_held_0 11 rfl rfl)
theorem q46 : (Jvm.Cond.initialized "Greenwave") ∈ lw_all := lw_g (lw_at lw_m1 1 rfl) rfl
theorem q59 : (Jvm.Cond.instantiable "Greenwave" (6 : Nat)) ∈ lw_all := lw_g (lw_at lw_m1 14 rfl) rfl
theorem q61 : (Jvm.Cond.instanceMethod ({ cls := "Greenwave", name := "<init>", desc := "()V" } : Jvm.MethodName)) ∈ lw_all := lw_g (lw_at lw_m1 16 rfl) rfl
theorem q62 : (Jvm.Cond.code ({ cls := "Greenwave", name := "<init>", desc := "()V" } : Jvm.MethodName) prog_1_method_7_code (1 : Nat) (Option.none : Option Jvm.ClassFile.FieldType)) ∈ lw_all := lw_g (lw_at lw_m1 17 rfl) rfl
theorem q63 : (Jvm.Cond.methodLink "Greenwave" (19 : Nat) ({ cls := "java/lang/Object", name := "<init>", desc := "()V" } : Jvm.MethodName)) ∈ lw_all := lw_g (lw_at lw_m1 18 rfl) rfl
theorem q66 : (Jvm.Cond.methodLink "Greenwave" (22 : Nat) ({ cls := "Greenwave", name := "clear", desc := "(II)V" } : Jvm.MethodName)) ∈ lw_all := lw_g (lw_at lw_m1 21 rfl) rfl
theorem q67 : (Jvm.Cond.privateMethod ({ cls := "Greenwave", name := "clear", desc := "(II)V" } : Jvm.MethodName)) ∈ lw_tbl := lw_at lw_m1 22 rfl
theorem q68 : (Jvm.Cond.instanceMethod ({ cls := "Greenwave", name := "clear", desc := "(II)V" } : Jvm.MethodName)) ∈ lw_all := lw_g (lw_at lw_m1 23 rfl) rfl
theorem q69 : (Jvm.Cond.code ({ cls := "Greenwave", name := "clear", desc := "(II)V" } : Jvm.MethodName) prog_1_method_8_code (4 : Nat) (Option.none : Option Jvm.ClassFile.FieldType)) ∈ lw_all := lw_g (lw_at lw_m1 24 rfl) rfl
theorem q70 : (Jvm.Cond.classLink "Greenwave" (28 : Nat) "Greenwave$Junction") ∈ lw_all := lw_g (lw_at lw_m1 25 rfl) rfl
theorem q73 : (Jvm.Cond.methodLink "Greenwave" (38 : Nat) ({ cls := "Greenwave$Junction", name := "<init>", desc := "(I)V" } : Jvm.MethodName)) ∈ lw_all := lw_g (lw_at lw_m1 28 rfl) rfl
theorem q81 : (Jvm.Cond.laysStatic "Greenwave" "FIRST_CONFLICTS" "[I") ∈ lw_tbl := lw_at lw_m1 36 rfl
theorem q91 : (Jvm.Cond.fieldLinkNest "Greenwave" (90 : Nat) "Greenwave$Junction" "conflicts" "[I" "Greenwave") ∈ lw_tbl := lw_at lw_m1 46 rfl
theorem q93 : (Jvm.Cond.fieldLinkNest "Greenwave" (97 : Nat) "Greenwave$Junction" "flows" "[I" "Greenwave") ∈ lw_tbl := lw_at lw_m1 48 rfl
theorem q95 : (Jvm.Cond.fieldLinkNest "Greenwave" (79 : Nat) "Greenwave$Junction" "phases" "[I" "Greenwave") ∈ lw_tbl := lw_at lw_m1 50 rfl
theorem q97 : (Jvm.Cond.fieldLinkNest "Greenwave" (109 : Nat) "Greenwave$Junction" "offset" "I" "Greenwave") ∈ lw_tbl := lw_at lw_m1 52 rfl
theorem q99 : (Jvm.Cond.fieldLinkNest "Greenwave" (103 : Nat) "Greenwave$Junction" "linkSeconds" "I" "Greenwave") ∈ lw_tbl := lw_at lw_m1 54 rfl
theorem q101 : (Jvm.Cond.fieldLinkNest "Greenwave" (106 : Nat) "Greenwave$Junction" "room" "I" "Greenwave") ∈ lw_tbl := lw_at lw_m1 56 rfl
theorem q103 : (Jvm.Cond.fieldLinkNest "Greenwave" (204 : Nat) "Greenwave$Junction" "changed" "[I" "Greenwave") ∈ lw_tbl := lw_at lw_m1 58 rfl
theorem q105 : (Jvm.Cond.fieldLinkNest "Greenwave" (207 : Nat) "Greenwave$Junction" "changedFrom" "I" "Greenwave") ∈ lw_tbl := lw_at lw_m1 60 rfl
theorem q106 : (Jvm.Cond.fieldLinkNest "Greenwave" (162 : Nat) "Greenwave$Junction" "queue" "I" "Greenwave") ∈ lw_tbl := lw_at lw_m1 61 rfl
theorem q107 : (Jvm.Cond.fieldLinkNest "Greenwave" (168 : Nat) "Greenwave$Junction" "arrivals" "I" "Greenwave") ∈ lw_tbl := lw_at lw_m1 62 rfl
theorem q108 : (Jvm.Cond.fieldLinkNest "Greenwave" (175 : Nat) "Greenwave$Junction" "ready" "I" "Greenwave") ∈ lw_tbl := lw_at lw_m1 63 rfl
theorem q109 : (Jvm.Cond.fieldLinkNest "Greenwave" (159 : Nat) "Greenwave$Junction" "travelling" "I" "Greenwave") ∈ lw_tbl := lw_at lw_m1 64 rfl
theorem q111 : (Jvm.Cond.fieldLinkNest "Greenwave" (165 : Nat) "Greenwave$Junction" "coming" "[I" "Greenwave") ∈ lw_tbl := lw_at lw_m1 66 rfl
theorem q142 : (Jvm.Cond.fieldLink "Greenwave" (30 : Nat) "Greenwave" "corridor" "[LGreenwave$Junction;") ∈ lw_all := lw_g (lw_at lw_m1 97 rfl) rfl
theorem q143 : (Jvm.Cond.fieldLink "Greenwave" (34 : Nat) "Greenwave" "cycle" "I") ∈ lw_all := lw_g (lw_at lw_m1 98 rfl) rfl
theorem q144 : (Jvm.Cond.fieldLink "Greenwave" (41 : Nat) "Greenwave" "now" "I") ∈ lw_all := lw_g (lw_at lw_m1 99 rfl) rfl
theorem q145 : (Jvm.Cond.fieldLink "Greenwave" (44 : Nat) "Greenwave" "isRunning" "Z") ∈ lw_all := lw_g (lw_at lw_m1 100 rfl) rfl
theorem q146 : (Jvm.Cond.fieldLink "Greenwave" (48 : Nat) "Greenwave" "came" "I") ∈ lw_all := lw_g (lw_at lw_m1 101 rfl) rfl
theorem q147 : (Jvm.Cond.fieldLink "Greenwave" (51 : Nat) "Greenwave" "left" "I") ∈ lw_all := lw_g (lw_at lw_m1 102 rfl) rfl
theorem q148 : (Jvm.Cond.lays "Greenwave" "Greenwave" "corridor" "[LGreenwave$Junction;") ∈ lw_all := lw_g (lw_at lw_m1 103 rfl) rfl
theorem q149 : (Jvm.Cond.soleField "Greenwave" "corridor") ∈ lw_all := lw_g (lw_at lw_m1 104 rfl) rfl
theorem q150 : (Jvm.Cond.lays "Greenwave" "Greenwave" "cycle" "I") ∈ lw_all := lw_g (lw_at lw_m1 105 rfl) rfl
theorem q151 : (Jvm.Cond.soleField "Greenwave" "cycle") ∈ lw_all := lw_g (lw_at lw_m1 106 rfl) rfl
theorem q152 : (Jvm.Cond.lays "Greenwave" "Greenwave" "now" "I") ∈ lw_all := lw_g (lw_at lw_m1 107 rfl) rfl
theorem q153 : (Jvm.Cond.soleField "Greenwave" "now") ∈ lw_all := lw_g (lw_at lw_m1 108 rfl) rfl
theorem q154 : (Jvm.Cond.lays "Greenwave" "Greenwave" "isRunning" "Z") ∈ lw_all := lw_g (lw_at lw_m1 109 rfl) rfl
theorem q155 : (Jvm.Cond.soleField "Greenwave" "isRunning") ∈ lw_all := lw_g (lw_at lw_m1 110 rfl) rfl
theorem q156 : (Jvm.Cond.lays "Greenwave" "Greenwave" "came" "I") ∈ lw_all := lw_g (lw_at lw_m1 111 rfl) rfl
theorem q157 : (Jvm.Cond.soleField "Greenwave" "came") ∈ lw_all := lw_g (lw_at lw_m1 112 rfl) rfl
theorem q158 : (Jvm.Cond.lays "Greenwave" "Greenwave" "left" "I") ∈ lw_all := lw_g (lw_at lw_m1 113 rfl) rfl
theorem q159 : (Jvm.Cond.soleField "Greenwave" "left") ∈ lw_all := lw_g (lw_at lw_m1 114 rfl) rfl
theorem q160 : (Jvm.Cond.superclass "Greenwave" "java/lang/Object") ∈ lw_all := lw_g (lw_at lw_m1 115 rfl) rfl
theorem q162 : (Jvm.Cond.instanceMethod ({ cls := "Greenwave", name := "junctions", desc := "()I" } : Jvm.MethodName)) ∈ lw_all := lw_g (lw_at lw_m1 117 rfl) rfl
theorem q163 : (Jvm.Cond.selects "Greenwave" ({ cls := "Greenwave", name := "junctions", desc := "()I" } : Jvm.MethodName) ({ cls := "Greenwave", name := "junctions", desc := "()I" } : Jvm.MethodName)) ∈ lw_all := lw_g (lw_at lw_m1 118 rfl) rfl
theorem q164 : (Jvm.Cond.code ({ cls := "Greenwave", name := "junctions", desc := "()I" } : Jvm.MethodName) prog_1_method_21_code (1 : Nat) (Option.some Jvm.ClassFile.FieldType.int)) ∈ lw_all := lw_g (lw_at lw_m1 119 rfl) rfl
theorem q166 : (Jvm.Cond.instanceMethod ({ cls := "Greenwave", name := "clock", desc := "()I" } : Jvm.MethodName)) ∈ lw_all := lw_g (lw_at lw_m1 121 rfl) rfl
theorem q167 : (Jvm.Cond.selects "Greenwave" ({ cls := "Greenwave", name := "clock", desc := "()I" } : Jvm.MethodName) ({ cls := "Greenwave", name := "clock", desc := "()I" } : Jvm.MethodName)) ∈ lw_all := lw_g (lw_at lw_m1 122 rfl) rfl
theorem q168 : (Jvm.Cond.code ({ cls := "Greenwave", name := "clock", desc := "()I" } : Jvm.MethodName) prog_1_method_40_code (1 : Nat) (Option.some Jvm.ClassFile.FieldType.int)) ∈ lw_all := lw_g (lw_at lw_m1 123 rfl) rfl
theorem q170 : (Jvm.Cond.instanceMethod ({ cls := "Greenwave", name := "come", desc := "()I" } : Jvm.MethodName)) ∈ lw_all := lw_g (lw_at lw_m1 125 rfl) rfl
theorem q171 : (Jvm.Cond.selects "Greenwave" ({ cls := "Greenwave", name := "come", desc := "()I" } : Jvm.MethodName) ({ cls := "Greenwave", name := "come", desc := "()I" } : Jvm.MethodName)) ∈ lw_all := lw_g (lw_at lw_m1 126 rfl) rfl
theorem q172 : (Jvm.Cond.code ({ cls := "Greenwave", name := "come", desc := "()I" } : Jvm.MethodName) prog_1_method_44_code (1 : Nat) (Option.some Jvm.ClassFile.FieldType.int)) ∈ lw_all := lw_g (lw_at lw_m1 127 rfl) rfl
theorem q174 : (Jvm.Cond.instanceMethod ({ cls := "Greenwave", name := "through", desc := "()I" } : Jvm.MethodName)) ∈ lw_all := lw_g (lw_at lw_m1 129 rfl) rfl
theorem q175 : (Jvm.Cond.selects "Greenwave" ({ cls := "Greenwave", name := "through", desc := "()I" } : Jvm.MethodName) ({ cls := "Greenwave", name := "through", desc := "()I" } : Jvm.MethodName)) ∈ lw_all := lw_g (lw_at lw_m1 130 rfl) rfl
theorem q176 : (Jvm.Cond.code ({ cls := "Greenwave", name := "through", desc := "()I" } : Jvm.MethodName) prog_1_method_45_code (1 : Nat) (Option.some Jvm.ClassFile.FieldType.int)) ∈ lw_all := lw_g (lw_at lw_m1 131 rfl) rfl
theorem q182 : (Jvm.Cond.instanceMethod ({ cls := "Greenwave", name := "begin", desc := "(II)V" } : Jvm.MethodName)) ∈ lw_all := lw_g (lw_at lw_m1 137 rfl) rfl
theorem q183 : (Jvm.Cond.selects "Greenwave" ({ cls := "Greenwave", name := "begin", desc := "(II)V" } : Jvm.MethodName) ({ cls := "Greenwave", name := "begin", desc := "(II)V" } : Jvm.MethodName)) ∈ lw_all := lw_g (lw_at lw_m1 138 rfl) rfl
theorem q184 : (Jvm.Cond.code ({ cls := "Greenwave", name := "begin", desc := "(II)V" } : Jvm.MethodName) prog_1_method_14_code (3 : Nat) (Option.none : Option Jvm.ClassFile.FieldType)) ∈ lw_all := lw_g (lw_at lw_m1 139 rfl) rfl
theorem q185 : (Jvm.Cond.methodLink "Greenwave" (54 : Nat) ({ cls := "Greenwave", name := "inRange", desc := "(III)Z" } : Jvm.MethodName)) ∈ lw_all := lw_g (lw_at lw_m1 140 rfl) rfl
theorem q186 : (Jvm.Cond.static ({ cls := "Greenwave", name := "inRange", desc := "(III)Z" } : Jvm.MethodName)) ∈ lw_all := lw_g (lw_at lw_m1 141 rfl) rfl
theorem q187 : (Jvm.Cond.code ({ cls := "Greenwave", name := "inRange", desc := "(III)Z" } : Jvm.MethodName) prog_1_method_1_code (3 : Nat) (Option.some Jvm.ClassFile.FieldType.boolean)) ∈ lw_all := lw_g (lw_at lw_m1 142 rfl) rfl
theorem q188 : (Jvm.Cond.methodLink "Greenwave" (72 : Nat) ({ cls := "Greenwave", name := "requireArgument", desc := "(Z)V" } : Jvm.MethodName)) ∈ lw_all := lw_g (lw_at lw_m1 143 rfl) rfl
theorem q189 : (Jvm.Cond.static ({ cls := "Greenwave", name := "requireArgument", desc := "(Z)V" } : Jvm.MethodName)) ∈ lw_all := lw_g (lw_at lw_m1 144 rfl) rfl
theorem q190 : (Jvm.Cond.code ({ cls := "Greenwave", name := "requireArgument", desc := "(Z)V" } : Jvm.MethodName) prog_1_method_3_code (1 : Nat) (Option.none : Option Jvm.ClassFile.FieldType)) ∈ lw_all := lw_g (lw_at lw_m1 145 rfl) rfl
theorem q191 : (Jvm.Cond.classLink "Greenwave" (7 : Nat) "java/lang/IllegalArgumentException") ∈ lw_all := lw_g (lw_at lw_m1 146 rfl) rfl
theorem q233 : (Jvm.Cond.methodLink "Greenwave" (9 : Nat) ({ cls := "java/lang/IllegalArgumentException", name := "<init>", desc := "()V" } : Jvm.MethodName)) ∈ lw_all := lw_g (lw_at lw_m1 188 rfl) rfl
theorem q294 : (Jvm.Cond.instanceMethod ({ cls := "Greenwave", name := "setConflict", desc := "(IIII)I" } : Jvm.MethodName)) ∈ lw_all := lw_g (lw_at lw_m2 9 rfl) rfl
theorem q295 : (Jvm.Cond.selects "Greenwave" ({ cls := "Greenwave", name := "setConflict", desc := "(IIII)I" } : Jvm.MethodName) ({ cls := "Greenwave", name := "setConflict", desc := "(IIII)I" } : Jvm.MethodName)) ∈ lw_all := lw_g (lw_at lw_m2 10 rfl) rfl
theorem q296 : (Jvm.Cond.code ({ cls := "Greenwave", name := "setConflict", desc := "(IIII)I" } : Jvm.MethodName) prog_1_method_15_code (11 : Nat) (Option.some Jvm.ClassFile.FieldType.int)) ∈ lw_all := lw_g (lw_at lw_m2 11 rfl) rfl
theorem q297 : (Jvm.Cond.methodLink "Greenwave" (75 : Nat) ({ cls := "Greenwave", name := "junctionWith", desc := "(I[I)LGreenwave$Junction;" } : Jvm.MethodName)) ∈ lw_all := lw_g (lw_at lw_m2 12 rfl) rfl
theorem q298 : (Jvm.Cond.privateMethod ({ cls := "Greenwave", name := "junctionWith", desc := "(I[I)LGreenwave$Junction;" } : Jvm.MethodName)) ∈ lw_tbl := lw_at lw_m2 13 rfl
theorem q299 : (Jvm.Cond.instanceMethod ({ cls := "Greenwave", name := "junctionWith", desc := "(I[I)LGreenwave$Junction;" } : Jvm.MethodName)) ∈ lw_all := lw_g (lw_at lw_m2 14 rfl) rfl
theorem q300 : (Jvm.Cond.code ({ cls := "Greenwave", name := "junctionWith", desc := "(I[I)LGreenwave$Junction;" } : Jvm.MethodName) prog_1_method_10_code (8 : Nat) (Option.some (Jvm.ClassFile.FieldType.object "Greenwave$Junction"))) ∈ lw_all := lw_g (lw_at lw_m2 15 rfl) rfl
theorem q301 : (Jvm.Cond.methodLink "Greenwave" (62 : Nat) ({ cls := "Greenwave", name := "junctionAt", desc := "(I)LGreenwave$Junction;" } : Jvm.MethodName)) ∈ lw_all := lw_g (lw_at lw_m2 16 rfl) rfl
theorem q302 : (Jvm.Cond.privateMethod ({ cls := "Greenwave", name := "junctionAt", desc := "(I)LGreenwave$Junction;" } : Jvm.MethodName)) ∈ lw_tbl := lw_at lw_m2 17 rfl
theorem q303 : (Jvm.Cond.instanceMethod ({ cls := "Greenwave", name := "junctionAt", desc := "(I)LGreenwave$Junction;" } : Jvm.MethodName)) ∈ lw_all := lw_g (lw_at lw_m2 18 rfl) rfl
theorem q304 : (Jvm.Cond.code ({ cls := "Greenwave", name := "junctionAt", desc := "(I)LGreenwave$Junction;" } : Jvm.MethodName) prog_1_method_9_code (2 : Nat) (Option.some (Jvm.ClassFile.FieldType.object "Greenwave$Junction"))) ∈ lw_all := lw_g (lw_at lw_m2 19 rfl) rfl
theorem q305 : (Jvm.Cond.methodLink "Greenwave" (58 : Nat) ({ cls := "Greenwave", name := "requireIndex", desc := "(Z)V" } : Jvm.MethodName)) ∈ lw_all := lw_g (lw_at lw_m2 20 rfl) rfl
theorem q306 : (Jvm.Cond.static ({ cls := "Greenwave", name := "requireIndex", desc := "(Z)V" } : Jvm.MethodName)) ∈ lw_all := lw_g (lw_at lw_m2 21 rfl) rfl
theorem q307 : (Jvm.Cond.code ({ cls := "Greenwave", name := "requireIndex", desc := "(Z)V" } : Jvm.MethodName) prog_1_method_2_code (1 : Nat) (Option.none : Option Jvm.ClassFile.FieldType)) ∈ lw_all := lw_g (lw_at lw_m2 22 rfl) rfl
theorem q308 : (Jvm.Cond.classLink "Greenwave" (1 : Nat) "java/lang/IndexOutOfBoundsException") ∈ lw_all := lw_g (lw_at lw_m2 23 rfl) rfl
theorem q317 : (Jvm.Cond.methodLink "Greenwave" (3 : Nat) ({ cls := "java/lang/IndexOutOfBoundsException", name := "<init>", desc := "()V" } : Jvm.MethodName)) ∈ lw_all := lw_g (lw_at lw_m2 32 rfl) rfl
theorem q323 : (Jvm.Cond.methodLink "Greenwave" (83 : Nat) ({ cls := "Greenwave", name := "has", desc := "(II)Z" } : Jvm.MethodName)) ∈ lw_all := lw_g (lw_at lw_m2 38 rfl) rfl
theorem q324 : (Jvm.Cond.static ({ cls := "Greenwave", name := "has", desc := "(II)Z" } : Jvm.MethodName)) ∈ lw_all := lw_g (lw_at lw_m2 39 rfl) rfl
theorem q325 : (Jvm.Cond.code ({ cls := "Greenwave", name := "has", desc := "(II)Z" } : Jvm.MethodName) prog_1_method_5_code (2 : Nat) (Option.some Jvm.ClassFile.FieldType.boolean)) ∈ lw_all := lw_g (lw_at lw_m2 40 rfl) rfl
theorem q326 : (Jvm.Cond.methodLink "Greenwave" (69 : Nat) ({ cls := "Greenwave", name := "requireState", desc := "(Z)V" } : Jvm.MethodName)) ∈ lw_all := lw_g (lw_at lw_m2 41 rfl) rfl
theorem q327 : (Jvm.Cond.static ({ cls := "Greenwave", name := "requireState", desc := "(Z)V" } : Jvm.MethodName)) ∈ lw_all := lw_g (lw_at lw_m2 42 rfl) rfl
theorem q328 : (Jvm.Cond.code ({ cls := "Greenwave", name := "requireState", desc := "(Z)V" } : Jvm.MethodName) prog_1_method_4_code (1 : Nat) (Option.none : Option Jvm.ClassFile.FieldType)) ∈ lw_all := lw_g (lw_at lw_m2 43 rfl) rfl
theorem q329 : (Jvm.Cond.classLink "Greenwave" (10 : Nat) "java/lang/IllegalStateException") ∈ lw_all := lw_g (lw_at lw_m2 44 rfl) rfl
theorem q338 : (Jvm.Cond.methodLink "Greenwave" (12 : Nat) ({ cls := "java/lang/IllegalStateException", name := "<init>", desc := "()V" } : Jvm.MethodName)) ∈ lw_all := lw_g (lw_at lw_m2 53 rfl) rfl
theorem q344 : (Jvm.Cond.methodLink "Greenwave" (87 : Nat) ({ cls := "Greenwave$Junction", name := "clearance", desc := "(II)I" } : Jvm.MethodName)) ∈ lw_all := lw_g (lw_at lw_m2 59 rfl) rfl
theorem q352 : (Jvm.Cond.instanceMethod ({ cls := "Greenwave", name := "setPhases", desc := "(IIIII)I" } : Jvm.MethodName)) ∈ lw_all := lw_g (lw_at lw_m2 67 rfl) rfl
theorem q353 : (Jvm.Cond.selects "Greenwave" ({ cls := "Greenwave", name := "setPhases", desc := "(IIIII)I" } : Jvm.MethodName) ({ cls := "Greenwave", name := "setPhases", desc := "(IIIII)I" } : Jvm.MethodName)) ∈ lw_all := lw_g (lw_at lw_m2 68 rfl) rfl
theorem q354 : (Jvm.Cond.code ({ cls := "Greenwave", name := "setPhases", desc := "(IIIII)I" } : Jvm.MethodName) prog_1_method_16_code (11 : Nat) (Option.some Jvm.ClassFile.FieldType.int)) ∈ lw_all := lw_g (lw_at lw_m2 69 rfl) rfl
theorem q355 : (Jvm.Cond.methodLink "Greenwave" (93 : Nat) ({ cls := "Greenwave$Junction", name := "isPeaceful", desc := "(I)Z" } : Jvm.MethodName)) ∈ lw_all := lw_g (lw_at lw_m2 70 rfl) rfl
theorem q364 : (Jvm.Cond.instanceMethod ({ cls := "Greenwave", name := "setFlow", desc := "(III)I" } : Jvm.MethodName)) ∈ lw_all := lw_g (lw_at lw_m2 79 rfl) rfl
theorem q365 : (Jvm.Cond.selects "Greenwave" ({ cls := "Greenwave", name := "setFlow", desc := "(III)I" } : Jvm.MethodName) ({ cls := "Greenwave", name := "setFlow", desc := "(III)I" } : Jvm.MethodName)) ∈ lw_all := lw_g (lw_at lw_m2 80 rfl) rfl
theorem q366 : (Jvm.Cond.code ({ cls := "Greenwave", name := "setFlow", desc := "(III)I" } : Jvm.MethodName) prog_1_method_17_code (6 : Nat) (Option.some Jvm.ClassFile.FieldType.int)) ∈ lw_all := lw_g (lw_at lw_m2 81 rfl) rfl
theorem q371 : (Jvm.Cond.instanceMethod ({ cls := "Greenwave", name := "setLink", desc := "(III)V" } : Jvm.MethodName)) ∈ lw_all := lw_g (lw_at lw_m2 86 rfl) rfl
theorem q372 : (Jvm.Cond.selects "Greenwave" ({ cls := "Greenwave", name := "setLink", desc := "(III)V" } : Jvm.MethodName) ({ cls := "Greenwave", name := "setLink", desc := "(III)V" } : Jvm.MethodName)) ∈ lw_all := lw_g (lw_at lw_m2 87 rfl) rfl
theorem q373 : (Jvm.Cond.code ({ cls := "Greenwave", name := "setLink", desc := "(III)V" } : Jvm.MethodName) prog_1_method_18_code (5 : Nat) (Option.none : Option Jvm.ClassFile.FieldType)) ∈ lw_all := lw_g (lw_at lw_m2 88 rfl) rfl
theorem q374 : (Jvm.Cond.methodLink "Greenwave" (100 : Nat) ({ cls := "Greenwave", name := "linkedAt", desc := "(I)LGreenwave$Junction;" } : Jvm.MethodName)) ∈ lw_all := lw_g (lw_at lw_m2 89 rfl) rfl
theorem q375 : (Jvm.Cond.privateMethod ({ cls := "Greenwave", name := "linkedAt", desc := "(I)LGreenwave$Junction;" } : Jvm.MethodName)) ∈ lw_tbl := lw_at lw_m2 90 rfl
theorem q376 : (Jvm.Cond.instanceMethod ({ cls := "Greenwave", name := "linkedAt", desc := "(I)LGreenwave$Junction;" } : Jvm.MethodName)) ∈ lw_all := lw_g (lw_at lw_m2 91 rfl) rfl
theorem q377 : (Jvm.Cond.code ({ cls := "Greenwave", name := "linkedAt", desc := "(I)LGreenwave$Junction;" } : Jvm.MethodName) prog_1_method_11_code (2 : Nat) (Option.some (Jvm.ClassFile.FieldType.object "Greenwave$Junction"))) ∈ lw_all := lw_g (lw_at lw_m2 92 rfl) rfl
theorem q382 : (Jvm.Cond.instanceMethod ({ cls := "Greenwave", name := "setOffset", desc := "(II)I" } : Jvm.MethodName)) ∈ lw_all := lw_g (lw_at lw_m2 97 rfl) rfl
theorem q383 : (Jvm.Cond.selects "Greenwave" ({ cls := "Greenwave", name := "setOffset", desc := "(II)I" } : Jvm.MethodName) ({ cls := "Greenwave", name := "setOffset", desc := "(II)I" } : Jvm.MethodName)) ∈ lw_all := lw_g (lw_at lw_m2 98 rfl) rfl
theorem q384 : (Jvm.Cond.code ({ cls := "Greenwave", name := "setOffset", desc := "(II)I" } : Jvm.MethodName) prog_1_method_19_code (5 : Nat) (Option.some Jvm.ClassFile.FieldType.int)) ∈ lw_all := lw_g (lw_at lw_m2 99 rfl) rfl
theorem q389 : (Jvm.Cond.instanceMethod ({ cls := "Greenwave", name := "improve", desc := "()I" } : Jvm.MethodName)) ∈ lw_all := lw_g (lw_at lw_m2 104 rfl) rfl
theorem q390 : (Jvm.Cond.selects "Greenwave" ({ cls := "Greenwave", name := "improve", desc := "()I" } : Jvm.MethodName) ({ cls := "Greenwave", name := "improve", desc := "()I" } : Jvm.MethodName)) ∈ lw_all := lw_g (lw_at lw_m2 105 rfl) rfl
theorem q391 : (Jvm.Cond.code ({ cls := "Greenwave", name := "improve", desc := "()I" } : Jvm.MethodName) prog_1_method_20_code (10 : Nat) (Option.some Jvm.ClassFile.FieldType.int)) ∈ lw_all := lw_g (lw_at lw_m2 106 rfl) rfl
theorem q392 : (Jvm.Cond.methodLink "Greenwave" (112 : Nat) ({ cls := "Greenwave", name := "requirePlans", desc := "()V" } : Jvm.MethodName)) ∈ lw_all := lw_g (lw_at lw_m2 107 rfl) rfl
theorem q393 : (Jvm.Cond.privateMethod ({ cls := "Greenwave", name := "requirePlans", desc := "()V" } : Jvm.MethodName)) ∈ lw_tbl := lw_at lw_m2 108 rfl
theorem q394 : (Jvm.Cond.instanceMethod ({ cls := "Greenwave", name := "requirePlans", desc := "()V" } : Jvm.MethodName)) ∈ lw_all := lw_g (lw_at lw_m2 109 rfl) rfl
theorem q395 : (Jvm.Cond.code ({ cls := "Greenwave", name := "requirePlans", desc := "()V" } : Jvm.MethodName) prog_1_method_13_code (5 : Nat) (Option.none : Option Jvm.ClassFile.FieldType)) ∈ lw_all := lw_g (lw_at lw_m2 110 rfl) rfl
theorem q396 : (Jvm.Cond.methodLink "Greenwave" (66 : Nat) ({ cls := "Greenwave$Junction", name := "left", desc := "()I" } : Jvm.MethodName)) ∈ lw_all := lw_g (lw_at lw_m2 111 rfl) rfl
theorem q411 : (Jvm.Cond.methodLink "Greenwave" (115 : Nat) ({ cls := "Greenwave", name := "mainGreens", desc := "()[[Z" } : Jvm.MethodName)) ∈ lw_all := lw_g (lw_at lw_m2 126 rfl) rfl
theorem q412 : (Jvm.Cond.privateMethod ({ cls := "Greenwave", name := "mainGreens", desc := "()[[Z" } : Jvm.MethodName)) ∈ lw_tbl := lw_at lw_m2 127 rfl
theorem q413 : (Jvm.Cond.instanceMethod ({ cls := "Greenwave", name := "mainGreens", desc := "()[[Z" } : Jvm.MethodName)) ∈ lw_all := lw_g (lw_at lw_m2 128 rfl) rfl
theorem q414 : (Jvm.Cond.code ({ cls := "Greenwave", name := "mainGreens", desc := "()[[Z" } : Jvm.MethodName) prog_1_method_30_code (3 : Nat) (Option.some (Jvm.ClassFile.FieldType.array (Jvm.ClassFile.FieldType.array Jvm.ClassFile.FieldType.boolean)))) ∈ lw_all := lw_g (lw_at lw_m2 129 rfl) rfl
theorem q415 : (Jvm.Cond.classLink "Greenwave" (153 : Nat) "[Z") ∈ lw_all := lw_g (lw_at lw_m2 130 rfl) rfl
theorem q417 : (Jvm.Cond.methodLink "Greenwave" (142 : Nat) ({ cls := "Greenwave", name := "greensOf", desc := "(LGreenwave$Junction;I)[Z" } : Jvm.MethodName)) ∈ lw_all := lw_g (lw_at lw_m2 132 rfl) rfl
theorem q418 : (Jvm.Cond.privateMethod ({ cls := "Greenwave", name := "greensOf", desc := "(LGreenwave$Junction;I)[Z" } : Jvm.MethodName)) ∈ lw_tbl := lw_at lw_m2 133 rfl
theorem q419 : (Jvm.Cond.instanceMethod ({ cls := "Greenwave", name := "greensOf", desc := "(LGreenwave$Junction;I)[Z" } : Jvm.MethodName)) ∈ lw_all := lw_g (lw_at lw_m2 134 rfl) rfl
theorem q420 : (Jvm.Cond.code ({ cls := "Greenwave", name := "greensOf", desc := "(LGreenwave$Junction;I)[Z" } : Jvm.MethodName) prog_1_method_28_code (7 : Nat) (Option.some (Jvm.ClassFile.FieldType.array Jvm.ClassFile.FieldType.boolean))) ∈ lw_all := lw_g (lw_at lw_m2 135 rfl) rfl
theorem q421 : (Jvm.Cond.methodLink "Greenwave" (133 : Nat) ({ cls := "Greenwave$Junction", name := "greens", desc := "()[I" } : Jvm.MethodName)) ∈ lw_all := lw_g (lw_at lw_m2 136 rfl) rfl
theorem q430 : (Jvm.Cond.methodLink "Greenwave" (149 : Nat) ({ cls := "Greenwave$Junction", name := "phaseAt", desc := "(I[I)I" } : Jvm.MethodName)) ∈ lw_all := lw_g (lw_at lw_m2 145 rfl) rfl
theorem q434 : (Jvm.Cond.methodLink "Greenwave" (119 : Nat) ({ cls := "Greenwave", name := "bands", desc := "([[Z)I" } : Jvm.MethodName)) ∈ lw_all := lw_g (lw_at lw_m2 149 rfl) rfl
theorem q435 : (Jvm.Cond.privateMethod ({ cls := "Greenwave", name := "bands", desc := "([[Z)I" } : Jvm.MethodName)) ∈ lw_tbl := lw_at lw_m2 150 rfl
theorem q436 : (Jvm.Cond.instanceMethod ({ cls := "Greenwave", name := "bands", desc := "([[Z)I" } : Jvm.MethodName)) ∈ lw_all := lw_g (lw_at lw_m2 151 rfl) rfl
theorem q437 : (Jvm.Cond.code ({ cls := "Greenwave", name := "bands", desc := "([[Z)I" } : Jvm.MethodName) prog_1_method_32_code (2 : Nat) (Option.some Jvm.ClassFile.FieldType.int)) ∈ lw_all := lw_g (lw_at lw_m2 152 rfl) rfl
theorem q438 : (Jvm.Cond.methodLink "Greenwave" (155 : Nat) ({ cls := "Greenwave", name := "bandOf", desc := "([[ZI)I" } : Jvm.MethodName)) ∈ lw_all := lw_g (lw_at lw_m2 153 rfl) rfl
theorem q439 : (Jvm.Cond.privateMethod ({ cls := "Greenwave", name := "bandOf", desc := "([[ZI)I" } : Jvm.MethodName)) ∈ lw_tbl := lw_at lw_m2 154 rfl
theorem q440 : (Jvm.Cond.instanceMethod ({ cls := "Greenwave", name := "bandOf", desc := "([[ZI)I" } : Jvm.MethodName)) ∈ lw_all := lw_g (lw_at lw_m2 155 rfl) rfl
theorem q441 : (Jvm.Cond.code ({ cls := "Greenwave", name := "bandOf", desc := "([[ZI)I" } : Jvm.MethodName) prog_1_method_31_code (10 : Nat) (Option.some Jvm.ClassFile.FieldType.int)) ∈ lw_all := lw_g (lw_at lw_m2 156 rfl) rfl
theorem q442 : (Jvm.Cond.methodLink "Greenwave" (146 : Nat) ({ cls := "Greenwave$Junction", name := "placeIn", desc := "(I)I" } : Jvm.MethodName)) ∈ lw_all := lw_g (lw_at lw_m2 157 rfl) rfl
theorem q449 : (Jvm.Cond.methodLink "Greenwave" (123 : Nat) ({ cls := "java/lang/Math", name := "max", desc := "(II)I" } : Jvm.MethodName)) ∈ lw_all := lw_g (lw_at lw_m2 164 rfl) rfl
theorem q455 : (Jvm.Cond.instanceMethod ({ cls := "Greenwave", name := "hasPlan", desc := "(I)Z" } : Jvm.MethodName)) ∈ lw_all := lw_g (lw_at lw_m2 170 rfl) rfl
theorem q456 : (Jvm.Cond.selects "Greenwave" ({ cls := "Greenwave", name := "hasPlan", desc := "(I)Z" } : Jvm.MethodName) ({ cls := "Greenwave", name := "hasPlan", desc := "(I)Z" } : Jvm.MethodName)) ∈ lw_all := lw_g (lw_at lw_m2 171 rfl) rfl
theorem q457 : (Jvm.Cond.code ({ cls := "Greenwave", name := "hasPlan", desc := "(I)Z" } : Jvm.MethodName) prog_1_method_22_code (2 : Nat) (Option.some Jvm.ClassFile.FieldType.boolean)) ∈ lw_all := lw_g (lw_at lw_m2 172 rfl) rfl
theorem q462 : (Jvm.Cond.instanceMethod ({ cls := "Greenwave", name := "green", desc := "(II)I" } : Jvm.MethodName)) ∈ lw_all := lw_g (lw_at lw_m2 177 rfl) rfl
theorem q463 : (Jvm.Cond.selects "Greenwave" ({ cls := "Greenwave", name := "green", desc := "(II)I" } : Jvm.MethodName) ({ cls := "Greenwave", name := "green", desc := "(II)I" } : Jvm.MethodName)) ∈ lw_all := lw_g (lw_at lw_m2 178 rfl) rfl
theorem q464 : (Jvm.Cond.code ({ cls := "Greenwave", name := "green", desc := "(II)I" } : Jvm.MethodName) prog_1_method_24_code (3 : Nat) (Option.some Jvm.ClassFile.FieldType.int)) ∈ lw_all := lw_g (lw_at lw_m2 179 rfl) rfl
theorem q465 : (Jvm.Cond.methodLink "Greenwave" (126 : Nat) ({ cls := "Greenwave", name := "requirePhase", desc := "(LGreenwave$Junction;I)V" } : Jvm.MethodName)) ∈ lw_all := lw_g (lw_at lw_m2 180 rfl) rfl
theorem q466 : (Jvm.Cond.static ({ cls := "Greenwave", name := "requirePhase", desc := "(LGreenwave$Junction;I)V" } : Jvm.MethodName)) ∈ lw_all := lw_g (lw_at lw_m2 181 rfl) rfl
theorem q467 : (Jvm.Cond.code ({ cls := "Greenwave", name := "requirePhase", desc := "(LGreenwave$Junction;I)V" } : Jvm.MethodName) prog_1_method_23_code (2 : Nat) (Option.none : Option Jvm.ClassFile.FieldType)) ∈ lw_all := lw_g (lw_at lw_m2 182 rfl) rfl
theorem q468 : (Jvm.Cond.methodLink "Greenwave" (130 : Nat) ({ cls := "Greenwave", name := "planned", desc := "(I)LGreenwave$Junction;" } : Jvm.MethodName)) ∈ lw_all := lw_g (lw_at lw_m2 183 rfl) rfl
theorem q469 : (Jvm.Cond.privateMethod ({ cls := "Greenwave", name := "planned", desc := "(I)LGreenwave$Junction;" } : Jvm.MethodName)) ∈ lw_tbl := lw_at lw_m2 184 rfl
theorem q470 : (Jvm.Cond.instanceMethod ({ cls := "Greenwave", name := "planned", desc := "(I)LGreenwave$Junction;" } : Jvm.MethodName)) ∈ lw_all := lw_g (lw_at lw_m2 185 rfl) rfl
theorem q471 : (Jvm.Cond.code ({ cls := "Greenwave", name := "planned", desc := "(I)LGreenwave$Junction;" } : Jvm.MethodName) prog_1_method_12_code (3 : Nat) (Option.some (Jvm.ClassFile.FieldType.object "Greenwave$Junction"))) ∈ lw_all := lw_g (lw_at lw_m2 186 rfl) rfl
theorem q476 : (Jvm.Cond.instanceMethod ({ cls := "Greenwave", name := "clearing", desc := "(II)I" } : Jvm.MethodName)) ∈ lw_all := lw_g (lw_at lw_m2 191 rfl) rfl
theorem q477 : (Jvm.Cond.selects "Greenwave" ({ cls := "Greenwave", name := "clearing", desc := "(II)I" } : Jvm.MethodName) ({ cls := "Greenwave", name := "clearing", desc := "(II)I" } : Jvm.MethodName)) ∈ lw_all := lw_g (lw_at lw_m2 192 rfl) rfl
theorem q478 : (Jvm.Cond.code ({ cls := "Greenwave", name := "clearing", desc := "(II)I" } : Jvm.MethodName) prog_1_method_25_code (4 : Nat) (Option.some Jvm.ClassFile.FieldType.int)) ∈ lw_all := lw_g (lw_at lw_m2 193 rfl) rfl
theorem q479 : (Jvm.Cond.methodLink "Greenwave" (137 : Nat) ({ cls := "Greenwave$Junction", name := "clearing", desc := "(I)I" } : Jvm.MethodName)) ∈ lw_all := lw_g (lw_at lw_m2 194 rfl) rfl
theorem q484 : (Jvm.Cond.instanceMethod ({ cls := "Greenwave", name := "offset", desc := "(I)I" } : Jvm.MethodName)) ∈ lw_all := lw_g (lw_at lw_m2 199 rfl) rfl
theorem q485 : (Jvm.Cond.selects "Greenwave" ({ cls := "Greenwave", name := "offset", desc := "(I)I" } : Jvm.MethodName) ({ cls := "Greenwave", name := "offset", desc := "(I)I" } : Jvm.MethodName)) ∈ lw_all := lw_g (lw_at lw_m2 200 rfl) rfl
theorem q486 : (Jvm.Cond.code ({ cls := "Greenwave", name := "offset", desc := "(I)I" } : Jvm.MethodName) prog_1_method_26_code (2 : Nat) (Option.some Jvm.ClassFile.FieldType.int)) ∈ lw_all := lw_g (lw_at lw_m2 201 rfl) rfl
theorem q491 : (Jvm.Cond.instanceMethod ({ cls := "Greenwave", name := "isGreen", desc := "(III)Z" } : Jvm.MethodName)) ∈ lw_all := lw_g (lw_at lw_m2 206 rfl) rfl
theorem q492 : (Jvm.Cond.selects "Greenwave" ({ cls := "Greenwave", name := "isGreen", desc := "(III)Z" } : Jvm.MethodName) ({ cls := "Greenwave", name := "isGreen", desc := "(III)Z" } : Jvm.MethodName)) ∈ lw_all := lw_g (lw_at lw_m2 207 rfl) rfl
theorem q493 : (Jvm.Cond.code ({ cls := "Greenwave", name := "isGreen", desc := "(III)Z" } : Jvm.MethodName) prog_1_method_27_code (5 : Nat) (Option.some Jvm.ClassFile.FieldType.boolean)) ∈ lw_all := lw_g (lw_at lw_m2 208 rfl) rfl
theorem q494 : (Jvm.Cond.constant "Greenwave" (141 : Nat) (100000 : Int32)) ∈ lw_all := lw_g (lw_at lw_m2 209 rfl) rfl
theorem q499 : (Jvm.Cond.instanceMethod ({ cls := "Greenwave", name := "breaches", desc := "(I)I" } : Jvm.MethodName)) ∈ lw_all := lw_g (lw_at lw_m2 214 rfl) rfl
theorem q500 : (Jvm.Cond.selects "Greenwave" ({ cls := "Greenwave", name := "breaches", desc := "(I)I" } : Jvm.MethodName) ({ cls := "Greenwave", name := "breaches", desc := "(I)I" } : Jvm.MethodName)) ∈ lw_all := lw_g (lw_at lw_m2 215 rfl) rfl
theorem q501 : (Jvm.Cond.code ({ cls := "Greenwave", name := "breaches", desc := "(I)I" } : Jvm.MethodName) prog_1_method_29_code (9 : Nat) (Option.some Jvm.ClassFile.FieldType.int)) ∈ lw_all := lw_g (lw_at lw_m2 216 rfl) rfl
theorem q506 : (Jvm.Cond.instanceMethod ({ cls := "Greenwave", name := "band", desc := "(Z)I" } : Jvm.MethodName)) ∈ lw_all := lw_g (lw_at lw_m2 221 rfl) rfl
theorem q507 : (Jvm.Cond.selects "Greenwave" ({ cls := "Greenwave", name := "band", desc := "(Z)I" } : Jvm.MethodName) ({ cls := "Greenwave", name := "band", desc := "(Z)I" } : Jvm.MethodName)) ∈ lw_all := lw_g (lw_at lw_m2 222 rfl) rfl
theorem q508 : (Jvm.Cond.code ({ cls := "Greenwave", name := "band", desc := "(Z)I" } : Jvm.MethodName) prog_1_method_33_code (2 : Nat) (Option.some Jvm.ClassFile.FieldType.int)) ∈ lw_all := lw_g (lw_at lw_m2 223 rfl) rfl
theorem q513 : (Jvm.Cond.instanceMethod ({ cls := "Greenwave", name := "bestByAll", desc := "()I" } : Jvm.MethodName)) ∈ lw_all := lw_g (lw_at lw_m2 228 rfl) rfl
theorem q514 : (Jvm.Cond.selects "Greenwave" ({ cls := "Greenwave", name := "bestByAll", desc := "()I" } : Jvm.MethodName) ({ cls := "Greenwave", name := "bestByAll", desc := "()I" } : Jvm.MethodName)) ∈ lw_all := lw_g (lw_at lw_m2 229 rfl) rfl
theorem q515 : (Jvm.Cond.code ({ cls := "Greenwave", name := "bestByAll", desc := "()I" } : Jvm.MethodName) prog_1_method_34_code (6 : Nat) (Option.some Jvm.ClassFile.FieldType.int)) ∈ lw_all := lw_g (lw_at lw_m2 230 rfl) rfl
theorem q520 : (Jvm.Cond.instanceMethod ({ cls := "Greenwave", name := "run", desc := "(I)I" } : Jvm.MethodName)) ∈ lw_all := lw_g (lw_at lw_m2 235 rfl) rfl
theorem q521 : (Jvm.Cond.selects "Greenwave" ({ cls := "Greenwave", name := "run", desc := "(I)I" } : Jvm.MethodName) ({ cls := "Greenwave", name := "run", desc := "(I)I" } : Jvm.MethodName)) ∈ lw_all := lw_g (lw_at lw_m2 236 rfl) rfl
theorem q522 : (Jvm.Cond.code ({ cls := "Greenwave", name := "run", desc := "(I)I" } : Jvm.MethodName) prog_1_method_37_code (6 : Nat) (Option.some Jvm.ClassFile.FieldType.int)) ∈ lw_all := lw_g (lw_at lw_m2 237 rfl) rfl
theorem q523 : (Jvm.Cond.classLink "Greenwave" (181 : Nat) "[I") ∈ lw_all := lw_g (lw_at lw_m2 238 rfl) rfl
theorem q525 : (Jvm.Cond.methodLink "Greenwave" (182 : Nat) ({ cls := "Greenwave", name := "step", desc := "(I[I)V" } : Jvm.MethodName)) ∈ lw_all := lw_g (lw_at lw_m3 0 rfl) rfl
theorem q526 : (Jvm.Cond.privateMethod ({ cls := "Greenwave", name := "step", desc := "(I[I)V" } : Jvm.MethodName)) ∈ lw_tbl := lw_at lw_m3 1 rfl
theorem q527 : (Jvm.Cond.instanceMethod ({ cls := "Greenwave", name := "step", desc := "(I[I)V" } : Jvm.MethodName)) ∈ lw_all := lw_g (lw_at lw_m3 2 rfl) rfl
theorem q528 : (Jvm.Cond.code ({ cls := "Greenwave", name := "step", desc := "(I[I)V" } : Jvm.MethodName) prog_1_method_36_code (6 : Nat) (Option.none : Option Jvm.ClassFile.FieldType)) ∈ lw_all := lw_g (lw_at lw_m3 3 rfl) rfl
theorem q529 : (Jvm.Cond.methodLink "Greenwave" (171 : Nat) ({ cls := "Greenwave$Junction", name := "runsGreen", desc := "(II[I)Z" } : Jvm.MethodName)) ∈ lw_all := lw_g (lw_at lw_m3 4 rfl) rfl
theorem q539 : (Jvm.Cond.methodLink "Greenwave" (13 : Nat) ({ cls := "java/lang/Math", name := "min", desc := "(II)I" } : Jvm.MethodName)) ∈ lw_all := lw_g (lw_at lw_m3 14 rfl) rfl
theorem q542 : (Jvm.Cond.methodLink "Greenwave" (178 : Nat) ({ cls := "Greenwave", name := "heldBehind", desc := "(I)I" } : Jvm.MethodName)) ∈ lw_all := lw_g (lw_at lw_m3 17 rfl) rfl
theorem q543 : (Jvm.Cond.privateMethod ({ cls := "Greenwave", name := "heldBehind", desc := "(I)I" } : Jvm.MethodName)) ∈ lw_tbl := lw_at lw_m3 18 rfl
theorem q544 : (Jvm.Cond.instanceMethod ({ cls := "Greenwave", name := "heldBehind", desc := "(I)I" } : Jvm.MethodName)) ∈ lw_all := lw_g (lw_at lw_m3 19 rfl) rfl
theorem q545 : (Jvm.Cond.code ({ cls := "Greenwave", name := "heldBehind", desc := "(I)I" } : Jvm.MethodName) prog_1_method_35_code (2 : Nat) (Option.some Jvm.ClassFile.FieldType.int)) ∈ lw_all := lw_g (lw_at lw_m3 20 rfl) rfl
theorem q550 : (Jvm.Cond.instanceMethod ({ cls := "Greenwave", name := "callBus", desc := "(II)I" } : Jvm.MethodName)) ∈ lw_all := lw_g (lw_at lw_m3 25 rfl) rfl
theorem q551 : (Jvm.Cond.selects "Greenwave" ({ cls := "Greenwave", name := "callBus", desc := "(II)I" } : Jvm.MethodName) ({ cls := "Greenwave", name := "callBus", desc := "(II)I" } : Jvm.MethodName)) ∈ lw_all := lw_g (lw_at lw_m3 26 rfl) rfl
theorem q552 : (Jvm.Cond.code ({ cls := "Greenwave", name := "callBus", desc := "(II)I" } : Jvm.MethodName) prog_1_method_39_code (9 : Nat) (Option.some Jvm.ClassFile.FieldType.int)) ∈ lw_all := lw_g (lw_at lw_m3 27 rfl) rfl
theorem q553 : (Jvm.Cond.methodLink "Greenwave" (186 : Nat) ({ cls := "Greenwave", name := "lowestWith", desc := "(LGreenwave$Junction;I)I" } : Jvm.MethodName)) ∈ lw_all := lw_g (lw_at lw_m3 28 rfl) rfl
theorem q554 : (Jvm.Cond.static ({ cls := "Greenwave", name := "lowestWith", desc := "(LGreenwave$Junction;I)I" } : Jvm.MethodName)) ∈ lw_all := lw_g (lw_at lw_m3 29 rfl) rfl
theorem q555 : (Jvm.Cond.code ({ cls := "Greenwave", name := "lowestWith", desc := "(LGreenwave$Junction;I)I" } : Jvm.MethodName) prog_1_method_38_code (3 : Nat) (Option.some Jvm.ClassFile.FieldType.int)) ∈ lw_all := lw_g (lw_at lw_m3 30 rfl) rfl
theorem q556 : (Jvm.Cond.methodLink "Greenwave" (190 : Nat) ({ cls := "Greenwave$Junction", name := "isChanged", desc := "(I)Z" } : Jvm.MethodName)) ∈ lw_all := lw_g (lw_at lw_m3 31 rfl) rfl
theorem q557 : (Jvm.Cond.methodLink "Greenwave" (193 : Nat) ({ cls := "Greenwave$Junction", name := "leastGreen", desc := "(I)I" } : Jvm.MethodName)) ∈ lw_all := lw_g (lw_at lw_m3 32 rfl) rfl
theorem q558 : (Jvm.Cond.methodLink "Greenwave" (196 : Nat) ({ cls := "Greenwave", name := "least", desc := "([I)I" } : Jvm.MethodName)) ∈ lw_all := lw_g (lw_at lw_m3 33 rfl) rfl
theorem q559 : (Jvm.Cond.static ({ cls := "Greenwave", name := "least", desc := "([I)I" } : Jvm.MethodName)) ∈ lw_all := lw_g (lw_at lw_m3 34 rfl) rfl
theorem q560 : (Jvm.Cond.code ({ cls := "Greenwave", name := "least", desc := "([I)I" } : Jvm.MethodName) prog_1_method_6_code (6 : Nat) (Option.some Jvm.ClassFile.FieldType.int)) ∈ lw_all := lw_g (lw_at lw_m3 35 rfl) rfl
theorem q561 : (Jvm.Cond.methodLink "Greenwave" (200 : Nat) ({ cls := "Greenwave$Junction", name := "behind", desc := "(II[I)I" } : Jvm.MethodName)) ∈ lw_all := lw_g (lw_at lw_m3 36 rfl) rfl
theorem q569 : (Jvm.Cond.instanceMethod ({ cls := "Greenwave", name := "phaseNow", desc := "(I)I" } : Jvm.MethodName)) ∈ lw_all := lw_g (lw_at lw_m3 44 rfl) rfl
theorem q570 : (Jvm.Cond.selects "Greenwave" ({ cls := "Greenwave", name := "phaseNow", desc := "(I)I" } : Jvm.MethodName) ({ cls := "Greenwave", name := "phaseNow", desc := "(I)I" } : Jvm.MethodName)) ∈ lw_all := lw_g (lw_at lw_m3 45 rfl) rfl
theorem q571 : (Jvm.Cond.code ({ cls := "Greenwave", name := "phaseNow", desc := "(I)I" } : Jvm.MethodName) prog_1_method_41_code (3 : Nat) (Option.some Jvm.ClassFile.FieldType.int)) ∈ lw_all := lw_g (lw_at lw_m3 46 rfl) rfl
theorem q572 : (Jvm.Cond.methodLink "Greenwave" (210 : Nat) ({ cls := "Greenwave$Junction", name := "greensIn", desc := "(I)[I" } : Jvm.MethodName)) ∈ lw_all := lw_g (lw_at lw_m3 47 rfl) rfl
theorem q581 : (Jvm.Cond.instanceMethod ({ cls := "Greenwave", name := "queue", desc := "(I)I" } : Jvm.MethodName)) ∈ lw_all := lw_g (lw_at lw_m3 56 rfl) rfl
theorem q582 : (Jvm.Cond.selects "Greenwave" ({ cls := "Greenwave", name := "queue", desc := "(I)I" } : Jvm.MethodName) ({ cls := "Greenwave", name := "queue", desc := "(I)I" } : Jvm.MethodName)) ∈ lw_all := lw_g (lw_at lw_m3 57 rfl) rfl
theorem q583 : (Jvm.Cond.code ({ cls := "Greenwave", name := "queue", desc := "(I)I" } : Jvm.MethodName) prog_1_method_42_code (2 : Nat) (Option.some Jvm.ClassFile.FieldType.int)) ∈ lw_all := lw_g (lw_at lw_m3 58 rfl) rfl
theorem q588 : (Jvm.Cond.instanceMethod ({ cls := "Greenwave", name := "held", desc := "(I)I" } : Jvm.MethodName)) ∈ lw_all := lw_g (lw_at lw_m3 63 rfl) rfl
theorem q589 : (Jvm.Cond.selects "Greenwave" ({ cls := "Greenwave", name := "held", desc := "(I)I" } : Jvm.MethodName) ({ cls := "Greenwave", name := "held", desc := "(I)I" } : Jvm.MethodName)) ∈ lw_all := lw_g (lw_at lw_m3 64 rfl) rfl
theorem q590 : (Jvm.Cond.code ({ cls := "Greenwave", name := "held", desc := "(I)I" } : Jvm.MethodName) prog_1_method_43_code (2 : Nat) (Option.some Jvm.ClassFile.FieldType.int)) ∈ lw_all := lw_g (lw_at lw_m3 65 rfl) rfl
theorem in_X1 : ∀ w ∈ wsX10, w ∈ lw_all := lw_in wsX10 [148, 150, 152, 154, 156, 158] (by decide +kernel) (by decide +kernel)
