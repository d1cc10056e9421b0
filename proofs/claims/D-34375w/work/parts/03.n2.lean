/-! Greenwave$Junction -/
set_option maxRecDepth 100000
def RX2 : String := "Greenwave$Junction"
def TX2 : u_T := fun k => match k with
  | 0 => ("Greenwave$Junction", "cycle", "I", true)
  | 1 => ("Greenwave$Junction", "conflicts", "[I", true)
  | 2 => ("Greenwave$Junction", "flows", "[I", true)
  | 3 => ("Greenwave$Junction", "phases", "[I", false)
  | 4 => ("Greenwave$Junction", "offset", "I", false)
  | 5 => ("Greenwave$Junction", "linkSeconds", "I", false)
  | 6 => ("Greenwave$Junction", "room", "I", false)
  | 7 => ("Greenwave$Junction", "changed", "[I", false)
  | 8 => ("Greenwave$Junction", "changedFrom", "I", false)
  | 9 => ("Greenwave$Junction", "queue", "I", false)
  | 10 => ("Greenwave$Junction", "arrivals", "I", false)
  | 11 => ("Greenwave$Junction", "ready", "I", false)
  | 12 => ("Greenwave$Junction", "travelling", "I", false)
  | _ => ("Greenwave$Junction", "coming", "[I", true)
def tyX2 : Nat → FieldType := fun k => match k with
  | 0 => .int
  | 1 => .array .int
  | 2 => .array .int
  | 3 => .array .int
  | 4 => .int
  | 5 => .int
  | 6 => .int
  | 7 => .array .int
  | 8 => .int
  | 9 => .int
  | 10 => .int
  | 11 => .int
  | 12 => .int
  | _ => .array .int
abbrev wsX20 : List Cond := u_ws RX2 TX2 14
set_option maxRecDepth 100000 in
theorem nmX2 : ∀ a, a < 14 → ∀ b, b < 14 → a ≠ b → (TX2 a).2.1 ≠ (TX2 b).2.1 := by decide +kernel
set_option maxRecDepth 100000 in
theorem tyX2_ok : ∀ k, k < 14 → parseFieldDescriptor (TX2 k).2.2.1 = some (tyX2 k) := by decide +kernel
abbrev cX2_init : ByteArray := prog_2_method_2_code
def yX2_init : MethodName := ⟨RX2, "<init>", "(I)V"⟩
def dkwX2_init_0 : List UInt8 := [42, 27, 5, 188, 10, 89, 3, 6, 79, 89, 4, 16, 12, 79, 183, 0, 45, 177]
abbrev dktX2_init_0 : List UInt8 := dkwX2_init_0 ++ []
theorem dksX2_init_0 : cX2_init.data.toList.drop 0 = dktX2_init_0 := by decide +kernel
theorem dX2_init_0 : decode cX2_init 0 = .ok (.aload_n 0, 1) := dk_42 (dk_at dksX2_init_0 0 rfl rfl)
theorem dX2_init_1 : decode cX2_init 1 = .ok (.iload_n 1, 1) := dk_27 (dk_at dksX2_init_0 1 rfl rfl)
theorem dX2_init_2 : decode cX2_init 2 = .ok (.iconst 2, 1) := dk_5 (dk_at dksX2_init_0 2 rfl rfl)
theorem dX2_init_3 : decode cX2_init 3 = .ok (.newarray .int, 2) := dk_188_10 (dk_at dksX2_init_0 3 rfl rfl)
theorem dX2_init_5 : decode cX2_init 5 = .ok (.dup, 1) := dk_89 (dk_at dksX2_init_0 5 rfl rfl)
theorem dX2_init_6 : decode cX2_init 6 = .ok (.iconst 0, 1) := dk_3 (dk_at dksX2_init_0 6 rfl rfl)
theorem dX2_init_7 : decode cX2_init 7 = .ok (.iconst 3, 1) := dk_6 (dk_at dksX2_init_0 7 rfl rfl)
theorem dX2_init_8 : decode cX2_init 8 = .ok (.iastore, 1) := dk_79 (dk_at dksX2_init_0 8 rfl rfl)
theorem dX2_init_9 : decode cX2_init 9 = .ok (.dup, 1) := dk_89 (dk_at dksX2_init_0 9 rfl rfl)
theorem dX2_init_10 : decode cX2_init 10 = .ok (.iconst 1, 1) := dk_4 (dk_at dksX2_init_0 10 rfl rfl)
theorem dX2_init_11 : decode cX2_init 11 = .ok (.bipush 12, 2) := dk_16 12 (dk_at dksX2_init_0 11 rfl rfl)
theorem dX2_init_13 : decode cX2_init 13 = .ok (.iastore, 1) := dk_79 (dk_at dksX2_init_0 13 rfl rfl)
theorem dX2_init_14 : decode cX2_init 14 = .ok (.invokespecial 45, 3) := dk_183 0 45 (dk_at dksX2_init_0 14 rfl rfl)
theorem dX2_init_17 : decode cX2_init 17 = .ok (.return_, 1) := dk_177 (dk_at dksX2_init_0 17 rfl rfl)
abbrev cX2_init_2 : ByteArray := prog_2_method_1_code
def yX2_init_2 : MethodName := ⟨RX2, "<init>", "(I[I)V"⟩
def dkwX2_init_2_2 : List UInt8 := [188, 10, 181, 0, 36, 42, 27, 181, 0, 39, 42, 44, 181, 0, 42, 177]
abbrev dktX2_init_2_2 : List UInt8 := dkwX2_init_2_2 ++ []
def dkwX2_init_2_1 : List UInt8 := [192, 0, 23, 181, 0, 27, 42, 7, 188, 10, 181, 0, 30, 42, 3, 188, 10, 181, 0, 33, 42, 16, 61]
abbrev dktX2_init_2_1 : List UInt8 := dkwX2_init_2_1 ++ dktX2_init_2_2
def dkwX2_init_2_0 : List UInt8 := [42, 183, 0, 3, 42, 16, 10, 181, 0, 9, 42, 16, 20, 181, 0, 15, 42, 178, 0, 18, 182, 0, 22]
abbrev dktX2_init_2_0 : List UInt8 := dkwX2_init_2_0 ++ dktX2_init_2_1
theorem dksX2_init_2_0 : cX2_init_2.data.toList.drop 0 = dktX2_init_2_0 := by decide +kernel
theorem dksX2_init_2_1 : cX2_init_2.data.toList.drop 23 = dktX2_init_2_1 := dk_seg dksX2_init_2_0 23 rfl rfl
theorem dksX2_init_2_2 : cX2_init_2.data.toList.drop 46 = dktX2_init_2_2 := dk_seg dksX2_init_2_1 23 rfl rfl
theorem dX2_init_2_0 : decode cX2_init_2 0 = .ok (.aload_n 0, 1) := dk_42 (dk_at dksX2_init_2_0 0 rfl rfl)
theorem dX2_init_2_1 : decode cX2_init_2 1 = .ok (.invokespecial 3, 3) := dk_183 0 3 (dk_at dksX2_init_2_0 1 rfl rfl)
theorem dX2_init_2_4 : decode cX2_init_2 4 = .ok (.aload_n 0, 1) := dk_42 (dk_at dksX2_init_2_0 4 rfl rfl)
theorem dX2_init_2_5 : decode cX2_init_2 5 = .ok (.bipush 10, 2) := dk_16 10 (dk_at dksX2_init_2_0 5 rfl rfl)
theorem dX2_init_2_7 : decode cX2_init_2 7 = .ok (.putfield 9, 3) := dk_181 0 9 (dk_at dksX2_init_2_0 7 rfl rfl)
theorem dX2_init_2_10 : decode cX2_init_2 10 = .ok (.aload_n 0, 1) := dk_42 (dk_at dksX2_init_2_0 10 rfl rfl)
theorem dX2_init_2_11 : decode cX2_init_2 11 = .ok (.bipush 20, 2) := dk_16 20 (dk_at dksX2_init_2_0 11 rfl rfl)
theorem dX2_init_2_13 : decode cX2_init_2 13 = .ok (.putfield 15, 3) := dk_181 0 15 (dk_at dksX2_init_2_0 13 rfl rfl)
theorem dX2_init_2_16 : decode cX2_init_2 16 = .ok (.aload_n 0, 1) := dk_42 (dk_at dksX2_init_2_0 16 rfl rfl)
theorem dX2_init_2_17 : decode cX2_init_2 17 = .ok (.getstatic 18, 3) := dk_178 0 18 (dk_at dksX2_init_2_0 17 rfl rfl)
theorem dX2_init_2_20 : decode cX2_init_2 20 = .ok (.invokevirtual 22, 3) := dk_182 0 22 (dk_at dksX2_init_2_0 20 rfl rfl)
theorem dX2_init_2_23 : decode cX2_init_2 23 = .ok (.checkcast 23, 3) := dk_192 0 23 (dk_at dksX2_init_2_1 0 rfl rfl)
theorem dX2_init_2_26 : decode cX2_init_2 26 = .ok (.putfield 27, 3) := dk_181 0 27 (dk_at dksX2_init_2_1 3 rfl rfl)
theorem dX2_init_2_29 : decode cX2_init_2 29 = .ok (.aload_n 0, 1) := dk_42 (dk_at dksX2_init_2_1 6 rfl rfl)
theorem dX2_init_2_30 : decode cX2_init_2 30 = .ok (.iconst 4, 1) := dk_7 (dk_at dksX2_init_2_1 7 rfl rfl)
theorem dX2_init_2_31 : decode cX2_init_2 31 = .ok (.newarray .int, 2) := dk_188_10 (dk_at dksX2_init_2_1 8 rfl rfl)
theorem dX2_init_2_33 : decode cX2_init_2 33 = .ok (.putfield 30, 3) := dk_181 0 30 (dk_at dksX2_init_2_1 10 rfl rfl)
theorem dX2_init_2_36 : decode cX2_init_2 36 = .ok (.aload_n 0, 1) := dk_42 (dk_at dksX2_init_2_1 13 rfl rfl)
theorem dX2_init_2_37 : decode cX2_init_2 37 = .ok (.iconst 0, 1) := dk_3 (dk_at dksX2_init_2_1 14 rfl rfl)
theorem dX2_init_2_38 : decode cX2_init_2 38 = .ok (.newarray .int, 2) := dk_188_10 (dk_at dksX2_init_2_1 15 rfl rfl)
theorem dX2_init_2_40 : decode cX2_init_2 40 = .ok (.putfield 33, 3) := dk_181 0 33 (dk_at dksX2_init_2_1 17 rfl rfl)
theorem dX2_init_2_43 : decode cX2_init_2 43 = .ok (.aload_n 0, 1) := dk_42 (dk_at dksX2_init_2_1 20 rfl rfl)
theorem dX2_init_2_44 : decode cX2_init_2 44 = .ok (.bipush 61, 2) := dk_16 61 (dk_at dksX2_init_2_1 21 rfl rfl)
theorem dX2_init_2_46 : decode cX2_init_2 46 = .ok (.newarray .int, 2) := dk_188_10 (dk_at dksX2_init_2_2 0 rfl rfl)
theorem dX2_init_2_48 : decode cX2_init_2 48 = .ok (.putfield 36, 3) := dk_181 0 36 (dk_at dksX2_init_2_2 2 rfl rfl)
theorem dX2_init_2_51 : decode cX2_init_2 51 = .ok (.aload_n 0, 1) := dk_42 (dk_at dksX2_init_2_2 5 rfl rfl)
theorem dX2_init_2_52 : decode cX2_init_2 52 = .ok (.iload_n 1, 1) := dk_27 (dk_at dksX2_init_2_2 6 rfl rfl)
theorem dX2_init_2_53 : decode cX2_init_2 53 = .ok (.putfield 39, 3) := dk_181 0 39 (dk_at dksX2_init_2_2 7 rfl rfl)
theorem dX2_init_2_56 : decode cX2_init_2 56 = .ok (.aload_n 0, 1) := dk_42 (dk_at dksX2_init_2_2 10 rfl rfl)
theorem dX2_init_2_57 : decode cX2_init_2 57 = .ok (.aload_n 2, 1) := dk_44 (dk_at dksX2_init_2_2 11 rfl rfl)
theorem dX2_init_2_58 : decode cX2_init_2 58 = .ok (.putfield 42, 3) := dk_181 0 42 (dk_at dksX2_init_2_2 12 rfl rfl)
theorem dX2_init_2_61 : decode cX2_init_2 61 = .ok (.return_, 1) := dk_177 (dk_at dksX2_init_2_2 15 rfl rfl)
abbrev cX2_clearance : ByteArray := prog_2_method_3_code
def yX2_clearance : MethodName := ⟨RX2, "clearance", "(II)I"⟩
def dkwX2_clearance_0 : List UInt8 := [42, 180, 0, 27, 7, 27, 104, 28, 96, 46, 172]
abbrev dktX2_clearance_0 : List UInt8 := dkwX2_clearance_0 ++ []
theorem dksX2_clearance_0 : cX2_clearance.data.toList.drop 0 = dktX2_clearance_0 := by decide +kernel
theorem dX2_clearance_0 : decode cX2_clearance 0 = .ok (.aload_n 0, 1) := dk_42 (dk_at dksX2_clearance_0 0 rfl rfl)
theorem dX2_clearance_1 : decode cX2_clearance 1 = .ok (.getfield 27, 3) := dk_180 0 27 (dk_at dksX2_clearance_0 1 rfl rfl)
theorem dX2_clearance_4 : decode cX2_clearance 4 = .ok (.iconst 4, 1) := dk_7 (dk_at dksX2_clearance_0 4 rfl rfl)
theorem dX2_clearance_5 : decode cX2_clearance 5 = .ok (.iload_n 1, 1) := dk_27 (dk_at dksX2_clearance_0 5 rfl rfl)
theorem dX2_clearance_6 : decode cX2_clearance 6 = .ok (.imul, 1) := dk_104 (dk_at dksX2_clearance_0 6 rfl rfl)
theorem dX2_clearance_7 : decode cX2_clearance 7 = .ok (.iload_n 2, 1) := dk_28 (dk_at dksX2_clearance_0 7 rfl rfl)
theorem dX2_clearance_8 : decode cX2_clearance 8 = .ok (.iadd, 1) := dk_96 (dk_at dksX2_clearance_0 8 rfl rfl)
theorem dX2_clearance_9 : decode cX2_clearance 9 = .ok (.iaload, 1) := dk_46 (dk_at dksX2_clearance_0 9 rfl rfl)
theorem dX2_clearance_10 : decode cX2_clearance 10 = .ok (.ireturn, 1) := dk_172 (dk_at dksX2_clearance_0 10 rfl rfl)
abbrev cX2_isPeaceful : ByteArray := prog_2_method_4_code
def yX2_isPeaceful : MethodName := ⟨RX2, "isPeaceful", "(I)Z"⟩
def dkwX2_isPeaceful_3 : List UInt8 := [132, 3, 1, 167, 255, 189, 28, 172]
abbrev dktX2_isPeaceful_3 : List UInt8 := dkwX2_isPeaceful_3 ++ []
def dkwX2_isPeaceful_2 : List UInt8 := [184, 0, 48, 153, 0, 13, 42, 180, 0, 27, 29, 46, 2, 160, 0, 7, 4, 167, 0, 4, 3, 61]
abbrev dktX2_isPeaceful_2 : List UInt8 := dkwX2_isPeaceful_2 ++ dktX2_isPeaceful_3
def dkwX2_isPeaceful_1 : List UInt8 := [153, 0, 42, 21, 4, 21, 5, 159, 0, 31, 27, 21, 4, 184, 0, 48, 153, 0, 22, 27, 21, 5]
abbrev dktX2_isPeaceful_1 : List UInt8 := dkwX2_isPeaceful_1 ++ dktX2_isPeaceful_2
def dkwX2_isPeaceful_0 : List UInt8 := [4, 61, 3, 62, 29, 42, 180, 0, 27, 190, 162, 0, 64, 29, 7, 108, 54, 4, 29, 7, 112, 54, 5, 28]
abbrev dktX2_isPeaceful_0 : List UInt8 := dkwX2_isPeaceful_0 ++ dktX2_isPeaceful_1
theorem dksX2_isPeaceful_0 : cX2_isPeaceful.data.toList.drop 0 = dktX2_isPeaceful_0 := by decide +kernel
theorem dksX2_isPeaceful_1 : cX2_isPeaceful.data.toList.drop 24 = dktX2_isPeaceful_1 := dk_seg dksX2_isPeaceful_0 24 rfl rfl
theorem dksX2_isPeaceful_2 : cX2_isPeaceful.data.toList.drop 46 = dktX2_isPeaceful_2 := dk_seg dksX2_isPeaceful_1 22 rfl rfl
theorem dksX2_isPeaceful_3 : cX2_isPeaceful.data.toList.drop 68 = dktX2_isPeaceful_3 := dk_seg dksX2_isPeaceful_2 22 rfl rfl
theorem dX2_isPeaceful_0 : decode cX2_isPeaceful 0 = .ok (.iconst 1, 1) := dk_4 (dk_at dksX2_isPeaceful_0 0 rfl rfl)
theorem dX2_isPeaceful_1 : decode cX2_isPeaceful 1 = .ok (.istore_n 2, 1) := dk_61 (dk_at dksX2_isPeaceful_0 1 rfl rfl)
theorem dX2_isPeaceful_2 : decode cX2_isPeaceful 2 = .ok (.iconst 0, 1) := dk_3 (dk_at dksX2_isPeaceful_0 2 rfl rfl)
theorem dX2_isPeaceful_3 : decode cX2_isPeaceful 3 = .ok (.istore_n 3, 1) := dk_62 (dk_at dksX2_isPeaceful_0 3 rfl rfl)
theorem dX2_isPeaceful_4 : decode cX2_isPeaceful 4 = .ok (.iload_n 3, 1) := dk_29 (dk_at dksX2_isPeaceful_0 4 rfl rfl)
theorem dX2_isPeaceful_5 : decode cX2_isPeaceful 5 = .ok (.aload_n 0, 1) := dk_42 (dk_at dksX2_isPeaceful_0 5 rfl rfl)
theorem dX2_isPeaceful_6 : decode cX2_isPeaceful 6 = .ok (.getfield 27, 3) := dk_180 0 27 (dk_at dksX2_isPeaceful_0 6 rfl rfl)
theorem dX2_isPeaceful_9 : decode cX2_isPeaceful 9 = .ok (.arraylength, 1) := dk_190 (dk_at dksX2_isPeaceful_0 9 rfl rfl)
theorem dX2_isPeaceful_10 : decode cX2_isPeaceful 10 = .ok (.if_icmp .ge 64, 3) := dk_162 0 64 (dk_at dksX2_isPeaceful_0 10 rfl rfl)
theorem dX2_isPeaceful_13 : decode cX2_isPeaceful 13 = .ok (.iload_n 3, 1) := dk_29 (dk_at dksX2_isPeaceful_0 13 rfl rfl)
theorem dX2_isPeaceful_14 : decode cX2_isPeaceful 14 = .ok (.iconst 4, 1) := dk_7 (dk_at dksX2_isPeaceful_0 14 rfl rfl)
theorem dX2_isPeaceful_15 : decode cX2_isPeaceful 15 = .ok (.idiv, 1) := dk_108 (dk_at dksX2_isPeaceful_0 15 rfl rfl)
theorem dX2_isPeaceful_16 : decode cX2_isPeaceful 16 = .ok (.istore 4, 2) := dk_54 4 (dk_at dksX2_isPeaceful_0 16 rfl rfl)
theorem dX2_isPeaceful_18 : decode cX2_isPeaceful 18 = .ok (.iload_n 3, 1) := dk_29 (dk_at dksX2_isPeaceful_0 18 rfl rfl)
theorem dX2_isPeaceful_19 : decode cX2_isPeaceful 19 = .ok (.iconst 4, 1) := dk_7 (dk_at dksX2_isPeaceful_0 19 rfl rfl)
theorem dX2_isPeaceful_20 : decode cX2_isPeaceful 20 = .ok (.irem, 1) := dk_112 (dk_at dksX2_isPeaceful_0 20 rfl rfl)
theorem dX2_isPeaceful_21 : decode cX2_isPeaceful 21 = .ok (.istore 5, 2) := dk_54 5 (dk_at dksX2_isPeaceful_0 21 rfl rfl)
theorem dX2_isPeaceful_23 : decode cX2_isPeaceful 23 = .ok (.iload_n 2, 1) := dk_28 (dk_at dksX2_isPeaceful_0 23 rfl rfl)
theorem dX2_isPeaceful_24 : decode cX2_isPeaceful 24 = .ok (.ifCond .eq 42, 3) := dk_153 0 42 (dk_at dksX2_isPeaceful_1 0 rfl rfl)
theorem dX2_isPeaceful_27 : decode cX2_isPeaceful 27 = .ok (.iload 4, 2) := dk_21 4 (dk_at dksX2_isPeaceful_1 3 rfl rfl)
theorem dX2_isPeaceful_29 : decode cX2_isPeaceful 29 = .ok (.iload 5, 2) := dk_21 5 (dk_at dksX2_isPeaceful_1 5 rfl rfl)
theorem dX2_isPeaceful_31 : decode cX2_isPeaceful 31 = .ok (.if_icmp .eq 31, 3) := dk_159 0 31 (dk_at dksX2_isPeaceful_1 7 rfl rfl)
theorem dX2_isPeaceful_34 : decode cX2_isPeaceful 34 = .ok (.iload_n 1, 1) := dk_27 (dk_at dksX2_isPeaceful_1 10 rfl rfl)
theorem dX2_isPeaceful_35 : decode cX2_isPeaceful 35 = .ok (.iload 4, 2) := dk_21 4 (dk_at dksX2_isPeaceful_1 11 rfl rfl)
theorem dX2_isPeaceful_37 : decode cX2_isPeaceful 37 = .ok (.invokestatic 48, 3) := dk_184 0 48 (dk_at dksX2_isPeaceful_1 13 rfl rfl)
theorem dX2_isPeaceful_40 : decode cX2_isPeaceful 40 = .ok (.ifCond .eq 22, 3) := dk_153 0 22 (dk_at dksX2_isPeaceful_1 16 rfl rfl)
theorem dX2_isPeaceful_43 : decode cX2_isPeaceful 43 = .ok (.iload_n 1, 1) := dk_27 (dk_at dksX2_isPeaceful_1 19 rfl rfl)
theorem dX2_isPeaceful_44 : decode cX2_isPeaceful 44 = .ok (.iload 5, 2) := dk_21 5 (dk_at dksX2_isPeaceful_1 20 rfl rfl)
theorem dX2_isPeaceful_46 : decode cX2_isPeaceful 46 = .ok (.invokestatic 48, 3) := dk_184 0 48 (dk_at dksX2_isPeaceful_2 0 rfl rfl)
theorem dX2_isPeaceful_49 : decode cX2_isPeaceful 49 = .ok (.ifCond .eq 13, 3) := dk_153 0 13 (dk_at dksX2_isPeaceful_2 3 rfl rfl)
theorem dX2_isPeaceful_52 : decode cX2_isPeaceful 52 = .ok (.aload_n 0, 1) := dk_42 (dk_at dksX2_isPeaceful_2 6 rfl rfl)
theorem dX2_isPeaceful_53 : decode cX2_isPeaceful 53 = .ok (.getfield 27, 3) := dk_180 0 27 (dk_at dksX2_isPeaceful_2 7 rfl rfl)
theorem dX2_isPeaceful_56 : decode cX2_isPeaceful 56 = .ok (.iload_n 3, 1) := dk_29 (dk_at dksX2_isPeaceful_2 10 rfl rfl)
theorem dX2_isPeaceful_57 : decode cX2_isPeaceful 57 = .ok (.iaload, 1) := dk_46 (dk_at dksX2_isPeaceful_2 11 rfl rfl)
theorem dX2_isPeaceful_58 : decode cX2_isPeaceful 58 = .ok (.iconst (-1), 1) := dk_2 (dk_at dksX2_isPeaceful_2 12 rfl rfl)
theorem dX2_isPeaceful_59 : decode cX2_isPeaceful 59 = .ok (.if_icmp .ne 7, 3) := dk_160 0 7 (dk_at dksX2_isPeaceful_2 13 rfl rfl)
theorem dX2_isPeaceful_62 : decode cX2_isPeaceful 62 = .ok (.iconst 1, 1) := dk_4 (dk_at dksX2_isPeaceful_2 16 rfl rfl)
theorem dX2_isPeaceful_63 : decode cX2_isPeaceful 63 = .ok (.goto 4, 3) := dk_167 0 4 (dk_at dksX2_isPeaceful_2 17 rfl rfl)
theorem dX2_isPeaceful_66 : decode cX2_isPeaceful 66 = .ok (.iconst 0, 1) := dk_3 (dk_at dksX2_isPeaceful_2 20 rfl rfl)
theorem dX2_isPeaceful_67 : decode cX2_isPeaceful 67 = .ok (.istore_n 2, 1) := dk_61 (dk_at dksX2_isPeaceful_2 21 rfl rfl)
theorem dX2_isPeaceful_68 : decode cX2_isPeaceful 68 = .ok (.iinc 3 1, 3) := dk_132 3 1 (dk_at dksX2_isPeaceful_3 0 rfl rfl)
theorem dX2_isPeaceful_71 : decode cX2_isPeaceful 71 = .ok (.goto (-67), 3) := dk_167 255 189 (dk_at dksX2_isPeaceful_3 3 rfl rfl)
theorem dX2_isPeaceful_74 : decode cX2_isPeaceful 74 = .ok (.iload_n 2, 1) := dk_28 (dk_at dksX2_isPeaceful_3 6 rfl rfl)
theorem dX2_isPeaceful_75 : decode cX2_isPeaceful 75 = .ok (.ireturn, 1) := dk_172 (dk_at dksX2_isPeaceful_3 7 rfl rfl)
abbrev cX2_left : ByteArray := prog_2_method_7_code
def yX2_left : MethodName := ⟨RX2, "left", "()I"⟩
def dkwX2_left_1 : List UInt8 := [182, 0, 62, 96, 100, 60, 132, 2, 1, 167, 255, 230, 27, 172]
abbrev dktX2_left_1 : List UInt8 := dkwX2_left_1 ++ []
def dkwX2_left_0 : List UInt8 := [42, 180, 0, 39, 60, 3, 61, 28, 42, 180, 0, 42, 190, 162, 0, 23, 27, 42, 28, 182, 0, 58, 42, 28]
abbrev dktX2_left_0 : List UInt8 := dkwX2_left_0 ++ dktX2_left_1
theorem dksX2_left_0 : cX2_left.data.toList.drop 0 = dktX2_left_0 := by decide +kernel
theorem dksX2_left_1 : cX2_left.data.toList.drop 24 = dktX2_left_1 := dk_seg dksX2_left_0 24 rfl rfl
theorem dX2_left_0 : decode cX2_left 0 = .ok (.aload_n 0, 1) := dk_42 (dk_at dksX2_left_0 0 rfl rfl)
theorem dX2_left_1 : decode cX2_left 1 = .ok (.getfield 39, 3) := dk_180 0 39 (dk_at dksX2_left_0 1 rfl rfl)
theorem dX2_left_4 : decode cX2_left 4 = .ok (.istore_n 1, 1) := dk_60 (dk_at dksX2_left_0 4 rfl rfl)
theorem dX2_left_5 : decode cX2_left 5 = .ok (.iconst 0, 1) := dk_3 (dk_at dksX2_left_0 5 rfl rfl)
theorem dX2_left_6 : decode cX2_left 6 = .ok (.istore_n 2, 1) := dk_61 (dk_at dksX2_left_0 6 rfl rfl)
theorem dX2_left_7 : decode cX2_left 7 = .ok (.iload_n 2, 1) := dk_28 (dk_at dksX2_left_0 7 rfl rfl)
theorem dX2_left_8 : decode cX2_left 8 = .ok (.aload_n 0, 1) := dk_42 (dk_at dksX2_left_0 8 rfl rfl)
theorem dX2_left_9 : decode cX2_left 9 = .ok (.getfield 42, 3) := dk_180 0 42 (dk_at dksX2_left_0 9 rfl rfl)
theorem dX2_left_12 : decode cX2_left 12 = .ok (.arraylength, 1) := dk_190 (dk_at dksX2_left_0 12 rfl rfl)
theorem dX2_left_13 : decode cX2_left 13 = .ok (.if_icmp .ge 23, 3) := dk_162 0 23 (dk_at dksX2_left_0 13 rfl rfl)
theorem dX2_left_16 : decode cX2_left 16 = .ok (.iload_n 1, 1) := dk_27 (dk_at dksX2_left_0 16 rfl rfl)
theorem dX2_left_17 : decode cX2_left 17 = .ok (.aload_n 0, 1) := dk_42 (dk_at dksX2_left_0 17 rfl rfl)
theorem dX2_left_18 : decode cX2_left 18 = .ok (.iload_n 2, 1) := dk_28 (dk_at dksX2_left_0 18 rfl rfl)
theorem dX2_left_19 : decode cX2_left 19 = .ok (.invokevirtual 58, 3) := dk_182 0 58 (dk_at dksX2_left_0 19 rfl rfl)
theorem dX2_left_22 : decode cX2_left 22 = .ok (.aload_n 0, 1) := dk_42 (dk_at dksX2_left_0 22 rfl rfl)
theorem dX2_left_23 : decode cX2_left 23 = .ok (.iload_n 2, 1) := dk_28 (dk_at dksX2_left_0 23 rfl rfl)
theorem dX2_left_24 : decode cX2_left 24 = .ok (.invokevirtual 62, 3) := dk_182 0 62 (dk_at dksX2_left_1 0 rfl rfl)
theorem dX2_left_27 : decode cX2_left 27 = .ok (.iadd, 1) := dk_96 (dk_at dksX2_left_1 3 rfl rfl)
theorem dX2_left_28 : decode cX2_left 28 = .ok (.isub, 1) := dk_100 (dk_at dksX2_left_1 4 rfl rfl)
theorem dX2_left_29 : decode cX2_left 29 = .ok (.istore_n 1, 1) := dk_60 (dk_at dksX2_left_1 5 rfl rfl)
theorem dX2_left_30 : decode cX2_left 30 = .ok (.iinc 2 1, 3) := dk_132 2 1 (dk_at dksX2_left_1 6 rfl rfl)
theorem dX2_left_33 : decode cX2_left 33 = .ok (.goto (-26), 3) := dk_167 255 230 (dk_at dksX2_left_1 9 rfl rfl)
theorem dX2_left_36 : decode cX2_left 36 = .ok (.iload_n 1, 1) := dk_27 (dk_at dksX2_left_1 12 rfl rfl)
theorem dX2_left_37 : decode cX2_left 37 = .ok (.ireturn, 1) := dk_172 (dk_at dksX2_left_1 13 rfl rfl)
abbrev cX2_leastGreen : ByteArray := prog_2_method_6_code
def yX2_leastGreen : MethodName := ⟨RX2, "leastGreen", "(I)I"⟩
def dkwX2_leastGreen_0 : List UInt8 := [42, 180, 0, 42, 27, 46, 6, 184, 0, 48, 153, 0, 8, 16, 8, 167, 0, 4, 8, 172]
abbrev dktX2_leastGreen_0 : List UInt8 := dkwX2_leastGreen_0 ++ []
theorem dksX2_leastGreen_0 : cX2_leastGreen.data.toList.drop 0 = dktX2_leastGreen_0 := by decide +kernel
theorem dX2_leastGreen_0 : decode cX2_leastGreen 0 = .ok (.aload_n 0, 1) := dk_42 (dk_at dksX2_leastGreen_0 0 rfl rfl)
theorem dX2_leastGreen_1 : decode cX2_leastGreen 1 = .ok (.getfield 42, 3) := dk_180 0 42 (dk_at dksX2_leastGreen_0 1 rfl rfl)
theorem dX2_leastGreen_4 : decode cX2_leastGreen 4 = .ok (.iload_n 1, 1) := dk_27 (dk_at dksX2_leastGreen_0 4 rfl rfl)
theorem dX2_leastGreen_5 : decode cX2_leastGreen 5 = .ok (.iaload, 1) := dk_46 (dk_at dksX2_leastGreen_0 5 rfl rfl)
theorem dX2_leastGreen_6 : decode cX2_leastGreen 6 = .ok (.iconst 3, 1) := dk_6 (dk_at dksX2_leastGreen_0 6 rfl rfl)
theorem dX2_leastGreen_7 : decode cX2_leastGreen 7 = .ok (.invokestatic 48, 3) := dk_184 0 48 (dk_at dksX2_leastGreen_0 7 rfl rfl)
theorem dX2_leastGreen_10 : decode cX2_leastGreen 10 = .ok (.ifCond .eq 8, 3) := dk_153 0 8 (dk_at dksX2_leastGreen_0 10 rfl rfl)
theorem dX2_leastGreen_13 : decode cX2_leastGreen 13 = .ok (.bipush 8, 2) := dk_16 8 (dk_at dksX2_leastGreen_0 13 rfl rfl)
theorem dX2_leastGreen_15 : decode cX2_leastGreen 15 = .ok (.goto 4, 3) := dk_167 0 4 (dk_at dksX2_leastGreen_0 15 rfl rfl)
theorem dX2_leastGreen_18 : decode cX2_leastGreen 18 = .ok (.iconst 5, 1) := dk_8 (dk_at dksX2_leastGreen_0 18 rfl rfl)
theorem dX2_leastGreen_19 : decode cX2_leastGreen 19 = .ok (.ireturn, 1) := dk_172 (dk_at dksX2_leastGreen_0 19 rfl rfl)
abbrev cX2_clearing : ByteArray := prog_2_method_5_code
def yX2_clearing : MethodName := ⟨RX2, "clearing", "(I)I"⟩
def dkwX2_clearing_3 : List UInt8 := [132, 4, 1, 167, 255, 204, 29, 172]
abbrev dktX2_clearing_3 : List UInt8 := dkwX2_clearing_3 ++ []
def dkwX2_clearing_2 : List UInt8 := [21, 4, 7, 112, 184, 0, 48, 153, 0, 15, 29, 42, 180, 0, 27, 21, 4, 46, 184, 0, 52, 62]
abbrev dktX2_clearing_2 : List UInt8 := dkwX2_clearing_2 ++ dktX2_clearing_3
def dkwX2_clearing_1 : List UInt8 := [180, 0, 27, 190, 162, 0, 48, 42, 180, 0, 42, 27, 46, 21, 4, 7, 108, 184, 0, 48, 153, 0, 26, 28]
abbrev dktX2_clearing_1 : List UInt8 := dkwX2_clearing_1 ++ dktX2_clearing_2
def dkwX2_clearing_0 : List UInt8 := [42, 180, 0, 42, 27, 4, 96, 42, 180, 0, 42, 190, 112, 46, 61, 3, 62, 3, 54, 4, 21, 4, 42]
abbrev dktX2_clearing_0 : List UInt8 := dkwX2_clearing_0 ++ dktX2_clearing_1
theorem dksX2_clearing_0 : cX2_clearing.data.toList.drop 0 = dktX2_clearing_0 := by decide +kernel
theorem dksX2_clearing_1 : cX2_clearing.data.toList.drop 23 = dktX2_clearing_1 := dk_seg dksX2_clearing_0 23 rfl rfl
theorem dksX2_clearing_2 : cX2_clearing.data.toList.drop 47 = dktX2_clearing_2 := dk_seg dksX2_clearing_1 24 rfl rfl
theorem dksX2_clearing_3 : cX2_clearing.data.toList.drop 69 = dktX2_clearing_3 := dk_seg dksX2_clearing_2 22 rfl rfl
theorem dX2_clearing_0 : decode cX2_clearing 0 = .ok (.aload_n 0, 1) := dk_42 (dk_at dksX2_clearing_0 0 rfl rfl)
theorem dX2_clearing_1 : decode cX2_clearing 1 = .ok (.getfield 42, 3) := dk_180 0 42 (dk_at dksX2_clearing_0 1 rfl rfl)
theorem dX2_clearing_4 : decode cX2_clearing 4 = .ok (.iload_n 1, 1) := dk_27 (dk_at dksX2_clearing_0 4 rfl rfl)
theorem dX2_clearing_5 : decode cX2_clearing 5 = .ok (.iconst 1, 1) := dk_4 (dk_at dksX2_clearing_0 5 rfl rfl)
theorem dX2_clearing_6 : decode cX2_clearing 6 = .ok (.iadd, 1) := dk_96 (dk_at dksX2_clearing_0 6 rfl rfl)
theorem dX2_clearing_7 : decode cX2_clearing 7 = .ok (.aload_n 0, 1) := dk_42 (dk_at dksX2_clearing_0 7 rfl rfl)
theorem dX2_clearing_8 : decode cX2_clearing 8 = .ok (.getfield 42, 3) := dk_180 0 42 (dk_at dksX2_clearing_0 8 rfl rfl)
theorem dX2_clearing_11 : decode cX2_clearing 11 = .ok (.arraylength, 1) := dk_190 (dk_at dksX2_clearing_0 11 rfl rfl)
theorem dX2_clearing_12 : decode cX2_clearing 12 = .ok (.irem, 1) := dk_112 (dk_at dksX2_clearing_0 12 rfl rfl)
theorem dX2_clearing_13 : decode cX2_clearing 13 = .ok (.iaload, 1) := dk_46 (dk_at dksX2_clearing_0 13 rfl rfl)
theorem dX2_clearing_14 : decode cX2_clearing 14 = .ok (.istore_n 2, 1) := dk_61 (dk_at dksX2_clearing_0 14 rfl rfl)
theorem dX2_clearing_15 : decode cX2_clearing 15 = .ok (.iconst 0, 1) := dk_3 (dk_at dksX2_clearing_0 15 rfl rfl)
theorem dX2_clearing_16 : decode cX2_clearing 16 = .ok (.istore_n 3, 1) := dk_62 (dk_at dksX2_clearing_0 16 rfl rfl)
theorem dX2_clearing_17 : decode cX2_clearing 17 = .ok (.iconst 0, 1) := dk_3 (dk_at dksX2_clearing_0 17 rfl rfl)
theorem dX2_clearing_18 : decode cX2_clearing 18 = .ok (.istore 4, 2) := dk_54 4 (dk_at dksX2_clearing_0 18 rfl rfl)
theorem dX2_clearing_20 : decode cX2_clearing 20 = .ok (.iload 4, 2) := dk_21 4 (dk_at dksX2_clearing_0 20 rfl rfl)
theorem dX2_clearing_22 : decode cX2_clearing 22 = .ok (.aload_n 0, 1) := dk_42 (dk_at dksX2_clearing_0 22 rfl rfl)
theorem dX2_clearing_23 : decode cX2_clearing 23 = .ok (.getfield 27, 3) := dk_180 0 27 (dk_at dksX2_clearing_1 0 rfl rfl)
theorem dX2_clearing_26 : decode cX2_clearing 26 = .ok (.arraylength, 1) := dk_190 (dk_at dksX2_clearing_1 3 rfl rfl)
theorem dX2_clearing_27 : decode cX2_clearing 27 = .ok (.if_icmp .ge 48, 3) := dk_162 0 48 (dk_at dksX2_clearing_1 4 rfl rfl)
theorem dX2_clearing_30 : decode cX2_clearing 30 = .ok (.aload_n 0, 1) := dk_42 (dk_at dksX2_clearing_1 7 rfl rfl)
theorem dX2_clearing_31 : decode cX2_clearing 31 = .ok (.getfield 42, 3) := dk_180 0 42 (dk_at dksX2_clearing_1 8 rfl rfl)
theorem dX2_clearing_34 : decode cX2_clearing 34 = .ok (.iload_n 1, 1) := dk_27 (dk_at dksX2_clearing_1 11 rfl rfl)
theorem dX2_clearing_35 : decode cX2_clearing 35 = .ok (.iaload, 1) := dk_46 (dk_at dksX2_clearing_1 12 rfl rfl)
theorem dX2_clearing_36 : decode cX2_clearing 36 = .ok (.iload 4, 2) := dk_21 4 (dk_at dksX2_clearing_1 13 rfl rfl)
theorem dX2_clearing_38 : decode cX2_clearing 38 = .ok (.iconst 4, 1) := dk_7 (dk_at dksX2_clearing_1 15 rfl rfl)
theorem dX2_clearing_39 : decode cX2_clearing 39 = .ok (.idiv, 1) := dk_108 (dk_at dksX2_clearing_1 16 rfl rfl)
theorem dX2_clearing_40 : decode cX2_clearing 40 = .ok (.invokestatic 48, 3) := dk_184 0 48 (dk_at dksX2_clearing_1 17 rfl rfl)
theorem dX2_clearing_43 : decode cX2_clearing 43 = .ok (.ifCond .eq 26, 3) := dk_153 0 26 (dk_at dksX2_clearing_1 20 rfl rfl)
theorem dX2_clearing_46 : decode cX2_clearing 46 = .ok (.iload_n 2, 1) := dk_28 (dk_at dksX2_clearing_1 23 rfl rfl)
theorem dX2_clearing_47 : decode cX2_clearing 47 = .ok (.iload 4, 2) := dk_21 4 (dk_at dksX2_clearing_2 0 rfl rfl)
theorem dX2_clearing_49 : decode cX2_clearing 49 = .ok (.iconst 4, 1) := dk_7 (dk_at dksX2_clearing_2 2 rfl rfl)
theorem dX2_clearing_50 : decode cX2_clearing 50 = .ok (.irem, 1) := dk_112 (dk_at dksX2_clearing_2 3 rfl rfl)
theorem dX2_clearing_51 : decode cX2_clearing 51 = .ok (.invokestatic 48, 3) := dk_184 0 48 (dk_at dksX2_clearing_2 4 rfl rfl)
theorem dX2_clearing_54 : decode cX2_clearing 54 = .ok (.ifCond .eq 15, 3) := dk_153 0 15 (dk_at dksX2_clearing_2 7 rfl rfl)
theorem dX2_clearing_57 : decode cX2_clearing 57 = .ok (.iload_n 3, 1) := dk_29 (dk_at dksX2_clearing_2 10 rfl rfl)
theorem dX2_clearing_58 : decode cX2_clearing 58 = .ok (.aload_n 0, 1) := dk_42 (dk_at dksX2_clearing_2 11 rfl rfl)
theorem dX2_clearing_59 : decode cX2_clearing 59 = .ok (.getfield 27, 3) := dk_180 0 27 (dk_at dksX2_clearing_2 12 rfl rfl)
theorem dX2_clearing_62 : decode cX2_clearing 62 = .ok (.iload 4, 2) := dk_21 4 (dk_at dksX2_clearing_2 15 rfl rfl)
theorem dX2_clearing_64 : decode cX2_clearing 64 = .ok (.iaload, 1) := dk_46 (dk_at dksX2_clearing_2 17 rfl rfl)
theorem dX2_clearing_65 : decode cX2_clearing 65 = .ok (.invokestatic 52, 3) := dk_184 0 52 (dk_at dksX2_clearing_2 18 rfl rfl)
theorem dX2_clearing_68 : decode cX2_clearing 68 = .ok (.istore_n 3, 1) := dk_62 (dk_at dksX2_clearing_2 21 rfl rfl)
theorem dX2_clearing_69 : decode cX2_clearing 69 = .ok (.iinc 4 1, 3) := dk_132 4 1 (dk_at dksX2_clearing_3 0 rfl rfl)
theorem dX2_clearing_72 : decode cX2_clearing 72 = .ok (.goto (-52), 3) := dk_167 255 204 (dk_at dksX2_clearing_3 3 rfl rfl)
theorem dX2_clearing_75 : decode cX2_clearing 75 = .ok (.iload_n 3, 1) := dk_29 (dk_at dksX2_clearing_3 6 rfl rfl)
theorem dX2_clearing_76 : decode cX2_clearing 76 = .ok (.ireturn, 1) := dk_172 (dk_at dksX2_clearing_3 7 rfl rfl)
abbrev cX2_greens : ByteArray := prog_2_method_9_code
def yX2_greens : MethodName := ⟨RX2, "greens", "()[I"⟩
def dkwX2_greens_5 : List UInt8 := [21, 5, 92, 46, 4, 96, 79, 132, 5, 1, 167, 255, 238, 45, 176]
abbrev dktX2_greens_5 : List UInt8 := dkwX2_greens_5 ++ []
def dkwX2_greens_4 : List UInt8 := [21, 4, 21, 6, 100, 54, 4, 132, 5, 1, 167, 255, 197, 3, 54, 5, 21, 5, 21, 4, 162, 0, 17, 45]
abbrev dktX2_greens_4 : List UInt8 := dkwX2_greens_4 ++ dktX2_greens_5
def dkwX2_greens_3 : List UInt8 := [21, 5, 182, 0, 69, 104, 28, 108, 54, 6, 45, 21, 5, 42, 21, 5, 182, 0, 58, 21, 6, 96, 79]
abbrev dktX2_greens_3 : List UInt8 := dkwX2_greens_3 ++ dktX2_greens_4
def dkwX2_greens_2 : List UInt8 := [42, 180, 0, 42, 190, 162, 0, 55, 28, 154, 0, 13, 27, 42, 180, 0, 42, 190, 108, 167, 0, 13, 27, 42]
abbrev dktX2_greens_2 : List UInt8 := dkwX2_greens_2 ++ dktX2_greens_3
def dkwX2_greens_1 : List UInt8 := [96, 61, 132, 3, 1, 167, 255, 236, 42, 180, 0, 42, 190, 188, 10, 78, 27, 54, 4, 3, 54, 5, 21, 5]
abbrev dktX2_greens_1 : List UInt8 := dkwX2_greens_1 ++ dktX2_greens_2
def dkwX2_greens_0 : List UInt8 := [42, 182, 0, 65, 60, 3, 61, 3, 62, 29, 42, 180, 0, 42, 190, 162, 0, 17, 28, 42, 29, 182, 0, 69]
abbrev dktX2_greens_0 : List UInt8 := dkwX2_greens_0 ++ dktX2_greens_1
theorem dksX2_greens_0 : cX2_greens.data.toList.drop 0 = dktX2_greens_0 := by decide +kernel
theorem dksX2_greens_1 : cX2_greens.data.toList.drop 24 = dktX2_greens_1 := dk_seg dksX2_greens_0 24 rfl rfl
theorem dksX2_greens_2 : cX2_greens.data.toList.drop 48 = dktX2_greens_2 := dk_seg dksX2_greens_1 24 rfl rfl
theorem dksX2_greens_3 : cX2_greens.data.toList.drop 72 = dktX2_greens_3 := dk_seg dksX2_greens_2 24 rfl rfl
theorem dksX2_greens_4 : cX2_greens.data.toList.drop 95 = dktX2_greens_4 := dk_seg dksX2_greens_3 23 rfl rfl
theorem dksX2_greens_5 : cX2_greens.data.toList.drop 119 = dktX2_greens_5 := dk_seg dksX2_greens_4 24 rfl rfl
theorem dX2_greens_0 : decode cX2_greens 0 = .ok (.aload_n 0, 1) := dk_42 (dk_at dksX2_greens_0 0 rfl rfl)
theorem dX2_greens_1 : decode cX2_greens 1 = .ok (.invokevirtual 65, 3) := dk_182 0 65 (dk_at dksX2_greens_0 1 rfl rfl)
theorem dX2_greens_4 : decode cX2_greens 4 = .ok (.istore_n 1, 1) := dk_60 (dk_at dksX2_greens_0 4 rfl rfl)
theorem dX2_greens_5 : decode cX2_greens 5 = .ok (.iconst 0, 1) := dk_3 (dk_at dksX2_greens_0 5 rfl rfl)
theorem dX2_greens_6 : decode cX2_greens 6 = .ok (.istore_n 2, 1) := dk_61 (dk_at dksX2_greens_0 6 rfl rfl)
theorem dX2_greens_7 : decode cX2_greens 7 = .ok (.iconst 0, 1) := dk_3 (dk_at dksX2_greens_0 7 rfl rfl)
theorem dX2_greens_8 : decode cX2_greens 8 = .ok (.istore_n 3, 1) := dk_62 (dk_at dksX2_greens_0 8 rfl rfl)
theorem dX2_greens_9 : decode cX2_greens 9 = .ok (.iload_n 3, 1) := dk_29 (dk_at dksX2_greens_0 9 rfl rfl)
theorem dX2_greens_10 : decode cX2_greens 10 = .ok (.aload_n 0, 1) := dk_42 (dk_at dksX2_greens_0 10 rfl rfl)
theorem dX2_greens_11 : decode cX2_greens 11 = .ok (.getfield 42, 3) := dk_180 0 42 (dk_at dksX2_greens_0 11 rfl rfl)
theorem dX2_greens_14 : decode cX2_greens 14 = .ok (.arraylength, 1) := dk_190 (dk_at dksX2_greens_0 14 rfl rfl)
theorem dX2_greens_15 : decode cX2_greens 15 = .ok (.if_icmp .ge 17, 3) := dk_162 0 17 (dk_at dksX2_greens_0 15 rfl rfl)
theorem dX2_greens_18 : decode cX2_greens 18 = .ok (.iload_n 2, 1) := dk_28 (dk_at dksX2_greens_0 18 rfl rfl)
theorem dX2_greens_19 : decode cX2_greens 19 = .ok (.aload_n 0, 1) := dk_42 (dk_at dksX2_greens_0 19 rfl rfl)
theorem dX2_greens_20 : decode cX2_greens 20 = .ok (.iload_n 3, 1) := dk_29 (dk_at dksX2_greens_0 20 rfl rfl)
theorem dX2_greens_21 : decode cX2_greens 21 = .ok (.invokevirtual 69, 3) := dk_182 0 69 (dk_at dksX2_greens_0 21 rfl rfl)
theorem dX2_greens_24 : decode cX2_greens 24 = .ok (.iadd, 1) := dk_96 (dk_at dksX2_greens_1 0 rfl rfl)
theorem dX2_greens_25 : decode cX2_greens 25 = .ok (.istore_n 2, 1) := dk_61 (dk_at dksX2_greens_1 1 rfl rfl)
theorem dX2_greens_26 : decode cX2_greens 26 = .ok (.iinc 3 1, 3) := dk_132 3 1 (dk_at dksX2_greens_1 2 rfl rfl)
theorem dX2_greens_29 : decode cX2_greens 29 = .ok (.goto (-20), 3) := dk_167 255 236 (dk_at dksX2_greens_1 5 rfl rfl)
theorem dX2_greens_32 : decode cX2_greens 32 = .ok (.aload_n 0, 1) := dk_42 (dk_at dksX2_greens_1 8 rfl rfl)
theorem dX2_greens_33 : decode cX2_greens 33 = .ok (.getfield 42, 3) := dk_180 0 42 (dk_at dksX2_greens_1 9 rfl rfl)
theorem dX2_greens_36 : decode cX2_greens 36 = .ok (.arraylength, 1) := dk_190 (dk_at dksX2_greens_1 12 rfl rfl)
theorem dX2_greens_37 : decode cX2_greens 37 = .ok (.newarray .int, 2) := dk_188_10 (dk_at dksX2_greens_1 13 rfl rfl)
theorem dX2_greens_39 : decode cX2_greens 39 = .ok (.astore_n 3, 1) := dk_78 (dk_at dksX2_greens_1 15 rfl rfl)
theorem dX2_greens_40 : decode cX2_greens 40 = .ok (.iload_n 1, 1) := dk_27 (dk_at dksX2_greens_1 16 rfl rfl)
theorem dX2_greens_41 : decode cX2_greens 41 = .ok (.istore 4, 2) := dk_54 4 (dk_at dksX2_greens_1 17 rfl rfl)
theorem dX2_greens_43 : decode cX2_greens 43 = .ok (.iconst 0, 1) := dk_3 (dk_at dksX2_greens_1 19 rfl rfl)
theorem dX2_greens_44 : decode cX2_greens 44 = .ok (.istore 5, 2) := dk_54 5 (dk_at dksX2_greens_1 20 rfl rfl)
theorem dX2_greens_46 : decode cX2_greens 46 = .ok (.iload 5, 2) := dk_21 5 (dk_at dksX2_greens_1 22 rfl rfl)
theorem dX2_greens_48 : decode cX2_greens 48 = .ok (.aload_n 0, 1) := dk_42 (dk_at dksX2_greens_2 0 rfl rfl)
theorem dX2_greens_49 : decode cX2_greens 49 = .ok (.getfield 42, 3) := dk_180 0 42 (dk_at dksX2_greens_2 1 rfl rfl)
theorem dX2_greens_52 : decode cX2_greens 52 = .ok (.arraylength, 1) := dk_190 (dk_at dksX2_greens_2 4 rfl rfl)
theorem dX2_greens_53 : decode cX2_greens 53 = .ok (.if_icmp .ge 55, 3) := dk_162 0 55 (dk_at dksX2_greens_2 5 rfl rfl)
theorem dX2_greens_56 : decode cX2_greens 56 = .ok (.iload_n 2, 1) := dk_28 (dk_at dksX2_greens_2 8 rfl rfl)
theorem dX2_greens_57 : decode cX2_greens 57 = .ok (.ifCond .ne 13, 3) := dk_154 0 13 (dk_at dksX2_greens_2 9 rfl rfl)
theorem dX2_greens_60 : decode cX2_greens 60 = .ok (.iload_n 1, 1) := dk_27 (dk_at dksX2_greens_2 12 rfl rfl)
theorem dX2_greens_61 : decode cX2_greens 61 = .ok (.aload_n 0, 1) := dk_42 (dk_at dksX2_greens_2 13 rfl rfl)
theorem dX2_greens_62 : decode cX2_greens 62 = .ok (.getfield 42, 3) := dk_180 0 42 (dk_at dksX2_greens_2 14 rfl rfl)
theorem dX2_greens_65 : decode cX2_greens 65 = .ok (.arraylength, 1) := dk_190 (dk_at dksX2_greens_2 17 rfl rfl)
theorem dX2_greens_66 : decode cX2_greens 66 = .ok (.idiv, 1) := dk_108 (dk_at dksX2_greens_2 18 rfl rfl)
theorem dX2_greens_67 : decode cX2_greens 67 = .ok (.goto 13, 3) := dk_167 0 13 (dk_at dksX2_greens_2 19 rfl rfl)
theorem dX2_greens_70 : decode cX2_greens 70 = .ok (.iload_n 1, 1) := dk_27 (dk_at dksX2_greens_2 22 rfl rfl)
theorem dX2_greens_71 : decode cX2_greens 71 = .ok (.aload_n 0, 1) := dk_42 (dk_at dksX2_greens_2 23 rfl rfl)
theorem dX2_greens_72 : decode cX2_greens 72 = .ok (.iload 5, 2) := dk_21 5 (dk_at dksX2_greens_3 0 rfl rfl)
theorem dX2_greens_74 : decode cX2_greens 74 = .ok (.invokevirtual 69, 3) := dk_182 0 69 (dk_at dksX2_greens_3 2 rfl rfl)
theorem dX2_greens_77 : decode cX2_greens 77 = .ok (.imul, 1) := dk_104 (dk_at dksX2_greens_3 5 rfl rfl)
theorem dX2_greens_78 : decode cX2_greens 78 = .ok (.iload_n 2, 1) := dk_28 (dk_at dksX2_greens_3 6 rfl rfl)
theorem dX2_greens_79 : decode cX2_greens 79 = .ok (.idiv, 1) := dk_108 (dk_at dksX2_greens_3 7 rfl rfl)
theorem dX2_greens_80 : decode cX2_greens 80 = .ok (.istore 6, 2) := dk_54 6 (dk_at dksX2_greens_3 8 rfl rfl)
theorem dX2_greens_82 : decode cX2_greens 82 = .ok (.aload_n 3, 1) := dk_45 (dk_at dksX2_greens_3 10 rfl rfl)
theorem dX2_greens_83 : decode cX2_greens 83 = .ok (.iload 5, 2) := dk_21 5 (dk_at dksX2_greens_3 11 rfl rfl)
theorem dX2_greens_85 : decode cX2_greens 85 = .ok (.aload_n 0, 1) := dk_42 (dk_at dksX2_greens_3 13 rfl rfl)
theorem dX2_greens_86 : decode cX2_greens 86 = .ok (.iload 5, 2) := dk_21 5 (dk_at dksX2_greens_3 14 rfl rfl)
theorem dX2_greens_88 : decode cX2_greens 88 = .ok (.invokevirtual 58, 3) := dk_182 0 58 (dk_at dksX2_greens_3 16 rfl rfl)
theorem dX2_greens_91 : decode cX2_greens 91 = .ok (.iload 6, 2) := dk_21 6 (dk_at dksX2_greens_3 19 rfl rfl)
theorem dX2_greens_93 : decode cX2_greens 93 = .ok (.iadd, 1) := dk_96 (dk_at dksX2_greens_3 21 rfl rfl)
theorem dX2_greens_94 : decode cX2_greens 94 = .ok (.iastore, 1) := dk_79 (dk_at dksX2_greens_3 22 rfl rfl)
theorem dX2_greens_95 : decode cX2_greens 95 = .ok (.iload 4, 2) := dk_21 4 (dk_at dksX2_greens_4 0 rfl rfl)
theorem dX2_greens_97 : decode cX2_greens 97 = .ok (.iload 6, 2) := dk_21 6 (dk_at dksX2_greens_4 2 rfl rfl)
theorem dX2_greens_99 : decode cX2_greens 99 = .ok (.isub, 1) := dk_100 (dk_at dksX2_greens_4 4 rfl rfl)
theorem dX2_greens_100 : decode cX2_greens 100 = .ok (.istore 4, 2) := dk_54 4 (dk_at dksX2_greens_4 5 rfl rfl)
theorem dX2_greens_102 : decode cX2_greens 102 = .ok (.iinc 5 1, 3) := dk_132 5 1 (dk_at dksX2_greens_4 7 rfl rfl)
theorem dX2_greens_105 : decode cX2_greens 105 = .ok (.goto (-59), 3) := dk_167 255 197 (dk_at dksX2_greens_4 10 rfl rfl)
theorem dX2_greens_108 : decode cX2_greens 108 = .ok (.iconst 0, 1) := dk_3 (dk_at dksX2_greens_4 13 rfl rfl)
theorem dX2_greens_109 : decode cX2_greens 109 = .ok (.istore 5, 2) := dk_54 5 (dk_at dksX2_greens_4 14 rfl rfl)
theorem dX2_greens_111 : decode cX2_greens 111 = .ok (.iload 5, 2) := dk_21 5 (dk_at dksX2_greens_4 16 rfl rfl)
theorem dX2_greens_113 : decode cX2_greens 113 = .ok (.iload 4, 2) := dk_21 4 (dk_at dksX2_greens_4 18 rfl rfl)
theorem dX2_greens_115 : decode cX2_greens 115 = .ok (.if_icmp .ge 17, 3) := dk_162 0 17 (dk_at dksX2_greens_4 20 rfl rfl)
theorem dX2_greens_118 : decode cX2_greens 118 = .ok (.aload_n 3, 1) := dk_45 (dk_at dksX2_greens_4 23 rfl rfl)
theorem dX2_greens_119 : decode cX2_greens 119 = .ok (.iload 5, 2) := dk_21 5 (dk_at dksX2_greens_5 0 rfl rfl)
theorem dX2_greens_121 : decode cX2_greens 121 = .ok (.dup2, 1) := dk_92 (dk_at dksX2_greens_5 2 rfl rfl)
theorem dX2_greens_122 : decode cX2_greens 122 = .ok (.iaload, 1) := dk_46 (dk_at dksX2_greens_5 3 rfl rfl)
theorem dX2_greens_123 : decode cX2_greens 123 = .ok (.iconst 1, 1) := dk_4 (dk_at dksX2_greens_5 4 rfl rfl)
theorem dX2_greens_124 : decode cX2_greens 124 = .ok (.iadd, 1) := dk_96 (dk_at dksX2_greens_5 5 rfl rfl)
theorem dX2_greens_125 : decode cX2_greens 125 = .ok (.iastore, 1) := dk_79 (dk_at dksX2_greens_5 6 rfl rfl)
theorem dX2_greens_126 : decode cX2_greens 126 = .ok (.iinc 5 1, 3) := dk_132 5 1 (dk_at dksX2_greens_5 7 rfl rfl)
theorem dX2_greens_129 : decode cX2_greens 129 = .ok (.goto (-18), 3) := dk_167 255 238 (dk_at dksX2_greens_5 10 rfl rfl)
theorem dX2_greens_132 : decode cX2_greens 132 = .ok (.aload_n 3, 1) := dk_45 (dk_at dksX2_greens_5 13 rfl rfl)
theorem dX2_greens_133 : decode cX2_greens 133 = .ok (.areturn, 1) := dk_176 (dk_at dksX2_greens_5 14 rfl rfl)
abbrev cX2_weight : ByteArray := prog_2_method_8_code
def yX2_weight : MethodName := ⟨RX2, "weight", "(I)I"⟩
def dkwX2_weight_1 : List UInt8 := [180, 0, 30, 29, 46, 184, 0, 52, 167, 0, 4, 28, 61, 132, 3, 1, 167, 255, 220, 28, 172]
abbrev dktX2_weight_1 : List UInt8 := dkwX2_weight_1 ++ []
def dkwX2_weight_0 : List UInt8 := [3, 61, 3, 62, 29, 7, 162, 0, 37, 42, 180, 0, 42, 27, 46, 29, 184, 0, 48, 153, 0, 16, 28, 42]
abbrev dktX2_weight_0 : List UInt8 := dkwX2_weight_0 ++ dktX2_weight_1
theorem dksX2_weight_0 : cX2_weight.data.toList.drop 0 = dktX2_weight_0 := by decide +kernel
theorem dksX2_weight_1 : cX2_weight.data.toList.drop 24 = dktX2_weight_1 := dk_seg dksX2_weight_0 24 rfl rfl
theorem dX2_weight_0 : decode cX2_weight 0 = .ok (.iconst 0, 1) := dk_3 (dk_at dksX2_weight_0 0 rfl rfl)
theorem dX2_weight_1 : decode cX2_weight 1 = .ok (.istore_n 2, 1) := dk_61 (dk_at dksX2_weight_0 1 rfl rfl)
theorem dX2_weight_2 : decode cX2_weight 2 = .ok (.iconst 0, 1) := dk_3 (dk_at dksX2_weight_0 2 rfl rfl)
theorem dX2_weight_3 : decode cX2_weight 3 = .ok (.istore_n 3, 1) := dk_62 (dk_at dksX2_weight_0 3 rfl rfl)
theorem dX2_weight_4 : decode cX2_weight 4 = .ok (.iload_n 3, 1) := dk_29 (dk_at dksX2_weight_0 4 rfl rfl)
theorem dX2_weight_5 : decode cX2_weight 5 = .ok (.iconst 4, 1) := dk_7 (dk_at dksX2_weight_0 5 rfl rfl)
theorem dX2_weight_6 : decode cX2_weight 6 = .ok (.if_icmp .ge 37, 3) := dk_162 0 37 (dk_at dksX2_weight_0 6 rfl rfl)
theorem dX2_weight_9 : decode cX2_weight 9 = .ok (.aload_n 0, 1) := dk_42 (dk_at dksX2_weight_0 9 rfl rfl)
theorem dX2_weight_10 : decode cX2_weight 10 = .ok (.getfield 42, 3) := dk_180 0 42 (dk_at dksX2_weight_0 10 rfl rfl)
theorem dX2_weight_13 : decode cX2_weight 13 = .ok (.iload_n 1, 1) := dk_27 (dk_at dksX2_weight_0 13 rfl rfl)
theorem dX2_weight_14 : decode cX2_weight 14 = .ok (.iaload, 1) := dk_46 (dk_at dksX2_weight_0 14 rfl rfl)
theorem dX2_weight_15 : decode cX2_weight 15 = .ok (.iload_n 3, 1) := dk_29 (dk_at dksX2_weight_0 15 rfl rfl)
theorem dX2_weight_16 : decode cX2_weight 16 = .ok (.invokestatic 48, 3) := dk_184 0 48 (dk_at dksX2_weight_0 16 rfl rfl)
theorem dX2_weight_19 : decode cX2_weight 19 = .ok (.ifCond .eq 16, 3) := dk_153 0 16 (dk_at dksX2_weight_0 19 rfl rfl)
theorem dX2_weight_22 : decode cX2_weight 22 = .ok (.iload_n 2, 1) := dk_28 (dk_at dksX2_weight_0 22 rfl rfl)
theorem dX2_weight_23 : decode cX2_weight 23 = .ok (.aload_n 0, 1) := dk_42 (dk_at dksX2_weight_0 23 rfl rfl)
theorem dX2_weight_24 : decode cX2_weight 24 = .ok (.getfield 30, 3) := dk_180 0 30 (dk_at dksX2_weight_1 0 rfl rfl)
theorem dX2_weight_27 : decode cX2_weight 27 = .ok (.iload_n 3, 1) := dk_29 (dk_at dksX2_weight_1 3 rfl rfl)
theorem dX2_weight_28 : decode cX2_weight 28 = .ok (.iaload, 1) := dk_46 (dk_at dksX2_weight_1 4 rfl rfl)
theorem dX2_weight_29 : decode cX2_weight 29 = .ok (.invokestatic 52, 3) := dk_184 0 52 (dk_at dksX2_weight_1 5 rfl rfl)
theorem dX2_weight_32 : decode cX2_weight 32 = .ok (.goto 4, 3) := dk_167 0 4 (dk_at dksX2_weight_1 8 rfl rfl)
theorem dX2_weight_35 : decode cX2_weight 35 = .ok (.iload_n 2, 1) := dk_28 (dk_at dksX2_weight_1 11 rfl rfl)
theorem dX2_weight_36 : decode cX2_weight 36 = .ok (.istore_n 2, 1) := dk_61 (dk_at dksX2_weight_1 12 rfl rfl)
theorem dX2_weight_37 : decode cX2_weight 37 = .ok (.iinc 3 1, 3) := dk_132 3 1 (dk_at dksX2_weight_1 13 rfl rfl)
theorem dX2_weight_40 : decode cX2_weight 40 = .ok (.goto (-36), 3) := dk_167 255 220 (dk_at dksX2_weight_1 16 rfl rfl)
theorem dX2_weight_43 : decode cX2_weight 43 = .ok (.iload_n 2, 1) := dk_28 (dk_at dksX2_weight_1 19 rfl rfl)
theorem dX2_weight_44 : decode cX2_weight 44 = .ok (.ireturn, 1) := dk_172 (dk_at dksX2_weight_1 20 rfl rfl)
abbrev cX2_phaseAt : ByteArray := prog_2_method_11_code
def yX2_phaseAt : MethodName := ⟨RX2, "phaseAt", "(I[I)I"⟩
def dkwX2_phaseAt_2 : List UInt8 := [132, 4, 1, 167, 255, 211, 2, 172]
abbrev dktX2_phaseAt_2 : List UInt8 := dkwX2_phaseAt_2 ++ []
def dkwX2_phaseAt_1 : List UInt8 := [21, 4, 46, 96, 162, 0, 6, 21, 4, 172, 29, 44, 21, 4, 46, 42, 21, 4, 182, 0, 62, 96, 96, 62]
abbrev dktX2_phaseAt_1 : List UInt8 := dkwX2_phaseAt_1 ++ dktX2_phaseAt_2
def dkwX2_phaseAt_0 : List UInt8 := [3, 62, 3, 54, 4, 21, 4, 42, 180, 0, 42, 190, 162, 0, 41, 27, 29, 161, 0, 16, 27, 29, 44]
abbrev dktX2_phaseAt_0 : List UInt8 := dkwX2_phaseAt_0 ++ dktX2_phaseAt_1
theorem dksX2_phaseAt_0 : cX2_phaseAt.data.toList.drop 0 = dktX2_phaseAt_0 := by decide +kernel
theorem dksX2_phaseAt_1 : cX2_phaseAt.data.toList.drop 23 = dktX2_phaseAt_1 := dk_seg dksX2_phaseAt_0 23 rfl rfl
theorem dksX2_phaseAt_2 : cX2_phaseAt.data.toList.drop 47 = dktX2_phaseAt_2 := dk_seg dksX2_phaseAt_1 24 rfl rfl
theorem dX2_phaseAt_0 : decode cX2_phaseAt 0 = .ok (.iconst 0, 1) := dk_3 (dk_at dksX2_phaseAt_0 0 rfl rfl)
theorem dX2_phaseAt_1 : decode cX2_phaseAt 1 = .ok (.istore_n 3, 1) := dk_62 (dk_at dksX2_phaseAt_0 1 rfl rfl)
theorem dX2_phaseAt_2 : decode cX2_phaseAt 2 = .ok (.iconst 0, 1) := dk_3 (dk_at dksX2_phaseAt_0 2 rfl rfl)
theorem dX2_phaseAt_3 : decode cX2_phaseAt 3 = .ok (.istore 4, 2) := dk_54 4 (dk_at dksX2_phaseAt_0 3 rfl rfl)
theorem dX2_phaseAt_5 : decode cX2_phaseAt 5 = .ok (.iload 4, 2) := dk_21 4 (dk_at dksX2_phaseAt_0 5 rfl rfl)
theorem dX2_phaseAt_7 : decode cX2_phaseAt 7 = .ok (.aload_n 0, 1) := dk_42 (dk_at dksX2_phaseAt_0 7 rfl rfl)
theorem dX2_phaseAt_8 : decode cX2_phaseAt 8 = .ok (.getfield 42, 3) := dk_180 0 42 (dk_at dksX2_phaseAt_0 8 rfl rfl)
theorem dX2_phaseAt_11 : decode cX2_phaseAt 11 = .ok (.arraylength, 1) := dk_190 (dk_at dksX2_phaseAt_0 11 rfl rfl)
theorem dX2_phaseAt_12 : decode cX2_phaseAt 12 = .ok (.if_icmp .ge 41, 3) := dk_162 0 41 (dk_at dksX2_phaseAt_0 12 rfl rfl)
theorem dX2_phaseAt_15 : decode cX2_phaseAt 15 = .ok (.iload_n 1, 1) := dk_27 (dk_at dksX2_phaseAt_0 15 rfl rfl)
theorem dX2_phaseAt_16 : decode cX2_phaseAt 16 = .ok (.iload_n 3, 1) := dk_29 (dk_at dksX2_phaseAt_0 16 rfl rfl)
theorem dX2_phaseAt_17 : decode cX2_phaseAt 17 = .ok (.if_icmp .lt 16, 3) := dk_161 0 16 (dk_at dksX2_phaseAt_0 17 rfl rfl)
theorem dX2_phaseAt_20 : decode cX2_phaseAt 20 = .ok (.iload_n 1, 1) := dk_27 (dk_at dksX2_phaseAt_0 20 rfl rfl)
theorem dX2_phaseAt_21 : decode cX2_phaseAt 21 = .ok (.iload_n 3, 1) := dk_29 (dk_at dksX2_phaseAt_0 21 rfl rfl)
theorem dX2_phaseAt_22 : decode cX2_phaseAt 22 = .ok (.aload_n 2, 1) := dk_44 (dk_at dksX2_phaseAt_0 22 rfl rfl)
theorem dX2_phaseAt_23 : decode cX2_phaseAt 23 = .ok (.iload 4, 2) := dk_21 4 (dk_at dksX2_phaseAt_1 0 rfl rfl)
theorem dX2_phaseAt_25 : decode cX2_phaseAt 25 = .ok (.iaload, 1) := dk_46 (dk_at dksX2_phaseAt_1 2 rfl rfl)
theorem dX2_phaseAt_26 : decode cX2_phaseAt 26 = .ok (.iadd, 1) := dk_96 (dk_at dksX2_phaseAt_1 3 rfl rfl)
theorem dX2_phaseAt_27 : decode cX2_phaseAt 27 = .ok (.if_icmp .ge 6, 3) := dk_162 0 6 (dk_at dksX2_phaseAt_1 4 rfl rfl)
theorem dX2_phaseAt_30 : decode cX2_phaseAt 30 = .ok (.iload 4, 2) := dk_21 4 (dk_at dksX2_phaseAt_1 7 rfl rfl)
theorem dX2_phaseAt_32 : decode cX2_phaseAt 32 = .ok (.ireturn, 1) := dk_172 (dk_at dksX2_phaseAt_1 9 rfl rfl)
theorem dX2_phaseAt_33 : decode cX2_phaseAt 33 = .ok (.iload_n 3, 1) := dk_29 (dk_at dksX2_phaseAt_1 10 rfl rfl)
theorem dX2_phaseAt_34 : decode cX2_phaseAt 34 = .ok (.aload_n 2, 1) := dk_44 (dk_at dksX2_phaseAt_1 11 rfl rfl)
theorem dX2_phaseAt_35 : decode cX2_phaseAt 35 = .ok (.iload 4, 2) := dk_21 4 (dk_at dksX2_phaseAt_1 12 rfl rfl)
theorem dX2_phaseAt_37 : decode cX2_phaseAt 37 = .ok (.iaload, 1) := dk_46 (dk_at dksX2_phaseAt_1 14 rfl rfl)
theorem dX2_phaseAt_38 : decode cX2_phaseAt 38 = .ok (.aload_n 0, 1) := dk_42 (dk_at dksX2_phaseAt_1 15 rfl rfl)
theorem dX2_phaseAt_39 : decode cX2_phaseAt 39 = .ok (.iload 4, 2) := dk_21 4 (dk_at dksX2_phaseAt_1 16 rfl rfl)
theorem dX2_phaseAt_41 : decode cX2_phaseAt 41 = .ok (.invokevirtual 62, 3) := dk_182 0 62 (dk_at dksX2_phaseAt_1 18 rfl rfl)
theorem dX2_phaseAt_44 : decode cX2_phaseAt 44 = .ok (.iadd, 1) := dk_96 (dk_at dksX2_phaseAt_1 21 rfl rfl)
theorem dX2_phaseAt_45 : decode cX2_phaseAt 45 = .ok (.iadd, 1) := dk_96 (dk_at dksX2_phaseAt_1 22 rfl rfl)
theorem dX2_phaseAt_46 : decode cX2_phaseAt 46 = .ok (.istore_n 3, 1) := dk_62 (dk_at dksX2_phaseAt_1 23 rfl rfl)
theorem dX2_phaseAt_47 : decode cX2_phaseAt 47 = .ok (.iinc 4 1, 3) := dk_132 4 1 (dk_at dksX2_phaseAt_2 0 rfl rfl)
theorem dX2_phaseAt_50 : decode cX2_phaseAt 50 = .ok (.goto (-45), 3) := dk_167 255 211 (dk_at dksX2_phaseAt_2 3 rfl rfl)
theorem dX2_phaseAt_53 : decode cX2_phaseAt 53 = .ok (.iconst (-1), 1) := dk_2 (dk_at dksX2_phaseAt_2 6 rfl rfl)
theorem dX2_phaseAt_54 : decode cX2_phaseAt 54 = .ok (.ireturn, 1) := dk_172 (dk_at dksX2_phaseAt_2 7 rfl rfl)
abbrev cX2_placeIn : ByteArray := prog_2_method_10_code
def yX2_placeIn : MethodName := ⟨RX2, "placeIn", "(I)I"⟩
def dkwX2_placeIn_0 : List UInt8 := [27, 42, 180, 0, 72, 100, 42, 180, 0, 39, 184, 0, 75, 172]
abbrev dktX2_placeIn_0 : List UInt8 := dkwX2_placeIn_0 ++ []
theorem dksX2_placeIn_0 : cX2_placeIn.data.toList.drop 0 = dktX2_placeIn_0 := by decide +kernel
theorem dX2_placeIn_0 : decode cX2_placeIn 0 = .ok (.iload_n 1, 1) := dk_27 (dk_at dksX2_placeIn_0 0 rfl rfl)
theorem dX2_placeIn_1 : decode cX2_placeIn 1 = .ok (.aload_n 0, 1) := dk_42 (dk_at dksX2_placeIn_0 1 rfl rfl)
theorem dX2_placeIn_2 : decode cX2_placeIn 2 = .ok (.getfield 72, 3) := dk_180 0 72 (dk_at dksX2_placeIn_0 2 rfl rfl)
theorem dX2_placeIn_5 : decode cX2_placeIn 5 = .ok (.isub, 1) := dk_100 (dk_at dksX2_placeIn_0 5 rfl rfl)
theorem dX2_placeIn_6 : decode cX2_placeIn 6 = .ok (.aload_n 0, 1) := dk_42 (dk_at dksX2_placeIn_0 6 rfl rfl)
theorem dX2_placeIn_7 : decode cX2_placeIn 7 = .ok (.getfield 39, 3) := dk_180 0 39 (dk_at dksX2_placeIn_0 7 rfl rfl)
theorem dX2_placeIn_10 : decode cX2_placeIn 10 = .ok (.invokestatic 75, 3) := dk_184 0 75 (dk_at dksX2_placeIn_0 10 rfl rfl)
theorem dX2_placeIn_13 : decode cX2_placeIn 13 = .ok (.ireturn, 1) := dk_172 (dk_at dksX2_placeIn_0 13 rfl rfl)
abbrev cX2_runsGreen : ByteArray := prog_2_method_15_code
def yX2_runsGreen : MethodName := ⟨RX2, "runsGreen", "(II[I)Z"⟩
def dkwX2_runsGreen_2 : List UInt8 := [153, 0, 7, 4, 167, 0, 4, 3, 172]
abbrev dktX2_runsGreen_2 : List UInt8 := dkwX2_runsGreen_2 ++ []
def dkwX2_runsGreen_1 : List UInt8 := [182, 0, 92, 54, 4, 21, 4, 2, 159, 0, 21, 42, 180, 0, 42, 21, 4, 46, 27, 184, 0, 48]
abbrev dktX2_runsGreen_1 : List UInt8 := dkwX2_runsGreen_1 ++ dktX2_runsGreen_2
def dkwX2_runsGreen_0 : List UInt8 := [42, 42, 28, 182, 0, 81, 42, 28, 182, 0, 84, 153, 0, 10, 42, 180, 0, 33, 167, 0, 4, 45]
abbrev dktX2_runsGreen_0 : List UInt8 := dkwX2_runsGreen_0 ++ dktX2_runsGreen_1
theorem dksX2_runsGreen_0 : cX2_runsGreen.data.toList.drop 0 = dktX2_runsGreen_0 := by decide +kernel
theorem dksX2_runsGreen_1 : cX2_runsGreen.data.toList.drop 22 = dktX2_runsGreen_1 := dk_seg dksX2_runsGreen_0 22 rfl rfl
theorem dksX2_runsGreen_2 : cX2_runsGreen.data.toList.drop 44 = dktX2_runsGreen_2 := dk_seg dksX2_runsGreen_1 22 rfl rfl
theorem dX2_runsGreen_0 : decode cX2_runsGreen 0 = .ok (.aload_n 0, 1) := dk_42 (dk_at dksX2_runsGreen_0 0 rfl rfl)
theorem dX2_runsGreen_1 : decode cX2_runsGreen 1 = .ok (.aload_n 0, 1) := dk_42 (dk_at dksX2_runsGreen_0 1 rfl rfl)
theorem dX2_runsGreen_2 : decode cX2_runsGreen 2 = .ok (.iload_n 2, 1) := dk_28 (dk_at dksX2_runsGreen_0 2 rfl rfl)
theorem dX2_runsGreen_3 : decode cX2_runsGreen 3 = .ok (.invokevirtual 81, 3) := dk_182 0 81 (dk_at dksX2_runsGreen_0 3 rfl rfl)
theorem dX2_runsGreen_6 : decode cX2_runsGreen 6 = .ok (.aload_n 0, 1) := dk_42 (dk_at dksX2_runsGreen_0 6 rfl rfl)
theorem dX2_runsGreen_7 : decode cX2_runsGreen 7 = .ok (.iload_n 2, 1) := dk_28 (dk_at dksX2_runsGreen_0 7 rfl rfl)
theorem dX2_runsGreen_8 : decode cX2_runsGreen 8 = .ok (.invokevirtual 84, 3) := dk_182 0 84 (dk_at dksX2_runsGreen_0 8 rfl rfl)
theorem dX2_runsGreen_11 : decode cX2_runsGreen 11 = .ok (.ifCond .eq 10, 3) := dk_153 0 10 (dk_at dksX2_runsGreen_0 11 rfl rfl)
theorem dX2_runsGreen_14 : decode cX2_runsGreen 14 = .ok (.aload_n 0, 1) := dk_42 (dk_at dksX2_runsGreen_0 14 rfl rfl)
theorem dX2_runsGreen_15 : decode cX2_runsGreen 15 = .ok (.getfield 33, 3) := dk_180 0 33 (dk_at dksX2_runsGreen_0 15 rfl rfl)
theorem dX2_runsGreen_18 : decode cX2_runsGreen 18 = .ok (.goto 4, 3) := dk_167 0 4 (dk_at dksX2_runsGreen_0 18 rfl rfl)
theorem dX2_runsGreen_21 : decode cX2_runsGreen 21 = .ok (.aload_n 3, 1) := dk_45 (dk_at dksX2_runsGreen_0 21 rfl rfl)
theorem dX2_runsGreen_22 : decode cX2_runsGreen 22 = .ok (.invokevirtual 92, 3) := dk_182 0 92 (dk_at dksX2_runsGreen_1 0 rfl rfl)
theorem dX2_runsGreen_25 : decode cX2_runsGreen 25 = .ok (.istore 4, 2) := dk_54 4 (dk_at dksX2_runsGreen_1 3 rfl rfl)
theorem dX2_runsGreen_27 : decode cX2_runsGreen 27 = .ok (.iload 4, 2) := dk_21 4 (dk_at dksX2_runsGreen_1 5 rfl rfl)
theorem dX2_runsGreen_29 : decode cX2_runsGreen 29 = .ok (.iconst (-1), 1) := dk_2 (dk_at dksX2_runsGreen_1 7 rfl rfl)
theorem dX2_runsGreen_30 : decode cX2_runsGreen 30 = .ok (.if_icmp .eq 21, 3) := dk_159 0 21 (dk_at dksX2_runsGreen_1 8 rfl rfl)
theorem dX2_runsGreen_33 : decode cX2_runsGreen 33 = .ok (.aload_n 0, 1) := dk_42 (dk_at dksX2_runsGreen_1 11 rfl rfl)
theorem dX2_runsGreen_34 : decode cX2_runsGreen 34 = .ok (.getfield 42, 3) := dk_180 0 42 (dk_at dksX2_runsGreen_1 12 rfl rfl)
theorem dX2_runsGreen_37 : decode cX2_runsGreen 37 = .ok (.iload 4, 2) := dk_21 4 (dk_at dksX2_runsGreen_1 15 rfl rfl)
theorem dX2_runsGreen_39 : decode cX2_runsGreen 39 = .ok (.iaload, 1) := dk_46 (dk_at dksX2_runsGreen_1 17 rfl rfl)
theorem dX2_runsGreen_40 : decode cX2_runsGreen 40 = .ok (.iload_n 1, 1) := dk_27 (dk_at dksX2_runsGreen_1 18 rfl rfl)
theorem dX2_runsGreen_41 : decode cX2_runsGreen 41 = .ok (.invokestatic 48, 3) := dk_184 0 48 (dk_at dksX2_runsGreen_1 19 rfl rfl)
theorem dX2_runsGreen_44 : decode cX2_runsGreen 44 = .ok (.ifCond .eq 7, 3) := dk_153 0 7 (dk_at dksX2_runsGreen_2 0 rfl rfl)
theorem dX2_runsGreen_47 : decode cX2_runsGreen 47 = .ok (.iconst 1, 1) := dk_4 (dk_at dksX2_runsGreen_2 3 rfl rfl)
theorem dX2_runsGreen_48 : decode cX2_runsGreen 48 = .ok (.goto 4, 3) := dk_167 0 4 (dk_at dksX2_runsGreen_2 4 rfl rfl)
theorem dX2_runsGreen_51 : decode cX2_runsGreen 51 = .ok (.iconst 0, 1) := dk_3 (dk_at dksX2_runsGreen_2 7 rfl rfl)
theorem dX2_runsGreen_52 : decode cX2_runsGreen 52 = .ok (.ireturn, 1) := dk_172 (dk_at dksX2_runsGreen_2 8 rfl rfl)
abbrev cX2_isChanged : ByteArray := prog_2_method_13_code
def yX2_isChanged : MethodName := ⟨RX2, "isChanged", "(I)Z"⟩
def dkwX2_isChanged_1 : List UInt8 := [167, 0, 4, 3, 172]
abbrev dktX2_isChanged_1 : List UInt8 := dkwX2_isChanged_1 ++ []
def dkwX2_isChanged_0 : List UInt8 := [42, 180, 0, 33, 190, 158, 0, 21, 42, 180, 0, 78, 27, 42, 27, 182, 0, 81, 100, 160, 0, 7, 4]
abbrev dktX2_isChanged_0 : List UInt8 := dkwX2_isChanged_0 ++ dktX2_isChanged_1
theorem dksX2_isChanged_0 : cX2_isChanged.data.toList.drop 0 = dktX2_isChanged_0 := by decide +kernel
theorem dksX2_isChanged_1 : cX2_isChanged.data.toList.drop 23 = dktX2_isChanged_1 := dk_seg dksX2_isChanged_0 23 rfl rfl
theorem dX2_isChanged_0 : decode cX2_isChanged 0 = .ok (.aload_n 0, 1) := dk_42 (dk_at dksX2_isChanged_0 0 rfl rfl)
theorem dX2_isChanged_1 : decode cX2_isChanged 1 = .ok (.getfield 33, 3) := dk_180 0 33 (dk_at dksX2_isChanged_0 1 rfl rfl)
theorem dX2_isChanged_4 : decode cX2_isChanged 4 = .ok (.arraylength, 1) := dk_190 (dk_at dksX2_isChanged_0 4 rfl rfl)
theorem dX2_isChanged_5 : decode cX2_isChanged 5 = .ok (.ifCond .le 21, 3) := dk_158 0 21 (dk_at dksX2_isChanged_0 5 rfl rfl)
theorem dX2_isChanged_8 : decode cX2_isChanged 8 = .ok (.aload_n 0, 1) := dk_42 (dk_at dksX2_isChanged_0 8 rfl rfl)
theorem dX2_isChanged_9 : decode cX2_isChanged 9 = .ok (.getfield 78, 3) := dk_180 0 78 (dk_at dksX2_isChanged_0 9 rfl rfl)
theorem dX2_isChanged_12 : decode cX2_isChanged 12 = .ok (.iload_n 1, 1) := dk_27 (dk_at dksX2_isChanged_0 12 rfl rfl)
theorem dX2_isChanged_13 : decode cX2_isChanged 13 = .ok (.aload_n 0, 1) := dk_42 (dk_at dksX2_isChanged_0 13 rfl rfl)
theorem dX2_isChanged_14 : decode cX2_isChanged 14 = .ok (.iload_n 1, 1) := dk_27 (dk_at dksX2_isChanged_0 14 rfl rfl)
theorem dX2_isChanged_15 : decode cX2_isChanged 15 = .ok (.invokevirtual 81, 3) := dk_182 0 81 (dk_at dksX2_isChanged_0 15 rfl rfl)
theorem dX2_isChanged_18 : decode cX2_isChanged 18 = .ok (.isub, 1) := dk_100 (dk_at dksX2_isChanged_0 18 rfl rfl)
theorem dX2_isChanged_19 : decode cX2_isChanged 19 = .ok (.if_icmp .ne 7, 3) := dk_160 0 7 (dk_at dksX2_isChanged_0 19 rfl rfl)
theorem dX2_isChanged_22 : decode cX2_isChanged 22 = .ok (.iconst 1, 1) := dk_4 (dk_at dksX2_isChanged_0 22 rfl rfl)
theorem dX2_isChanged_23 : decode cX2_isChanged 23 = .ok (.goto 4, 3) := dk_167 0 4 (dk_at dksX2_isChanged_1 0 rfl rfl)
theorem dX2_isChanged_26 : decode cX2_isChanged 26 = .ok (.iconst 0, 1) := dk_3 (dk_at dksX2_isChanged_1 3 rfl rfl)
theorem dX2_isChanged_27 : decode cX2_isChanged 27 = .ok (.ireturn, 1) := dk_172 (dk_at dksX2_isChanged_1 4 rfl rfl)
abbrev cX2_behind : ByteArray := prog_2_method_12_code
def yX2_behind : MethodName := ⟨RX2, "behind", "(II[I)I"⟩
def dkwX2_behind_1 : List UInt8 := [96, 96, 54, 4, 132, 5, 1, 167, 255, 231, 21, 4, 45, 27, 46, 96, 28, 100, 4, 100, 172]
abbrev dktX2_behind_1 : List UInt8 := dkwX2_behind_1 ++ []
def dkwX2_behind_0 : List UInt8 := [3, 54, 4, 3, 54, 5, 21, 5, 27, 162, 0, 25, 21, 4, 45, 21, 5, 46, 42, 21, 5, 182, 0, 62]
abbrev dktX2_behind_0 : List UInt8 := dkwX2_behind_0 ++ dktX2_behind_1
theorem dksX2_behind_0 : cX2_behind.data.toList.drop 0 = dktX2_behind_0 := by decide +kernel
theorem dksX2_behind_1 : cX2_behind.data.toList.drop 24 = dktX2_behind_1 := dk_seg dksX2_behind_0 24 rfl rfl
theorem dX2_behind_0 : decode cX2_behind 0 = .ok (.iconst 0, 1) := dk_3 (dk_at dksX2_behind_0 0 rfl rfl)
theorem dX2_behind_1 : decode cX2_behind 1 = .ok (.istore 4, 2) := dk_54 4 (dk_at dksX2_behind_0 1 rfl rfl)
theorem dX2_behind_3 : decode cX2_behind 3 = .ok (.iconst 0, 1) := dk_3 (dk_at dksX2_behind_0 3 rfl rfl)
theorem dX2_behind_4 : decode cX2_behind 4 = .ok (.istore 5, 2) := dk_54 5 (dk_at dksX2_behind_0 4 rfl rfl)
theorem dX2_behind_6 : decode cX2_behind 6 = .ok (.iload 5, 2) := dk_21 5 (dk_at dksX2_behind_0 6 rfl rfl)
theorem dX2_behind_8 : decode cX2_behind 8 = .ok (.iload_n 1, 1) := dk_27 (dk_at dksX2_behind_0 8 rfl rfl)
theorem dX2_behind_9 : decode cX2_behind 9 = .ok (.if_icmp .ge 25, 3) := dk_162 0 25 (dk_at dksX2_behind_0 9 rfl rfl)
theorem dX2_behind_12 : decode cX2_behind 12 = .ok (.iload 4, 2) := dk_21 4 (dk_at dksX2_behind_0 12 rfl rfl)
theorem dX2_behind_14 : decode cX2_behind 14 = .ok (.aload_n 3, 1) := dk_45 (dk_at dksX2_behind_0 14 rfl rfl)
theorem dX2_behind_15 : decode cX2_behind 15 = .ok (.iload 5, 2) := dk_21 5 (dk_at dksX2_behind_0 15 rfl rfl)
theorem dX2_behind_17 : decode cX2_behind 17 = .ok (.iaload, 1) := dk_46 (dk_at dksX2_behind_0 17 rfl rfl)
theorem dX2_behind_18 : decode cX2_behind 18 = .ok (.aload_n 0, 1) := dk_42 (dk_at dksX2_behind_0 18 rfl rfl)
theorem dX2_behind_19 : decode cX2_behind 19 = .ok (.iload 5, 2) := dk_21 5 (dk_at dksX2_behind_0 19 rfl rfl)
theorem dX2_behind_21 : decode cX2_behind 21 = .ok (.invokevirtual 62, 3) := dk_182 0 62 (dk_at dksX2_behind_0 21 rfl rfl)
theorem dX2_behind_24 : decode cX2_behind 24 = .ok (.iadd, 1) := dk_96 (dk_at dksX2_behind_1 0 rfl rfl)
theorem dX2_behind_25 : decode cX2_behind 25 = .ok (.iadd, 1) := dk_96 (dk_at dksX2_behind_1 1 rfl rfl)
theorem dX2_behind_26 : decode cX2_behind 26 = .ok (.istore 4, 2) := dk_54 4 (dk_at dksX2_behind_1 2 rfl rfl)
theorem dX2_behind_28 : decode cX2_behind 28 = .ok (.iinc 5 1, 3) := dk_132 5 1 (dk_at dksX2_behind_1 4 rfl rfl)
theorem dX2_behind_31 : decode cX2_behind 31 = .ok (.goto (-25), 3) := dk_167 255 231 (dk_at dksX2_behind_1 7 rfl rfl)
theorem dX2_behind_34 : decode cX2_behind 34 = .ok (.iload 4, 2) := dk_21 4 (dk_at dksX2_behind_1 10 rfl rfl)
theorem dX2_behind_36 : decode cX2_behind 36 = .ok (.aload_n 3, 1) := dk_45 (dk_at dksX2_behind_1 12 rfl rfl)
theorem dX2_behind_37 : decode cX2_behind 37 = .ok (.iload_n 1, 1) := dk_27 (dk_at dksX2_behind_1 13 rfl rfl)
theorem dX2_behind_38 : decode cX2_behind 38 = .ok (.iaload, 1) := dk_46 (dk_at dksX2_behind_1 14 rfl rfl)
theorem dX2_behind_39 : decode cX2_behind 39 = .ok (.iadd, 1) := dk_96 (dk_at dksX2_behind_1 15 rfl rfl)
theorem dX2_behind_40 : decode cX2_behind 40 = .ok (.iload_n 2, 1) := dk_28 (dk_at dksX2_behind_1 16 rfl rfl)
theorem dX2_behind_41 : decode cX2_behind 41 = .ok (.isub, 1) := dk_100 (dk_at dksX2_behind_1 17 rfl rfl)
theorem dX2_behind_42 : decode cX2_behind 42 = .ok (.iconst 1, 1) := dk_4 (dk_at dksX2_behind_1 18 rfl rfl)
theorem dX2_behind_43 : decode cX2_behind 43 = .ok (.isub, 1) := dk_100 (dk_at dksX2_behind_1 19 rfl rfl)
theorem dX2_behind_44 : decode cX2_behind 44 = .ok (.ireturn, 1) := dk_172 (dk_at dksX2_behind_1 20 rfl rfl)
abbrev cX2_greensIn : ByteArray := prog_2_method_14_code
def yX2_greensIn : MethodName := ⟨RX2, "greensIn", "(I)[I"⟩
def dkwX2_greensIn_0 : List UInt8 := [42, 27, 182, 0, 84, 153, 0, 10, 42, 180, 0, 33, 167, 0, 7, 42, 182, 0, 88, 176]
abbrev dktX2_greensIn_0 : List UInt8 := dkwX2_greensIn_0 ++ []
theorem dksX2_greensIn_0 : cX2_greensIn.data.toList.drop 0 = dktX2_greensIn_0 := by decide +kernel
theorem dX2_greensIn_0 : decode cX2_greensIn 0 = .ok (.aload_n 0, 1) := dk_42 (dk_at dksX2_greensIn_0 0 rfl rfl)
theorem dX2_greensIn_1 : decode cX2_greensIn 1 = .ok (.iload_n 1, 1) := dk_27 (dk_at dksX2_greensIn_0 1 rfl rfl)
theorem dX2_greensIn_2 : decode cX2_greensIn 2 = .ok (.invokevirtual 84, 3) := dk_182 0 84 (dk_at dksX2_greensIn_0 2 rfl rfl)
theorem dX2_greensIn_5 : decode cX2_greensIn 5 = .ok (.ifCond .eq 10, 3) := dk_153 0 10 (dk_at dksX2_greensIn_0 5 rfl rfl)
theorem dX2_greensIn_8 : decode cX2_greensIn 8 = .ok (.aload_n 0, 1) := dk_42 (dk_at dksX2_greensIn_0 8 rfl rfl)
theorem dX2_greensIn_9 : decode cX2_greensIn 9 = .ok (.getfield 33, 3) := dk_180 0 33 (dk_at dksX2_greensIn_0 9 rfl rfl)
theorem dX2_greensIn_12 : decode cX2_greensIn 12 = .ok (.goto 7, 3) := dk_167 0 7 (dk_at dksX2_greensIn_0 12 rfl rfl)
theorem dX2_greensIn_15 : decode cX2_greensIn 15 = .ok (.aload_n 0, 1) := dk_42 (dk_at dksX2_greensIn_0 15 rfl rfl)
theorem dX2_greensIn_16 : decode cX2_greensIn 16 = .ok (.invokevirtual 88, 3) := dk_182 0 88 (dk_at dksX2_greensIn_0 16 rfl rfl)
theorem dX2_greensIn_19 : decode cX2_greensIn 19 = .ok (.areturn, 1) := dk_176 (dk_at dksX2_greensIn_0 19 rfl rfl)
theorem q47 : (Jvm.Cond.initialized "Greenwave$Junction") ∈ lw_all := lw_g (lw_at lw_m1 2 rfl) rfl
theorem q72 : (Jvm.Cond.instantiable "Greenwave$Junction" (14 : Nat)) ∈ lw_all := lw_g (lw_at lw_m1 27 rfl) rfl
theorem q74 : (Jvm.Cond.instanceMethod ({ cls := "Greenwave$Junction", name := "<init>", desc := "(I)V" } : Jvm.MethodName)) ∈ lw_all := lw_g (lw_at lw_m1 29 rfl) rfl
theorem q75 : (Jvm.Cond.code ({ cls := "Greenwave$Junction", name := "<init>", desc := "(I)V" } : Jvm.MethodName) prog_2_method_2_code (2 : Nat) (Option.none : Option Jvm.ClassFile.FieldType)) ∈ lw_all := lw_g (lw_at lw_m1 30 rfl) rfl
theorem q76 : (Jvm.Cond.methodLink "Greenwave$Junction" (45 : Nat) ({ cls := "Greenwave$Junction", name := "<init>", desc := "(I[I)V" } : Jvm.MethodName)) ∈ lw_all := lw_g (lw_at lw_m1 31 rfl) rfl
theorem q77 : (Jvm.Cond.instanceMethod ({ cls := "Greenwave$Junction", name := "<init>", desc := "(I[I)V" } : Jvm.MethodName)) ∈ lw_all := lw_g (lw_at lw_m1 32 rfl) rfl
theorem q78 : (Jvm.Cond.code ({ cls := "Greenwave$Junction", name := "<init>", desc := "(I[I)V" } : Jvm.MethodName) prog_2_method_1_code (3 : Nat) (Option.none : Option Jvm.ClassFile.FieldType)) ∈ lw_all := lw_g (lw_at lw_m1 33 rfl) rfl
theorem q79 : (Jvm.Cond.methodLink "Greenwave$Junction" (3 : Nat) ({ cls := "java/lang/Object", name := "<init>", desc := "()V" } : Jvm.MethodName)) ∈ lw_all := lw_g (lw_at lw_m1 34 rfl) rfl
theorem q80 : (Jvm.Cond.fieldLinkNest "Greenwave$Junction" (18 : Nat) "Greenwave" "FIRST_CONFLICTS" "[I" "Greenwave") ∈ lw_tbl := lw_at lw_m1 35 rfl
theorem q82 : (Jvm.Cond.methodLink "Greenwave$Junction" (22 : Nat) ({ cls := "[I", name := "clone", desc := "()Ljava/lang/Object;" } : Jvm.MethodName)) ∈ lw_all := lw_g (lw_at lw_m1 37 rfl) rfl
theorem q88 : (Jvm.Cond.classLink "Greenwave$Junction" (23 : Nat) "[I") ∈ lw_all := lw_g (lw_at lw_m1 43 rfl) rfl
theorem q89 : (Jvm.Cond.fieldLink "Greenwave$Junction" (39 : Nat) "Greenwave$Junction" "cycle" "I") ∈ lw_all := lw_g (lw_at lw_m1 44 rfl) rfl
theorem q90 : (Jvm.Cond.fieldLink "Greenwave$Junction" (27 : Nat) "Greenwave$Junction" "conflicts" "[I") ∈ lw_all := lw_g (lw_at lw_m1 45 rfl) rfl
theorem q92 : (Jvm.Cond.fieldLink "Greenwave$Junction" (30 : Nat) "Greenwave$Junction" "flows" "[I") ∈ lw_all := lw_g (lw_at lw_m1 47 rfl) rfl
theorem q94 : (Jvm.Cond.fieldLink "Greenwave$Junction" (42 : Nat) "Greenwave$Junction" "phases" "[I") ∈ lw_all := lw_g (lw_at lw_m1 49 rfl) rfl
theorem q96 : (Jvm.Cond.fieldLink "Greenwave$Junction" (72 : Nat) "Greenwave$Junction" "offset" "I") ∈ lw_all := lw_g (lw_at lw_m1 51 rfl) rfl
theorem q98 : (Jvm.Cond.fieldLink "Greenwave$Junction" (9 : Nat) "Greenwave$Junction" "linkSeconds" "I") ∈ lw_all := lw_g (lw_at lw_m1 53 rfl) rfl
theorem q100 : (Jvm.Cond.fieldLink "Greenwave$Junction" (15 : Nat) "Greenwave$Junction" "room" "I") ∈ lw_all := lw_g (lw_at lw_m1 55 rfl) rfl
theorem q102 : (Jvm.Cond.fieldLink "Greenwave$Junction" (33 : Nat) "Greenwave$Junction" "changed" "[I") ∈ lw_all := lw_g (lw_at lw_m1 57 rfl) rfl
theorem q104 : (Jvm.Cond.fieldLink "Greenwave$Junction" (78 : Nat) "Greenwave$Junction" "changedFrom" "I") ∈ lw_all := lw_g (lw_at lw_m1 59 rfl) rfl
theorem q110 : (Jvm.Cond.fieldLink "Greenwave$Junction" (36 : Nat) "Greenwave$Junction" "coming" "[I") ∈ lw_all := lw_g (lw_at lw_m1 65 rfl) rfl
theorem q112 : (Jvm.Cond.laysFinal "Greenwave$Junction" "Greenwave$Junction" "cycle" "I") ∈ lw_all := lw_g (lw_at lw_m1 67 rfl) rfl
theorem q113 : (Jvm.Cond.soleField "Greenwave$Junction" "cycle") ∈ lw_all := lw_g (lw_at lw_m1 68 rfl) rfl
theorem q114 : (Jvm.Cond.laysFinal "Greenwave$Junction" "Greenwave$Junction" "conflicts" "[I") ∈ lw_all := lw_g (lw_at lw_m1 69 rfl) rfl
theorem q115 : (Jvm.Cond.soleField "Greenwave$Junction" "conflicts") ∈ lw_all := lw_g (lw_at lw_m1 70 rfl) rfl
theorem q116 : (Jvm.Cond.laysFinal "Greenwave$Junction" "Greenwave$Junction" "flows" "[I") ∈ lw_all := lw_g (lw_at lw_m1 71 rfl) rfl
theorem q117 : (Jvm.Cond.soleField "Greenwave$Junction" "flows") ∈ lw_all := lw_g (lw_at lw_m1 72 rfl) rfl
theorem q118 : (Jvm.Cond.lays "Greenwave$Junction" "Greenwave$Junction" "phases" "[I") ∈ lw_all := lw_g (lw_at lw_m1 73 rfl) rfl
theorem q119 : (Jvm.Cond.soleField "Greenwave$Junction" "phases") ∈ lw_all := lw_g (lw_at lw_m1 74 rfl) rfl
theorem q120 : (Jvm.Cond.lays "Greenwave$Junction" "Greenwave$Junction" "offset" "I") ∈ lw_all := lw_g (lw_at lw_m1 75 rfl) rfl
theorem q121 : (Jvm.Cond.soleField "Greenwave$Junction" "offset") ∈ lw_all := lw_g (lw_at lw_m1 76 rfl) rfl
theorem q122 : (Jvm.Cond.lays "Greenwave$Junction" "Greenwave$Junction" "linkSeconds" "I") ∈ lw_all := lw_g (lw_at lw_m1 77 rfl) rfl
theorem q123 : (Jvm.Cond.soleField "Greenwave$Junction" "linkSeconds") ∈ lw_all := lw_g (lw_at lw_m1 78 rfl) rfl
theorem q124 : (Jvm.Cond.lays "Greenwave$Junction" "Greenwave$Junction" "room" "I") ∈ lw_all := lw_g (lw_at lw_m1 79 rfl) rfl
theorem q125 : (Jvm.Cond.soleField "Greenwave$Junction" "room") ∈ lw_all := lw_g (lw_at lw_m1 80 rfl) rfl
theorem q126 : (Jvm.Cond.lays "Greenwave$Junction" "Greenwave$Junction" "changed" "[I") ∈ lw_all := lw_g (lw_at lw_m1 81 rfl) rfl
theorem q127 : (Jvm.Cond.soleField "Greenwave$Junction" "changed") ∈ lw_all := lw_g (lw_at lw_m1 82 rfl) rfl
theorem q128 : (Jvm.Cond.lays "Greenwave$Junction" "Greenwave$Junction" "changedFrom" "I") ∈ lw_all := lw_g (lw_at lw_m1 83 rfl) rfl
theorem q129 : (Jvm.Cond.soleField "Greenwave$Junction" "changedFrom") ∈ lw_all := lw_g (lw_at lw_m1 84 rfl) rfl
theorem q130 : (Jvm.Cond.lays "Greenwave$Junction" "Greenwave$Junction" "queue" "I") ∈ lw_all := lw_g (lw_at lw_m1 85 rfl) rfl
theorem q131 : (Jvm.Cond.soleField "Greenwave$Junction" "queue") ∈ lw_all := lw_g (lw_at lw_m1 86 rfl) rfl
theorem q132 : (Jvm.Cond.lays "Greenwave$Junction" "Greenwave$Junction" "arrivals" "I") ∈ lw_all := lw_g (lw_at lw_m1 87 rfl) rfl
theorem q133 : (Jvm.Cond.soleField "Greenwave$Junction" "arrivals") ∈ lw_all := lw_g (lw_at lw_m1 88 rfl) rfl
theorem q134 : (Jvm.Cond.lays "Greenwave$Junction" "Greenwave$Junction" "ready" "I") ∈ lw_all := lw_g (lw_at lw_m1 89 rfl) rfl
theorem q135 : (Jvm.Cond.soleField "Greenwave$Junction" "ready") ∈ lw_all := lw_g (lw_at lw_m1 90 rfl) rfl
theorem q136 : (Jvm.Cond.lays "Greenwave$Junction" "Greenwave$Junction" "travelling" "I") ∈ lw_all := lw_g (lw_at lw_m1 91 rfl) rfl
theorem q137 : (Jvm.Cond.soleField "Greenwave$Junction" "travelling") ∈ lw_all := lw_g (lw_at lw_m1 92 rfl) rfl
theorem q138 : (Jvm.Cond.laysFinal "Greenwave$Junction" "Greenwave$Junction" "coming" "[I") ∈ lw_all := lw_g (lw_at lw_m1 93 rfl) rfl
theorem q139 : (Jvm.Cond.soleField "Greenwave$Junction" "coming") ∈ lw_all := lw_g (lw_at lw_m1 94 rfl) rfl
theorem q140 : (Jvm.Cond.superclass "Greenwave$Junction" "java/lang/Object") ∈ lw_all := lw_g (lw_at lw_m1 95 rfl) rfl
theorem q345 : (Jvm.Cond.instanceMethod ({ cls := "Greenwave$Junction", name := "clearance", desc := "(II)I" } : Jvm.MethodName)) ∈ lw_all := lw_g (lw_at lw_m2 60 rfl) rfl
theorem q346 : (Jvm.Cond.selects "Greenwave$Junction" ({ cls := "Greenwave$Junction", name := "clearance", desc := "(II)I" } : Jvm.MethodName) ({ cls := "Greenwave$Junction", name := "clearance", desc := "(II)I" } : Jvm.MethodName)) ∈ lw_all := lw_g (lw_at lw_m2 61 rfl) rfl
theorem q347 : (Jvm.Cond.code ({ cls := "Greenwave$Junction", name := "clearance", desc := "(II)I" } : Jvm.MethodName) prog_2_method_3_code (3 : Nat) (Option.some Jvm.ClassFile.FieldType.int)) ∈ lw_all := lw_g (lw_at lw_m2 62 rfl) rfl
theorem q356 : (Jvm.Cond.instanceMethod ({ cls := "Greenwave$Junction", name := "isPeaceful", desc := "(I)Z" } : Jvm.MethodName)) ∈ lw_all := lw_g (lw_at lw_m2 71 rfl) rfl
theorem q357 : (Jvm.Cond.selects "Greenwave$Junction" ({ cls := "Greenwave$Junction", name := "isPeaceful", desc := "(I)Z" } : Jvm.MethodName) ({ cls := "Greenwave$Junction", name := "isPeaceful", desc := "(I)Z" } : Jvm.MethodName)) ∈ lw_all := lw_g (lw_at lw_m2 72 rfl) rfl
theorem q358 : (Jvm.Cond.code ({ cls := "Greenwave$Junction", name := "isPeaceful", desc := "(I)Z" } : Jvm.MethodName) prog_2_method_4_code (6 : Nat) (Option.some Jvm.ClassFile.FieldType.boolean)) ∈ lw_all := lw_g (lw_at lw_m2 73 rfl) rfl
theorem q359 : (Jvm.Cond.methodLinkNest "Greenwave$Junction" (48 : Nat) ({ cls := "Greenwave", name := "has", desc := "(II)Z" } : Jvm.MethodName) "Greenwave") ∈ lw_tbl := lw_at lw_m2 74 rfl
theorem q397 : (Jvm.Cond.instanceMethod ({ cls := "Greenwave$Junction", name := "left", desc := "()I" } : Jvm.MethodName)) ∈ lw_all := lw_g (lw_at lw_m2 112 rfl) rfl
theorem q398 : (Jvm.Cond.selects "Greenwave$Junction" ({ cls := "Greenwave$Junction", name := "left", desc := "()I" } : Jvm.MethodName) ({ cls := "Greenwave$Junction", name := "left", desc := "()I" } : Jvm.MethodName)) ∈ lw_all := lw_g (lw_at lw_m2 113 rfl) rfl
theorem q399 : (Jvm.Cond.code ({ cls := "Greenwave$Junction", name := "left", desc := "()I" } : Jvm.MethodName) prog_2_method_7_code (3 : Nat) (Option.some Jvm.ClassFile.FieldType.int)) ∈ lw_all := lw_g (lw_at lw_m2 114 rfl) rfl
theorem q400 : (Jvm.Cond.methodLink "Greenwave$Junction" (58 : Nat) ({ cls := "Greenwave$Junction", name := "leastGreen", desc := "(I)I" } : Jvm.MethodName)) ∈ lw_all := lw_g (lw_at lw_m2 115 rfl) rfl
theorem q401 : (Jvm.Cond.instanceMethod ({ cls := "Greenwave$Junction", name := "leastGreen", desc := "(I)I" } : Jvm.MethodName)) ∈ lw_all := lw_g (lw_at lw_m2 116 rfl) rfl
theorem q402 : (Jvm.Cond.selects "Greenwave$Junction" ({ cls := "Greenwave$Junction", name := "leastGreen", desc := "(I)I" } : Jvm.MethodName) ({ cls := "Greenwave$Junction", name := "leastGreen", desc := "(I)I" } : Jvm.MethodName)) ∈ lw_all := lw_g (lw_at lw_m2 117 rfl) rfl
theorem q403 : (Jvm.Cond.code ({ cls := "Greenwave$Junction", name := "leastGreen", desc := "(I)I" } : Jvm.MethodName) prog_2_method_6_code (2 : Nat) (Option.some Jvm.ClassFile.FieldType.int)) ∈ lw_all := lw_g (lw_at lw_m2 118 rfl) rfl
theorem q404 : (Jvm.Cond.methodLink "Greenwave$Junction" (62 : Nat) ({ cls := "Greenwave$Junction", name := "clearing", desc := "(I)I" } : Jvm.MethodName)) ∈ lw_all := lw_g (lw_at lw_m2 119 rfl) rfl
theorem q405 : (Jvm.Cond.instanceMethod ({ cls := "Greenwave$Junction", name := "clearing", desc := "(I)I" } : Jvm.MethodName)) ∈ lw_all := lw_g (lw_at lw_m2 120 rfl) rfl
theorem q406 : (Jvm.Cond.selects "Greenwave$Junction" ({ cls := "Greenwave$Junction", name := "clearing", desc := "(I)I" } : Jvm.MethodName) ({ cls := "Greenwave$Junction", name := "clearing", desc := "(I)I" } : Jvm.MethodName)) ∈ lw_all := lw_g (lw_at lw_m2 121 rfl) rfl
theorem q407 : (Jvm.Cond.code ({ cls := "Greenwave$Junction", name := "clearing", desc := "(I)I" } : Jvm.MethodName) prog_2_method_5_code (5 : Nat) (Option.some Jvm.ClassFile.FieldType.int)) ∈ lw_all := lw_g (lw_at lw_m2 122 rfl) rfl
theorem q408 : (Jvm.Cond.methodLink "Greenwave$Junction" (52 : Nat) ({ cls := "java/lang/Math", name := "max", desc := "(II)I" } : Jvm.MethodName)) ∈ lw_all := lw_g (lw_at lw_m2 123 rfl) rfl
theorem q422 : (Jvm.Cond.instanceMethod ({ cls := "Greenwave$Junction", name := "greens", desc := "()[I" } : Jvm.MethodName)) ∈ lw_all := lw_g (lw_at lw_m2 137 rfl) rfl
theorem q423 : (Jvm.Cond.selects "Greenwave$Junction" ({ cls := "Greenwave$Junction", name := "greens", desc := "()[I" } : Jvm.MethodName) ({ cls := "Greenwave$Junction", name := "greens", desc := "()[I" } : Jvm.MethodName)) ∈ lw_all := lw_g (lw_at lw_m2 138 rfl) rfl
theorem q424 : (Jvm.Cond.code ({ cls := "Greenwave$Junction", name := "greens", desc := "()[I" } : Jvm.MethodName) prog_2_method_9_code (7 : Nat) (Option.some (Jvm.ClassFile.FieldType.array Jvm.ClassFile.FieldType.int))) ∈ lw_all := lw_g (lw_at lw_m2 139 rfl) rfl
theorem q425 : (Jvm.Cond.methodLink "Greenwave$Junction" (65 : Nat) ({ cls := "Greenwave$Junction", name := "left", desc := "()I" } : Jvm.MethodName)) ∈ lw_all := lw_g (lw_at lw_m2 140 rfl) rfl
theorem q426 : (Jvm.Cond.methodLink "Greenwave$Junction" (69 : Nat) ({ cls := "Greenwave$Junction", name := "weight", desc := "(I)I" } : Jvm.MethodName)) ∈ lw_all := lw_g (lw_at lw_m2 141 rfl) rfl
theorem q427 : (Jvm.Cond.privateMethod ({ cls := "Greenwave$Junction", name := "weight", desc := "(I)I" } : Jvm.MethodName)) ∈ lw_tbl := lw_at lw_m2 142 rfl
theorem q428 : (Jvm.Cond.instanceMethod ({ cls := "Greenwave$Junction", name := "weight", desc := "(I)I" } : Jvm.MethodName)) ∈ lw_all := lw_g (lw_at lw_m2 143 rfl) rfl
theorem q429 : (Jvm.Cond.code ({ cls := "Greenwave$Junction", name := "weight", desc := "(I)I" } : Jvm.MethodName) prog_2_method_8_code (4 : Nat) (Option.some Jvm.ClassFile.FieldType.int)) ∈ lw_all := lw_g (lw_at lw_m2 144 rfl) rfl
theorem q431 : (Jvm.Cond.instanceMethod ({ cls := "Greenwave$Junction", name := "phaseAt", desc := "(I[I)I" } : Jvm.MethodName)) ∈ lw_all := lw_g (lw_at lw_m2 146 rfl) rfl
theorem q432 : (Jvm.Cond.selects "Greenwave$Junction" ({ cls := "Greenwave$Junction", name := "phaseAt", desc := "(I[I)I" } : Jvm.MethodName) ({ cls := "Greenwave$Junction", name := "phaseAt", desc := "(I[I)I" } : Jvm.MethodName)) ∈ lw_all := lw_g (lw_at lw_m2 147 rfl) rfl
theorem q433 : (Jvm.Cond.code ({ cls := "Greenwave$Junction", name := "phaseAt", desc := "(I[I)I" } : Jvm.MethodName) prog_2_method_11_code (5 : Nat) (Option.some Jvm.ClassFile.FieldType.int)) ∈ lw_all := lw_g (lw_at lw_m2 148 rfl) rfl
theorem q443 : (Jvm.Cond.instanceMethod ({ cls := "Greenwave$Junction", name := "placeIn", desc := "(I)I" } : Jvm.MethodName)) ∈ lw_all := lw_g (lw_at lw_m2 158 rfl) rfl
theorem q444 : (Jvm.Cond.selects "Greenwave$Junction" ({ cls := "Greenwave$Junction", name := "placeIn", desc := "(I)I" } : Jvm.MethodName) ({ cls := "Greenwave$Junction", name := "placeIn", desc := "(I)I" } : Jvm.MethodName)) ∈ lw_all := lw_g (lw_at lw_m2 159 rfl) rfl
theorem q445 : (Jvm.Cond.code ({ cls := "Greenwave$Junction", name := "placeIn", desc := "(I)I" } : Jvm.MethodName) prog_2_method_10_code (2 : Nat) (Option.some Jvm.ClassFile.FieldType.int)) ∈ lw_all := lw_g (lw_at lw_m2 160 rfl) rfl
theorem q446 : (Jvm.Cond.methodLink "Greenwave$Junction" (75 : Nat) ({ cls := "java/lang/Math", name := "floorMod", desc := "(II)I" } : Jvm.MethodName)) ∈ lw_all := lw_g (lw_at lw_m2 161 rfl) rfl
theorem q530 : (Jvm.Cond.instanceMethod ({ cls := "Greenwave$Junction", name := "runsGreen", desc := "(II[I)Z" } : Jvm.MethodName)) ∈ lw_all := lw_g (lw_at lw_m3 5 rfl) rfl
theorem q531 : (Jvm.Cond.selects "Greenwave$Junction" ({ cls := "Greenwave$Junction", name := "runsGreen", desc := "(II[I)Z" } : Jvm.MethodName) ({ cls := "Greenwave$Junction", name := "runsGreen", desc := "(II[I)Z" } : Jvm.MethodName)) ∈ lw_all := lw_g (lw_at lw_m3 6 rfl) rfl
theorem q532 : (Jvm.Cond.code ({ cls := "Greenwave$Junction", name := "runsGreen", desc := "(II[I)Z" } : Jvm.MethodName) prog_2_method_15_code (5 : Nat) (Option.some Jvm.ClassFile.FieldType.boolean)) ∈ lw_all := lw_g (lw_at lw_m3 7 rfl) rfl
theorem q533 : (Jvm.Cond.methodLink "Greenwave$Junction" (81 : Nat) ({ cls := "Greenwave$Junction", name := "placeIn", desc := "(I)I" } : Jvm.MethodName)) ∈ lw_all := lw_g (lw_at lw_m3 8 rfl) rfl
theorem q534 : (Jvm.Cond.methodLink "Greenwave$Junction" (84 : Nat) ({ cls := "Greenwave$Junction", name := "isChanged", desc := "(I)Z" } : Jvm.MethodName)) ∈ lw_all := lw_g (lw_at lw_m3 9 rfl) rfl
theorem q535 : (Jvm.Cond.instanceMethod ({ cls := "Greenwave$Junction", name := "isChanged", desc := "(I)Z" } : Jvm.MethodName)) ∈ lw_all := lw_g (lw_at lw_m3 10 rfl) rfl
theorem q536 : (Jvm.Cond.selects "Greenwave$Junction" ({ cls := "Greenwave$Junction", name := "isChanged", desc := "(I)Z" } : Jvm.MethodName) ({ cls := "Greenwave$Junction", name := "isChanged", desc := "(I)Z" } : Jvm.MethodName)) ∈ lw_all := lw_g (lw_at lw_m3 11 rfl) rfl
theorem q537 : (Jvm.Cond.code ({ cls := "Greenwave$Junction", name := "isChanged", desc := "(I)Z" } : Jvm.MethodName) prog_2_method_13_code (2 : Nat) (Option.some Jvm.ClassFile.FieldType.boolean)) ∈ lw_all := lw_g (lw_at lw_m3 12 rfl) rfl
theorem q538 : (Jvm.Cond.methodLink "Greenwave$Junction" (92 : Nat) ({ cls := "Greenwave$Junction", name := "phaseAt", desc := "(I[I)I" } : Jvm.MethodName)) ∈ lw_all := lw_g (lw_at lw_m3 13 rfl) rfl
theorem q562 : (Jvm.Cond.instanceMethod ({ cls := "Greenwave$Junction", name := "behind", desc := "(II[I)I" } : Jvm.MethodName)) ∈ lw_all := lw_g (lw_at lw_m3 37 rfl) rfl
theorem q563 : (Jvm.Cond.selects "Greenwave$Junction" ({ cls := "Greenwave$Junction", name := "behind", desc := "(II[I)I" } : Jvm.MethodName) ({ cls := "Greenwave$Junction", name := "behind", desc := "(II[I)I" } : Jvm.MethodName)) ∈ lw_all := lw_g (lw_at lw_m3 38 rfl) rfl
theorem q564 : (Jvm.Cond.code ({ cls := "Greenwave$Junction", name := "behind", desc := "(II[I)I" } : Jvm.MethodName) prog_2_method_12_code (6 : Nat) (Option.some Jvm.ClassFile.FieldType.int)) ∈ lw_all := lw_g (lw_at lw_m3 39 rfl) rfl
theorem q573 : (Jvm.Cond.instanceMethod ({ cls := "Greenwave$Junction", name := "greensIn", desc := "(I)[I" } : Jvm.MethodName)) ∈ lw_all := lw_g (lw_at lw_m3 48 rfl) rfl
theorem q574 : (Jvm.Cond.selects "Greenwave$Junction" ({ cls := "Greenwave$Junction", name := "greensIn", desc := "(I)[I" } : Jvm.MethodName) ({ cls := "Greenwave$Junction", name := "greensIn", desc := "(I)[I" } : Jvm.MethodName)) ∈ lw_all := lw_g (lw_at lw_m3 49 rfl) rfl
theorem q575 : (Jvm.Cond.code ({ cls := "Greenwave$Junction", name := "greensIn", desc := "(I)[I" } : Jvm.MethodName) prog_2_method_14_code (2 : Nat) (Option.some (Jvm.ClassFile.FieldType.array Jvm.ClassFile.FieldType.int))) ∈ lw_all := lw_g (lw_at lw_m3 50 rfl) rfl
theorem q576 : (Jvm.Cond.methodLink "Greenwave$Junction" (88 : Nat) ({ cls := "Greenwave$Junction", name := "greens", desc := "()[I" } : Jvm.MethodName)) ∈ lw_all := lw_g (lw_at lw_m3 51 rfl) rfl
theorem in_X2 : ∀ w ∈ wsX20, w ∈ lw_all := lw_in wsX20 [112, 114, 116, 118, 120, 122, 124, 126, 128, 130, 132, 134, 136, 138] (by decide +kernel) (by decide +kernel)
