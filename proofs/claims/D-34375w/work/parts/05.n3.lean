/-! GreenwaveModel -/
set_option maxRecDepth 100000
def RX3 : String := "GreenwaveModel"
def TX3 : u_T := fun k => match k with
  | 0 => ("GreenwaveModel", "thrown", "I", false)
  | 1 => ("GreenwaveModel", "junctions", "I", false)
  | 2 => ("GreenwaveModel", "cycle", "I", false)
  | 3 => ("GreenwaveModel", "isBegun", "Z", false)
  | 4 => ("GreenwaveModel", "conflicts", "[I", true)
  | 5 => ("GreenwaveModel", "phases", "[I", true)
  | 6 => ("GreenwaveModel", "many", "[I", true)
  | 7 => ("GreenwaveModel", "flows", "[I", true)
  | 8 => ("GreenwaveModel", "offsets", "[I", true)
  | 9 => ("GreenwaveModel", "seconds", "[I", true)
  | 10 => ("GreenwaveModel", "rooms", "[I", true)
  | 11 => ("GreenwaveModel", "greens", "[I", true)
  | 12 => ("GreenwaveModel", "clearings", "[I", true)
  | 13 => ("GreenwaveModel", "arePlanned", "[Z", true)
  | 14 => ("GreenwaveModel", "clock", "I", false)
  | 15 => ("GreenwaveModel", "arrivals", "I", false)
  | 16 => ("GreenwaveModel", "come", "I", false)
  | 17 => ("GreenwaveModel", "through", "I", false)
  | 18 => ("GreenwaveModel", "queues", "[I", true)
  | 19 => ("GreenwaveModel", "readies", "[I", true)
  | 20 => ("GreenwaveModel", "onWay", "[I", true)
  | 21 => ("GreenwaveModel", "ends", "[I", true)
  | 22 => ("GreenwaveModel", "wasCalled", "[Z", true)
  | 23 => ("GreenwaveModel", "calledIn", "[I", true)
  | 24 => ("GreenwaveModel", "gainers", "[I", true)
  | 25 => ("GreenwaveModel", "givers", "[I", true)
  | _ => ("GreenwaveModel", "gains", "[I", true)
def tyX3 : Nat → FieldType := fun k => match k with
  | 0 => .int
  | 1 => .int
  | 2 => .int
  | 3 => .boolean
  | 4 => .array .int
  | 5 => .array .int
  | 6 => .array .int
  | 7 => .array .int
  | 8 => .array .int
  | 9 => .array .int
  | 10 => .array .int
  | 11 => .array .int
  | 12 => .array .int
  | 13 => .array .boolean
  | 14 => .int
  | 15 => .int
  | 16 => .int
  | 17 => .int
  | 18 => .array .int
  | 19 => .array .int
  | 20 => .array .int
  | 21 => .array .int
  | 22 => .array .boolean
  | 23 => .array .int
  | 24 => .array .int
  | 25 => .array .int
  | _ => .array .int
abbrev wsX30 : List Cond := u_ws RX3 TX3 27
set_option maxRecDepth 100000 in
theorem nmX3 : ∀ a, a < 27 → ∀ b, b < 27 → a ≠ b → (TX3 a).2.1 ≠ (TX3 b).2.1 := by decide +kernel
set_option maxRecDepth 100000 in
theorem tyX3_ok : ∀ k, k < 27 → parseFieldDescriptor (TX3 k).2.2.1 = some (tyX3 k) := by decide +kernel
abbrev cX3_init : ByteArray := prog_4_method_1_code
def yX3_init : MethodName := ⟨RX3, "<init>", "()V"⟩
def dkwX3_init_6 : List UInt8 := [181, 0, 65, 42, 5, 16, 60, 182, 0, 68, 177]
abbrev dktX3_init_6 : List UInt8 := dkwX3_init_6 ++ []
def dkwX3_init_5 : List UInt8 := [8, 188, 10, 181, 0, 56, 42, 8, 188, 10, 181, 0, 59, 42, 8, 188, 10, 181, 0, 62, 42, 8, 188, 10]
abbrev dktX3_init_5 : List UInt8 := dkwX3_init_5 ++ dktX3_init_6
def dkwX3_init_4 : List UInt8 := [42, 7, 188, 10, 181, 0, 47, 42, 17, 0, 160, 188, 10, 181, 0, 50, 42, 8, 188, 4, 181, 0, 53, 42]
abbrev dktX3_init_4 : List UInt8 := dkwX3_init_4 ++ dktX3_init_5
def dkwX3_init_3 : List UInt8 := [181, 0, 34, 42, 8, 188, 4, 181, 0, 37, 42, 8, 188, 10, 181, 0, 41, 42, 8, 188, 10, 181, 0, 44]
abbrev dktX3_init_3 : List UInt8 := dkwX3_init_3 ++ dktX3_init_4
def dkwX3_init_2 : List UInt8 := [181, 0, 25, 42, 7, 188, 10, 181, 0, 28, 42, 16, 20, 188, 10, 181, 0, 31, 42, 16, 20, 188, 10]
abbrev dktX3_init_2 : List UInt8 := dkwX3_init_2 ++ dktX3_init_3
def dkwX3_init_1 : List UInt8 := [181, 0, 16, 42, 16, 20, 188, 10, 181, 0, 19, 42, 8, 188, 10, 181, 0, 22, 42, 7, 188, 10]
abbrev dktX3_init_1 : List UInt8 := dkwX3_init_1 ++ dktX3_init_2
def dkwX3_init_0 : List UInt8 := [42, 183, 0, 1, 42, 16, 80, 188, 10, 181, 0, 7, 42, 16, 20, 188, 10, 181, 0, 13, 42, 8, 188, 10]
abbrev dktX3_init_0 : List UInt8 := dkwX3_init_0 ++ dktX3_init_1
theorem dksX3_init_0 : cX3_init.data.toList.drop 0 = dktX3_init_0 := by decide +kernel
theorem dksX3_init_1 : cX3_init.data.toList.drop 24 = dktX3_init_1 := dk_seg dksX3_init_0 24 rfl rfl
theorem dksX3_init_2 : cX3_init.data.toList.drop 46 = dktX3_init_2 := dk_seg dksX3_init_1 22 rfl rfl
theorem dksX3_init_3 : cX3_init.data.toList.drop 69 = dktX3_init_3 := dk_seg dksX3_init_2 23 rfl rfl
theorem dksX3_init_4 : cX3_init.data.toList.drop 93 = dktX3_init_4 := dk_seg dksX3_init_3 24 rfl rfl
theorem dksX3_init_5 : cX3_init.data.toList.drop 117 = dktX3_init_5 := dk_seg dksX3_init_4 24 rfl rfl
theorem dksX3_init_6 : cX3_init.data.toList.drop 141 = dktX3_init_6 := dk_seg dksX3_init_5 24 rfl rfl
theorem dX3_init_0 : decode cX3_init 0 = .ok (.aload_n 0, 1) := dk_42 (dk_at dksX3_init_0 0 rfl rfl)
theorem dX3_init_1 : decode cX3_init 1 = .ok (.invokespecial 1, 3) := dk_183 0 1 (dk_at dksX3_init_0 1 rfl rfl)
theorem dX3_init_4 : decode cX3_init 4 = .ok (.aload_n 0, 1) := dk_42 (dk_at dksX3_init_0 4 rfl rfl)
theorem dX3_init_5 : decode cX3_init 5 = .ok (.bipush 80, 2) := dk_16 80 (dk_at dksX3_init_0 5 rfl rfl)
theorem dX3_init_7 : decode cX3_init 7 = .ok (.newarray .int, 2) := dk_188_10 (dk_at dksX3_init_0 7 rfl rfl)
theorem dX3_init_9 : decode cX3_init 9 = .ok (.putfield 7, 3) := dk_181 0 7 (dk_at dksX3_init_0 9 rfl rfl)
theorem dX3_init_12 : decode cX3_init 12 = .ok (.aload_n 0, 1) := dk_42 (dk_at dksX3_init_0 12 rfl rfl)
theorem dX3_init_13 : decode cX3_init 13 = .ok (.bipush 20, 2) := dk_16 20 (dk_at dksX3_init_0 13 rfl rfl)
theorem dX3_init_15 : decode cX3_init 15 = .ok (.newarray .int, 2) := dk_188_10 (dk_at dksX3_init_0 15 rfl rfl)
theorem dX3_init_17 : decode cX3_init 17 = .ok (.putfield 13, 3) := dk_181 0 13 (dk_at dksX3_init_0 17 rfl rfl)
theorem dX3_init_20 : decode cX3_init 20 = .ok (.aload_n 0, 1) := dk_42 (dk_at dksX3_init_0 20 rfl rfl)
theorem dX3_init_21 : decode cX3_init 21 = .ok (.iconst 5, 1) := dk_8 (dk_at dksX3_init_0 21 rfl rfl)
theorem dX3_init_22 : decode cX3_init 22 = .ok (.newarray .int, 2) := dk_188_10 (dk_at dksX3_init_0 22 rfl rfl)
theorem dX3_init_24 : decode cX3_init 24 = .ok (.putfield 16, 3) := dk_181 0 16 (dk_at dksX3_init_1 0 rfl rfl)
theorem dX3_init_27 : decode cX3_init 27 = .ok (.aload_n 0, 1) := dk_42 (dk_at dksX3_init_1 3 rfl rfl)
theorem dX3_init_28 : decode cX3_init 28 = .ok (.bipush 20, 2) := dk_16 20 (dk_at dksX3_init_1 4 rfl rfl)
theorem dX3_init_30 : decode cX3_init 30 = .ok (.newarray .int, 2) := dk_188_10 (dk_at dksX3_init_1 6 rfl rfl)
theorem dX3_init_32 : decode cX3_init 32 = .ok (.putfield 19, 3) := dk_181 0 19 (dk_at dksX3_init_1 8 rfl rfl)
theorem dX3_init_35 : decode cX3_init 35 = .ok (.aload_n 0, 1) := dk_42 (dk_at dksX3_init_1 11 rfl rfl)
theorem dX3_init_36 : decode cX3_init 36 = .ok (.iconst 5, 1) := dk_8 (dk_at dksX3_init_1 12 rfl rfl)
theorem dX3_init_37 : decode cX3_init 37 = .ok (.newarray .int, 2) := dk_188_10 (dk_at dksX3_init_1 13 rfl rfl)
theorem dX3_init_39 : decode cX3_init 39 = .ok (.putfield 22, 3) := dk_181 0 22 (dk_at dksX3_init_1 15 rfl rfl)
theorem dX3_init_42 : decode cX3_init 42 = .ok (.aload_n 0, 1) := dk_42 (dk_at dksX3_init_1 18 rfl rfl)
theorem dX3_init_43 : decode cX3_init 43 = .ok (.iconst 4, 1) := dk_7 (dk_at dksX3_init_1 19 rfl rfl)
theorem dX3_init_44 : decode cX3_init 44 = .ok (.newarray .int, 2) := dk_188_10 (dk_at dksX3_init_1 20 rfl rfl)
theorem dX3_init_46 : decode cX3_init 46 = .ok (.putfield 25, 3) := dk_181 0 25 (dk_at dksX3_init_2 0 rfl rfl)
theorem dX3_init_49 : decode cX3_init 49 = .ok (.aload_n 0, 1) := dk_42 (dk_at dksX3_init_2 3 rfl rfl)
theorem dX3_init_50 : decode cX3_init 50 = .ok (.iconst 4, 1) := dk_7 (dk_at dksX3_init_2 4 rfl rfl)
theorem dX3_init_51 : decode cX3_init 51 = .ok (.newarray .int, 2) := dk_188_10 (dk_at dksX3_init_2 5 rfl rfl)
theorem dX3_init_53 : decode cX3_init 53 = .ok (.putfield 28, 3) := dk_181 0 28 (dk_at dksX3_init_2 7 rfl rfl)
theorem dX3_init_56 : decode cX3_init 56 = .ok (.aload_n 0, 1) := dk_42 (dk_at dksX3_init_2 10 rfl rfl)
theorem dX3_init_57 : decode cX3_init 57 = .ok (.bipush 20, 2) := dk_16 20 (dk_at dksX3_init_2 11 rfl rfl)
theorem dX3_init_59 : decode cX3_init 59 = .ok (.newarray .int, 2) := dk_188_10 (dk_at dksX3_init_2 13 rfl rfl)
theorem dX3_init_61 : decode cX3_init 61 = .ok (.putfield 31, 3) := dk_181 0 31 (dk_at dksX3_init_2 15 rfl rfl)
theorem dX3_init_64 : decode cX3_init 64 = .ok (.aload_n 0, 1) := dk_42 (dk_at dksX3_init_2 18 rfl rfl)
theorem dX3_init_65 : decode cX3_init 65 = .ok (.bipush 20, 2) := dk_16 20 (dk_at dksX3_init_2 19 rfl rfl)
theorem dX3_init_67 : decode cX3_init 67 = .ok (.newarray .int, 2) := dk_188_10 (dk_at dksX3_init_2 21 rfl rfl)
theorem dX3_init_69 : decode cX3_init 69 = .ok (.putfield 34, 3) := dk_181 0 34 (dk_at dksX3_init_3 0 rfl rfl)
theorem dX3_init_72 : decode cX3_init 72 = .ok (.aload_n 0, 1) := dk_42 (dk_at dksX3_init_3 3 rfl rfl)
theorem dX3_init_73 : decode cX3_init 73 = .ok (.iconst 5, 1) := dk_8 (dk_at dksX3_init_3 4 rfl rfl)
theorem dX3_init_74 : decode cX3_init 74 = .ok (.newarray .boolean, 2) := dk_188_4 (dk_at dksX3_init_3 5 rfl rfl)
theorem dX3_init_76 : decode cX3_init 76 = .ok (.putfield 37, 3) := dk_181 0 37 (dk_at dksX3_init_3 7 rfl rfl)
theorem dX3_init_79 : decode cX3_init 79 = .ok (.aload_n 0, 1) := dk_42 (dk_at dksX3_init_3 10 rfl rfl)
theorem dX3_init_80 : decode cX3_init 80 = .ok (.iconst 5, 1) := dk_8 (dk_at dksX3_init_3 11 rfl rfl)
theorem dX3_init_81 : decode cX3_init 81 = .ok (.newarray .int, 2) := dk_188_10 (dk_at dksX3_init_3 12 rfl rfl)
theorem dX3_init_83 : decode cX3_init 83 = .ok (.putfield 41, 3) := dk_181 0 41 (dk_at dksX3_init_3 14 rfl rfl)
theorem dX3_init_86 : decode cX3_init 86 = .ok (.aload_n 0, 1) := dk_42 (dk_at dksX3_init_3 17 rfl rfl)
theorem dX3_init_87 : decode cX3_init 87 = .ok (.iconst 5, 1) := dk_8 (dk_at dksX3_init_3 18 rfl rfl)
theorem dX3_init_88 : decode cX3_init 88 = .ok (.newarray .int, 2) := dk_188_10 (dk_at dksX3_init_3 19 rfl rfl)
theorem dX3_init_90 : decode cX3_init 90 = .ok (.putfield 44, 3) := dk_181 0 44 (dk_at dksX3_init_3 21 rfl rfl)
theorem dX3_init_93 : decode cX3_init 93 = .ok (.aload_n 0, 1) := dk_42 (dk_at dksX3_init_4 0 rfl rfl)
theorem dX3_init_94 : decode cX3_init 94 = .ok (.iconst 4, 1) := dk_7 (dk_at dksX3_init_4 1 rfl rfl)
theorem dX3_init_95 : decode cX3_init 95 = .ok (.newarray .int, 2) := dk_188_10 (dk_at dksX3_init_4 2 rfl rfl)
theorem dX3_init_97 : decode cX3_init 97 = .ok (.putfield 47, 3) := dk_181 0 47 (dk_at dksX3_init_4 4 rfl rfl)
theorem dX3_init_100 : decode cX3_init 100 = .ok (.aload_n 0, 1) := dk_42 (dk_at dksX3_init_4 7 rfl rfl)
theorem dX3_init_101 : decode cX3_init 101 = .ok (.sipush 160, 3) := dk_17 0 160 (dk_at dksX3_init_4 8 rfl rfl)
theorem dX3_init_104 : decode cX3_init 104 = .ok (.newarray .int, 2) := dk_188_10 (dk_at dksX3_init_4 11 rfl rfl)
theorem dX3_init_106 : decode cX3_init 106 = .ok (.putfield 50, 3) := dk_181 0 50 (dk_at dksX3_init_4 13 rfl rfl)
theorem dX3_init_109 : decode cX3_init 109 = .ok (.aload_n 0, 1) := dk_42 (dk_at dksX3_init_4 16 rfl rfl)
theorem dX3_init_110 : decode cX3_init 110 = .ok (.iconst 5, 1) := dk_8 (dk_at dksX3_init_4 17 rfl rfl)
theorem dX3_init_111 : decode cX3_init 111 = .ok (.newarray .boolean, 2) := dk_188_4 (dk_at dksX3_init_4 18 rfl rfl)
theorem dX3_init_113 : decode cX3_init 113 = .ok (.putfield 53, 3) := dk_181 0 53 (dk_at dksX3_init_4 20 rfl rfl)
theorem dX3_init_116 : decode cX3_init 116 = .ok (.aload_n 0, 1) := dk_42 (dk_at dksX3_init_4 23 rfl rfl)
theorem dX3_init_117 : decode cX3_init 117 = .ok (.iconst 5, 1) := dk_8 (dk_at dksX3_init_5 0 rfl rfl)
theorem dX3_init_118 : decode cX3_init 118 = .ok (.newarray .int, 2) := dk_188_10 (dk_at dksX3_init_5 1 rfl rfl)
theorem dX3_init_120 : decode cX3_init 120 = .ok (.putfield 56, 3) := dk_181 0 56 (dk_at dksX3_init_5 3 rfl rfl)
theorem dX3_init_123 : decode cX3_init 123 = .ok (.aload_n 0, 1) := dk_42 (dk_at dksX3_init_5 6 rfl rfl)
theorem dX3_init_124 : decode cX3_init 124 = .ok (.iconst 5, 1) := dk_8 (dk_at dksX3_init_5 7 rfl rfl)
theorem dX3_init_125 : decode cX3_init 125 = .ok (.newarray .int, 2) := dk_188_10 (dk_at dksX3_init_5 8 rfl rfl)
theorem dX3_init_127 : decode cX3_init 127 = .ok (.putfield 59, 3) := dk_181 0 59 (dk_at dksX3_init_5 10 rfl rfl)
theorem dX3_init_130 : decode cX3_init 130 = .ok (.aload_n 0, 1) := dk_42 (dk_at dksX3_init_5 13 rfl rfl)
theorem dX3_init_131 : decode cX3_init 131 = .ok (.iconst 5, 1) := dk_8 (dk_at dksX3_init_5 14 rfl rfl)
theorem dX3_init_132 : decode cX3_init 132 = .ok (.newarray .int, 2) := dk_188_10 (dk_at dksX3_init_5 15 rfl rfl)
theorem dX3_init_134 : decode cX3_init 134 = .ok (.putfield 62, 3) := dk_181 0 62 (dk_at dksX3_init_5 17 rfl rfl)
theorem dX3_init_137 : decode cX3_init 137 = .ok (.aload_n 0, 1) := dk_42 (dk_at dksX3_init_5 20 rfl rfl)
theorem dX3_init_138 : decode cX3_init 138 = .ok (.iconst 5, 1) := dk_8 (dk_at dksX3_init_5 21 rfl rfl)
theorem dX3_init_139 : decode cX3_init 139 = .ok (.newarray .int, 2) := dk_188_10 (dk_at dksX3_init_5 22 rfl rfl)
theorem dX3_init_141 : decode cX3_init 141 = .ok (.putfield 65, 3) := dk_181 0 65 (dk_at dksX3_init_6 0 rfl rfl)
theorem dX3_init_144 : decode cX3_init 144 = .ok (.aload_n 0, 1) := dk_42 (dk_at dksX3_init_6 3 rfl rfl)
theorem dX3_init_145 : decode cX3_init 145 = .ok (.iconst 2, 1) := dk_5 (dk_at dksX3_init_6 4 rfl rfl)
theorem dX3_init_146 : decode cX3_init 146 = .ok (.bipush 60, 2) := dk_16 60 (dk_at dksX3_init_6 5 rfl rfl)
theorem dX3_init_148 : decode cX3_init 148 = .ok (.invokevirtual 68, 3) := dk_182 0 68 (dk_at dksX3_init_6 7 rfl rfl)
theorem dX3_init_151 : decode cX3_init 151 = .ok (.return_, 1) := dk_177 (dk_at dksX3_init_6 10 rfl rfl)
abbrev cX3_begins : ByteArray := prog_4_method_10_code
def yX3_begins : MethodName := ⟨RX3, "begins", "(II)V"⟩
def dkwX3_begins_8 : List UInt8 := [79, 42, 180, 0, 19, 29, 7, 108, 3, 79, 132, 3, 1, 167, 255, 198, 177]
abbrev dktX3_begins_8 : List UInt8 := dkwX3_begins_8 ++ []
def dkwX3_begins_7 : List UInt8 := [167, 0, 4, 3, 29, 7, 112, 5, 162, 0, 7, 4, 167, 0, 4, 3, 159, 0, 7, 6, 167, 0, 4, 2]
abbrev dktX3_begins_7 : List UInt8 := dkwX3_begins_7 ++ dktX3_begins_8
def dkwX3_begins_6 : List UInt8 := [3, 62, 29, 16, 80, 162, 0, 58, 42, 180, 0, 7, 29, 29, 7, 108, 7, 112, 5, 162, 0, 7, 4]
abbrev dktX3_begins_6 : List UInt8 := dkwX3_begins_6 ++ dktX3_begins_7
def dkwX3_begins_5 : List UInt8 := [16, 10, 79, 42, 180, 0, 28, 29, 16, 20, 79, 42, 180, 0, 47, 29, 3, 79, 132, 3, 1, 167, 255, 225]
abbrev dktX3_begins_5 : List UInt8 := dkwX3_begins_5 ++ dktX3_begins_6
def dkwX3_begins_4 : List UInt8 := [180, 0, 53, 29, 3, 84, 132, 3, 1, 167, 255, 192, 3, 62, 29, 7, 162, 0, 32, 42, 180, 0, 25, 29]
abbrev dktX3_begins_4 : List UInt8 := dkwX3_begins_4 ++ dktX3_begins_5
def dkwX3_begins_3 : List UInt8 := [42, 180, 0, 22, 29, 3, 79, 42, 180, 0, 41, 29, 3, 79, 42, 180, 0, 44, 29, 3, 79, 42]
abbrev dktX3_begins_3 : List UInt8 := dkwX3_begins_3 ++ dktX3_begins_4
def dkwX3_begins_2 : List UInt8 := [29, 5, 79, 42, 180, 0, 13, 7, 29, 104, 6, 79, 42, 180, 0, 13, 7, 29, 104, 4, 96, 16, 12, 79]
abbrev dktX3_begins_2 : List UInt8 := dkwX3_begins_2 ++ dktX3_begins_3
def dkwX3_begins_1 : List UInt8 := [181, 0, 93, 42, 3, 181, 0, 96, 42, 3, 181, 0, 99, 3, 62, 29, 8, 162, 0, 65, 42, 180, 0, 16]
abbrev dktX3_begins_1 : List UInt8 := dkwX3_begins_1 ++ dktX3_begins_2
def dkwX3_begins_0 : List UInt8 := [42, 27, 181, 0, 76, 42, 28, 181, 0, 83, 42, 3, 181, 0, 86, 42, 3, 181, 0, 90, 42, 3]
abbrev dktX3_begins_0 : List UInt8 := dkwX3_begins_0 ++ dktX3_begins_1
theorem dksX3_begins_0 : cX3_begins.data.toList.drop 0 = dktX3_begins_0 := by decide +kernel
theorem dksX3_begins_1 : cX3_begins.data.toList.drop 22 = dktX3_begins_1 := dk_seg dksX3_begins_0 22 rfl rfl
theorem dksX3_begins_2 : cX3_begins.data.toList.drop 46 = dktX3_begins_2 := dk_seg dksX3_begins_1 24 rfl rfl
theorem dksX3_begins_3 : cX3_begins.data.toList.drop 70 = dktX3_begins_3 := dk_seg dksX3_begins_2 24 rfl rfl
theorem dksX3_begins_4 : cX3_begins.data.toList.drop 92 = dktX3_begins_4 := dk_seg dksX3_begins_3 22 rfl rfl
theorem dksX3_begins_5 : cX3_begins.data.toList.drop 116 = dktX3_begins_5 := dk_seg dksX3_begins_4 24 rfl rfl
theorem dksX3_begins_6 : cX3_begins.data.toList.drop 140 = dktX3_begins_6 := dk_seg dksX3_begins_5 24 rfl rfl
theorem dksX3_begins_7 : cX3_begins.data.toList.drop 163 = dktX3_begins_7 := dk_seg dksX3_begins_6 23 rfl rfl
theorem dksX3_begins_8 : cX3_begins.data.toList.drop 187 = dktX3_begins_8 := dk_seg dksX3_begins_7 24 rfl rfl
theorem dX3_begins_0 : decode cX3_begins 0 = .ok (.aload_n 0, 1) := dk_42 (dk_at dksX3_begins_0 0 rfl rfl)
theorem dX3_begins_1 : decode cX3_begins 1 = .ok (.iload_n 1, 1) := dk_27 (dk_at dksX3_begins_0 1 rfl rfl)
theorem dX3_begins_2 : decode cX3_begins 2 = .ok (.putfield 76, 3) := dk_181 0 76 (dk_at dksX3_begins_0 2 rfl rfl)
theorem dX3_begins_5 : decode cX3_begins 5 = .ok (.aload_n 0, 1) := dk_42 (dk_at dksX3_begins_0 5 rfl rfl)
theorem dX3_begins_6 : decode cX3_begins 6 = .ok (.iload_n 2, 1) := dk_28 (dk_at dksX3_begins_0 6 rfl rfl)
theorem dX3_begins_7 : decode cX3_begins 7 = .ok (.putfield 83, 3) := dk_181 0 83 (dk_at dksX3_begins_0 7 rfl rfl)
theorem dX3_begins_10 : decode cX3_begins 10 = .ok (.aload_n 0, 1) := dk_42 (dk_at dksX3_begins_0 10 rfl rfl)
theorem dX3_begins_11 : decode cX3_begins 11 = .ok (.iconst 0, 1) := dk_3 (dk_at dksX3_begins_0 11 rfl rfl)
theorem dX3_begins_12 : decode cX3_begins 12 = .ok (.putfield 86, 3) := dk_181 0 86 (dk_at dksX3_begins_0 12 rfl rfl)
theorem dX3_begins_15 : decode cX3_begins 15 = .ok (.aload_n 0, 1) := dk_42 (dk_at dksX3_begins_0 15 rfl rfl)
theorem dX3_begins_16 : decode cX3_begins 16 = .ok (.iconst 0, 1) := dk_3 (dk_at dksX3_begins_0 16 rfl rfl)
theorem dX3_begins_17 : decode cX3_begins 17 = .ok (.putfield 90, 3) := dk_181 0 90 (dk_at dksX3_begins_0 17 rfl rfl)
theorem dX3_begins_20 : decode cX3_begins 20 = .ok (.aload_n 0, 1) := dk_42 (dk_at dksX3_begins_0 20 rfl rfl)
theorem dX3_begins_21 : decode cX3_begins 21 = .ok (.iconst 0, 1) := dk_3 (dk_at dksX3_begins_0 21 rfl rfl)
theorem dX3_begins_22 : decode cX3_begins 22 = .ok (.putfield 93, 3) := dk_181 0 93 (dk_at dksX3_begins_1 0 rfl rfl)
theorem dX3_begins_25 : decode cX3_begins 25 = .ok (.aload_n 0, 1) := dk_42 (dk_at dksX3_begins_1 3 rfl rfl)
theorem dX3_begins_26 : decode cX3_begins 26 = .ok (.iconst 0, 1) := dk_3 (dk_at dksX3_begins_1 4 rfl rfl)
theorem dX3_begins_27 : decode cX3_begins 27 = .ok (.putfield 96, 3) := dk_181 0 96 (dk_at dksX3_begins_1 5 rfl rfl)
theorem dX3_begins_30 : decode cX3_begins 30 = .ok (.aload_n 0, 1) := dk_42 (dk_at dksX3_begins_1 8 rfl rfl)
theorem dX3_begins_31 : decode cX3_begins 31 = .ok (.iconst 0, 1) := dk_3 (dk_at dksX3_begins_1 9 rfl rfl)
theorem dX3_begins_32 : decode cX3_begins 32 = .ok (.putfield 99, 3) := dk_181 0 99 (dk_at dksX3_begins_1 10 rfl rfl)
theorem dX3_begins_35 : decode cX3_begins 35 = .ok (.iconst 0, 1) := dk_3 (dk_at dksX3_begins_1 13 rfl rfl)
theorem dX3_begins_36 : decode cX3_begins 36 = .ok (.istore_n 3, 1) := dk_62 (dk_at dksX3_begins_1 14 rfl rfl)
theorem dX3_begins_37 : decode cX3_begins 37 = .ok (.iload_n 3, 1) := dk_29 (dk_at dksX3_begins_1 15 rfl rfl)
theorem dX3_begins_38 : decode cX3_begins 38 = .ok (.iconst 5, 1) := dk_8 (dk_at dksX3_begins_1 16 rfl rfl)
theorem dX3_begins_39 : decode cX3_begins 39 = .ok (.if_icmp .ge 65, 3) := dk_162 0 65 (dk_at dksX3_begins_1 17 rfl rfl)
theorem dX3_begins_42 : decode cX3_begins 42 = .ok (.aload_n 0, 1) := dk_42 (dk_at dksX3_begins_1 20 rfl rfl)
theorem dX3_begins_43 : decode cX3_begins 43 = .ok (.getfield 16, 3) := dk_180 0 16 (dk_at dksX3_begins_1 21 rfl rfl)
theorem dX3_begins_46 : decode cX3_begins 46 = .ok (.iload_n 3, 1) := dk_29 (dk_at dksX3_begins_2 0 rfl rfl)
theorem dX3_begins_47 : decode cX3_begins 47 = .ok (.iconst 2, 1) := dk_5 (dk_at dksX3_begins_2 1 rfl rfl)
theorem dX3_begins_48 : decode cX3_begins 48 = .ok (.iastore, 1) := dk_79 (dk_at dksX3_begins_2 2 rfl rfl)
theorem dX3_begins_49 : decode cX3_begins 49 = .ok (.aload_n 0, 1) := dk_42 (dk_at dksX3_begins_2 3 rfl rfl)
theorem dX3_begins_50 : decode cX3_begins 50 = .ok (.getfield 13, 3) := dk_180 0 13 (dk_at dksX3_begins_2 4 rfl rfl)
theorem dX3_begins_53 : decode cX3_begins 53 = .ok (.iconst 4, 1) := dk_7 (dk_at dksX3_begins_2 7 rfl rfl)
theorem dX3_begins_54 : decode cX3_begins 54 = .ok (.iload_n 3, 1) := dk_29 (dk_at dksX3_begins_2 8 rfl rfl)
theorem dX3_begins_55 : decode cX3_begins 55 = .ok (.imul, 1) := dk_104 (dk_at dksX3_begins_2 9 rfl rfl)
theorem dX3_begins_56 : decode cX3_begins 56 = .ok (.iconst 3, 1) := dk_6 (dk_at dksX3_begins_2 10 rfl rfl)
theorem dX3_begins_57 : decode cX3_begins 57 = .ok (.iastore, 1) := dk_79 (dk_at dksX3_begins_2 11 rfl rfl)
theorem dX3_begins_58 : decode cX3_begins 58 = .ok (.aload_n 0, 1) := dk_42 (dk_at dksX3_begins_2 12 rfl rfl)
theorem dX3_begins_59 : decode cX3_begins 59 = .ok (.getfield 13, 3) := dk_180 0 13 (dk_at dksX3_begins_2 13 rfl rfl)
theorem dX3_begins_62 : decode cX3_begins 62 = .ok (.iconst 4, 1) := dk_7 (dk_at dksX3_begins_2 16 rfl rfl)
theorem dX3_begins_63 : decode cX3_begins 63 = .ok (.iload_n 3, 1) := dk_29 (dk_at dksX3_begins_2 17 rfl rfl)
theorem dX3_begins_64 : decode cX3_begins 64 = .ok (.imul, 1) := dk_104 (dk_at dksX3_begins_2 18 rfl rfl)
theorem dX3_begins_65 : decode cX3_begins 65 = .ok (.iconst 1, 1) := dk_4 (dk_at dksX3_begins_2 19 rfl rfl)
theorem dX3_begins_66 : decode cX3_begins 66 = .ok (.iadd, 1) := dk_96 (dk_at dksX3_begins_2 20 rfl rfl)
theorem dX3_begins_67 : decode cX3_begins 67 = .ok (.bipush 12, 2) := dk_16 12 (dk_at dksX3_begins_2 21 rfl rfl)
theorem dX3_begins_69 : decode cX3_begins 69 = .ok (.iastore, 1) := dk_79 (dk_at dksX3_begins_2 23 rfl rfl)
theorem dX3_begins_70 : decode cX3_begins 70 = .ok (.aload_n 0, 1) := dk_42 (dk_at dksX3_begins_3 0 rfl rfl)
theorem dX3_begins_71 : decode cX3_begins 71 = .ok (.getfield 22, 3) := dk_180 0 22 (dk_at dksX3_begins_3 1 rfl rfl)
theorem dX3_begins_74 : decode cX3_begins 74 = .ok (.iload_n 3, 1) := dk_29 (dk_at dksX3_begins_3 4 rfl rfl)
theorem dX3_begins_75 : decode cX3_begins 75 = .ok (.iconst 0, 1) := dk_3 (dk_at dksX3_begins_3 5 rfl rfl)
theorem dX3_begins_76 : decode cX3_begins 76 = .ok (.iastore, 1) := dk_79 (dk_at dksX3_begins_3 6 rfl rfl)
theorem dX3_begins_77 : decode cX3_begins 77 = .ok (.aload_n 0, 1) := dk_42 (dk_at dksX3_begins_3 7 rfl rfl)
theorem dX3_begins_78 : decode cX3_begins 78 = .ok (.getfield 41, 3) := dk_180 0 41 (dk_at dksX3_begins_3 8 rfl rfl)
theorem dX3_begins_81 : decode cX3_begins 81 = .ok (.iload_n 3, 1) := dk_29 (dk_at dksX3_begins_3 11 rfl rfl)
theorem dX3_begins_82 : decode cX3_begins 82 = .ok (.iconst 0, 1) := dk_3 (dk_at dksX3_begins_3 12 rfl rfl)
theorem dX3_begins_83 : decode cX3_begins 83 = .ok (.iastore, 1) := dk_79 (dk_at dksX3_begins_3 13 rfl rfl)
theorem dX3_begins_84 : decode cX3_begins 84 = .ok (.aload_n 0, 1) := dk_42 (dk_at dksX3_begins_3 14 rfl rfl)
theorem dX3_begins_85 : decode cX3_begins 85 = .ok (.getfield 44, 3) := dk_180 0 44 (dk_at dksX3_begins_3 15 rfl rfl)
theorem dX3_begins_88 : decode cX3_begins 88 = .ok (.iload_n 3, 1) := dk_29 (dk_at dksX3_begins_3 18 rfl rfl)
theorem dX3_begins_89 : decode cX3_begins 89 = .ok (.iconst 0, 1) := dk_3 (dk_at dksX3_begins_3 19 rfl rfl)
theorem dX3_begins_90 : decode cX3_begins 90 = .ok (.iastore, 1) := dk_79 (dk_at dksX3_begins_3 20 rfl rfl)
theorem dX3_begins_91 : decode cX3_begins 91 = .ok (.aload_n 0, 1) := dk_42 (dk_at dksX3_begins_3 21 rfl rfl)
theorem dX3_begins_92 : decode cX3_begins 92 = .ok (.getfield 53, 3) := dk_180 0 53 (dk_at dksX3_begins_4 0 rfl rfl)
theorem dX3_begins_95 : decode cX3_begins 95 = .ok (.iload_n 3, 1) := dk_29 (dk_at dksX3_begins_4 3 rfl rfl)
theorem dX3_begins_96 : decode cX3_begins 96 = .ok (.iconst 0, 1) := dk_3 (dk_at dksX3_begins_4 4 rfl rfl)
theorem dX3_begins_97 : decode cX3_begins 97 = .ok (.bastore, 1) := dk_84 (dk_at dksX3_begins_4 5 rfl rfl)
theorem dX3_begins_98 : decode cX3_begins 98 = .ok (.iinc 3 1, 3) := dk_132 3 1 (dk_at dksX3_begins_4 6 rfl rfl)
theorem dX3_begins_101 : decode cX3_begins 101 = .ok (.goto (-64), 3) := dk_167 255 192 (dk_at dksX3_begins_4 9 rfl rfl)
theorem dX3_begins_104 : decode cX3_begins 104 = .ok (.iconst 0, 1) := dk_3 (dk_at dksX3_begins_4 12 rfl rfl)
theorem dX3_begins_105 : decode cX3_begins 105 = .ok (.istore_n 3, 1) := dk_62 (dk_at dksX3_begins_4 13 rfl rfl)
theorem dX3_begins_106 : decode cX3_begins 106 = .ok (.iload_n 3, 1) := dk_29 (dk_at dksX3_begins_4 14 rfl rfl)
theorem dX3_begins_107 : decode cX3_begins 107 = .ok (.iconst 4, 1) := dk_7 (dk_at dksX3_begins_4 15 rfl rfl)
theorem dX3_begins_108 : decode cX3_begins 108 = .ok (.if_icmp .ge 32, 3) := dk_162 0 32 (dk_at dksX3_begins_4 16 rfl rfl)
theorem dX3_begins_111 : decode cX3_begins 111 = .ok (.aload_n 0, 1) := dk_42 (dk_at dksX3_begins_4 19 rfl rfl)
theorem dX3_begins_112 : decode cX3_begins 112 = .ok (.getfield 25, 3) := dk_180 0 25 (dk_at dksX3_begins_4 20 rfl rfl)
theorem dX3_begins_115 : decode cX3_begins 115 = .ok (.iload_n 3, 1) := dk_29 (dk_at dksX3_begins_4 23 rfl rfl)
theorem dX3_begins_116 : decode cX3_begins 116 = .ok (.bipush 10, 2) := dk_16 10 (dk_at dksX3_begins_5 0 rfl rfl)
theorem dX3_begins_118 : decode cX3_begins 118 = .ok (.iastore, 1) := dk_79 (dk_at dksX3_begins_5 2 rfl rfl)
theorem dX3_begins_119 : decode cX3_begins 119 = .ok (.aload_n 0, 1) := dk_42 (dk_at dksX3_begins_5 3 rfl rfl)
theorem dX3_begins_120 : decode cX3_begins 120 = .ok (.getfield 28, 3) := dk_180 0 28 (dk_at dksX3_begins_5 4 rfl rfl)
theorem dX3_begins_123 : decode cX3_begins 123 = .ok (.iload_n 3, 1) := dk_29 (dk_at dksX3_begins_5 7 rfl rfl)
theorem dX3_begins_124 : decode cX3_begins 124 = .ok (.bipush 20, 2) := dk_16 20 (dk_at dksX3_begins_5 8 rfl rfl)
theorem dX3_begins_126 : decode cX3_begins 126 = .ok (.iastore, 1) := dk_79 (dk_at dksX3_begins_5 10 rfl rfl)
theorem dX3_begins_127 : decode cX3_begins 127 = .ok (.aload_n 0, 1) := dk_42 (dk_at dksX3_begins_5 11 rfl rfl)
theorem dX3_begins_128 : decode cX3_begins 128 = .ok (.getfield 47, 3) := dk_180 0 47 (dk_at dksX3_begins_5 12 rfl rfl)
theorem dX3_begins_131 : decode cX3_begins 131 = .ok (.iload_n 3, 1) := dk_29 (dk_at dksX3_begins_5 15 rfl rfl)
theorem dX3_begins_132 : decode cX3_begins 132 = .ok (.iconst 0, 1) := dk_3 (dk_at dksX3_begins_5 16 rfl rfl)
theorem dX3_begins_133 : decode cX3_begins 133 = .ok (.iastore, 1) := dk_79 (dk_at dksX3_begins_5 17 rfl rfl)
theorem dX3_begins_134 : decode cX3_begins 134 = .ok (.iinc 3 1, 3) := dk_132 3 1 (dk_at dksX3_begins_5 18 rfl rfl)
theorem dX3_begins_137 : decode cX3_begins 137 = .ok (.goto (-31), 3) := dk_167 255 225 (dk_at dksX3_begins_5 21 rfl rfl)
theorem dX3_begins_140 : decode cX3_begins 140 = .ok (.iconst 0, 1) := dk_3 (dk_at dksX3_begins_6 0 rfl rfl)
theorem dX3_begins_141 : decode cX3_begins 141 = .ok (.istore_n 3, 1) := dk_62 (dk_at dksX3_begins_6 1 rfl rfl)
theorem dX3_begins_142 : decode cX3_begins 142 = .ok (.iload_n 3, 1) := dk_29 (dk_at dksX3_begins_6 2 rfl rfl)
theorem dX3_begins_143 : decode cX3_begins 143 = .ok (.bipush 80, 2) := dk_16 80 (dk_at dksX3_begins_6 3 rfl rfl)
theorem dX3_begins_145 : decode cX3_begins 145 = .ok (.if_icmp .ge 58, 3) := dk_162 0 58 (dk_at dksX3_begins_6 5 rfl rfl)
theorem dX3_begins_148 : decode cX3_begins 148 = .ok (.aload_n 0, 1) := dk_42 (dk_at dksX3_begins_6 8 rfl rfl)
theorem dX3_begins_149 : decode cX3_begins 149 = .ok (.getfield 7, 3) := dk_180 0 7 (dk_at dksX3_begins_6 9 rfl rfl)
theorem dX3_begins_152 : decode cX3_begins 152 = .ok (.iload_n 3, 1) := dk_29 (dk_at dksX3_begins_6 12 rfl rfl)
theorem dX3_begins_153 : decode cX3_begins 153 = .ok (.iload_n 3, 1) := dk_29 (dk_at dksX3_begins_6 13 rfl rfl)
theorem dX3_begins_154 : decode cX3_begins 154 = .ok (.iconst 4, 1) := dk_7 (dk_at dksX3_begins_6 14 rfl rfl)
theorem dX3_begins_155 : decode cX3_begins 155 = .ok (.idiv, 1) := dk_108 (dk_at dksX3_begins_6 15 rfl rfl)
theorem dX3_begins_156 : decode cX3_begins 156 = .ok (.iconst 4, 1) := dk_7 (dk_at dksX3_begins_6 16 rfl rfl)
theorem dX3_begins_157 : decode cX3_begins 157 = .ok (.irem, 1) := dk_112 (dk_at dksX3_begins_6 17 rfl rfl)
theorem dX3_begins_158 : decode cX3_begins 158 = .ok (.iconst 2, 1) := dk_5 (dk_at dksX3_begins_6 18 rfl rfl)
theorem dX3_begins_159 : decode cX3_begins 159 = .ok (.if_icmp .ge 7, 3) := dk_162 0 7 (dk_at dksX3_begins_6 19 rfl rfl)
theorem dX3_begins_162 : decode cX3_begins 162 = .ok (.iconst 1, 1) := dk_4 (dk_at dksX3_begins_6 22 rfl rfl)
theorem dX3_begins_163 : decode cX3_begins 163 = .ok (.goto 4, 3) := dk_167 0 4 (dk_at dksX3_begins_7 0 rfl rfl)
theorem dX3_begins_166 : decode cX3_begins 166 = .ok (.iconst 0, 1) := dk_3 (dk_at dksX3_begins_7 3 rfl rfl)
theorem dX3_begins_167 : decode cX3_begins 167 = .ok (.iload_n 3, 1) := dk_29 (dk_at dksX3_begins_7 4 rfl rfl)
theorem dX3_begins_168 : decode cX3_begins 168 = .ok (.iconst 4, 1) := dk_7 (dk_at dksX3_begins_7 5 rfl rfl)
theorem dX3_begins_169 : decode cX3_begins 169 = .ok (.irem, 1) := dk_112 (dk_at dksX3_begins_7 6 rfl rfl)
theorem dX3_begins_170 : decode cX3_begins 170 = .ok (.iconst 2, 1) := dk_5 (dk_at dksX3_begins_7 7 rfl rfl)
theorem dX3_begins_171 : decode cX3_begins 171 = .ok (.if_icmp .ge 7, 3) := dk_162 0 7 (dk_at dksX3_begins_7 8 rfl rfl)
theorem dX3_begins_174 : decode cX3_begins 174 = .ok (.iconst 1, 1) := dk_4 (dk_at dksX3_begins_7 11 rfl rfl)
theorem dX3_begins_175 : decode cX3_begins 175 = .ok (.goto 4, 3) := dk_167 0 4 (dk_at dksX3_begins_7 12 rfl rfl)
theorem dX3_begins_178 : decode cX3_begins 178 = .ok (.iconst 0, 1) := dk_3 (dk_at dksX3_begins_7 15 rfl rfl)
theorem dX3_begins_179 : decode cX3_begins 179 = .ok (.if_icmp .eq 7, 3) := dk_159 0 7 (dk_at dksX3_begins_7 16 rfl rfl)
theorem dX3_begins_182 : decode cX3_begins 182 = .ok (.iconst 3, 1) := dk_6 (dk_at dksX3_begins_7 19 rfl rfl)
theorem dX3_begins_183 : decode cX3_begins 183 = .ok (.goto 4, 3) := dk_167 0 4 (dk_at dksX3_begins_7 20 rfl rfl)
theorem dX3_begins_186 : decode cX3_begins 186 = .ok (.iconst (-1), 1) := dk_2 (dk_at dksX3_begins_7 23 rfl rfl)
theorem dX3_begins_187 : decode cX3_begins 187 = .ok (.iastore, 1) := dk_79 (dk_at dksX3_begins_8 0 rfl rfl)
theorem dX3_begins_188 : decode cX3_begins 188 = .ok (.aload_n 0, 1) := dk_42 (dk_at dksX3_begins_8 1 rfl rfl)
theorem dX3_begins_189 : decode cX3_begins 189 = .ok (.getfield 19, 3) := dk_180 0 19 (dk_at dksX3_begins_8 2 rfl rfl)
theorem dX3_begins_192 : decode cX3_begins 192 = .ok (.iload_n 3, 1) := dk_29 (dk_at dksX3_begins_8 5 rfl rfl)
theorem dX3_begins_193 : decode cX3_begins 193 = .ok (.iconst 4, 1) := dk_7 (dk_at dksX3_begins_8 6 rfl rfl)
theorem dX3_begins_194 : decode cX3_begins 194 = .ok (.idiv, 1) := dk_108 (dk_at dksX3_begins_8 7 rfl rfl)
theorem dX3_begins_195 : decode cX3_begins 195 = .ok (.iconst 0, 1) := dk_3 (dk_at dksX3_begins_8 8 rfl rfl)
theorem dX3_begins_196 : decode cX3_begins 196 = .ok (.iastore, 1) := dk_79 (dk_at dksX3_begins_8 9 rfl rfl)
theorem dX3_begins_197 : decode cX3_begins 197 = .ok (.iinc 3 1, 3) := dk_132 3 1 (dk_at dksX3_begins_8 10 rfl rfl)
theorem dX3_begins_200 : decode cX3_begins 200 = .ok (.goto (-58), 3) := dk_167 255 198 (dk_at dksX3_begins_8 13 rfl rfl)
theorem dX3_begins_203 : decode cX3_begins 203 = .ok (.return_, 1) := dk_177 (dk_at dksX3_begins_8 16 rfl rfl)
abbrev cX3_thrown : ByteArray := prog_4_method_2_code
def yX3_thrown : MethodName := ⟨RX3, "thrown", "()I"⟩
theorem dX3_thrown_0 : decode cX3_thrown 0 = .ok (.aload_n 0, 1) := by decide +kernel
theorem dX3_thrown_1 : decode cX3_thrown 1 = .ok (.getfield 72, 3) := by decide +kernel
theorem dX3_thrown_4 : decode cX3_thrown 4 = .ok (.ireturn, 1) := by decide +kernel
abbrev cX3_begin : ByteArray := prog_4_method_11_code
def yX3_begin : MethodName := ⟨RX3, "begin", "(II)V"⟩
def dkwX3_begin_1 : List UInt8 := [167, 0, 4, 4, 182, 0, 102, 153, 0, 9, 42, 27, 28, 182, 0, 68, 177]
abbrev dktX3_begin_1 : List UInt8 := dkwX3_begin_1 ++ []
def dkwX3_begin_0 : List UInt8 := [42, 27, 5, 8, 184, 0, 79, 153, 0, 18, 28, 16, 30, 16, 90, 184, 0, 79, 153, 0, 7, 3]
abbrev dktX3_begin_0 : List UInt8 := dkwX3_begin_0 ++ dktX3_begin_1
theorem dksX3_begin_0 : cX3_begin.data.toList.drop 0 = dktX3_begin_0 := by decide +kernel
theorem dksX3_begin_1 : cX3_begin.data.toList.drop 22 = dktX3_begin_1 := dk_seg dksX3_begin_0 22 rfl rfl
theorem dX3_begin_0 : decode cX3_begin 0 = .ok (.aload_n 0, 1) := dk_42 (dk_at dksX3_begin_0 0 rfl rfl)
theorem dX3_begin_1 : decode cX3_begin 1 = .ok (.iload_n 1, 1) := dk_27 (dk_at dksX3_begin_0 1 rfl rfl)
theorem dX3_begin_2 : decode cX3_begin 2 = .ok (.iconst 2, 1) := dk_5 (dk_at dksX3_begin_0 2 rfl rfl)
theorem dX3_begin_3 : decode cX3_begin 3 = .ok (.iconst 5, 1) := dk_8 (dk_at dksX3_begin_0 3 rfl rfl)
theorem dX3_begin_4 : decode cX3_begin 4 = .ok (.invokestatic 79, 3) := dk_184 0 79 (dk_at dksX3_begin_0 4 rfl rfl)
theorem dX3_begin_7 : decode cX3_begin 7 = .ok (.ifCond .eq 18, 3) := dk_153 0 18 (dk_at dksX3_begin_0 7 rfl rfl)
theorem dX3_begin_10 : decode cX3_begin 10 = .ok (.iload_n 2, 1) := dk_28 (dk_at dksX3_begin_0 10 rfl rfl)
theorem dX3_begin_11 : decode cX3_begin 11 = .ok (.bipush 30, 2) := dk_16 30 (dk_at dksX3_begin_0 11 rfl rfl)
theorem dX3_begin_13 : decode cX3_begin 13 = .ok (.bipush 90, 2) := dk_16 90 (dk_at dksX3_begin_0 13 rfl rfl)
theorem dX3_begin_15 : decode cX3_begin 15 = .ok (.invokestatic 79, 3) := dk_184 0 79 (dk_at dksX3_begin_0 15 rfl rfl)
theorem dX3_begin_18 : decode cX3_begin 18 = .ok (.ifCond .eq 7, 3) := dk_153 0 7 (dk_at dksX3_begin_0 18 rfl rfl)
theorem dX3_begin_21 : decode cX3_begin 21 = .ok (.iconst 0, 1) := dk_3 (dk_at dksX3_begin_0 21 rfl rfl)
theorem dX3_begin_22 : decode cX3_begin 22 = .ok (.goto 4, 3) := dk_167 0 4 (dk_at dksX3_begin_1 0 rfl rfl)
theorem dX3_begin_25 : decode cX3_begin 25 = .ok (.iconst 1, 1) := dk_4 (dk_at dksX3_begin_1 3 rfl rfl)
theorem dX3_begin_26 : decode cX3_begin 26 = .ok (.invokevirtual 102, 3) := dk_182 0 102 (dk_at dksX3_begin_1 4 rfl rfl)
theorem dX3_begin_29 : decode cX3_begin 29 = .ok (.ifCond .eq 9, 3) := dk_153 0 9 (dk_at dksX3_begin_1 7 rfl rfl)
theorem dX3_begin_32 : decode cX3_begin 32 = .ok (.aload_n 0, 1) := dk_42 (dk_at dksX3_begin_1 10 rfl rfl)
theorem dX3_begin_33 : decode cX3_begin 33 = .ok (.iload_n 1, 1) := dk_27 (dk_at dksX3_begin_1 11 rfl rfl)
theorem dX3_begin_34 : decode cX3_begin 34 = .ok (.iload_n 2, 1) := dk_28 (dk_at dksX3_begin_1 12 rfl rfl)
theorem dX3_begin_35 : decode cX3_begin 35 = .ok (.invokevirtual 68, 3) := dk_182 0 68 (dk_at dksX3_begin_1 13 rfl rfl)
theorem dX3_begin_38 : decode cX3_begin 38 = .ok (.return_, 1) := dk_177 (dk_at dksX3_begin_1 16 rfl rfl)
abbrev cX3_in : ByteArray := prog_4_method_4_code
def yX3_in : MethodName := ⟨RX3, "in", "(III)Z"⟩
def dkwX3_in_0 : List UInt8 := [26, 27, 161, 0, 12, 26, 28, 163, 0, 7, 4, 167, 0, 4, 3, 172]
abbrev dktX3_in_0 : List UInt8 := dkwX3_in_0 ++ []
theorem dksX3_in_0 : cX3_in.data.toList.drop 0 = dktX3_in_0 := by decide +kernel
theorem dX3_in_0 : decode cX3_in 0 = .ok (.iload_n 0, 1) := dk_26 (dk_at dksX3_in_0 0 rfl rfl)
theorem dX3_in_1 : decode cX3_in 1 = .ok (.iload_n 1, 1) := dk_27 (dk_at dksX3_in_0 1 rfl rfl)
theorem dX3_in_2 : decode cX3_in 2 = .ok (.if_icmp .lt 12, 3) := dk_161 0 12 (dk_at dksX3_in_0 2 rfl rfl)
theorem dX3_in_5 : decode cX3_in 5 = .ok (.iload_n 0, 1) := dk_26 (dk_at dksX3_in_0 5 rfl rfl)
theorem dX3_in_6 : decode cX3_in 6 = .ok (.iload_n 2, 1) := dk_28 (dk_at dksX3_in_0 6 rfl rfl)
theorem dX3_in_7 : decode cX3_in 7 = .ok (.if_icmp .gt 7, 3) := dk_163 0 7 (dk_at dksX3_in_0 7 rfl rfl)
theorem dX3_in_10 : decode cX3_in 10 = .ok (.iconst 1, 1) := dk_4 (dk_at dksX3_in_0 10 rfl rfl)
theorem dX3_in_11 : decode cX3_in 11 = .ok (.goto 4, 3) := dk_167 0 4 (dk_at dksX3_in_0 11 rfl rfl)
theorem dX3_in_14 : decode cX3_in 14 = .ok (.iconst 0, 1) := dk_3 (dk_at dksX3_in_0 14 rfl rfl)
theorem dX3_in_15 : decode cX3_in 15 = .ok (.ireturn, 1) := dk_172 (dk_at dksX3_in_0 15 rfl rfl)
abbrev cX3_holds : ByteArray := prog_4_method_3_code
def yX3_holds : MethodName := ⟨RX3, "holds", "(I)Z"⟩
def dkwX3_holds_0 : List UInt8 := [42, 27, 181, 0, 72, 27, 154, 0, 7, 4, 167, 0, 4, 3, 172]
abbrev dktX3_holds_0 : List UInt8 := dkwX3_holds_0 ++ []
theorem dksX3_holds_0 : cX3_holds.data.toList.drop 0 = dktX3_holds_0 := by decide +kernel
theorem dX3_holds_0 : decode cX3_holds 0 = .ok (.aload_n 0, 1) := dk_42 (dk_at dksX3_holds_0 0 rfl rfl)
theorem dX3_holds_1 : decode cX3_holds 1 = .ok (.iload_n 1, 1) := dk_27 (dk_at dksX3_holds_0 1 rfl rfl)
theorem dX3_holds_2 : decode cX3_holds 2 = .ok (.putfield 72, 3) := dk_181 0 72 (dk_at dksX3_holds_0 2 rfl rfl)
theorem dX3_holds_5 : decode cX3_holds 5 = .ok (.iload_n 1, 1) := dk_27 (dk_at dksX3_holds_0 5 rfl rfl)
theorem dX3_holds_6 : decode cX3_holds 6 = .ok (.ifCond .ne 7, 3) := dk_154 0 7 (dk_at dksX3_holds_0 6 rfl rfl)
theorem dX3_holds_9 : decode cX3_holds 9 = .ok (.iconst 1, 1) := dk_4 (dk_at dksX3_holds_0 9 rfl rfl)
theorem dX3_holds_10 : decode cX3_holds 10 = .ok (.goto 4, 3) := dk_167 0 4 (dk_at dksX3_holds_0 10 rfl rfl)
theorem dX3_holds_13 : decode cX3_holds 13 = .ok (.iconst 0, 1) := dk_3 (dk_at dksX3_holds_0 13 rfl rfl)
theorem dX3_holds_14 : decode cX3_holds 14 = .ok (.ireturn, 1) := dk_172 (dk_at dksX3_holds_0 14 rfl rfl)
abbrev cX3_setConflict : ByteArray := prog_4_method_15_code
def yX3_setConflict : MethodName := ⟨RX3, "setConflict", "(IIII)I"⟩
def dkwX3_setConflict_2 : List UInt8 := [27, 29, 28, 184, 0, 110, 21, 4, 79, 21, 5, 172]
abbrev dktX3_setConflict_2 : List UInt8 := dkwX3_setConflict_2 ++ []
def dkwX3_setConflict_1 : List UInt8 := [29, 184, 0, 110, 46, 54, 5, 42, 180, 0, 7, 27, 28, 29, 184, 0, 110, 21, 4, 79, 42, 180, 0, 7]
abbrev dktX3_setConflict_1 : List UInt8 := dkwX3_setConflict_1 ++ dktX3_setConflict_2
def dkwX3_setConflict_0 : List UInt8 := [42, 42, 27, 28, 29, 21, 4, 182, 0, 124, 182, 0, 102, 154, 0, 5, 3, 172, 42, 180, 0, 7, 27, 28]
abbrev dktX3_setConflict_0 : List UInt8 := dkwX3_setConflict_0 ++ dktX3_setConflict_1
theorem dksX3_setConflict_0 : cX3_setConflict.data.toList.drop 0 = dktX3_setConflict_0 := by decide +kernel
theorem dksX3_setConflict_1 : cX3_setConflict.data.toList.drop 24 = dktX3_setConflict_1 := dk_seg dksX3_setConflict_0 24 rfl rfl
theorem dksX3_setConflict_2 : cX3_setConflict.data.toList.drop 48 = dktX3_setConflict_2 := dk_seg dksX3_setConflict_1 24 rfl rfl
theorem dX3_setConflict_0 : decode cX3_setConflict 0 = .ok (.aload_n 0, 1) := dk_42 (dk_at dksX3_setConflict_0 0 rfl rfl)
theorem dX3_setConflict_1 : decode cX3_setConflict 1 = .ok (.aload_n 0, 1) := dk_42 (dk_at dksX3_setConflict_0 1 rfl rfl)
theorem dX3_setConflict_2 : decode cX3_setConflict 2 = .ok (.iload_n 1, 1) := dk_27 (dk_at dksX3_setConflict_0 2 rfl rfl)
theorem dX3_setConflict_3 : decode cX3_setConflict 3 = .ok (.iload_n 2, 1) := dk_28 (dk_at dksX3_setConflict_0 3 rfl rfl)
theorem dX3_setConflict_4 : decode cX3_setConflict 4 = .ok (.iload_n 3, 1) := dk_29 (dk_at dksX3_setConflict_0 4 rfl rfl)
theorem dX3_setConflict_5 : decode cX3_setConflict 5 = .ok (.iload 4, 2) := dk_21 4 (dk_at dksX3_setConflict_0 5 rfl rfl)
theorem dX3_setConflict_7 : decode cX3_setConflict 7 = .ok (.invokevirtual 124, 3) := dk_182 0 124 (dk_at dksX3_setConflict_0 7 rfl rfl)
theorem dX3_setConflict_10 : decode cX3_setConflict 10 = .ok (.invokevirtual 102, 3) := dk_182 0 102 (dk_at dksX3_setConflict_0 10 rfl rfl)
theorem dX3_setConflict_13 : decode cX3_setConflict 13 = .ok (.ifCond .ne 5, 3) := dk_154 0 5 (dk_at dksX3_setConflict_0 13 rfl rfl)
theorem dX3_setConflict_16 : decode cX3_setConflict 16 = .ok (.iconst 0, 1) := dk_3 (dk_at dksX3_setConflict_0 16 rfl rfl)
theorem dX3_setConflict_17 : decode cX3_setConflict 17 = .ok (.ireturn, 1) := dk_172 (dk_at dksX3_setConflict_0 17 rfl rfl)
theorem dX3_setConflict_18 : decode cX3_setConflict 18 = .ok (.aload_n 0, 1) := dk_42 (dk_at dksX3_setConflict_0 18 rfl rfl)
theorem dX3_setConflict_19 : decode cX3_setConflict 19 = .ok (.getfield 7, 3) := dk_180 0 7 (dk_at dksX3_setConflict_0 19 rfl rfl)
theorem dX3_setConflict_22 : decode cX3_setConflict 22 = .ok (.iload_n 1, 1) := dk_27 (dk_at dksX3_setConflict_0 22 rfl rfl)
theorem dX3_setConflict_23 : decode cX3_setConflict 23 = .ok (.iload_n 2, 1) := dk_28 (dk_at dksX3_setConflict_0 23 rfl rfl)
theorem dX3_setConflict_24 : decode cX3_setConflict 24 = .ok (.iload_n 3, 1) := dk_29 (dk_at dksX3_setConflict_1 0 rfl rfl)
theorem dX3_setConflict_25 : decode cX3_setConflict 25 = .ok (.invokestatic 110, 3) := dk_184 0 110 (dk_at dksX3_setConflict_1 1 rfl rfl)
theorem dX3_setConflict_28 : decode cX3_setConflict 28 = .ok (.iaload, 1) := dk_46 (dk_at dksX3_setConflict_1 4 rfl rfl)
theorem dX3_setConflict_29 : decode cX3_setConflict 29 = .ok (.istore 5, 2) := dk_54 5 (dk_at dksX3_setConflict_1 5 rfl rfl)
theorem dX3_setConflict_31 : decode cX3_setConflict 31 = .ok (.aload_n 0, 1) := dk_42 (dk_at dksX3_setConflict_1 7 rfl rfl)
theorem dX3_setConflict_32 : decode cX3_setConflict 32 = .ok (.getfield 7, 3) := dk_180 0 7 (dk_at dksX3_setConflict_1 8 rfl rfl)
theorem dX3_setConflict_35 : decode cX3_setConflict 35 = .ok (.iload_n 1, 1) := dk_27 (dk_at dksX3_setConflict_1 11 rfl rfl)
theorem dX3_setConflict_36 : decode cX3_setConflict 36 = .ok (.iload_n 2, 1) := dk_28 (dk_at dksX3_setConflict_1 12 rfl rfl)
theorem dX3_setConflict_37 : decode cX3_setConflict 37 = .ok (.iload_n 3, 1) := dk_29 (dk_at dksX3_setConflict_1 13 rfl rfl)
theorem dX3_setConflict_38 : decode cX3_setConflict 38 = .ok (.invokestatic 110, 3) := dk_184 0 110 (dk_at dksX3_setConflict_1 14 rfl rfl)
theorem dX3_setConflict_41 : decode cX3_setConflict 41 = .ok (.iload 4, 2) := dk_21 4 (dk_at dksX3_setConflict_1 17 rfl rfl)
theorem dX3_setConflict_43 : decode cX3_setConflict 43 = .ok (.iastore, 1) := dk_79 (dk_at dksX3_setConflict_1 19 rfl rfl)
theorem dX3_setConflict_44 : decode cX3_setConflict 44 = .ok (.aload_n 0, 1) := dk_42 (dk_at dksX3_setConflict_1 20 rfl rfl)
theorem dX3_setConflict_45 : decode cX3_setConflict 45 = .ok (.getfield 7, 3) := dk_180 0 7 (dk_at dksX3_setConflict_1 21 rfl rfl)
theorem dX3_setConflict_48 : decode cX3_setConflict 48 = .ok (.iload_n 1, 1) := dk_27 (dk_at dksX3_setConflict_2 0 rfl rfl)
theorem dX3_setConflict_49 : decode cX3_setConflict 49 = .ok (.iload_n 3, 1) := dk_29 (dk_at dksX3_setConflict_2 1 rfl rfl)
theorem dX3_setConflict_50 : decode cX3_setConflict 50 = .ok (.iload_n 2, 1) := dk_28 (dk_at dksX3_setConflict_2 2 rfl rfl)
theorem dX3_setConflict_51 : decode cX3_setConflict 51 = .ok (.invokestatic 110, 3) := dk_184 0 110 (dk_at dksX3_setConflict_2 3 rfl rfl)
theorem dX3_setConflict_54 : decode cX3_setConflict 54 = .ok (.iload 4, 2) := dk_21 4 (dk_at dksX3_setConflict_2 6 rfl rfl)
theorem dX3_setConflict_56 : decode cX3_setConflict 56 = .ok (.iastore, 1) := dk_79 (dk_at dksX3_setConflict_2 8 rfl rfl)
theorem dX3_setConflict_57 : decode cX3_setConflict 57 = .ok (.iload 5, 2) := dk_21 5 (dk_at dksX3_setConflict_2 9 rfl rfl)
theorem dX3_setConflict_59 : decode cX3_setConflict 59 = .ok (.ireturn, 1) := dk_172 (dk_at dksX3_setConflict_2 11 rfl rfl)
abbrev cX3_errorOfConflict : ByteArray := prog_4_method_14_code
def yX3_errorOfConflict : MethodName := ⟨RX3, "errorOfConflict", "(IIII)I"⟩
def dkwX3_errorOfConflict_5 : List UInt8 := [154, 0, 10, 42, 180, 0, 86, 153, 0, 7, 6, 167, 0, 4, 3, 172]
abbrev dktX3_errorOfConflict_5 : List UInt8 := dkwX3_errorOfConflict_5 ++ []
def dkwX3_errorOfConflict_4 : List UInt8 := [21, 4, 2, 16, 9, 184, 0, 79, 154, 0, 7, 5, 167, 0, 26, 21, 4, 2, 159, 0, 8, 21, 5]
abbrev dktX3_errorOfConflict_4 : List UInt8 := dkwX3_errorOfConflict_4 ++ dktX3_errorOfConflict_5
def dkwX3_errorOfConflict_3 : List UInt8 := [184, 0, 106, 153, 0, 7, 4, 167, 0, 4, 3, 54, 5, 132, 6, 1, 167, 255, 199, 28, 29, 159, 0, 14]
abbrev dktX3_errorOfConflict_3 : List UInt8 := dkwX3_errorOfConflict_3 ++ dktX3_errorOfConflict_4
def dkwX3_errorOfConflict_2 : List UInt8 := [21, 6, 96, 46, 54, 7, 21, 5, 154, 0, 21, 21, 7, 28, 184, 0, 106, 153, 0, 16, 21, 7, 29]
abbrev dktX3_errorOfConflict_2 : List UInt8 := dkwX3_errorOfConflict_2 ++ dktX3_errorOfConflict_3
def dkwX3_errorOfConflict_1 : List UInt8 := [3, 54, 5, 3, 54, 6, 21, 6, 42, 180, 0, 16, 27, 46, 162, 0, 52, 42, 180, 0, 13, 7, 27, 104]
abbrev dktX3_errorOfConflict_1 : List UInt8 := dkwX3_errorOfConflict_1 ++ dktX3_errorOfConflict_2
def dkwX3_errorOfConflict_0 : List UInt8 := [42, 27, 182, 0, 118, 153, 0, 17, 28, 184, 0, 121, 153, 0, 10, 29, 184, 0, 121, 154, 0, 5, 4, 172]
abbrev dktX3_errorOfConflict_0 : List UInt8 := dkwX3_errorOfConflict_0 ++ dktX3_errorOfConflict_1
theorem dksX3_errorOfConflict_0 : cX3_errorOfConflict.data.toList.drop 0 = dktX3_errorOfConflict_0 := by decide +kernel
theorem dksX3_errorOfConflict_1 : cX3_errorOfConflict.data.toList.drop 24 = dktX3_errorOfConflict_1 := dk_seg dksX3_errorOfConflict_0 24 rfl rfl
theorem dksX3_errorOfConflict_2 : cX3_errorOfConflict.data.toList.drop 48 = dktX3_errorOfConflict_2 := dk_seg dksX3_errorOfConflict_1 24 rfl rfl
theorem dksX3_errorOfConflict_3 : cX3_errorOfConflict.data.toList.drop 71 = dktX3_errorOfConflict_3 := dk_seg dksX3_errorOfConflict_2 23 rfl rfl
theorem dksX3_errorOfConflict_4 : cX3_errorOfConflict.data.toList.drop 95 = dktX3_errorOfConflict_4 := dk_seg dksX3_errorOfConflict_3 24 rfl rfl
theorem dksX3_errorOfConflict_5 : cX3_errorOfConflict.data.toList.drop 118 = dktX3_errorOfConflict_5 := dk_seg dksX3_errorOfConflict_4 23 rfl rfl
theorem dX3_errorOfConflict_0 : decode cX3_errorOfConflict 0 = .ok (.aload_n 0, 1) := dk_42 (dk_at dksX3_errorOfConflict_0 0 rfl rfl)
theorem dX3_errorOfConflict_1 : decode cX3_errorOfConflict 1 = .ok (.iload_n 1, 1) := dk_27 (dk_at dksX3_errorOfConflict_0 1 rfl rfl)
theorem dX3_errorOfConflict_2 : decode cX3_errorOfConflict 2 = .ok (.invokevirtual 118, 3) := dk_182 0 118 (dk_at dksX3_errorOfConflict_0 2 rfl rfl)
theorem dX3_errorOfConflict_5 : decode cX3_errorOfConflict 5 = .ok (.ifCond .eq 17, 3) := dk_153 0 17 (dk_at dksX3_errorOfConflict_0 5 rfl rfl)
theorem dX3_errorOfConflict_8 : decode cX3_errorOfConflict 8 = .ok (.iload_n 2, 1) := dk_28 (dk_at dksX3_errorOfConflict_0 8 rfl rfl)
theorem dX3_errorOfConflict_9 : decode cX3_errorOfConflict 9 = .ok (.invokestatic 121, 3) := dk_184 0 121 (dk_at dksX3_errorOfConflict_0 9 rfl rfl)
theorem dX3_errorOfConflict_12 : decode cX3_errorOfConflict 12 = .ok (.ifCond .eq 10, 3) := dk_153 0 10 (dk_at dksX3_errorOfConflict_0 12 rfl rfl)
theorem dX3_errorOfConflict_15 : decode cX3_errorOfConflict 15 = .ok (.iload_n 3, 1) := dk_29 (dk_at dksX3_errorOfConflict_0 15 rfl rfl)
theorem dX3_errorOfConflict_16 : decode cX3_errorOfConflict 16 = .ok (.invokestatic 121, 3) := dk_184 0 121 (dk_at dksX3_errorOfConflict_0 16 rfl rfl)
theorem dX3_errorOfConflict_19 : decode cX3_errorOfConflict 19 = .ok (.ifCond .ne 5, 3) := dk_154 0 5 (dk_at dksX3_errorOfConflict_0 19 rfl rfl)
theorem dX3_errorOfConflict_22 : decode cX3_errorOfConflict 22 = .ok (.iconst 1, 1) := dk_4 (dk_at dksX3_errorOfConflict_0 22 rfl rfl)
theorem dX3_errorOfConflict_23 : decode cX3_errorOfConflict 23 = .ok (.ireturn, 1) := dk_172 (dk_at dksX3_errorOfConflict_0 23 rfl rfl)
theorem dX3_errorOfConflict_24 : decode cX3_errorOfConflict 24 = .ok (.iconst 0, 1) := dk_3 (dk_at dksX3_errorOfConflict_1 0 rfl rfl)
theorem dX3_errorOfConflict_25 : decode cX3_errorOfConflict 25 = .ok (.istore 5, 2) := dk_54 5 (dk_at dksX3_errorOfConflict_1 1 rfl rfl)
theorem dX3_errorOfConflict_27 : decode cX3_errorOfConflict 27 = .ok (.iconst 0, 1) := dk_3 (dk_at dksX3_errorOfConflict_1 3 rfl rfl)
theorem dX3_errorOfConflict_28 : decode cX3_errorOfConflict 28 = .ok (.istore 6, 2) := dk_54 6 (dk_at dksX3_errorOfConflict_1 4 rfl rfl)
theorem dX3_errorOfConflict_30 : decode cX3_errorOfConflict 30 = .ok (.iload 6, 2) := dk_21 6 (dk_at dksX3_errorOfConflict_1 6 rfl rfl)
theorem dX3_errorOfConflict_32 : decode cX3_errorOfConflict 32 = .ok (.aload_n 0, 1) := dk_42 (dk_at dksX3_errorOfConflict_1 8 rfl rfl)
theorem dX3_errorOfConflict_33 : decode cX3_errorOfConflict 33 = .ok (.getfield 16, 3) := dk_180 0 16 (dk_at dksX3_errorOfConflict_1 9 rfl rfl)
theorem dX3_errorOfConflict_36 : decode cX3_errorOfConflict 36 = .ok (.iload_n 1, 1) := dk_27 (dk_at dksX3_errorOfConflict_1 12 rfl rfl)
theorem dX3_errorOfConflict_37 : decode cX3_errorOfConflict 37 = .ok (.iaload, 1) := dk_46 (dk_at dksX3_errorOfConflict_1 13 rfl rfl)
theorem dX3_errorOfConflict_38 : decode cX3_errorOfConflict 38 = .ok (.if_icmp .ge 52, 3) := dk_162 0 52 (dk_at dksX3_errorOfConflict_1 14 rfl rfl)
theorem dX3_errorOfConflict_41 : decode cX3_errorOfConflict 41 = .ok (.aload_n 0, 1) := dk_42 (dk_at dksX3_errorOfConflict_1 17 rfl rfl)
theorem dX3_errorOfConflict_42 : decode cX3_errorOfConflict 42 = .ok (.getfield 13, 3) := dk_180 0 13 (dk_at dksX3_errorOfConflict_1 18 rfl rfl)
theorem dX3_errorOfConflict_45 : decode cX3_errorOfConflict 45 = .ok (.iconst 4, 1) := dk_7 (dk_at dksX3_errorOfConflict_1 21 rfl rfl)
theorem dX3_errorOfConflict_46 : decode cX3_errorOfConflict 46 = .ok (.iload_n 1, 1) := dk_27 (dk_at dksX3_errorOfConflict_1 22 rfl rfl)
theorem dX3_errorOfConflict_47 : decode cX3_errorOfConflict 47 = .ok (.imul, 1) := dk_104 (dk_at dksX3_errorOfConflict_1 23 rfl rfl)
theorem dX3_errorOfConflict_48 : decode cX3_errorOfConflict 48 = .ok (.iload 6, 2) := dk_21 6 (dk_at dksX3_errorOfConflict_2 0 rfl rfl)
theorem dX3_errorOfConflict_50 : decode cX3_errorOfConflict 50 = .ok (.iadd, 1) := dk_96 (dk_at dksX3_errorOfConflict_2 2 rfl rfl)
theorem dX3_errorOfConflict_51 : decode cX3_errorOfConflict 51 = .ok (.iaload, 1) := dk_46 (dk_at dksX3_errorOfConflict_2 3 rfl rfl)
theorem dX3_errorOfConflict_52 : decode cX3_errorOfConflict 52 = .ok (.istore 7, 2) := dk_54 7 (dk_at dksX3_errorOfConflict_2 4 rfl rfl)
theorem dX3_errorOfConflict_54 : decode cX3_errorOfConflict 54 = .ok (.iload 5, 2) := dk_21 5 (dk_at dksX3_errorOfConflict_2 6 rfl rfl)
theorem dX3_errorOfConflict_56 : decode cX3_errorOfConflict 56 = .ok (.ifCond .ne 21, 3) := dk_154 0 21 (dk_at dksX3_errorOfConflict_2 8 rfl rfl)
theorem dX3_errorOfConflict_59 : decode cX3_errorOfConflict 59 = .ok (.iload 7, 2) := dk_21 7 (dk_at dksX3_errorOfConflict_2 11 rfl rfl)
theorem dX3_errorOfConflict_61 : decode cX3_errorOfConflict 61 = .ok (.iload_n 2, 1) := dk_28 (dk_at dksX3_errorOfConflict_2 13 rfl rfl)
theorem dX3_errorOfConflict_62 : decode cX3_errorOfConflict 62 = .ok (.invokestatic 106, 3) := dk_184 0 106 (dk_at dksX3_errorOfConflict_2 14 rfl rfl)
theorem dX3_errorOfConflict_65 : decode cX3_errorOfConflict 65 = .ok (.ifCond .eq 16, 3) := dk_153 0 16 (dk_at dksX3_errorOfConflict_2 17 rfl rfl)
theorem dX3_errorOfConflict_68 : decode cX3_errorOfConflict 68 = .ok (.iload 7, 2) := dk_21 7 (dk_at dksX3_errorOfConflict_2 20 rfl rfl)
theorem dX3_errorOfConflict_70 : decode cX3_errorOfConflict 70 = .ok (.iload_n 3, 1) := dk_29 (dk_at dksX3_errorOfConflict_2 22 rfl rfl)
theorem dX3_errorOfConflict_71 : decode cX3_errorOfConflict 71 = .ok (.invokestatic 106, 3) := dk_184 0 106 (dk_at dksX3_errorOfConflict_3 0 rfl rfl)
theorem dX3_errorOfConflict_74 : decode cX3_errorOfConflict 74 = .ok (.ifCond .eq 7, 3) := dk_153 0 7 (dk_at dksX3_errorOfConflict_3 3 rfl rfl)
theorem dX3_errorOfConflict_77 : decode cX3_errorOfConflict 77 = .ok (.iconst 1, 1) := dk_4 (dk_at dksX3_errorOfConflict_3 6 rfl rfl)
theorem dX3_errorOfConflict_78 : decode cX3_errorOfConflict 78 = .ok (.goto 4, 3) := dk_167 0 4 (dk_at dksX3_errorOfConflict_3 7 rfl rfl)
theorem dX3_errorOfConflict_81 : decode cX3_errorOfConflict 81 = .ok (.iconst 0, 1) := dk_3 (dk_at dksX3_errorOfConflict_3 10 rfl rfl)
theorem dX3_errorOfConflict_82 : decode cX3_errorOfConflict 82 = .ok (.istore 5, 2) := dk_54 5 (dk_at dksX3_errorOfConflict_3 11 rfl rfl)
theorem dX3_errorOfConflict_84 : decode cX3_errorOfConflict 84 = .ok (.iinc 6 1, 3) := dk_132 6 1 (dk_at dksX3_errorOfConflict_3 13 rfl rfl)
theorem dX3_errorOfConflict_87 : decode cX3_errorOfConflict 87 = .ok (.goto (-57), 3) := dk_167 255 199 (dk_at dksX3_errorOfConflict_3 16 rfl rfl)
theorem dX3_errorOfConflict_90 : decode cX3_errorOfConflict 90 = .ok (.iload_n 2, 1) := dk_28 (dk_at dksX3_errorOfConflict_3 19 rfl rfl)
theorem dX3_errorOfConflict_91 : decode cX3_errorOfConflict 91 = .ok (.iload_n 3, 1) := dk_29 (dk_at dksX3_errorOfConflict_3 20 rfl rfl)
theorem dX3_errorOfConflict_92 : decode cX3_errorOfConflict 92 = .ok (.if_icmp .eq 14, 3) := dk_159 0 14 (dk_at dksX3_errorOfConflict_3 21 rfl rfl)
theorem dX3_errorOfConflict_95 : decode cX3_errorOfConflict 95 = .ok (.iload 4, 2) := dk_21 4 (dk_at dksX3_errorOfConflict_4 0 rfl rfl)
theorem dX3_errorOfConflict_97 : decode cX3_errorOfConflict 97 = .ok (.iconst (-1), 1) := dk_2 (dk_at dksX3_errorOfConflict_4 2 rfl rfl)
theorem dX3_errorOfConflict_98 : decode cX3_errorOfConflict 98 = .ok (.bipush 9, 2) := dk_16 9 (dk_at dksX3_errorOfConflict_4 3 rfl rfl)
theorem dX3_errorOfConflict_100 : decode cX3_errorOfConflict 100 = .ok (.invokestatic 79, 3) := dk_184 0 79 (dk_at dksX3_errorOfConflict_4 5 rfl rfl)
theorem dX3_errorOfConflict_103 : decode cX3_errorOfConflict 103 = .ok (.ifCond .ne 7, 3) := dk_154 0 7 (dk_at dksX3_errorOfConflict_4 8 rfl rfl)
theorem dX3_errorOfConflict_106 : decode cX3_errorOfConflict 106 = .ok (.iconst 2, 1) := dk_5 (dk_at dksX3_errorOfConflict_4 11 rfl rfl)
theorem dX3_errorOfConflict_107 : decode cX3_errorOfConflict 107 = .ok (.goto 26, 3) := dk_167 0 26 (dk_at dksX3_errorOfConflict_4 12 rfl rfl)
theorem dX3_errorOfConflict_110 : decode cX3_errorOfConflict 110 = .ok (.iload 4, 2) := dk_21 4 (dk_at dksX3_errorOfConflict_4 15 rfl rfl)
theorem dX3_errorOfConflict_112 : decode cX3_errorOfConflict 112 = .ok (.iconst (-1), 1) := dk_2 (dk_at dksX3_errorOfConflict_4 17 rfl rfl)
theorem dX3_errorOfConflict_113 : decode cX3_errorOfConflict 113 = .ok (.if_icmp .eq 8, 3) := dk_159 0 8 (dk_at dksX3_errorOfConflict_4 18 rfl rfl)
theorem dX3_errorOfConflict_116 : decode cX3_errorOfConflict 116 = .ok (.iload 5, 2) := dk_21 5 (dk_at dksX3_errorOfConflict_4 21 rfl rfl)
theorem dX3_errorOfConflict_118 : decode cX3_errorOfConflict 118 = .ok (.ifCond .ne 10, 3) := dk_154 0 10 (dk_at dksX3_errorOfConflict_5 0 rfl rfl)
theorem dX3_errorOfConflict_121 : decode cX3_errorOfConflict 121 = .ok (.aload_n 0, 1) := dk_42 (dk_at dksX3_errorOfConflict_5 3 rfl rfl)
theorem dX3_errorOfConflict_122 : decode cX3_errorOfConflict 122 = .ok (.getfield 86, 3) := dk_180 0 86 (dk_at dksX3_errorOfConflict_5 4 rfl rfl)
theorem dX3_errorOfConflict_125 : decode cX3_errorOfConflict 125 = .ok (.ifCond .eq 7, 3) := dk_153 0 7 (dk_at dksX3_errorOfConflict_5 7 rfl rfl)
theorem dX3_errorOfConflict_128 : decode cX3_errorOfConflict 128 = .ok (.iconst 3, 1) := dk_6 (dk_at dksX3_errorOfConflict_5 10 rfl rfl)
theorem dX3_errorOfConflict_129 : decode cX3_errorOfConflict 129 = .ok (.goto 4, 3) := dk_167 0 4 (dk_at dksX3_errorOfConflict_5 11 rfl rfl)
theorem dX3_errorOfConflict_132 : decode cX3_errorOfConflict 132 = .ok (.iconst 0, 1) := dk_3 (dk_at dksX3_errorOfConflict_5 14 rfl rfl)
theorem dX3_errorOfConflict_133 : decode cX3_errorOfConflict 133 = .ok (.ireturn, 1) := dk_172 (dk_at dksX3_errorOfConflict_5 15 rfl rfl)
abbrev cX3_isJunction : ByteArray := prog_4_method_6_code
def yX3_isJunction : MethodName := ⟨RX3, "isJunction", "(I)Z"⟩
def dkwX3_isJunction_0 : List UInt8 := [27, 3, 42, 180, 0, 76, 4, 100, 184, 0, 79, 172]
abbrev dktX3_isJunction_0 : List UInt8 := dkwX3_isJunction_0 ++ []
theorem dksX3_isJunction_0 : cX3_isJunction.data.toList.drop 0 = dktX3_isJunction_0 := by decide +kernel
theorem dX3_isJunction_0 : decode cX3_isJunction 0 = .ok (.iload_n 1, 1) := dk_27 (dk_at dksX3_isJunction_0 0 rfl rfl)
theorem dX3_isJunction_1 : decode cX3_isJunction 1 = .ok (.iconst 0, 1) := dk_3 (dk_at dksX3_isJunction_0 1 rfl rfl)
theorem dX3_isJunction_2 : decode cX3_isJunction 2 = .ok (.aload_n 0, 1) := dk_42 (dk_at dksX3_isJunction_0 2 rfl rfl)
theorem dX3_isJunction_3 : decode cX3_isJunction 3 = .ok (.getfield 76, 3) := dk_180 0 76 (dk_at dksX3_isJunction_0 3 rfl rfl)
theorem dX3_isJunction_6 : decode cX3_isJunction 6 = .ok (.iconst 1, 1) := dk_4 (dk_at dksX3_isJunction_0 6 rfl rfl)
theorem dX3_isJunction_7 : decode cX3_isJunction 7 = .ok (.isub, 1) := dk_100 (dk_at dksX3_isJunction_0 7 rfl rfl)
theorem dX3_isJunction_8 : decode cX3_isJunction 8 = .ok (.invokestatic 79, 3) := dk_184 0 79 (dk_at dksX3_isJunction_0 8 rfl rfl)
theorem dX3_isJunction_11 : decode cX3_isJunction 11 = .ok (.ireturn, 1) := dk_172 (dk_at dksX3_isJunction_0 11 rfl rfl)
abbrev cX3_isMovement : ByteArray := prog_4_method_7_code
def yX3_isMovement : MethodName := ⟨RX3, "isMovement", "(I)Z"⟩
def dkwX3_isMovement_0 : List UInt8 := [26, 3, 6, 184, 0, 79, 172]
abbrev dktX3_isMovement_0 : List UInt8 := dkwX3_isMovement_0 ++ []
theorem dksX3_isMovement_0 : cX3_isMovement.data.toList.drop 0 = dktX3_isMovement_0 := by decide +kernel
theorem dX3_isMovement_0 : decode cX3_isMovement 0 = .ok (.iload_n 0, 1) := dk_26 (dk_at dksX3_isMovement_0 0 rfl rfl)
theorem dX3_isMovement_1 : decode cX3_isMovement 1 = .ok (.iconst 0, 1) := dk_3 (dk_at dksX3_isMovement_0 1 rfl rfl)
theorem dX3_isMovement_2 : decode cX3_isMovement 2 = .ok (.iconst 3, 1) := dk_6 (dk_at dksX3_isMovement_0 2 rfl rfl)
theorem dX3_isMovement_3 : decode cX3_isMovement 3 = .ok (.invokestatic 79, 3) := dk_184 0 79 (dk_at dksX3_isMovement_0 3 rfl rfl)
theorem dX3_isMovement_6 : decode cX3_isMovement 6 = .ok (.ireturn, 1) := dk_172 (dk_at dksX3_isMovement_0 6 rfl rfl)
abbrev cX3_has : ByteArray := prog_4_method_5_code
def yX3_has : MethodName := ⟨RX3, "has", "(II)Z"⟩
def dkwX3_has_0 : List UInt8 := [26, 27, 122, 4, 126, 4, 160, 0, 7, 4, 167, 0, 4, 3, 172]
abbrev dktX3_has_0 : List UInt8 := dkwX3_has_0 ++ []
theorem dksX3_has_0 : cX3_has.data.toList.drop 0 = dktX3_has_0 := by decide +kernel
theorem dX3_has_0 : decode cX3_has 0 = .ok (.iload_n 0, 1) := dk_26 (dk_at dksX3_has_0 0 rfl rfl)
theorem dX3_has_1 : decode cX3_has 1 = .ok (.iload_n 1, 1) := dk_27 (dk_at dksX3_has_0 1 rfl rfl)
theorem dX3_has_2 : decode cX3_has 2 = .ok (.ishr, 1) := dk_122 (dk_at dksX3_has_0 2 rfl rfl)
theorem dX3_has_3 : decode cX3_has 3 = .ok (.iconst 1, 1) := dk_4 (dk_at dksX3_has_0 3 rfl rfl)
theorem dX3_has_4 : decode cX3_has 4 = .ok (.iand, 1) := dk_126 (dk_at dksX3_has_0 4 rfl rfl)
theorem dX3_has_5 : decode cX3_has 5 = .ok (.iconst 1, 1) := dk_4 (dk_at dksX3_has_0 5 rfl rfl)
theorem dX3_has_6 : decode cX3_has 6 = .ok (.if_icmp .ne 7, 3) := dk_160 0 7 (dk_at dksX3_has_0 6 rfl rfl)
theorem dX3_has_9 : decode cX3_has 9 = .ok (.iconst 1, 1) := dk_4 (dk_at dksX3_has_0 9 rfl rfl)
theorem dX3_has_10 : decode cX3_has 10 = .ok (.goto 4, 3) := dk_167 0 4 (dk_at dksX3_has_0 10 rfl rfl)
theorem dX3_has_13 : decode cX3_has 13 = .ok (.iconst 0, 1) := dk_3 (dk_at dksX3_has_0 13 rfl rfl)
theorem dX3_has_14 : decode cX3_has 14 = .ok (.ireturn, 1) := dk_172 (dk_at dksX3_has_0 14 rfl rfl)
abbrev cX3_conflict : ByteArray := prog_4_method_9_code
def yX3_conflict : MethodName := ⟨RX3, "conflict", "(III)I"⟩
def dkwX3_conflict_0 : List UInt8 := [16, 16, 26, 104, 7, 27, 104, 96, 28, 96, 172]
abbrev dktX3_conflict_0 : List UInt8 := dkwX3_conflict_0 ++ []
theorem dksX3_conflict_0 : cX3_conflict.data.toList.drop 0 = dktX3_conflict_0 := by decide +kernel
theorem dX3_conflict_0 : decode cX3_conflict 0 = .ok (.bipush 16, 2) := dk_16 16 (dk_at dksX3_conflict_0 0 rfl rfl)
theorem dX3_conflict_2 : decode cX3_conflict 2 = .ok (.iload_n 0, 1) := dk_26 (dk_at dksX3_conflict_0 2 rfl rfl)
theorem dX3_conflict_3 : decode cX3_conflict 3 = .ok (.imul, 1) := dk_104 (dk_at dksX3_conflict_0 3 rfl rfl)
theorem dX3_conflict_4 : decode cX3_conflict 4 = .ok (.iconst 4, 1) := dk_7 (dk_at dksX3_conflict_0 4 rfl rfl)
theorem dX3_conflict_5 : decode cX3_conflict 5 = .ok (.iload_n 1, 1) := dk_27 (dk_at dksX3_conflict_0 5 rfl rfl)
theorem dX3_conflict_6 : decode cX3_conflict 6 = .ok (.imul, 1) := dk_104 (dk_at dksX3_conflict_0 6 rfl rfl)
theorem dX3_conflict_7 : decode cX3_conflict 7 = .ok (.iadd, 1) := dk_96 (dk_at dksX3_conflict_0 7 rfl rfl)
theorem dX3_conflict_8 : decode cX3_conflict 8 = .ok (.iload_n 2, 1) := dk_28 (dk_at dksX3_conflict_0 8 rfl rfl)
theorem dX3_conflict_9 : decode cX3_conflict 9 = .ok (.iadd, 1) := dk_96 (dk_at dksX3_conflict_0 9 rfl rfl)
theorem dX3_conflict_10 : decode cX3_conflict 10 = .ok (.ireturn, 1) := dk_172 (dk_at dksX3_conflict_0 10 rfl rfl)
abbrev cX3_setPhases : ByteArray := prog_4_method_16_code
def yX3_setPhases : MethodName := ⟨RX3, "setPhases", "(IIIII)I"⟩
def dkwX3_setPhases_10 : List UInt8 := [21, 5, 154, 0, 7, 6, 167, 0, 4, 7, 79, 42, 180, 0, 16, 27, 46, 172]
abbrev dktX3_setPhases_10 : List UInt8 := dkwX3_setPhases_10 ++ []
def dkwX3_setPhases_9 : List UInt8 := [79, 42, 180, 0, 16, 27, 29, 154, 0, 7, 4, 167, 0, 22, 21, 4, 154, 0, 7, 5, 167, 0, 13]
abbrev dktX3_setPhases_9 : List UInt8 := dkwX3_setPhases_9 ++ dktX3_setPhases_10
def dkwX3_setPhases_8 : List UInt8 := [79, 42, 180, 0, 13, 7, 27, 104, 5, 96, 21, 4, 79, 42, 180, 0, 13, 7, 27, 104, 6, 96, 21, 5]
abbrev dktX3_setPhases_8 : List UInt8 := dkwX3_setPhases_8 ++ dktX3_setPhases_9
def dkwX3_setPhases_7 : List UInt8 := [154, 0, 5, 3, 172, 42, 180, 0, 13, 7, 27, 104, 28, 79, 42, 180, 0, 13, 7, 27, 104, 4, 96, 29]
abbrev dktX3_setPhases_7 : List UInt8 := dkwX3_setPhases_7 ++ dktX3_setPhases_8
def dkwX3_setPhases_6 : List UInt8 := [5, 167, 0, 20, 21, 7, 154, 0, 10, 42, 180, 0, 86, 153, 0, 7, 6, 167, 0, 4, 3, 182, 0, 102]
abbrev dktX3_setPhases_6 : List UInt8 := dkwX3_setPhases_6 ++ dktX3_setPhases_7
def dkwX3_setPhases_5 : List UInt8 := [167, 0, 4, 3, 54, 7, 42, 42, 27, 182, 0, 118, 154, 0, 7, 4, 167, 0, 29, 21, 6, 154, 0, 7]
abbrev dktX3_setPhases_5 : List UInt8 := dkwX3_setPhases_5 ++ dktX3_setPhases_6
def dkwX3_setPhases_4 : List UInt8 := [154, 0, 23, 42, 27, 21, 4, 182, 0, 128, 154, 0, 13, 42, 27, 21, 5, 182, 0, 128, 153, 0, 7, 4]
abbrev dktX3_setPhases_4 : List UInt8 := dkwX3_setPhases_4 ++ dktX3_setPhases_5
def dkwX3_setPhases_3 : List UInt8 := [153, 0, 50, 21, 6, 153, 0, 45, 42, 27, 28, 182, 0, 128, 154, 0, 32, 42, 27, 29, 182, 0, 128]
abbrev dktX3_setPhases_3 : List UInt8 := dkwX3_setPhases_3 ++ dktX3_setPhases_4
def dkwX3_setPhases_2 : List UInt8 := [167, 0, 5, 16, 15, 184, 0, 79, 153, 0, 7, 4, 167, 0, 4, 3, 54, 6, 42, 27, 182, 0, 118]
abbrev dktX3_setPhases_2 : List UInt8 := dkwX3_setPhases_2 ++ dktX3_setPhases_3
def dkwX3_setPhases_1 : List UInt8 := [154, 0, 7, 3, 167, 0, 5, 16, 15, 184, 0, 79, 153, 0, 27, 21, 5, 3, 21, 4, 154, 0, 7, 3]
abbrev dktX3_setPhases_1 : List UInt8 := dkwX3_setPhases_1 ++ dktX3_setPhases_2
def dkwX3_setPhases_0 : List UInt8 := [28, 4, 16, 15, 184, 0, 79, 153, 0, 56, 29, 3, 16, 15, 184, 0, 79, 153, 0, 46, 21, 4, 3, 29]
abbrev dktX3_setPhases_0 : List UInt8 := dkwX3_setPhases_0 ++ dktX3_setPhases_1
theorem dksX3_setPhases_0 : cX3_setPhases.data.toList.drop 0 = dktX3_setPhases_0 := by decide +kernel
theorem dksX3_setPhases_1 : cX3_setPhases.data.toList.drop 24 = dktX3_setPhases_1 := dk_seg dksX3_setPhases_0 24 rfl rfl
theorem dksX3_setPhases_2 : cX3_setPhases.data.toList.drop 48 = dktX3_setPhases_2 := dk_seg dksX3_setPhases_1 24 rfl rfl
theorem dksX3_setPhases_3 : cX3_setPhases.data.toList.drop 71 = dktX3_setPhases_3 := dk_seg dksX3_setPhases_2 23 rfl rfl
theorem dksX3_setPhases_4 : cX3_setPhases.data.toList.drop 94 = dktX3_setPhases_4 := dk_seg dksX3_setPhases_3 23 rfl rfl
theorem dksX3_setPhases_5 : cX3_setPhases.data.toList.drop 118 = dktX3_setPhases_5 := dk_seg dksX3_setPhases_4 24 rfl rfl
theorem dksX3_setPhases_6 : cX3_setPhases.data.toList.drop 142 = dktX3_setPhases_6 := dk_seg dksX3_setPhases_5 24 rfl rfl
theorem dksX3_setPhases_7 : cX3_setPhases.data.toList.drop 166 = dktX3_setPhases_7 := dk_seg dksX3_setPhases_6 24 rfl rfl
theorem dksX3_setPhases_8 : cX3_setPhases.data.toList.drop 190 = dktX3_setPhases_8 := dk_seg dksX3_setPhases_7 24 rfl rfl
theorem dksX3_setPhases_9 : cX3_setPhases.data.toList.drop 214 = dktX3_setPhases_9 := dk_seg dksX3_setPhases_8 24 rfl rfl
theorem dksX3_setPhases_10 : cX3_setPhases.data.toList.drop 237 = dktX3_setPhases_10 := dk_seg dksX3_setPhases_9 23 rfl rfl
theorem dX3_setPhases_0 : decode cX3_setPhases 0 = .ok (.iload_n 2, 1) := dk_28 (dk_at dksX3_setPhases_0 0 rfl rfl)
theorem dX3_setPhases_1 : decode cX3_setPhases 1 = .ok (.iconst 1, 1) := dk_4 (dk_at dksX3_setPhases_0 1 rfl rfl)
theorem dX3_setPhases_2 : decode cX3_setPhases 2 = .ok (.bipush 15, 2) := dk_16 15 (dk_at dksX3_setPhases_0 2 rfl rfl)
theorem dX3_setPhases_4 : decode cX3_setPhases 4 = .ok (.invokestatic 79, 3) := dk_184 0 79 (dk_at dksX3_setPhases_0 4 rfl rfl)
theorem dX3_setPhases_7 : decode cX3_setPhases 7 = .ok (.ifCond .eq 56, 3) := dk_153 0 56 (dk_at dksX3_setPhases_0 7 rfl rfl)
theorem dX3_setPhases_10 : decode cX3_setPhases 10 = .ok (.iload_n 3, 1) := dk_29 (dk_at dksX3_setPhases_0 10 rfl rfl)
theorem dX3_setPhases_11 : decode cX3_setPhases 11 = .ok (.iconst 0, 1) := dk_3 (dk_at dksX3_setPhases_0 11 rfl rfl)
theorem dX3_setPhases_12 : decode cX3_setPhases 12 = .ok (.bipush 15, 2) := dk_16 15 (dk_at dksX3_setPhases_0 12 rfl rfl)
theorem dX3_setPhases_14 : decode cX3_setPhases 14 = .ok (.invokestatic 79, 3) := dk_184 0 79 (dk_at dksX3_setPhases_0 14 rfl rfl)
theorem dX3_setPhases_17 : decode cX3_setPhases 17 = .ok (.ifCond .eq 46, 3) := dk_153 0 46 (dk_at dksX3_setPhases_0 17 rfl rfl)
theorem dX3_setPhases_20 : decode cX3_setPhases 20 = .ok (.iload 4, 2) := dk_21 4 (dk_at dksX3_setPhases_0 20 rfl rfl)
theorem dX3_setPhases_22 : decode cX3_setPhases 22 = .ok (.iconst 0, 1) := dk_3 (dk_at dksX3_setPhases_0 22 rfl rfl)
theorem dX3_setPhases_23 : decode cX3_setPhases 23 = .ok (.iload_n 3, 1) := dk_29 (dk_at dksX3_setPhases_0 23 rfl rfl)
theorem dX3_setPhases_24 : decode cX3_setPhases 24 = .ok (.ifCond .ne 7, 3) := dk_154 0 7 (dk_at dksX3_setPhases_1 0 rfl rfl)
theorem dX3_setPhases_27 : decode cX3_setPhases 27 = .ok (.iconst 0, 1) := dk_3 (dk_at dksX3_setPhases_1 3 rfl rfl)
theorem dX3_setPhases_28 : decode cX3_setPhases 28 = .ok (.goto 5, 3) := dk_167 0 5 (dk_at dksX3_setPhases_1 4 rfl rfl)
theorem dX3_setPhases_31 : decode cX3_setPhases 31 = .ok (.bipush 15, 2) := dk_16 15 (dk_at dksX3_setPhases_1 7 rfl rfl)
theorem dX3_setPhases_33 : decode cX3_setPhases 33 = .ok (.invokestatic 79, 3) := dk_184 0 79 (dk_at dksX3_setPhases_1 9 rfl rfl)
theorem dX3_setPhases_36 : decode cX3_setPhases 36 = .ok (.ifCond .eq 27, 3) := dk_153 0 27 (dk_at dksX3_setPhases_1 12 rfl rfl)
theorem dX3_setPhases_39 : decode cX3_setPhases 39 = .ok (.iload 5, 2) := dk_21 5 (dk_at dksX3_setPhases_1 15 rfl rfl)
theorem dX3_setPhases_41 : decode cX3_setPhases 41 = .ok (.iconst 0, 1) := dk_3 (dk_at dksX3_setPhases_1 17 rfl rfl)
theorem dX3_setPhases_42 : decode cX3_setPhases 42 = .ok (.iload 4, 2) := dk_21 4 (dk_at dksX3_setPhases_1 18 rfl rfl)
theorem dX3_setPhases_44 : decode cX3_setPhases 44 = .ok (.ifCond .ne 7, 3) := dk_154 0 7 (dk_at dksX3_setPhases_1 20 rfl rfl)
theorem dX3_setPhases_47 : decode cX3_setPhases 47 = .ok (.iconst 0, 1) := dk_3 (dk_at dksX3_setPhases_1 23 rfl rfl)
theorem dX3_setPhases_48 : decode cX3_setPhases 48 = .ok (.goto 5, 3) := dk_167 0 5 (dk_at dksX3_setPhases_2 0 rfl rfl)
theorem dX3_setPhases_51 : decode cX3_setPhases 51 = .ok (.bipush 15, 2) := dk_16 15 (dk_at dksX3_setPhases_2 3 rfl rfl)
theorem dX3_setPhases_53 : decode cX3_setPhases 53 = .ok (.invokestatic 79, 3) := dk_184 0 79 (dk_at dksX3_setPhases_2 5 rfl rfl)
theorem dX3_setPhases_56 : decode cX3_setPhases 56 = .ok (.ifCond .eq 7, 3) := dk_153 0 7 (dk_at dksX3_setPhases_2 8 rfl rfl)
theorem dX3_setPhases_59 : decode cX3_setPhases 59 = .ok (.iconst 1, 1) := dk_4 (dk_at dksX3_setPhases_2 11 rfl rfl)
theorem dX3_setPhases_60 : decode cX3_setPhases 60 = .ok (.goto 4, 3) := dk_167 0 4 (dk_at dksX3_setPhases_2 12 rfl rfl)
theorem dX3_setPhases_63 : decode cX3_setPhases 63 = .ok (.iconst 0, 1) := dk_3 (dk_at dksX3_setPhases_2 15 rfl rfl)
theorem dX3_setPhases_64 : decode cX3_setPhases 64 = .ok (.istore 6, 2) := dk_54 6 (dk_at dksX3_setPhases_2 16 rfl rfl)
theorem dX3_setPhases_66 : decode cX3_setPhases 66 = .ok (.aload_n 0, 1) := dk_42 (dk_at dksX3_setPhases_2 18 rfl rfl)
theorem dX3_setPhases_67 : decode cX3_setPhases 67 = .ok (.iload_n 1, 1) := dk_27 (dk_at dksX3_setPhases_2 19 rfl rfl)
theorem dX3_setPhases_68 : decode cX3_setPhases 68 = .ok (.invokevirtual 118, 3) := dk_182 0 118 (dk_at dksX3_setPhases_2 20 rfl rfl)
theorem dX3_setPhases_71 : decode cX3_setPhases 71 = .ok (.ifCond .eq 50, 3) := dk_153 0 50 (dk_at dksX3_setPhases_3 0 rfl rfl)
theorem dX3_setPhases_74 : decode cX3_setPhases 74 = .ok (.iload 6, 2) := dk_21 6 (dk_at dksX3_setPhases_3 3 rfl rfl)
theorem dX3_setPhases_76 : decode cX3_setPhases 76 = .ok (.ifCond .eq 45, 3) := dk_153 0 45 (dk_at dksX3_setPhases_3 5 rfl rfl)
theorem dX3_setPhases_79 : decode cX3_setPhases 79 = .ok (.aload_n 0, 1) := dk_42 (dk_at dksX3_setPhases_3 8 rfl rfl)
theorem dX3_setPhases_80 : decode cX3_setPhases 80 = .ok (.iload_n 1, 1) := dk_27 (dk_at dksX3_setPhases_3 9 rfl rfl)
theorem dX3_setPhases_81 : decode cX3_setPhases 81 = .ok (.iload_n 2, 1) := dk_28 (dk_at dksX3_setPhases_3 10 rfl rfl)
theorem dX3_setPhases_82 : decode cX3_setPhases 82 = .ok (.invokevirtual 128, 3) := dk_182 0 128 (dk_at dksX3_setPhases_3 11 rfl rfl)
theorem dX3_setPhases_85 : decode cX3_setPhases 85 = .ok (.ifCond .ne 32, 3) := dk_154 0 32 (dk_at dksX3_setPhases_3 14 rfl rfl)
theorem dX3_setPhases_88 : decode cX3_setPhases 88 = .ok (.aload_n 0, 1) := dk_42 (dk_at dksX3_setPhases_3 17 rfl rfl)
theorem dX3_setPhases_89 : decode cX3_setPhases 89 = .ok (.iload_n 1, 1) := dk_27 (dk_at dksX3_setPhases_3 18 rfl rfl)
theorem dX3_setPhases_90 : decode cX3_setPhases 90 = .ok (.iload_n 3, 1) := dk_29 (dk_at dksX3_setPhases_3 19 rfl rfl)
theorem dX3_setPhases_91 : decode cX3_setPhases 91 = .ok (.invokevirtual 128, 3) := dk_182 0 128 (dk_at dksX3_setPhases_3 20 rfl rfl)
theorem dX3_setPhases_94 : decode cX3_setPhases 94 = .ok (.ifCond .ne 23, 3) := dk_154 0 23 (dk_at dksX3_setPhases_4 0 rfl rfl)
theorem dX3_setPhases_97 : decode cX3_setPhases 97 = .ok (.aload_n 0, 1) := dk_42 (dk_at dksX3_setPhases_4 3 rfl rfl)
theorem dX3_setPhases_98 : decode cX3_setPhases 98 = .ok (.iload_n 1, 1) := dk_27 (dk_at dksX3_setPhases_4 4 rfl rfl)
theorem dX3_setPhases_99 : decode cX3_setPhases 99 = .ok (.iload 4, 2) := dk_21 4 (dk_at dksX3_setPhases_4 5 rfl rfl)
theorem dX3_setPhases_101 : decode cX3_setPhases 101 = .ok (.invokevirtual 128, 3) := dk_182 0 128 (dk_at dksX3_setPhases_4 7 rfl rfl)
theorem dX3_setPhases_104 : decode cX3_setPhases 104 = .ok (.ifCond .ne 13, 3) := dk_154 0 13 (dk_at dksX3_setPhases_4 10 rfl rfl)
theorem dX3_setPhases_107 : decode cX3_setPhases 107 = .ok (.aload_n 0, 1) := dk_42 (dk_at dksX3_setPhases_4 13 rfl rfl)
theorem dX3_setPhases_108 : decode cX3_setPhases 108 = .ok (.iload_n 1, 1) := dk_27 (dk_at dksX3_setPhases_4 14 rfl rfl)
theorem dX3_setPhases_109 : decode cX3_setPhases 109 = .ok (.iload 5, 2) := dk_21 5 (dk_at dksX3_setPhases_4 15 rfl rfl)
theorem dX3_setPhases_111 : decode cX3_setPhases 111 = .ok (.invokevirtual 128, 3) := dk_182 0 128 (dk_at dksX3_setPhases_4 17 rfl rfl)
theorem dX3_setPhases_114 : decode cX3_setPhases 114 = .ok (.ifCond .eq 7, 3) := dk_153 0 7 (dk_at dksX3_setPhases_4 20 rfl rfl)
theorem dX3_setPhases_117 : decode cX3_setPhases 117 = .ok (.iconst 1, 1) := dk_4 (dk_at dksX3_setPhases_4 23 rfl rfl)
theorem dX3_setPhases_118 : decode cX3_setPhases 118 = .ok (.goto 4, 3) := dk_167 0 4 (dk_at dksX3_setPhases_5 0 rfl rfl)
theorem dX3_setPhases_121 : decode cX3_setPhases 121 = .ok (.iconst 0, 1) := dk_3 (dk_at dksX3_setPhases_5 3 rfl rfl)
theorem dX3_setPhases_122 : decode cX3_setPhases 122 = .ok (.istore 7, 2) := dk_54 7 (dk_at dksX3_setPhases_5 4 rfl rfl)
theorem dX3_setPhases_124 : decode cX3_setPhases 124 = .ok (.aload_n 0, 1) := dk_42 (dk_at dksX3_setPhases_5 6 rfl rfl)
theorem dX3_setPhases_125 : decode cX3_setPhases 125 = .ok (.aload_n 0, 1) := dk_42 (dk_at dksX3_setPhases_5 7 rfl rfl)
theorem dX3_setPhases_126 : decode cX3_setPhases 126 = .ok (.iload_n 1, 1) := dk_27 (dk_at dksX3_setPhases_5 8 rfl rfl)
theorem dX3_setPhases_127 : decode cX3_setPhases 127 = .ok (.invokevirtual 118, 3) := dk_182 0 118 (dk_at dksX3_setPhases_5 9 rfl rfl)
theorem dX3_setPhases_130 : decode cX3_setPhases 130 = .ok (.ifCond .ne 7, 3) := dk_154 0 7 (dk_at dksX3_setPhases_5 12 rfl rfl)
theorem dX3_setPhases_133 : decode cX3_setPhases 133 = .ok (.iconst 1, 1) := dk_4 (dk_at dksX3_setPhases_5 15 rfl rfl)
theorem dX3_setPhases_134 : decode cX3_setPhases 134 = .ok (.goto 29, 3) := dk_167 0 29 (dk_at dksX3_setPhases_5 16 rfl rfl)
theorem dX3_setPhases_137 : decode cX3_setPhases 137 = .ok (.iload 6, 2) := dk_21 6 (dk_at dksX3_setPhases_5 19 rfl rfl)
theorem dX3_setPhases_139 : decode cX3_setPhases 139 = .ok (.ifCond .ne 7, 3) := dk_154 0 7 (dk_at dksX3_setPhases_5 21 rfl rfl)
theorem dX3_setPhases_142 : decode cX3_setPhases 142 = .ok (.iconst 2, 1) := dk_5 (dk_at dksX3_setPhases_6 0 rfl rfl)
theorem dX3_setPhases_143 : decode cX3_setPhases 143 = .ok (.goto 20, 3) := dk_167 0 20 (dk_at dksX3_setPhases_6 1 rfl rfl)
theorem dX3_setPhases_146 : decode cX3_setPhases 146 = .ok (.iload 7, 2) := dk_21 7 (dk_at dksX3_setPhases_6 4 rfl rfl)
theorem dX3_setPhases_148 : decode cX3_setPhases 148 = .ok (.ifCond .ne 10, 3) := dk_154 0 10 (dk_at dksX3_setPhases_6 6 rfl rfl)
theorem dX3_setPhases_151 : decode cX3_setPhases 151 = .ok (.aload_n 0, 1) := dk_42 (dk_at dksX3_setPhases_6 9 rfl rfl)
theorem dX3_setPhases_152 : decode cX3_setPhases 152 = .ok (.getfield 86, 3) := dk_180 0 86 (dk_at dksX3_setPhases_6 10 rfl rfl)
theorem dX3_setPhases_155 : decode cX3_setPhases 155 = .ok (.ifCond .eq 7, 3) := dk_153 0 7 (dk_at dksX3_setPhases_6 13 rfl rfl)
theorem dX3_setPhases_158 : decode cX3_setPhases 158 = .ok (.iconst 3, 1) := dk_6 (dk_at dksX3_setPhases_6 16 rfl rfl)
theorem dX3_setPhases_159 : decode cX3_setPhases 159 = .ok (.goto 4, 3) := dk_167 0 4 (dk_at dksX3_setPhases_6 17 rfl rfl)
theorem dX3_setPhases_162 : decode cX3_setPhases 162 = .ok (.iconst 0, 1) := dk_3 (dk_at dksX3_setPhases_6 20 rfl rfl)
theorem dX3_setPhases_163 : decode cX3_setPhases 163 = .ok (.invokevirtual 102, 3) := dk_182 0 102 (dk_at dksX3_setPhases_6 21 rfl rfl)
theorem dX3_setPhases_166 : decode cX3_setPhases 166 = .ok (.ifCond .ne 5, 3) := dk_154 0 5 (dk_at dksX3_setPhases_7 0 rfl rfl)
theorem dX3_setPhases_169 : decode cX3_setPhases 169 = .ok (.iconst 0, 1) := dk_3 (dk_at dksX3_setPhases_7 3 rfl rfl)
theorem dX3_setPhases_170 : decode cX3_setPhases 170 = .ok (.ireturn, 1) := dk_172 (dk_at dksX3_setPhases_7 4 rfl rfl)
theorem dX3_setPhases_171 : decode cX3_setPhases 171 = .ok (.aload_n 0, 1) := dk_42 (dk_at dksX3_setPhases_7 5 rfl rfl)
theorem dX3_setPhases_172 : decode cX3_setPhases 172 = .ok (.getfield 13, 3) := dk_180 0 13 (dk_at dksX3_setPhases_7 6 rfl rfl)
theorem dX3_setPhases_175 : decode cX3_setPhases 175 = .ok (.iconst 4, 1) := dk_7 (dk_at dksX3_setPhases_7 9 rfl rfl)
theorem dX3_setPhases_176 : decode cX3_setPhases 176 = .ok (.iload_n 1, 1) := dk_27 (dk_at dksX3_setPhases_7 10 rfl rfl)
theorem dX3_setPhases_177 : decode cX3_setPhases 177 = .ok (.imul, 1) := dk_104 (dk_at dksX3_setPhases_7 11 rfl rfl)
theorem dX3_setPhases_178 : decode cX3_setPhases 178 = .ok (.iload_n 2, 1) := dk_28 (dk_at dksX3_setPhases_7 12 rfl rfl)
theorem dX3_setPhases_179 : decode cX3_setPhases 179 = .ok (.iastore, 1) := dk_79 (dk_at dksX3_setPhases_7 13 rfl rfl)
theorem dX3_setPhases_180 : decode cX3_setPhases 180 = .ok (.aload_n 0, 1) := dk_42 (dk_at dksX3_setPhases_7 14 rfl rfl)
theorem dX3_setPhases_181 : decode cX3_setPhases 181 = .ok (.getfield 13, 3) := dk_180 0 13 (dk_at dksX3_setPhases_7 15 rfl rfl)
theorem dX3_setPhases_184 : decode cX3_setPhases 184 = .ok (.iconst 4, 1) := dk_7 (dk_at dksX3_setPhases_7 18 rfl rfl)
theorem dX3_setPhases_185 : decode cX3_setPhases 185 = .ok (.iload_n 1, 1) := dk_27 (dk_at dksX3_setPhases_7 19 rfl rfl)
theorem dX3_setPhases_186 : decode cX3_setPhases 186 = .ok (.imul, 1) := dk_104 (dk_at dksX3_setPhases_7 20 rfl rfl)
theorem dX3_setPhases_187 : decode cX3_setPhases 187 = .ok (.iconst 1, 1) := dk_4 (dk_at dksX3_setPhases_7 21 rfl rfl)
theorem dX3_setPhases_188 : decode cX3_setPhases 188 = .ok (.iadd, 1) := dk_96 (dk_at dksX3_setPhases_7 22 rfl rfl)
theorem dX3_setPhases_189 : decode cX3_setPhases 189 = .ok (.iload_n 3, 1) := dk_29 (dk_at dksX3_setPhases_7 23 rfl rfl)
theorem dX3_setPhases_190 : decode cX3_setPhases 190 = .ok (.iastore, 1) := dk_79 (dk_at dksX3_setPhases_8 0 rfl rfl)
theorem dX3_setPhases_191 : decode cX3_setPhases 191 = .ok (.aload_n 0, 1) := dk_42 (dk_at dksX3_setPhases_8 1 rfl rfl)
theorem dX3_setPhases_192 : decode cX3_setPhases 192 = .ok (.getfield 13, 3) := dk_180 0 13 (dk_at dksX3_setPhases_8 2 rfl rfl)
theorem dX3_setPhases_195 : decode cX3_setPhases 195 = .ok (.iconst 4, 1) := dk_7 (dk_at dksX3_setPhases_8 5 rfl rfl)
theorem dX3_setPhases_196 : decode cX3_setPhases 196 = .ok (.iload_n 1, 1) := dk_27 (dk_at dksX3_setPhases_8 6 rfl rfl)
theorem dX3_setPhases_197 : decode cX3_setPhases 197 = .ok (.imul, 1) := dk_104 (dk_at dksX3_setPhases_8 7 rfl rfl)
theorem dX3_setPhases_198 : decode cX3_setPhases 198 = .ok (.iconst 2, 1) := dk_5 (dk_at dksX3_setPhases_8 8 rfl rfl)
theorem dX3_setPhases_199 : decode cX3_setPhases 199 = .ok (.iadd, 1) := dk_96 (dk_at dksX3_setPhases_8 9 rfl rfl)
theorem dX3_setPhases_200 : decode cX3_setPhases 200 = .ok (.iload 4, 2) := dk_21 4 (dk_at dksX3_setPhases_8 10 rfl rfl)
theorem dX3_setPhases_202 : decode cX3_setPhases 202 = .ok (.iastore, 1) := dk_79 (dk_at dksX3_setPhases_8 12 rfl rfl)
theorem dX3_setPhases_203 : decode cX3_setPhases 203 = .ok (.aload_n 0, 1) := dk_42 (dk_at dksX3_setPhases_8 13 rfl rfl)
theorem dX3_setPhases_204 : decode cX3_setPhases 204 = .ok (.getfield 13, 3) := dk_180 0 13 (dk_at dksX3_setPhases_8 14 rfl rfl)
theorem dX3_setPhases_207 : decode cX3_setPhases 207 = .ok (.iconst 4, 1) := dk_7 (dk_at dksX3_setPhases_8 17 rfl rfl)
theorem dX3_setPhases_208 : decode cX3_setPhases 208 = .ok (.iload_n 1, 1) := dk_27 (dk_at dksX3_setPhases_8 18 rfl rfl)
theorem dX3_setPhases_209 : decode cX3_setPhases 209 = .ok (.imul, 1) := dk_104 (dk_at dksX3_setPhases_8 19 rfl rfl)
theorem dX3_setPhases_210 : decode cX3_setPhases 210 = .ok (.iconst 3, 1) := dk_6 (dk_at dksX3_setPhases_8 20 rfl rfl)
theorem dX3_setPhases_211 : decode cX3_setPhases 211 = .ok (.iadd, 1) := dk_96 (dk_at dksX3_setPhases_8 21 rfl rfl)
theorem dX3_setPhases_212 : decode cX3_setPhases 212 = .ok (.iload 5, 2) := dk_21 5 (dk_at dksX3_setPhases_8 22 rfl rfl)
theorem dX3_setPhases_214 : decode cX3_setPhases 214 = .ok (.iastore, 1) := dk_79 (dk_at dksX3_setPhases_9 0 rfl rfl)
theorem dX3_setPhases_215 : decode cX3_setPhases 215 = .ok (.aload_n 0, 1) := dk_42 (dk_at dksX3_setPhases_9 1 rfl rfl)
theorem dX3_setPhases_216 : decode cX3_setPhases 216 = .ok (.getfield 16, 3) := dk_180 0 16 (dk_at dksX3_setPhases_9 2 rfl rfl)
theorem dX3_setPhases_219 : decode cX3_setPhases 219 = .ok (.iload_n 1, 1) := dk_27 (dk_at dksX3_setPhases_9 5 rfl rfl)
theorem dX3_setPhases_220 : decode cX3_setPhases 220 = .ok (.iload_n 3, 1) := dk_29 (dk_at dksX3_setPhases_9 6 rfl rfl)
theorem dX3_setPhases_221 : decode cX3_setPhases 221 = .ok (.ifCond .ne 7, 3) := dk_154 0 7 (dk_at dksX3_setPhases_9 7 rfl rfl)
theorem dX3_setPhases_224 : decode cX3_setPhases 224 = .ok (.iconst 1, 1) := dk_4 (dk_at dksX3_setPhases_9 10 rfl rfl)
theorem dX3_setPhases_225 : decode cX3_setPhases 225 = .ok (.goto 22, 3) := dk_167 0 22 (dk_at dksX3_setPhases_9 11 rfl rfl)
theorem dX3_setPhases_228 : decode cX3_setPhases 228 = .ok (.iload 4, 2) := dk_21 4 (dk_at dksX3_setPhases_9 14 rfl rfl)
theorem dX3_setPhases_230 : decode cX3_setPhases 230 = .ok (.ifCond .ne 7, 3) := dk_154 0 7 (dk_at dksX3_setPhases_9 16 rfl rfl)
theorem dX3_setPhases_233 : decode cX3_setPhases 233 = .ok (.iconst 2, 1) := dk_5 (dk_at dksX3_setPhases_9 19 rfl rfl)
theorem dX3_setPhases_234 : decode cX3_setPhases 234 = .ok (.goto 13, 3) := dk_167 0 13 (dk_at dksX3_setPhases_9 20 rfl rfl)
theorem dX3_setPhases_237 : decode cX3_setPhases 237 = .ok (.iload 5, 2) := dk_21 5 (dk_at dksX3_setPhases_10 0 rfl rfl)
theorem dX3_setPhases_239 : decode cX3_setPhases 239 = .ok (.ifCond .ne 7, 3) := dk_154 0 7 (dk_at dksX3_setPhases_10 2 rfl rfl)
theorem dX3_setPhases_242 : decode cX3_setPhases 242 = .ok (.iconst 3, 1) := dk_6 (dk_at dksX3_setPhases_10 5 rfl rfl)
theorem dX3_setPhases_243 : decode cX3_setPhases 243 = .ok (.goto 4, 3) := dk_167 0 4 (dk_at dksX3_setPhases_10 6 rfl rfl)
theorem dX3_setPhases_246 : decode cX3_setPhases 246 = .ok (.iconst 4, 1) := dk_7 (dk_at dksX3_setPhases_10 9 rfl rfl)
theorem dX3_setPhases_247 : decode cX3_setPhases 247 = .ok (.iastore, 1) := dk_79 (dk_at dksX3_setPhases_10 10 rfl rfl)
theorem dX3_setPhases_248 : decode cX3_setPhases 248 = .ok (.aload_n 0, 1) := dk_42 (dk_at dksX3_setPhases_10 11 rfl rfl)
theorem dX3_setPhases_249 : decode cX3_setPhases 249 = .ok (.getfield 16, 3) := dk_180 0 16 (dk_at dksX3_setPhases_10 12 rfl rfl)
theorem dX3_setPhases_252 : decode cX3_setPhases 252 = .ok (.iload_n 1, 1) := dk_27 (dk_at dksX3_setPhases_10 15 rfl rfl)
theorem dX3_setPhases_253 : decode cX3_setPhases 253 = .ok (.iaload, 1) := dk_46 (dk_at dksX3_setPhases_10 16 rfl rfl)
theorem dX3_setPhases_254 : decode cX3_setPhases 254 = .ok (.ireturn, 1) := dk_172 (dk_at dksX3_setPhases_10 17 rfl rfl)
abbrev cX3_isBad : ByteArray := prog_4_method_13_code
def yX3_isBad : MethodName := ⟨RX3, "isBad", "(II)Z"⟩
def dkwX3_isBad_1 : List UInt8 := [172, 132, 3, 1, 167, 255, 230, 3, 172]
abbrev dktX3_isBad_1 : List UInt8 := dkwX3_isBad_1 ++ []
def dkwX3_isBad_0 : List UInt8 := [3, 62, 29, 16, 16, 162, 0, 26, 42, 27, 28, 29, 7, 108, 29, 7, 112, 182, 0, 114, 153, 0, 5, 4]
abbrev dktX3_isBad_0 : List UInt8 := dkwX3_isBad_0 ++ dktX3_isBad_1
theorem dksX3_isBad_0 : cX3_isBad.data.toList.drop 0 = dktX3_isBad_0 := by decide +kernel
theorem dksX3_isBad_1 : cX3_isBad.data.toList.drop 24 = dktX3_isBad_1 := dk_seg dksX3_isBad_0 24 rfl rfl
theorem dX3_isBad_0 : decode cX3_isBad 0 = .ok (.iconst 0, 1) := dk_3 (dk_at dksX3_isBad_0 0 rfl rfl)
theorem dX3_isBad_1 : decode cX3_isBad 1 = .ok (.istore_n 3, 1) := dk_62 (dk_at dksX3_isBad_0 1 rfl rfl)
theorem dX3_isBad_2 : decode cX3_isBad 2 = .ok (.iload_n 3, 1) := dk_29 (dk_at dksX3_isBad_0 2 rfl rfl)
theorem dX3_isBad_3 : decode cX3_isBad 3 = .ok (.bipush 16, 2) := dk_16 16 (dk_at dksX3_isBad_0 3 rfl rfl)
theorem dX3_isBad_5 : decode cX3_isBad 5 = .ok (.if_icmp .ge 26, 3) := dk_162 0 26 (dk_at dksX3_isBad_0 5 rfl rfl)
theorem dX3_isBad_8 : decode cX3_isBad 8 = .ok (.aload_n 0, 1) := dk_42 (dk_at dksX3_isBad_0 8 rfl rfl)
theorem dX3_isBad_9 : decode cX3_isBad 9 = .ok (.iload_n 1, 1) := dk_27 (dk_at dksX3_isBad_0 9 rfl rfl)
theorem dX3_isBad_10 : decode cX3_isBad 10 = .ok (.iload_n 2, 1) := dk_28 (dk_at dksX3_isBad_0 10 rfl rfl)
theorem dX3_isBad_11 : decode cX3_isBad 11 = .ok (.iload_n 3, 1) := dk_29 (dk_at dksX3_isBad_0 11 rfl rfl)
theorem dX3_isBad_12 : decode cX3_isBad 12 = .ok (.iconst 4, 1) := dk_7 (dk_at dksX3_isBad_0 12 rfl rfl)
theorem dX3_isBad_13 : decode cX3_isBad 13 = .ok (.idiv, 1) := dk_108 (dk_at dksX3_isBad_0 13 rfl rfl)
theorem dX3_isBad_14 : decode cX3_isBad 14 = .ok (.iload_n 3, 1) := dk_29 (dk_at dksX3_isBad_0 14 rfl rfl)
theorem dX3_isBad_15 : decode cX3_isBad 15 = .ok (.iconst 4, 1) := dk_7 (dk_at dksX3_isBad_0 15 rfl rfl)
theorem dX3_isBad_16 : decode cX3_isBad 16 = .ok (.irem, 1) := dk_112 (dk_at dksX3_isBad_0 16 rfl rfl)
theorem dX3_isBad_17 : decode cX3_isBad 17 = .ok (.invokevirtual 114, 3) := dk_182 0 114 (dk_at dksX3_isBad_0 17 rfl rfl)
theorem dX3_isBad_20 : decode cX3_isBad 20 = .ok (.ifCond .eq 5, 3) := dk_153 0 5 (dk_at dksX3_isBad_0 20 rfl rfl)
theorem dX3_isBad_23 : decode cX3_isBad 23 = .ok (.iconst 1, 1) := dk_4 (dk_at dksX3_isBad_0 23 rfl rfl)
theorem dX3_isBad_24 : decode cX3_isBad 24 = .ok (.ireturn, 1) := dk_172 (dk_at dksX3_isBad_1 0 rfl rfl)
theorem dX3_isBad_25 : decode cX3_isBad 25 = .ok (.iinc 3 1, 3) := dk_132 3 1 (dk_at dksX3_isBad_1 1 rfl rfl)
theorem dX3_isBad_28 : decode cX3_isBad 28 = .ok (.goto (-26), 3) := dk_167 255 230 (dk_at dksX3_isBad_1 4 rfl rfl)
theorem dX3_isBad_31 : decode cX3_isBad 31 = .ok (.iconst 0, 1) := dk_3 (dk_at dksX3_isBad_1 7 rfl rfl)
theorem dX3_isBad_32 : decode cX3_isBad 32 = .ok (.ireturn, 1) := dk_172 (dk_at dksX3_isBad_1 8 rfl rfl)
abbrev cX3_areIn : ByteArray := prog_4_method_12_code
def yX3_areIn : MethodName := ⟨RX3, "areIn", "(IIII)Z"⟩
def dkwX3_areIn_1 : List UInt8 := [21, 4, 184, 0, 110, 46, 2, 159, 0, 7, 4, 167, 0, 4, 3, 172]
abbrev dktX3_areIn_1 : List UInt8 := dkwX3_areIn_1 ++ []
def dkwX3_areIn_0 : List UInt8 := [28, 29, 184, 0, 106, 153, 0, 32, 28, 21, 4, 184, 0, 106, 153, 0, 23, 42, 180, 0, 7, 27, 29]
abbrev dktX3_areIn_0 : List UInt8 := dkwX3_areIn_0 ++ dktX3_areIn_1
theorem dksX3_areIn_0 : cX3_areIn.data.toList.drop 0 = dktX3_areIn_0 := by decide +kernel
theorem dksX3_areIn_1 : cX3_areIn.data.toList.drop 23 = dktX3_areIn_1 := dk_seg dksX3_areIn_0 23 rfl rfl
theorem dX3_areIn_0 : decode cX3_areIn 0 = .ok (.iload_n 2, 1) := dk_28 (dk_at dksX3_areIn_0 0 rfl rfl)
theorem dX3_areIn_1 : decode cX3_areIn 1 = .ok (.iload_n 3, 1) := dk_29 (dk_at dksX3_areIn_0 1 rfl rfl)
theorem dX3_areIn_2 : decode cX3_areIn 2 = .ok (.invokestatic 106, 3) := dk_184 0 106 (dk_at dksX3_areIn_0 2 rfl rfl)
theorem dX3_areIn_5 : decode cX3_areIn 5 = .ok (.ifCond .eq 32, 3) := dk_153 0 32 (dk_at dksX3_areIn_0 5 rfl rfl)
theorem dX3_areIn_8 : decode cX3_areIn 8 = .ok (.iload_n 2, 1) := dk_28 (dk_at dksX3_areIn_0 8 rfl rfl)
theorem dX3_areIn_9 : decode cX3_areIn 9 = .ok (.iload 4, 2) := dk_21 4 (dk_at dksX3_areIn_0 9 rfl rfl)
theorem dX3_areIn_11 : decode cX3_areIn 11 = .ok (.invokestatic 106, 3) := dk_184 0 106 (dk_at dksX3_areIn_0 11 rfl rfl)
theorem dX3_areIn_14 : decode cX3_areIn 14 = .ok (.ifCond .eq 23, 3) := dk_153 0 23 (dk_at dksX3_areIn_0 14 rfl rfl)
theorem dX3_areIn_17 : decode cX3_areIn 17 = .ok (.aload_n 0, 1) := dk_42 (dk_at dksX3_areIn_0 17 rfl rfl)
theorem dX3_areIn_18 : decode cX3_areIn 18 = .ok (.getfield 7, 3) := dk_180 0 7 (dk_at dksX3_areIn_0 18 rfl rfl)
theorem dX3_areIn_21 : decode cX3_areIn 21 = .ok (.iload_n 1, 1) := dk_27 (dk_at dksX3_areIn_0 21 rfl rfl)
theorem dX3_areIn_22 : decode cX3_areIn 22 = .ok (.iload_n 3, 1) := dk_29 (dk_at dksX3_areIn_0 22 rfl rfl)
theorem dX3_areIn_23 : decode cX3_areIn 23 = .ok (.iload 4, 2) := dk_21 4 (dk_at dksX3_areIn_1 0 rfl rfl)
theorem dX3_areIn_25 : decode cX3_areIn 25 = .ok (.invokestatic 110, 3) := dk_184 0 110 (dk_at dksX3_areIn_1 2 rfl rfl)
theorem dX3_areIn_28 : decode cX3_areIn 28 = .ok (.iaload, 1) := dk_46 (dk_at dksX3_areIn_1 5 rfl rfl)
theorem dX3_areIn_29 : decode cX3_areIn 29 = .ok (.iconst (-1), 1) := dk_2 (dk_at dksX3_areIn_1 6 rfl rfl)
theorem dX3_areIn_30 : decode cX3_areIn 30 = .ok (.if_icmp .eq 7, 3) := dk_159 0 7 (dk_at dksX3_areIn_1 7 rfl rfl)
theorem dX3_areIn_33 : decode cX3_areIn 33 = .ok (.iconst 1, 1) := dk_4 (dk_at dksX3_areIn_1 10 rfl rfl)
theorem dX3_areIn_34 : decode cX3_areIn 34 = .ok (.goto 4, 3) := dk_167 0 4 (dk_at dksX3_areIn_1 11 rfl rfl)
theorem dX3_areIn_37 : decode cX3_areIn 37 = .ok (.iconst 0, 1) := dk_3 (dk_at dksX3_areIn_1 14 rfl rfl)
theorem dX3_areIn_38 : decode cX3_areIn 38 = .ok (.ireturn, 1) := dk_172 (dk_at dksX3_areIn_1 15 rfl rfl)
abbrev cX3_setFlow : ByteArray := prog_4_method_17_code
def yX3_setFlow : MethodName := ⟨RX3, "setFlow", "(III)I"⟩
def dkwX3_setFlow_3 : List UInt8 := [7, 27, 104, 28, 96, 46, 54, 5, 42, 180, 0, 19, 7, 27, 104, 28, 96, 29, 79, 21, 5, 172]
abbrev dktX3_setFlow_3 : List UInt8 := dkwX3_setFlow_3 ++ []
def dkwX3_setFlow_2 : List UInt8 := [42, 180, 0, 86, 153, 0, 7, 6, 167, 0, 4, 3, 182, 0, 102, 154, 0, 5, 3, 172, 42, 180, 0, 19]
abbrev dktX3_setFlow_2 : List UInt8 := dkwX3_setFlow_2 ++ dktX3_setFlow_3
def dkwX3_setFlow_1 : List UInt8 := [21, 4, 154, 0, 7, 4, 167, 0, 30, 29, 3, 17, 7, 8, 184, 0, 79, 154, 0, 7, 5, 167, 0, 15]
abbrev dktX3_setFlow_1 : List UInt8 := dkwX3_setFlow_1 ++ dktX3_setFlow_2
def dkwX3_setFlow_0 : List UInt8 := [42, 27, 182, 0, 118, 153, 0, 14, 28, 184, 0, 121, 153, 0, 7, 4, 167, 0, 4, 3, 54, 4, 42]
abbrev dktX3_setFlow_0 : List UInt8 := dkwX3_setFlow_0 ++ dktX3_setFlow_1
theorem dksX3_setFlow_0 : cX3_setFlow.data.toList.drop 0 = dktX3_setFlow_0 := by decide +kernel
theorem dksX3_setFlow_1 : cX3_setFlow.data.toList.drop 23 = dktX3_setFlow_1 := dk_seg dksX3_setFlow_0 23 rfl rfl
theorem dksX3_setFlow_2 : cX3_setFlow.data.toList.drop 47 = dktX3_setFlow_2 := dk_seg dksX3_setFlow_1 24 rfl rfl
theorem dksX3_setFlow_3 : cX3_setFlow.data.toList.drop 71 = dktX3_setFlow_3 := dk_seg dksX3_setFlow_2 24 rfl rfl
theorem dX3_setFlow_0 : decode cX3_setFlow 0 = .ok (.aload_n 0, 1) := dk_42 (dk_at dksX3_setFlow_0 0 rfl rfl)
theorem dX3_setFlow_1 : decode cX3_setFlow 1 = .ok (.iload_n 1, 1) := dk_27 (dk_at dksX3_setFlow_0 1 rfl rfl)
theorem dX3_setFlow_2 : decode cX3_setFlow 2 = .ok (.invokevirtual 118, 3) := dk_182 0 118 (dk_at dksX3_setFlow_0 2 rfl rfl)
theorem dX3_setFlow_5 : decode cX3_setFlow 5 = .ok (.ifCond .eq 14, 3) := dk_153 0 14 (dk_at dksX3_setFlow_0 5 rfl rfl)
theorem dX3_setFlow_8 : decode cX3_setFlow 8 = .ok (.iload_n 2, 1) := dk_28 (dk_at dksX3_setFlow_0 8 rfl rfl)
theorem dX3_setFlow_9 : decode cX3_setFlow 9 = .ok (.invokestatic 121, 3) := dk_184 0 121 (dk_at dksX3_setFlow_0 9 rfl rfl)
theorem dX3_setFlow_12 : decode cX3_setFlow 12 = .ok (.ifCond .eq 7, 3) := dk_153 0 7 (dk_at dksX3_setFlow_0 12 rfl rfl)
theorem dX3_setFlow_15 : decode cX3_setFlow 15 = .ok (.iconst 1, 1) := dk_4 (dk_at dksX3_setFlow_0 15 rfl rfl)
theorem dX3_setFlow_16 : decode cX3_setFlow 16 = .ok (.goto 4, 3) := dk_167 0 4 (dk_at dksX3_setFlow_0 16 rfl rfl)
theorem dX3_setFlow_19 : decode cX3_setFlow 19 = .ok (.iconst 0, 1) := dk_3 (dk_at dksX3_setFlow_0 19 rfl rfl)
theorem dX3_setFlow_20 : decode cX3_setFlow 20 = .ok (.istore 4, 2) := dk_54 4 (dk_at dksX3_setFlow_0 20 rfl rfl)
theorem dX3_setFlow_22 : decode cX3_setFlow 22 = .ok (.aload_n 0, 1) := dk_42 (dk_at dksX3_setFlow_0 22 rfl rfl)
theorem dX3_setFlow_23 : decode cX3_setFlow 23 = .ok (.iload 4, 2) := dk_21 4 (dk_at dksX3_setFlow_1 0 rfl rfl)
theorem dX3_setFlow_25 : decode cX3_setFlow 25 = .ok (.ifCond .ne 7, 3) := dk_154 0 7 (dk_at dksX3_setFlow_1 2 rfl rfl)
theorem dX3_setFlow_28 : decode cX3_setFlow 28 = .ok (.iconst 1, 1) := dk_4 (dk_at dksX3_setFlow_1 5 rfl rfl)
theorem dX3_setFlow_29 : decode cX3_setFlow 29 = .ok (.goto 30, 3) := dk_167 0 30 (dk_at dksX3_setFlow_1 6 rfl rfl)
theorem dX3_setFlow_32 : decode cX3_setFlow 32 = .ok (.iload_n 3, 1) := dk_29 (dk_at dksX3_setFlow_1 9 rfl rfl)
theorem dX3_setFlow_33 : decode cX3_setFlow 33 = .ok (.iconst 0, 1) := dk_3 (dk_at dksX3_setFlow_1 10 rfl rfl)
theorem dX3_setFlow_34 : decode cX3_setFlow 34 = .ok (.sipush 1800, 3) := dk_17 7 8 (dk_at dksX3_setFlow_1 11 rfl rfl)
theorem dX3_setFlow_37 : decode cX3_setFlow 37 = .ok (.invokestatic 79, 3) := dk_184 0 79 (dk_at dksX3_setFlow_1 14 rfl rfl)
theorem dX3_setFlow_40 : decode cX3_setFlow 40 = .ok (.ifCond .ne 7, 3) := dk_154 0 7 (dk_at dksX3_setFlow_1 17 rfl rfl)
theorem dX3_setFlow_43 : decode cX3_setFlow 43 = .ok (.iconst 2, 1) := dk_5 (dk_at dksX3_setFlow_1 20 rfl rfl)
theorem dX3_setFlow_44 : decode cX3_setFlow 44 = .ok (.goto 15, 3) := dk_167 0 15 (dk_at dksX3_setFlow_1 21 rfl rfl)
theorem dX3_setFlow_47 : decode cX3_setFlow 47 = .ok (.aload_n 0, 1) := dk_42 (dk_at dksX3_setFlow_2 0 rfl rfl)
theorem dX3_setFlow_48 : decode cX3_setFlow 48 = .ok (.getfield 86, 3) := dk_180 0 86 (dk_at dksX3_setFlow_2 1 rfl rfl)
theorem dX3_setFlow_51 : decode cX3_setFlow 51 = .ok (.ifCond .eq 7, 3) := dk_153 0 7 (dk_at dksX3_setFlow_2 4 rfl rfl)
theorem dX3_setFlow_54 : decode cX3_setFlow 54 = .ok (.iconst 3, 1) := dk_6 (dk_at dksX3_setFlow_2 7 rfl rfl)
theorem dX3_setFlow_55 : decode cX3_setFlow 55 = .ok (.goto 4, 3) := dk_167 0 4 (dk_at dksX3_setFlow_2 8 rfl rfl)
theorem dX3_setFlow_58 : decode cX3_setFlow 58 = .ok (.iconst 0, 1) := dk_3 (dk_at dksX3_setFlow_2 11 rfl rfl)
theorem dX3_setFlow_59 : decode cX3_setFlow 59 = .ok (.invokevirtual 102, 3) := dk_182 0 102 (dk_at dksX3_setFlow_2 12 rfl rfl)
theorem dX3_setFlow_62 : decode cX3_setFlow 62 = .ok (.ifCond .ne 5, 3) := dk_154 0 5 (dk_at dksX3_setFlow_2 15 rfl rfl)
theorem dX3_setFlow_65 : decode cX3_setFlow 65 = .ok (.iconst 0, 1) := dk_3 (dk_at dksX3_setFlow_2 18 rfl rfl)
theorem dX3_setFlow_66 : decode cX3_setFlow 66 = .ok (.ireturn, 1) := dk_172 (dk_at dksX3_setFlow_2 19 rfl rfl)
theorem dX3_setFlow_67 : decode cX3_setFlow 67 = .ok (.aload_n 0, 1) := dk_42 (dk_at dksX3_setFlow_2 20 rfl rfl)
theorem dX3_setFlow_68 : decode cX3_setFlow 68 = .ok (.getfield 19, 3) := dk_180 0 19 (dk_at dksX3_setFlow_2 21 rfl rfl)
theorem dX3_setFlow_71 : decode cX3_setFlow 71 = .ok (.iconst 4, 1) := dk_7 (dk_at dksX3_setFlow_3 0 rfl rfl)
theorem dX3_setFlow_72 : decode cX3_setFlow 72 = .ok (.iload_n 1, 1) := dk_27 (dk_at dksX3_setFlow_3 1 rfl rfl)
theorem dX3_setFlow_73 : decode cX3_setFlow 73 = .ok (.imul, 1) := dk_104 (dk_at dksX3_setFlow_3 2 rfl rfl)
theorem dX3_setFlow_74 : decode cX3_setFlow 74 = .ok (.iload_n 2, 1) := dk_28 (dk_at dksX3_setFlow_3 3 rfl rfl)
theorem dX3_setFlow_75 : decode cX3_setFlow 75 = .ok (.iadd, 1) := dk_96 (dk_at dksX3_setFlow_3 4 rfl rfl)
theorem dX3_setFlow_76 : decode cX3_setFlow 76 = .ok (.iaload, 1) := dk_46 (dk_at dksX3_setFlow_3 5 rfl rfl)
theorem dX3_setFlow_77 : decode cX3_setFlow 77 = .ok (.istore 5, 2) := dk_54 5 (dk_at dksX3_setFlow_3 6 rfl rfl)
theorem dX3_setFlow_79 : decode cX3_setFlow 79 = .ok (.aload_n 0, 1) := dk_42 (dk_at dksX3_setFlow_3 8 rfl rfl)
theorem dX3_setFlow_80 : decode cX3_setFlow 80 = .ok (.getfield 19, 3) := dk_180 0 19 (dk_at dksX3_setFlow_3 9 rfl rfl)
theorem dX3_setFlow_83 : decode cX3_setFlow 83 = .ok (.iconst 4, 1) := dk_7 (dk_at dksX3_setFlow_3 12 rfl rfl)
theorem dX3_setFlow_84 : decode cX3_setFlow 84 = .ok (.iload_n 1, 1) := dk_27 (dk_at dksX3_setFlow_3 13 rfl rfl)
theorem dX3_setFlow_85 : decode cX3_setFlow 85 = .ok (.imul, 1) := dk_104 (dk_at dksX3_setFlow_3 14 rfl rfl)
theorem dX3_setFlow_86 : decode cX3_setFlow 86 = .ok (.iload_n 2, 1) := dk_28 (dk_at dksX3_setFlow_3 15 rfl rfl)
theorem dX3_setFlow_87 : decode cX3_setFlow 87 = .ok (.iadd, 1) := dk_96 (dk_at dksX3_setFlow_3 16 rfl rfl)
theorem dX3_setFlow_88 : decode cX3_setFlow 88 = .ok (.iload_n 3, 1) := dk_29 (dk_at dksX3_setFlow_3 17 rfl rfl)
theorem dX3_setFlow_89 : decode cX3_setFlow 89 = .ok (.iastore, 1) := dk_79 (dk_at dksX3_setFlow_3 18 rfl rfl)
theorem dX3_setFlow_90 : decode cX3_setFlow 90 = .ok (.iload 5, 2) := dk_21 5 (dk_at dksX3_setFlow_3 19 rfl rfl)
theorem dX3_setFlow_92 : decode cX3_setFlow 92 = .ok (.ireturn, 1) := dk_172 (dk_at dksX3_setFlow_3 21 rfl rfl)
abbrev cX3_setLink : ByteArray := prog_4_method_18_code
def yX3_setLink : MethodName := ⟨RX3, "setLink", "(III)V"⟩
def dkwX3_setLink_3 : List UInt8 := [180, 0, 25, 27, 28, 79, 42, 180, 0, 28, 27, 29, 79, 177]
abbrev dktX3_setLink_3 : List UInt8 := dkwX3_setLink_3 ++ []
def dkwX3_setLink_2 : List UInt8 := [167, 0, 15, 42, 180, 0, 86, 153, 0, 7, 6, 167, 0, 4, 3, 182, 0, 102, 153, 0, 17, 42]
abbrev dktX3_setLink_2 : List UInt8 := dkwX3_setLink_2 ++ dktX3_setLink_3
def dkwX3_setLink_1 : List UInt8 := [3, 54, 4, 42, 42, 27, 182, 0, 131, 154, 0, 7, 4, 167, 0, 24, 21, 4, 154, 0, 7, 5]
abbrev dktX3_setLink_1 : List UInt8 := dkwX3_setLink_1 ++ dktX3_setLink_2
def dkwX3_setLink_0 : List UInt8 := [28, 4, 16, 60, 184, 0, 79, 153, 0, 17, 29, 4, 16, 40, 184, 0, 79, 153, 0, 7, 4, 167, 0, 4]
abbrev dktX3_setLink_0 : List UInt8 := dkwX3_setLink_0 ++ dktX3_setLink_1
theorem dksX3_setLink_0 : cX3_setLink.data.toList.drop 0 = dktX3_setLink_0 := by decide +kernel
theorem dksX3_setLink_1 : cX3_setLink.data.toList.drop 24 = dktX3_setLink_1 := dk_seg dksX3_setLink_0 24 rfl rfl
theorem dksX3_setLink_2 : cX3_setLink.data.toList.drop 46 = dktX3_setLink_2 := dk_seg dksX3_setLink_1 22 rfl rfl
theorem dksX3_setLink_3 : cX3_setLink.data.toList.drop 68 = dktX3_setLink_3 := dk_seg dksX3_setLink_2 22 rfl rfl
theorem dX3_setLink_0 : decode cX3_setLink 0 = .ok (.iload_n 2, 1) := dk_28 (dk_at dksX3_setLink_0 0 rfl rfl)
theorem dX3_setLink_1 : decode cX3_setLink 1 = .ok (.iconst 1, 1) := dk_4 (dk_at dksX3_setLink_0 1 rfl rfl)
theorem dX3_setLink_2 : decode cX3_setLink 2 = .ok (.bipush 60, 2) := dk_16 60 (dk_at dksX3_setLink_0 2 rfl rfl)
theorem dX3_setLink_4 : decode cX3_setLink 4 = .ok (.invokestatic 79, 3) := dk_184 0 79 (dk_at dksX3_setLink_0 4 rfl rfl)
theorem dX3_setLink_7 : decode cX3_setLink 7 = .ok (.ifCond .eq 17, 3) := dk_153 0 17 (dk_at dksX3_setLink_0 7 rfl rfl)
theorem dX3_setLink_10 : decode cX3_setLink 10 = .ok (.iload_n 3, 1) := dk_29 (dk_at dksX3_setLink_0 10 rfl rfl)
theorem dX3_setLink_11 : decode cX3_setLink 11 = .ok (.iconst 1, 1) := dk_4 (dk_at dksX3_setLink_0 11 rfl rfl)
theorem dX3_setLink_12 : decode cX3_setLink 12 = .ok (.bipush 40, 2) := dk_16 40 (dk_at dksX3_setLink_0 12 rfl rfl)
theorem dX3_setLink_14 : decode cX3_setLink 14 = .ok (.invokestatic 79, 3) := dk_184 0 79 (dk_at dksX3_setLink_0 14 rfl rfl)
theorem dX3_setLink_17 : decode cX3_setLink 17 = .ok (.ifCond .eq 7, 3) := dk_153 0 7 (dk_at dksX3_setLink_0 17 rfl rfl)
theorem dX3_setLink_20 : decode cX3_setLink 20 = .ok (.iconst 1, 1) := dk_4 (dk_at dksX3_setLink_0 20 rfl rfl)
theorem dX3_setLink_21 : decode cX3_setLink 21 = .ok (.goto 4, 3) := dk_167 0 4 (dk_at dksX3_setLink_0 21 rfl rfl)
theorem dX3_setLink_24 : decode cX3_setLink 24 = .ok (.iconst 0, 1) := dk_3 (dk_at dksX3_setLink_1 0 rfl rfl)
theorem dX3_setLink_25 : decode cX3_setLink 25 = .ok (.istore 4, 2) := dk_54 4 (dk_at dksX3_setLink_1 1 rfl rfl)
theorem dX3_setLink_27 : decode cX3_setLink 27 = .ok (.aload_n 0, 1) := dk_42 (dk_at dksX3_setLink_1 3 rfl rfl)
theorem dX3_setLink_28 : decode cX3_setLink 28 = .ok (.aload_n 0, 1) := dk_42 (dk_at dksX3_setLink_1 4 rfl rfl)
theorem dX3_setLink_29 : decode cX3_setLink 29 = .ok (.iload_n 1, 1) := dk_27 (dk_at dksX3_setLink_1 5 rfl rfl)
theorem dX3_setLink_30 : decode cX3_setLink 30 = .ok (.invokevirtual 131, 3) := dk_182 0 131 (dk_at dksX3_setLink_1 6 rfl rfl)
theorem dX3_setLink_33 : decode cX3_setLink 33 = .ok (.ifCond .ne 7, 3) := dk_154 0 7 (dk_at dksX3_setLink_1 9 rfl rfl)
theorem dX3_setLink_36 : decode cX3_setLink 36 = .ok (.iconst 1, 1) := dk_4 (dk_at dksX3_setLink_1 12 rfl rfl)
theorem dX3_setLink_37 : decode cX3_setLink 37 = .ok (.goto 24, 3) := dk_167 0 24 (dk_at dksX3_setLink_1 13 rfl rfl)
theorem dX3_setLink_40 : decode cX3_setLink 40 = .ok (.iload 4, 2) := dk_21 4 (dk_at dksX3_setLink_1 16 rfl rfl)
theorem dX3_setLink_42 : decode cX3_setLink 42 = .ok (.ifCond .ne 7, 3) := dk_154 0 7 (dk_at dksX3_setLink_1 18 rfl rfl)
theorem dX3_setLink_45 : decode cX3_setLink 45 = .ok (.iconst 2, 1) := dk_5 (dk_at dksX3_setLink_1 21 rfl rfl)
theorem dX3_setLink_46 : decode cX3_setLink 46 = .ok (.goto 15, 3) := dk_167 0 15 (dk_at dksX3_setLink_2 0 rfl rfl)
theorem dX3_setLink_49 : decode cX3_setLink 49 = .ok (.aload_n 0, 1) := dk_42 (dk_at dksX3_setLink_2 3 rfl rfl)
theorem dX3_setLink_50 : decode cX3_setLink 50 = .ok (.getfield 86, 3) := dk_180 0 86 (dk_at dksX3_setLink_2 4 rfl rfl)
theorem dX3_setLink_53 : decode cX3_setLink 53 = .ok (.ifCond .eq 7, 3) := dk_153 0 7 (dk_at dksX3_setLink_2 7 rfl rfl)
theorem dX3_setLink_56 : decode cX3_setLink 56 = .ok (.iconst 3, 1) := dk_6 (dk_at dksX3_setLink_2 10 rfl rfl)
theorem dX3_setLink_57 : decode cX3_setLink 57 = .ok (.goto 4, 3) := dk_167 0 4 (dk_at dksX3_setLink_2 11 rfl rfl)
theorem dX3_setLink_60 : decode cX3_setLink 60 = .ok (.iconst 0, 1) := dk_3 (dk_at dksX3_setLink_2 14 rfl rfl)
theorem dX3_setLink_61 : decode cX3_setLink 61 = .ok (.invokevirtual 102, 3) := dk_182 0 102 (dk_at dksX3_setLink_2 15 rfl rfl)
theorem dX3_setLink_64 : decode cX3_setLink 64 = .ok (.ifCond .eq 17, 3) := dk_153 0 17 (dk_at dksX3_setLink_2 18 rfl rfl)
theorem dX3_setLink_67 : decode cX3_setLink 67 = .ok (.aload_n 0, 1) := dk_42 (dk_at dksX3_setLink_2 21 rfl rfl)
theorem dX3_setLink_68 : decode cX3_setLink 68 = .ok (.getfield 25, 3) := dk_180 0 25 (dk_at dksX3_setLink_3 0 rfl rfl)
theorem dX3_setLink_71 : decode cX3_setLink 71 = .ok (.iload_n 1, 1) := dk_27 (dk_at dksX3_setLink_3 3 rfl rfl)
theorem dX3_setLink_72 : decode cX3_setLink 72 = .ok (.iload_n 2, 1) := dk_28 (dk_at dksX3_setLink_3 4 rfl rfl)
theorem dX3_setLink_73 : decode cX3_setLink 73 = .ok (.iastore, 1) := dk_79 (dk_at dksX3_setLink_3 5 rfl rfl)
theorem dX3_setLink_74 : decode cX3_setLink 74 = .ok (.aload_n 0, 1) := dk_42 (dk_at dksX3_setLink_3 6 rfl rfl)
theorem dX3_setLink_75 : decode cX3_setLink 75 = .ok (.getfield 28, 3) := dk_180 0 28 (dk_at dksX3_setLink_3 7 rfl rfl)
theorem dX3_setLink_78 : decode cX3_setLink 78 = .ok (.iload_n 1, 1) := dk_27 (dk_at dksX3_setLink_3 10 rfl rfl)
theorem dX3_setLink_79 : decode cX3_setLink 79 = .ok (.iload_n 3, 1) := dk_29 (dk_at dksX3_setLink_3 11 rfl rfl)
theorem dX3_setLink_80 : decode cX3_setLink 80 = .ok (.iastore, 1) := dk_79 (dk_at dksX3_setLink_3 12 rfl rfl)
theorem dX3_setLink_81 : decode cX3_setLink 81 = .ok (.return_, 1) := dk_177 (dk_at dksX3_setLink_3 13 rfl rfl)
abbrev cX3_isLink : ByteArray := prog_4_method_8_code
def yX3_isLink : MethodName := ⟨RX3, "isLink", "(I)Z"⟩
def dkwX3_isLink_0 : List UInt8 := [27, 3, 42, 180, 0, 76, 5, 100, 184, 0, 79, 172]
abbrev dktX3_isLink_0 : List UInt8 := dkwX3_isLink_0 ++ []
theorem dksX3_isLink_0 : cX3_isLink.data.toList.drop 0 = dktX3_isLink_0 := by decide +kernel
theorem dX3_isLink_0 : decode cX3_isLink 0 = .ok (.iload_n 1, 1) := dk_27 (dk_at dksX3_isLink_0 0 rfl rfl)
theorem dX3_isLink_1 : decode cX3_isLink 1 = .ok (.iconst 0, 1) := dk_3 (dk_at dksX3_isLink_0 1 rfl rfl)
theorem dX3_isLink_2 : decode cX3_isLink 2 = .ok (.aload_n 0, 1) := dk_42 (dk_at dksX3_isLink_0 2 rfl rfl)
theorem dX3_isLink_3 : decode cX3_isLink 3 = .ok (.getfield 76, 3) := dk_180 0 76 (dk_at dksX3_isLink_0 3 rfl rfl)
theorem dX3_isLink_6 : decode cX3_isLink 6 = .ok (.iconst 2, 1) := dk_5 (dk_at dksX3_isLink_0 6 rfl rfl)
theorem dX3_isLink_7 : decode cX3_isLink 7 = .ok (.isub, 1) := dk_100 (dk_at dksX3_isLink_0 7 rfl rfl)
theorem dX3_isLink_8 : decode cX3_isLink 8 = .ok (.invokestatic 79, 3) := dk_184 0 79 (dk_at dksX3_isLink_0 8 rfl rfl)
theorem dX3_isLink_11 : decode cX3_isLink 11 = .ok (.ireturn, 1) := dk_172 (dk_at dksX3_isLink_0 11 rfl rfl)
abbrev cX3_setOffset : ByteArray := prog_4_method_19_code
def yX3_setOffset : MethodName := ⟨RX3, "setOffset", "(II)I"⟩
def dkwX3_setOffset_2 : List UInt8 := [154, 0, 5, 3, 172, 42, 180, 0, 22, 27, 46, 62, 42, 180, 0, 22, 27, 28, 79, 29, 172]
abbrev dktX3_setOffset_2 : List UInt8 := dkwX3_setOffset_2 ++ []
def dkwX3_setOffset_1 : List UInt8 := [154, 0, 7, 5, 167, 0, 15, 42, 180, 0, 86, 153, 0, 7, 6, 167, 0, 4, 3, 182, 0, 102]
abbrev dktX3_setOffset_1 : List UInt8 := dkwX3_setOffset_1 ++ dktX3_setOffset_2
def dkwX3_setOffset_0 : List UInt8 := [42, 42, 27, 182, 0, 118, 154, 0, 7, 4, 167, 0, 33, 28, 3, 42, 180, 0, 83, 4, 100, 184, 0, 79]
abbrev dktX3_setOffset_0 : List UInt8 := dkwX3_setOffset_0 ++ dktX3_setOffset_1
theorem dksX3_setOffset_0 : cX3_setOffset.data.toList.drop 0 = dktX3_setOffset_0 := by decide +kernel
theorem dksX3_setOffset_1 : cX3_setOffset.data.toList.drop 24 = dktX3_setOffset_1 := dk_seg dksX3_setOffset_0 24 rfl rfl
theorem dksX3_setOffset_2 : cX3_setOffset.data.toList.drop 46 = dktX3_setOffset_2 := dk_seg dksX3_setOffset_1 22 rfl rfl
theorem dX3_setOffset_0 : decode cX3_setOffset 0 = .ok (.aload_n 0, 1) := dk_42 (dk_at dksX3_setOffset_0 0 rfl rfl)
theorem dX3_setOffset_1 : decode cX3_setOffset 1 = .ok (.aload_n 0, 1) := dk_42 (dk_at dksX3_setOffset_0 1 rfl rfl)
theorem dX3_setOffset_2 : decode cX3_setOffset 2 = .ok (.iload_n 1, 1) := dk_27 (dk_at dksX3_setOffset_0 2 rfl rfl)
theorem dX3_setOffset_3 : decode cX3_setOffset 3 = .ok (.invokevirtual 118, 3) := dk_182 0 118 (dk_at dksX3_setOffset_0 3 rfl rfl)
theorem dX3_setOffset_6 : decode cX3_setOffset 6 = .ok (.ifCond .ne 7, 3) := dk_154 0 7 (dk_at dksX3_setOffset_0 6 rfl rfl)
theorem dX3_setOffset_9 : decode cX3_setOffset 9 = .ok (.iconst 1, 1) := dk_4 (dk_at dksX3_setOffset_0 9 rfl rfl)
theorem dX3_setOffset_10 : decode cX3_setOffset 10 = .ok (.goto 33, 3) := dk_167 0 33 (dk_at dksX3_setOffset_0 10 rfl rfl)
theorem dX3_setOffset_13 : decode cX3_setOffset 13 = .ok (.iload_n 2, 1) := dk_28 (dk_at dksX3_setOffset_0 13 rfl rfl)
theorem dX3_setOffset_14 : decode cX3_setOffset 14 = .ok (.iconst 0, 1) := dk_3 (dk_at dksX3_setOffset_0 14 rfl rfl)
theorem dX3_setOffset_15 : decode cX3_setOffset 15 = .ok (.aload_n 0, 1) := dk_42 (dk_at dksX3_setOffset_0 15 rfl rfl)
theorem dX3_setOffset_16 : decode cX3_setOffset 16 = .ok (.getfield 83, 3) := dk_180 0 83 (dk_at dksX3_setOffset_0 16 rfl rfl)
theorem dX3_setOffset_19 : decode cX3_setOffset 19 = .ok (.iconst 1, 1) := dk_4 (dk_at dksX3_setOffset_0 19 rfl rfl)
theorem dX3_setOffset_20 : decode cX3_setOffset 20 = .ok (.isub, 1) := dk_100 (dk_at dksX3_setOffset_0 20 rfl rfl)
theorem dX3_setOffset_21 : decode cX3_setOffset 21 = .ok (.invokestatic 79, 3) := dk_184 0 79 (dk_at dksX3_setOffset_0 21 rfl rfl)
theorem dX3_setOffset_24 : decode cX3_setOffset 24 = .ok (.ifCond .ne 7, 3) := dk_154 0 7 (dk_at dksX3_setOffset_1 0 rfl rfl)
theorem dX3_setOffset_27 : decode cX3_setOffset 27 = .ok (.iconst 2, 1) := dk_5 (dk_at dksX3_setOffset_1 3 rfl rfl)
theorem dX3_setOffset_28 : decode cX3_setOffset 28 = .ok (.goto 15, 3) := dk_167 0 15 (dk_at dksX3_setOffset_1 4 rfl rfl)
theorem dX3_setOffset_31 : decode cX3_setOffset 31 = .ok (.aload_n 0, 1) := dk_42 (dk_at dksX3_setOffset_1 7 rfl rfl)
theorem dX3_setOffset_32 : decode cX3_setOffset 32 = .ok (.getfield 86, 3) := dk_180 0 86 (dk_at dksX3_setOffset_1 8 rfl rfl)
theorem dX3_setOffset_35 : decode cX3_setOffset 35 = .ok (.ifCond .eq 7, 3) := dk_153 0 7 (dk_at dksX3_setOffset_1 11 rfl rfl)
theorem dX3_setOffset_38 : decode cX3_setOffset 38 = .ok (.iconst 3, 1) := dk_6 (dk_at dksX3_setOffset_1 14 rfl rfl)
theorem dX3_setOffset_39 : decode cX3_setOffset 39 = .ok (.goto 4, 3) := dk_167 0 4 (dk_at dksX3_setOffset_1 15 rfl rfl)
theorem dX3_setOffset_42 : decode cX3_setOffset 42 = .ok (.iconst 0, 1) := dk_3 (dk_at dksX3_setOffset_1 18 rfl rfl)
theorem dX3_setOffset_43 : decode cX3_setOffset 43 = .ok (.invokevirtual 102, 3) := dk_182 0 102 (dk_at dksX3_setOffset_1 19 rfl rfl)
theorem dX3_setOffset_46 : decode cX3_setOffset 46 = .ok (.ifCond .ne 5, 3) := dk_154 0 5 (dk_at dksX3_setOffset_2 0 rfl rfl)
theorem dX3_setOffset_49 : decode cX3_setOffset 49 = .ok (.iconst 0, 1) := dk_3 (dk_at dksX3_setOffset_2 3 rfl rfl)
theorem dX3_setOffset_50 : decode cX3_setOffset 50 = .ok (.ireturn, 1) := dk_172 (dk_at dksX3_setOffset_2 4 rfl rfl)
theorem dX3_setOffset_51 : decode cX3_setOffset 51 = .ok (.aload_n 0, 1) := dk_42 (dk_at dksX3_setOffset_2 5 rfl rfl)
theorem dX3_setOffset_52 : decode cX3_setOffset 52 = .ok (.getfield 22, 3) := dk_180 0 22 (dk_at dksX3_setOffset_2 6 rfl rfl)
theorem dX3_setOffset_55 : decode cX3_setOffset 55 = .ok (.iload_n 1, 1) := dk_27 (dk_at dksX3_setOffset_2 9 rfl rfl)
theorem dX3_setOffset_56 : decode cX3_setOffset 56 = .ok (.iaload, 1) := dk_46 (dk_at dksX3_setOffset_2 10 rfl rfl)
theorem dX3_setOffset_57 : decode cX3_setOffset 57 = .ok (.istore_n 3, 1) := dk_62 (dk_at dksX3_setOffset_2 11 rfl rfl)
theorem dX3_setOffset_58 : decode cX3_setOffset 58 = .ok (.aload_n 0, 1) := dk_42 (dk_at dksX3_setOffset_2 12 rfl rfl)
theorem dX3_setOffset_59 : decode cX3_setOffset 59 = .ok (.getfield 22, 3) := dk_180 0 22 (dk_at dksX3_setOffset_2 13 rfl rfl)
theorem dX3_setOffset_62 : decode cX3_setOffset 62 = .ok (.iload_n 1, 1) := dk_27 (dk_at dksX3_setOffset_2 16 rfl rfl)
theorem dX3_setOffset_63 : decode cX3_setOffset 63 = .ok (.iload_n 2, 1) := dk_28 (dk_at dksX3_setOffset_2 17 rfl rfl)
theorem dX3_setOffset_64 : decode cX3_setOffset 64 = .ok (.iastore, 1) := dk_79 (dk_at dksX3_setOffset_2 18 rfl rfl)
theorem dX3_setOffset_65 : decode cX3_setOffset 65 = .ok (.iload_n 3, 1) := dk_29 (dk_at dksX3_setOffset_2 19 rfl rfl)
theorem dX3_setOffset_66 : decode cX3_setOffset 66 = .ok (.ireturn, 1) := dk_172 (dk_at dksX3_setOffset_2 20 rfl rfl)
abbrev cX3_improve : ByteArray := prog_4_method_33_code
def yX3_improve : MethodName := ⟨RX3, "improve", "()I"⟩
def dkwX3_improve_3 : List UInt8 := [60, 132, 3, 1, 167, 255, 227, 132, 2, 1, 167, 255, 207, 42, 182, 0, 170, 172]
abbrev dktX3_improve_3 : List UInt8 := dkwX3_improve_3 ++ []
def dkwX3_improve_2 : List UInt8 := [42, 180, 0, 76, 162, 0, 27, 42, 29, 182, 0, 178, 154, 0, 7, 27, 153, 0, 7, 4, 167, 0, 4, 3]
abbrev dktX3_improve_2 : List UInt8 := dkwX3_improve_2 ++ dktX3_improve_3
def dkwX3_improve_1 : List UInt8 := [154, 0, 5, 3, 172, 4, 60, 3, 61, 28, 16, 10, 162, 0, 49, 27, 153, 0, 45, 3, 60, 4, 62, 29]
abbrev dktX3_improve_1 : List UInt8 := dkwX3_improve_1 ++ dktX3_improve_2
def dkwX3_improve_0 : List UInt8 := [42, 42, 182, 0, 174, 153, 0, 10, 42, 180, 0, 86, 153, 0, 7, 4, 167, 0, 4, 3, 182, 0, 102]
abbrev dktX3_improve_0 : List UInt8 := dkwX3_improve_0 ++ dktX3_improve_1
theorem dksX3_improve_0 : cX3_improve.data.toList.drop 0 = dktX3_improve_0 := by decide +kernel
theorem dksX3_improve_1 : cX3_improve.data.toList.drop 23 = dktX3_improve_1 := dk_seg dksX3_improve_0 23 rfl rfl
theorem dksX3_improve_2 : cX3_improve.data.toList.drop 47 = dktX3_improve_2 := dk_seg dksX3_improve_1 24 rfl rfl
theorem dksX3_improve_3 : cX3_improve.data.toList.drop 71 = dktX3_improve_3 := dk_seg dksX3_improve_2 24 rfl rfl
theorem dX3_improve_0 : decode cX3_improve 0 = .ok (.aload_n 0, 1) := dk_42 (dk_at dksX3_improve_0 0 rfl rfl)
theorem dX3_improve_1 : decode cX3_improve 1 = .ok (.aload_n 0, 1) := dk_42 (dk_at dksX3_improve_0 1 rfl rfl)
theorem dX3_improve_2 : decode cX3_improve 2 = .ok (.invokevirtual 174, 3) := dk_182 0 174 (dk_at dksX3_improve_0 2 rfl rfl)
theorem dX3_improve_5 : decode cX3_improve 5 = .ok (.ifCond .eq 10, 3) := dk_153 0 10 (dk_at dksX3_improve_0 5 rfl rfl)
theorem dX3_improve_8 : decode cX3_improve 8 = .ok (.aload_n 0, 1) := dk_42 (dk_at dksX3_improve_0 8 rfl rfl)
theorem dX3_improve_9 : decode cX3_improve 9 = .ok (.getfield 86, 3) := dk_180 0 86 (dk_at dksX3_improve_0 9 rfl rfl)
theorem dX3_improve_12 : decode cX3_improve 12 = .ok (.ifCond .eq 7, 3) := dk_153 0 7 (dk_at dksX3_improve_0 12 rfl rfl)
theorem dX3_improve_15 : decode cX3_improve 15 = .ok (.iconst 1, 1) := dk_4 (dk_at dksX3_improve_0 15 rfl rfl)
theorem dX3_improve_16 : decode cX3_improve 16 = .ok (.goto 4, 3) := dk_167 0 4 (dk_at dksX3_improve_0 16 rfl rfl)
theorem dX3_improve_19 : decode cX3_improve 19 = .ok (.iconst 0, 1) := dk_3 (dk_at dksX3_improve_0 19 rfl rfl)
theorem dX3_improve_20 : decode cX3_improve 20 = .ok (.invokevirtual 102, 3) := dk_182 0 102 (dk_at dksX3_improve_0 20 rfl rfl)
theorem dX3_improve_23 : decode cX3_improve 23 = .ok (.ifCond .ne 5, 3) := dk_154 0 5 (dk_at dksX3_improve_1 0 rfl rfl)
theorem dX3_improve_26 : decode cX3_improve 26 = .ok (.iconst 0, 1) := dk_3 (dk_at dksX3_improve_1 3 rfl rfl)
theorem dX3_improve_27 : decode cX3_improve 27 = .ok (.ireturn, 1) := dk_172 (dk_at dksX3_improve_1 4 rfl rfl)
theorem dX3_improve_28 : decode cX3_improve 28 = .ok (.iconst 1, 1) := dk_4 (dk_at dksX3_improve_1 5 rfl rfl)
theorem dX3_improve_29 : decode cX3_improve 29 = .ok (.istore_n 1, 1) := dk_60 (dk_at dksX3_improve_1 6 rfl rfl)
theorem dX3_improve_30 : decode cX3_improve 30 = .ok (.iconst 0, 1) := dk_3 (dk_at dksX3_improve_1 7 rfl rfl)
theorem dX3_improve_31 : decode cX3_improve 31 = .ok (.istore_n 2, 1) := dk_61 (dk_at dksX3_improve_1 8 rfl rfl)
theorem dX3_improve_32 : decode cX3_improve 32 = .ok (.iload_n 2, 1) := dk_28 (dk_at dksX3_improve_1 9 rfl rfl)
theorem dX3_improve_33 : decode cX3_improve 33 = .ok (.bipush 10, 2) := dk_16 10 (dk_at dksX3_improve_1 10 rfl rfl)
theorem dX3_improve_35 : decode cX3_improve 35 = .ok (.if_icmp .ge 49, 3) := dk_162 0 49 (dk_at dksX3_improve_1 12 rfl rfl)
theorem dX3_improve_38 : decode cX3_improve 38 = .ok (.iload_n 1, 1) := dk_27 (dk_at dksX3_improve_1 15 rfl rfl)
theorem dX3_improve_39 : decode cX3_improve 39 = .ok (.ifCond .eq 45, 3) := dk_153 0 45 (dk_at dksX3_improve_1 16 rfl rfl)
theorem dX3_improve_42 : decode cX3_improve 42 = .ok (.iconst 0, 1) := dk_3 (dk_at dksX3_improve_1 19 rfl rfl)
theorem dX3_improve_43 : decode cX3_improve 43 = .ok (.istore_n 1, 1) := dk_60 (dk_at dksX3_improve_1 20 rfl rfl)
theorem dX3_improve_44 : decode cX3_improve 44 = .ok (.iconst 1, 1) := dk_4 (dk_at dksX3_improve_1 21 rfl rfl)
theorem dX3_improve_45 : decode cX3_improve 45 = .ok (.istore_n 3, 1) := dk_62 (dk_at dksX3_improve_1 22 rfl rfl)
theorem dX3_improve_46 : decode cX3_improve 46 = .ok (.iload_n 3, 1) := dk_29 (dk_at dksX3_improve_1 23 rfl rfl)
theorem dX3_improve_47 : decode cX3_improve 47 = .ok (.aload_n 0, 1) := dk_42 (dk_at dksX3_improve_2 0 rfl rfl)
theorem dX3_improve_48 : decode cX3_improve 48 = .ok (.getfield 76, 3) := dk_180 0 76 (dk_at dksX3_improve_2 1 rfl rfl)
theorem dX3_improve_51 : decode cX3_improve 51 = .ok (.if_icmp .ge 27, 3) := dk_162 0 27 (dk_at dksX3_improve_2 4 rfl rfl)
theorem dX3_improve_54 : decode cX3_improve 54 = .ok (.aload_n 0, 1) := dk_42 (dk_at dksX3_improve_2 7 rfl rfl)
theorem dX3_improve_55 : decode cX3_improve 55 = .ok (.iload_n 3, 1) := dk_29 (dk_at dksX3_improve_2 8 rfl rfl)
theorem dX3_improve_56 : decode cX3_improve 56 = .ok (.invokevirtual 178, 3) := dk_182 0 178 (dk_at dksX3_improve_2 9 rfl rfl)
theorem dX3_improve_59 : decode cX3_improve 59 = .ok (.ifCond .ne 7, 3) := dk_154 0 7 (dk_at dksX3_improve_2 12 rfl rfl)
theorem dX3_improve_62 : decode cX3_improve 62 = .ok (.iload_n 1, 1) := dk_27 (dk_at dksX3_improve_2 15 rfl rfl)
theorem dX3_improve_63 : decode cX3_improve 63 = .ok (.ifCond .eq 7, 3) := dk_153 0 7 (dk_at dksX3_improve_2 16 rfl rfl)
theorem dX3_improve_66 : decode cX3_improve 66 = .ok (.iconst 1, 1) := dk_4 (dk_at dksX3_improve_2 19 rfl rfl)
theorem dX3_improve_67 : decode cX3_improve 67 = .ok (.goto 4, 3) := dk_167 0 4 (dk_at dksX3_improve_2 20 rfl rfl)
theorem dX3_improve_70 : decode cX3_improve 70 = .ok (.iconst 0, 1) := dk_3 (dk_at dksX3_improve_2 23 rfl rfl)
theorem dX3_improve_71 : decode cX3_improve 71 = .ok (.istore_n 1, 1) := dk_60 (dk_at dksX3_improve_3 0 rfl rfl)
theorem dX3_improve_72 : decode cX3_improve 72 = .ok (.iinc 3 1, 3) := dk_132 3 1 (dk_at dksX3_improve_3 1 rfl rfl)
theorem dX3_improve_75 : decode cX3_improve 75 = .ok (.goto (-29), 3) := dk_167 255 227 (dk_at dksX3_improve_3 4 rfl rfl)
theorem dX3_improve_78 : decode cX3_improve 78 = .ok (.iinc 2 1, 3) := dk_132 2 1 (dk_at dksX3_improve_3 7 rfl rfl)
theorem dX3_improve_81 : decode cX3_improve 81 = .ok (.goto (-49), 3) := dk_167 255 207 (dk_at dksX3_improve_3 10 rfl rfl)
theorem dX3_improve_84 : decode cX3_improve 84 = .ok (.aload_n 0, 1) := dk_42 (dk_at dksX3_improve_3 13 rfl rfl)
theorem dX3_improve_85 : decode cX3_improve 85 = .ok (.invokevirtual 170, 3) := dk_182 0 170 (dk_at dksX3_improve_3 14 rfl rfl)
theorem dX3_improve_88 : decode cX3_improve 88 = .ok (.ireturn, 1) := dk_172 (dk_at dksX3_improve_3 17 rfl rfl)
abbrev cX3_plansAll : ByteArray := prog_4_method_24_code
def yX3_plansAll : MethodName := ⟨RX3, "plansAll", "()Z"⟩
def dkwX3_plansAll_1 : List UInt8 := [180, 0, 37, 28, 51, 153, 0, 7, 4, 167, 0, 4, 3, 60, 132, 2, 1, 167, 255, 221, 27, 172]
abbrev dktX3_plansAll_1 : List UInt8 := dkwX3_plansAll_1 ++ []
def dkwX3_plansAll_0 : List UInt8 := [4, 60, 3, 61, 28, 42, 180, 0, 76, 162, 0, 33, 42, 28, 182, 0, 144, 27, 153, 0, 16, 42]
abbrev dktX3_plansAll_0 : List UInt8 := dkwX3_plansAll_0 ++ dktX3_plansAll_1
theorem dksX3_plansAll_0 : cX3_plansAll.data.toList.drop 0 = dktX3_plansAll_0 := by decide +kernel
theorem dksX3_plansAll_1 : cX3_plansAll.data.toList.drop 22 = dktX3_plansAll_1 := dk_seg dksX3_plansAll_0 22 rfl rfl
theorem dX3_plansAll_0 : decode cX3_plansAll 0 = .ok (.iconst 1, 1) := dk_4 (dk_at dksX3_plansAll_0 0 rfl rfl)
theorem dX3_plansAll_1 : decode cX3_plansAll 1 = .ok (.istore_n 1, 1) := dk_60 (dk_at dksX3_plansAll_0 1 rfl rfl)
theorem dX3_plansAll_2 : decode cX3_plansAll 2 = .ok (.iconst 0, 1) := dk_3 (dk_at dksX3_plansAll_0 2 rfl rfl)
theorem dX3_plansAll_3 : decode cX3_plansAll 3 = .ok (.istore_n 2, 1) := dk_61 (dk_at dksX3_plansAll_0 3 rfl rfl)
theorem dX3_plansAll_4 : decode cX3_plansAll 4 = .ok (.iload_n 2, 1) := dk_28 (dk_at dksX3_plansAll_0 4 rfl rfl)
theorem dX3_plansAll_5 : decode cX3_plansAll 5 = .ok (.aload_n 0, 1) := dk_42 (dk_at dksX3_plansAll_0 5 rfl rfl)
theorem dX3_plansAll_6 : decode cX3_plansAll 6 = .ok (.getfield 76, 3) := dk_180 0 76 (dk_at dksX3_plansAll_0 6 rfl rfl)
theorem dX3_plansAll_9 : decode cX3_plansAll 9 = .ok (.if_icmp .ge 33, 3) := dk_162 0 33 (dk_at dksX3_plansAll_0 9 rfl rfl)
theorem dX3_plansAll_12 : decode cX3_plansAll 12 = .ok (.aload_n 0, 1) := dk_42 (dk_at dksX3_plansAll_0 12 rfl rfl)
theorem dX3_plansAll_13 : decode cX3_plansAll 13 = .ok (.iload_n 2, 1) := dk_28 (dk_at dksX3_plansAll_0 13 rfl rfl)
theorem dX3_plansAll_14 : decode cX3_plansAll 14 = .ok (.invokevirtual 144, 3) := dk_182 0 144 (dk_at dksX3_plansAll_0 14 rfl rfl)
theorem dX3_plansAll_17 : decode cX3_plansAll 17 = .ok (.iload_n 1, 1) := dk_27 (dk_at dksX3_plansAll_0 17 rfl rfl)
theorem dX3_plansAll_18 : decode cX3_plansAll 18 = .ok (.ifCond .eq 16, 3) := dk_153 0 16 (dk_at dksX3_plansAll_0 18 rfl rfl)
theorem dX3_plansAll_21 : decode cX3_plansAll 21 = .ok (.aload_n 0, 1) := dk_42 (dk_at dksX3_plansAll_0 21 rfl rfl)
theorem dX3_plansAll_22 : decode cX3_plansAll 22 = .ok (.getfield 37, 3) := dk_180 0 37 (dk_at dksX3_plansAll_1 0 rfl rfl)
theorem dX3_plansAll_25 : decode cX3_plansAll 25 = .ok (.iload_n 2, 1) := dk_28 (dk_at dksX3_plansAll_1 3 rfl rfl)
theorem dX3_plansAll_26 : decode cX3_plansAll 26 = .ok (.baload, 1) := dk_51 (dk_at dksX3_plansAll_1 4 rfl rfl)
theorem dX3_plansAll_27 : decode cX3_plansAll 27 = .ok (.ifCond .eq 7, 3) := dk_153 0 7 (dk_at dksX3_plansAll_1 5 rfl rfl)
theorem dX3_plansAll_30 : decode cX3_plansAll 30 = .ok (.iconst 1, 1) := dk_4 (dk_at dksX3_plansAll_1 8 rfl rfl)
theorem dX3_plansAll_31 : decode cX3_plansAll 31 = .ok (.goto 4, 3) := dk_167 0 4 (dk_at dksX3_plansAll_1 9 rfl rfl)
theorem dX3_plansAll_34 : decode cX3_plansAll 34 = .ok (.iconst 0, 1) := dk_3 (dk_at dksX3_plansAll_1 12 rfl rfl)
theorem dX3_plansAll_35 : decode cX3_plansAll 35 = .ok (.istore_n 1, 1) := dk_60 (dk_at dksX3_plansAll_1 13 rfl rfl)
theorem dX3_plansAll_36 : decode cX3_plansAll 36 = .ok (.iinc 2 1, 3) := dk_132 2 1 (dk_at dksX3_plansAll_1 14 rfl rfl)
theorem dX3_plansAll_39 : decode cX3_plansAll 39 = .ok (.goto (-35), 3) := dk_167 255 221 (dk_at dksX3_plansAll_1 17 rfl rfl)
theorem dX3_plansAll_42 : decode cX3_plansAll 42 = .ok (.iload_n 1, 1) := dk_27 (dk_at dksX3_plansAll_1 20 rfl rfl)
theorem dX3_plansAll_43 : decode cX3_plansAll 43 = .ok (.ireturn, 1) := dk_172 (dk_at dksX3_plansAll_1 21 rfl rfl)
abbrev cX3_plans : ByteArray := prog_4_method_23_code
def yX3_plans : MethodName := ⟨RX3, "plans", "(I)V"⟩
def dkwX3_plans_9 : List UInt8 := [79, 132, 5, 1, 167, 255, 216, 177]
abbrev dktX3_plans_9 : List UInt8 := dkwX3_plans_9 ++ []
def dkwX3_plans_8 : List UInt8 := [180, 0, 31, 7, 27, 104, 21, 5, 96, 92, 46, 21, 5, 21, 4, 162, 0, 7, 4, 167, 0, 4, 3, 96]
abbrev dktX3_plans_8 : List UInt8 := dkwX3_plans_8 ++ dktX3_plans_9
def dkwX3_plans_7 : List UInt8 := [100, 54, 4, 132, 5, 1, 167, 255, 186, 3, 54, 5, 21, 5, 42, 180, 0, 16, 27, 46, 162, 0, 35, 42]
abbrev dktX3_plans_7 : List UInt8 := dkwX3_plans_7 ++ dktX3_plans_8
def dkwX3_plans_6 : List UInt8 := [180, 0, 31, 7, 27, 104, 21, 5, 96, 42, 27, 21, 5, 182, 0, 138, 21, 6, 96, 79, 21, 4, 21, 6]
abbrev dktX3_plans_6 : List UInt8 := dkwX3_plans_6 ++ dktX3_plans_7
def dkwX3_plans_5 : List UInt8 := [180, 0, 16, 27, 46, 108, 167, 0, 14, 28, 42, 27, 21, 5, 182, 0, 141, 104, 29, 108, 54, 6, 42]
abbrev dktX3_plans_5 : List UInt8 := dkwX3_plans_5 ++ dktX3_plans_6
def dkwX3_plans_4 : List UInt8 := [54, 4, 3, 54, 5, 21, 5, 42, 180, 0, 16, 27, 46, 162, 0, 65, 29, 154, 0, 14, 28, 42]
abbrev dktX3_plans_4 : List UInt8 := dkwX3_plans_4 ++ dktX3_plans_5
def dkwX3_plans_3 : List UInt8 := [62, 132, 4, 1, 167, 255, 192, 42, 180, 0, 37, 27, 28, 155, 0, 7, 4, 167, 0, 4, 3, 84, 28]
abbrev dktX3_plans_3 : List UInt8 := dkwX3_plans_3 ++ dktX3_plans_4
def dkwX3_plans_2 : List UInt8 := [104, 21, 4, 96, 46, 42, 27, 21, 4, 182, 0, 138, 96, 100, 61, 29, 42, 27, 21, 4, 182, 0, 141, 96]
abbrev dktX3_plans_2 : List UInt8 := dkwX3_plans_2 ++ dktX3_plans_3
def dkwX3_plans_1 : List UInt8 := [180, 0, 34, 7, 27, 104, 21, 4, 96, 42, 27, 21, 4, 182, 0, 134, 79, 28, 42, 180, 0, 34, 7, 27]
abbrev dktX3_plans_1 : List UInt8 := dkwX3_plans_1 ++ dktX3_plans_2
def dkwX3_plans_0 : List UInt8 := [42, 180, 0, 83, 61, 3, 62, 3, 54, 4, 21, 4, 42, 180, 0, 16, 27, 46, 162, 0, 59, 42]
abbrev dktX3_plans_0 : List UInt8 := dkwX3_plans_0 ++ dktX3_plans_1
theorem dksX3_plans_0 : cX3_plans.data.toList.drop 0 = dktX3_plans_0 := by decide +kernel
theorem dksX3_plans_1 : cX3_plans.data.toList.drop 22 = dktX3_plans_1 := dk_seg dksX3_plans_0 22 rfl rfl
theorem dksX3_plans_2 : cX3_plans.data.toList.drop 46 = dktX3_plans_2 := dk_seg dksX3_plans_1 24 rfl rfl
theorem dksX3_plans_3 : cX3_plans.data.toList.drop 70 = dktX3_plans_3 := dk_seg dksX3_plans_2 24 rfl rfl
theorem dksX3_plans_4 : cX3_plans.data.toList.drop 93 = dktX3_plans_4 := dk_seg dksX3_plans_3 23 rfl rfl
theorem dksX3_plans_5 : cX3_plans.data.toList.drop 115 = dktX3_plans_5 := dk_seg dksX3_plans_4 22 rfl rfl
theorem dksX3_plans_6 : cX3_plans.data.toList.drop 138 = dktX3_plans_6 := dk_seg dksX3_plans_5 23 rfl rfl
theorem dksX3_plans_7 : cX3_plans.data.toList.drop 162 = dktX3_plans_7 := dk_seg dksX3_plans_6 24 rfl rfl
theorem dksX3_plans_8 : cX3_plans.data.toList.drop 186 = dktX3_plans_8 := dk_seg dksX3_plans_7 24 rfl rfl
theorem dksX3_plans_9 : cX3_plans.data.toList.drop 210 = dktX3_plans_9 := dk_seg dksX3_plans_8 24 rfl rfl
theorem dX3_plans_0 : decode cX3_plans 0 = .ok (.aload_n 0, 1) := dk_42 (dk_at dksX3_plans_0 0 rfl rfl)
theorem dX3_plans_1 : decode cX3_plans 1 = .ok (.getfield 83, 3) := dk_180 0 83 (dk_at dksX3_plans_0 1 rfl rfl)
theorem dX3_plans_4 : decode cX3_plans 4 = .ok (.istore_n 2, 1) := dk_61 (dk_at dksX3_plans_0 4 rfl rfl)
theorem dX3_plans_5 : decode cX3_plans 5 = .ok (.iconst 0, 1) := dk_3 (dk_at dksX3_plans_0 5 rfl rfl)
theorem dX3_plans_6 : decode cX3_plans 6 = .ok (.istore_n 3, 1) := dk_62 (dk_at dksX3_plans_0 6 rfl rfl)
theorem dX3_plans_7 : decode cX3_plans 7 = .ok (.iconst 0, 1) := dk_3 (dk_at dksX3_plans_0 7 rfl rfl)
theorem dX3_plans_8 : decode cX3_plans 8 = .ok (.istore 4, 2) := dk_54 4 (dk_at dksX3_plans_0 8 rfl rfl)
theorem dX3_plans_10 : decode cX3_plans 10 = .ok (.iload 4, 2) := dk_21 4 (dk_at dksX3_plans_0 10 rfl rfl)
theorem dX3_plans_12 : decode cX3_plans 12 = .ok (.aload_n 0, 1) := dk_42 (dk_at dksX3_plans_0 12 rfl rfl)
theorem dX3_plans_13 : decode cX3_plans 13 = .ok (.getfield 16, 3) := dk_180 0 16 (dk_at dksX3_plans_0 13 rfl rfl)
theorem dX3_plans_16 : decode cX3_plans 16 = .ok (.iload_n 1, 1) := dk_27 (dk_at dksX3_plans_0 16 rfl rfl)
theorem dX3_plans_17 : decode cX3_plans 17 = .ok (.iaload, 1) := dk_46 (dk_at dksX3_plans_0 17 rfl rfl)
theorem dX3_plans_18 : decode cX3_plans 18 = .ok (.if_icmp .ge 59, 3) := dk_162 0 59 (dk_at dksX3_plans_0 18 rfl rfl)
theorem dX3_plans_21 : decode cX3_plans 21 = .ok (.aload_n 0, 1) := dk_42 (dk_at dksX3_plans_0 21 rfl rfl)
theorem dX3_plans_22 : decode cX3_plans 22 = .ok (.getfield 34, 3) := dk_180 0 34 (dk_at dksX3_plans_1 0 rfl rfl)
theorem dX3_plans_25 : decode cX3_plans 25 = .ok (.iconst 4, 1) := dk_7 (dk_at dksX3_plans_1 3 rfl rfl)
theorem dX3_plans_26 : decode cX3_plans 26 = .ok (.iload_n 1, 1) := dk_27 (dk_at dksX3_plans_1 4 rfl rfl)
theorem dX3_plans_27 : decode cX3_plans 27 = .ok (.imul, 1) := dk_104 (dk_at dksX3_plans_1 5 rfl rfl)
theorem dX3_plans_28 : decode cX3_plans 28 = .ok (.iload 4, 2) := dk_21 4 (dk_at dksX3_plans_1 6 rfl rfl)
theorem dX3_plans_30 : decode cX3_plans 30 = .ok (.iadd, 1) := dk_96 (dk_at dksX3_plans_1 8 rfl rfl)
theorem dX3_plans_31 : decode cX3_plans 31 = .ok (.aload_n 0, 1) := dk_42 (dk_at dksX3_plans_1 9 rfl rfl)
theorem dX3_plans_32 : decode cX3_plans 32 = .ok (.iload_n 1, 1) := dk_27 (dk_at dksX3_plans_1 10 rfl rfl)
theorem dX3_plans_33 : decode cX3_plans 33 = .ok (.iload 4, 2) := dk_21 4 (dk_at dksX3_plans_1 11 rfl rfl)
theorem dX3_plans_35 : decode cX3_plans 35 = .ok (.invokevirtual 134, 3) := dk_182 0 134 (dk_at dksX3_plans_1 13 rfl rfl)
theorem dX3_plans_38 : decode cX3_plans 38 = .ok (.iastore, 1) := dk_79 (dk_at dksX3_plans_1 16 rfl rfl)
theorem dX3_plans_39 : decode cX3_plans 39 = .ok (.iload_n 2, 1) := dk_28 (dk_at dksX3_plans_1 17 rfl rfl)
theorem dX3_plans_40 : decode cX3_plans 40 = .ok (.aload_n 0, 1) := dk_42 (dk_at dksX3_plans_1 18 rfl rfl)
theorem dX3_plans_41 : decode cX3_plans 41 = .ok (.getfield 34, 3) := dk_180 0 34 (dk_at dksX3_plans_1 19 rfl rfl)
theorem dX3_plans_44 : decode cX3_plans 44 = .ok (.iconst 4, 1) := dk_7 (dk_at dksX3_plans_1 22 rfl rfl)
theorem dX3_plans_45 : decode cX3_plans 45 = .ok (.iload_n 1, 1) := dk_27 (dk_at dksX3_plans_1 23 rfl rfl)
theorem dX3_plans_46 : decode cX3_plans 46 = .ok (.imul, 1) := dk_104 (dk_at dksX3_plans_2 0 rfl rfl)
theorem dX3_plans_47 : decode cX3_plans 47 = .ok (.iload 4, 2) := dk_21 4 (dk_at dksX3_plans_2 1 rfl rfl)
theorem dX3_plans_49 : decode cX3_plans 49 = .ok (.iadd, 1) := dk_96 (dk_at dksX3_plans_2 3 rfl rfl)
theorem dX3_plans_50 : decode cX3_plans 50 = .ok (.iaload, 1) := dk_46 (dk_at dksX3_plans_2 4 rfl rfl)
theorem dX3_plans_51 : decode cX3_plans 51 = .ok (.aload_n 0, 1) := dk_42 (dk_at dksX3_plans_2 5 rfl rfl)
theorem dX3_plans_52 : decode cX3_plans 52 = .ok (.iload_n 1, 1) := dk_27 (dk_at dksX3_plans_2 6 rfl rfl)
theorem dX3_plans_53 : decode cX3_plans 53 = .ok (.iload 4, 2) := dk_21 4 (dk_at dksX3_plans_2 7 rfl rfl)
theorem dX3_plans_55 : decode cX3_plans 55 = .ok (.invokevirtual 138, 3) := dk_182 0 138 (dk_at dksX3_plans_2 9 rfl rfl)
theorem dX3_plans_58 : decode cX3_plans 58 = .ok (.iadd, 1) := dk_96 (dk_at dksX3_plans_2 12 rfl rfl)
theorem dX3_plans_59 : decode cX3_plans 59 = .ok (.isub, 1) := dk_100 (dk_at dksX3_plans_2 13 rfl rfl)
theorem dX3_plans_60 : decode cX3_plans 60 = .ok (.istore_n 2, 1) := dk_61 (dk_at dksX3_plans_2 14 rfl rfl)
theorem dX3_plans_61 : decode cX3_plans 61 = .ok (.iload_n 3, 1) := dk_29 (dk_at dksX3_plans_2 15 rfl rfl)
theorem dX3_plans_62 : decode cX3_plans 62 = .ok (.aload_n 0, 1) := dk_42 (dk_at dksX3_plans_2 16 rfl rfl)
theorem dX3_plans_63 : decode cX3_plans 63 = .ok (.iload_n 1, 1) := dk_27 (dk_at dksX3_plans_2 17 rfl rfl)
theorem dX3_plans_64 : decode cX3_plans 64 = .ok (.iload 4, 2) := dk_21 4 (dk_at dksX3_plans_2 18 rfl rfl)
theorem dX3_plans_66 : decode cX3_plans 66 = .ok (.invokevirtual 141, 3) := dk_182 0 141 (dk_at dksX3_plans_2 20 rfl rfl)
theorem dX3_plans_69 : decode cX3_plans 69 = .ok (.iadd, 1) := dk_96 (dk_at dksX3_plans_2 23 rfl rfl)
theorem dX3_plans_70 : decode cX3_plans 70 = .ok (.istore_n 3, 1) := dk_62 (dk_at dksX3_plans_3 0 rfl rfl)
theorem dX3_plans_71 : decode cX3_plans 71 = .ok (.iinc 4 1, 3) := dk_132 4 1 (dk_at dksX3_plans_3 1 rfl rfl)
theorem dX3_plans_74 : decode cX3_plans 74 = .ok (.goto (-64), 3) := dk_167 255 192 (dk_at dksX3_plans_3 4 rfl rfl)
theorem dX3_plans_77 : decode cX3_plans 77 = .ok (.aload_n 0, 1) := dk_42 (dk_at dksX3_plans_3 7 rfl rfl)
theorem dX3_plans_78 : decode cX3_plans 78 = .ok (.getfield 37, 3) := dk_180 0 37 (dk_at dksX3_plans_3 8 rfl rfl)
theorem dX3_plans_81 : decode cX3_plans 81 = .ok (.iload_n 1, 1) := dk_27 (dk_at dksX3_plans_3 11 rfl rfl)
theorem dX3_plans_82 : decode cX3_plans 82 = .ok (.iload_n 2, 1) := dk_28 (dk_at dksX3_plans_3 12 rfl rfl)
theorem dX3_plans_83 : decode cX3_plans 83 = .ok (.ifCond .lt 7, 3) := dk_155 0 7 (dk_at dksX3_plans_3 13 rfl rfl)
theorem dX3_plans_86 : decode cX3_plans 86 = .ok (.iconst 1, 1) := dk_4 (dk_at dksX3_plans_3 16 rfl rfl)
theorem dX3_plans_87 : decode cX3_plans 87 = .ok (.goto 4, 3) := dk_167 0 4 (dk_at dksX3_plans_3 17 rfl rfl)
theorem dX3_plans_90 : decode cX3_plans 90 = .ok (.iconst 0, 1) := dk_3 (dk_at dksX3_plans_3 20 rfl rfl)
theorem dX3_plans_91 : decode cX3_plans 91 = .ok (.bastore, 1) := dk_84 (dk_at dksX3_plans_3 21 rfl rfl)
theorem dX3_plans_92 : decode cX3_plans 92 = .ok (.iload_n 2, 1) := dk_28 (dk_at dksX3_plans_3 22 rfl rfl)
theorem dX3_plans_93 : decode cX3_plans 93 = .ok (.istore 4, 2) := dk_54 4 (dk_at dksX3_plans_4 0 rfl rfl)
theorem dX3_plans_95 : decode cX3_plans 95 = .ok (.iconst 0, 1) := dk_3 (dk_at dksX3_plans_4 2 rfl rfl)
theorem dX3_plans_96 : decode cX3_plans 96 = .ok (.istore 5, 2) := dk_54 5 (dk_at dksX3_plans_4 3 rfl rfl)
theorem dX3_plans_98 : decode cX3_plans 98 = .ok (.iload 5, 2) := dk_21 5 (dk_at dksX3_plans_4 5 rfl rfl)
theorem dX3_plans_100 : decode cX3_plans 100 = .ok (.aload_n 0, 1) := dk_42 (dk_at dksX3_plans_4 7 rfl rfl)
theorem dX3_plans_101 : decode cX3_plans 101 = .ok (.getfield 16, 3) := dk_180 0 16 (dk_at dksX3_plans_4 8 rfl rfl)
theorem dX3_plans_104 : decode cX3_plans 104 = .ok (.iload_n 1, 1) := dk_27 (dk_at dksX3_plans_4 11 rfl rfl)
theorem dX3_plans_105 : decode cX3_plans 105 = .ok (.iaload, 1) := dk_46 (dk_at dksX3_plans_4 12 rfl rfl)
theorem dX3_plans_106 : decode cX3_plans 106 = .ok (.if_icmp .ge 65, 3) := dk_162 0 65 (dk_at dksX3_plans_4 13 rfl rfl)
theorem dX3_plans_109 : decode cX3_plans 109 = .ok (.iload_n 3, 1) := dk_29 (dk_at dksX3_plans_4 16 rfl rfl)
theorem dX3_plans_110 : decode cX3_plans 110 = .ok (.ifCond .ne 14, 3) := dk_154 0 14 (dk_at dksX3_plans_4 17 rfl rfl)
theorem dX3_plans_113 : decode cX3_plans 113 = .ok (.iload_n 2, 1) := dk_28 (dk_at dksX3_plans_4 20 rfl rfl)
theorem dX3_plans_114 : decode cX3_plans 114 = .ok (.aload_n 0, 1) := dk_42 (dk_at dksX3_plans_4 21 rfl rfl)
theorem dX3_plans_115 : decode cX3_plans 115 = .ok (.getfield 16, 3) := dk_180 0 16 (dk_at dksX3_plans_5 0 rfl rfl)
theorem dX3_plans_118 : decode cX3_plans 118 = .ok (.iload_n 1, 1) := dk_27 (dk_at dksX3_plans_5 3 rfl rfl)
theorem dX3_plans_119 : decode cX3_plans 119 = .ok (.iaload, 1) := dk_46 (dk_at dksX3_plans_5 4 rfl rfl)
theorem dX3_plans_120 : decode cX3_plans 120 = .ok (.idiv, 1) := dk_108 (dk_at dksX3_plans_5 5 rfl rfl)
theorem dX3_plans_121 : decode cX3_plans 121 = .ok (.goto 14, 3) := dk_167 0 14 (dk_at dksX3_plans_5 6 rfl rfl)
theorem dX3_plans_124 : decode cX3_plans 124 = .ok (.iload_n 2, 1) := dk_28 (dk_at dksX3_plans_5 9 rfl rfl)
theorem dX3_plans_125 : decode cX3_plans 125 = .ok (.aload_n 0, 1) := dk_42 (dk_at dksX3_plans_5 10 rfl rfl)
theorem dX3_plans_126 : decode cX3_plans 126 = .ok (.iload_n 1, 1) := dk_27 (dk_at dksX3_plans_5 11 rfl rfl)
theorem dX3_plans_127 : decode cX3_plans 127 = .ok (.iload 5, 2) := dk_21 5 (dk_at dksX3_plans_5 12 rfl rfl)
theorem dX3_plans_129 : decode cX3_plans 129 = .ok (.invokevirtual 141, 3) := dk_182 0 141 (dk_at dksX3_plans_5 14 rfl rfl)
theorem dX3_plans_132 : decode cX3_plans 132 = .ok (.imul, 1) := dk_104 (dk_at dksX3_plans_5 17 rfl rfl)
theorem dX3_plans_133 : decode cX3_plans 133 = .ok (.iload_n 3, 1) := dk_29 (dk_at dksX3_plans_5 18 rfl rfl)
theorem dX3_plans_134 : decode cX3_plans 134 = .ok (.idiv, 1) := dk_108 (dk_at dksX3_plans_5 19 rfl rfl)
theorem dX3_plans_135 : decode cX3_plans 135 = .ok (.istore 6, 2) := dk_54 6 (dk_at dksX3_plans_5 20 rfl rfl)
theorem dX3_plans_137 : decode cX3_plans 137 = .ok (.aload_n 0, 1) := dk_42 (dk_at dksX3_plans_5 22 rfl rfl)
theorem dX3_plans_138 : decode cX3_plans 138 = .ok (.getfield 31, 3) := dk_180 0 31 (dk_at dksX3_plans_6 0 rfl rfl)
theorem dX3_plans_141 : decode cX3_plans 141 = .ok (.iconst 4, 1) := dk_7 (dk_at dksX3_plans_6 3 rfl rfl)
theorem dX3_plans_142 : decode cX3_plans 142 = .ok (.iload_n 1, 1) := dk_27 (dk_at dksX3_plans_6 4 rfl rfl)
theorem dX3_plans_143 : decode cX3_plans 143 = .ok (.imul, 1) := dk_104 (dk_at dksX3_plans_6 5 rfl rfl)
theorem dX3_plans_144 : decode cX3_plans 144 = .ok (.iload 5, 2) := dk_21 5 (dk_at dksX3_plans_6 6 rfl rfl)
theorem dX3_plans_146 : decode cX3_plans 146 = .ok (.iadd, 1) := dk_96 (dk_at dksX3_plans_6 8 rfl rfl)
theorem dX3_plans_147 : decode cX3_plans 147 = .ok (.aload_n 0, 1) := dk_42 (dk_at dksX3_plans_6 9 rfl rfl)
theorem dX3_plans_148 : decode cX3_plans 148 = .ok (.iload_n 1, 1) := dk_27 (dk_at dksX3_plans_6 10 rfl rfl)
theorem dX3_plans_149 : decode cX3_plans 149 = .ok (.iload 5, 2) := dk_21 5 (dk_at dksX3_plans_6 11 rfl rfl)
theorem dX3_plans_151 : decode cX3_plans 151 = .ok (.invokevirtual 138, 3) := dk_182 0 138 (dk_at dksX3_plans_6 13 rfl rfl)
theorem dX3_plans_154 : decode cX3_plans 154 = .ok (.iload 6, 2) := dk_21 6 (dk_at dksX3_plans_6 16 rfl rfl)
theorem dX3_plans_156 : decode cX3_plans 156 = .ok (.iadd, 1) := dk_96 (dk_at dksX3_plans_6 18 rfl rfl)
theorem dX3_plans_157 : decode cX3_plans 157 = .ok (.iastore, 1) := dk_79 (dk_at dksX3_plans_6 19 rfl rfl)
theorem dX3_plans_158 : decode cX3_plans 158 = .ok (.iload 4, 2) := dk_21 4 (dk_at dksX3_plans_6 20 rfl rfl)
theorem dX3_plans_160 : decode cX3_plans 160 = .ok (.iload 6, 2) := dk_21 6 (dk_at dksX3_plans_6 22 rfl rfl)
theorem dX3_plans_162 : decode cX3_plans 162 = .ok (.isub, 1) := dk_100 (dk_at dksX3_plans_7 0 rfl rfl)
theorem dX3_plans_163 : decode cX3_plans 163 = .ok (.istore 4, 2) := dk_54 4 (dk_at dksX3_plans_7 1 rfl rfl)
theorem dX3_plans_165 : decode cX3_plans 165 = .ok (.iinc 5 1, 3) := dk_132 5 1 (dk_at dksX3_plans_7 3 rfl rfl)
theorem dX3_plans_168 : decode cX3_plans 168 = .ok (.goto (-70), 3) := dk_167 255 186 (dk_at dksX3_plans_7 6 rfl rfl)
theorem dX3_plans_171 : decode cX3_plans 171 = .ok (.iconst 0, 1) := dk_3 (dk_at dksX3_plans_7 9 rfl rfl)
theorem dX3_plans_172 : decode cX3_plans 172 = .ok (.istore 5, 2) := dk_54 5 (dk_at dksX3_plans_7 10 rfl rfl)
theorem dX3_plans_174 : decode cX3_plans 174 = .ok (.iload 5, 2) := dk_21 5 (dk_at dksX3_plans_7 12 rfl rfl)
theorem dX3_plans_176 : decode cX3_plans 176 = .ok (.aload_n 0, 1) := dk_42 (dk_at dksX3_plans_7 14 rfl rfl)
theorem dX3_plans_177 : decode cX3_plans 177 = .ok (.getfield 16, 3) := dk_180 0 16 (dk_at dksX3_plans_7 15 rfl rfl)
theorem dX3_plans_180 : decode cX3_plans 180 = .ok (.iload_n 1, 1) := dk_27 (dk_at dksX3_plans_7 18 rfl rfl)
theorem dX3_plans_181 : decode cX3_plans 181 = .ok (.iaload, 1) := dk_46 (dk_at dksX3_plans_7 19 rfl rfl)
theorem dX3_plans_182 : decode cX3_plans 182 = .ok (.if_icmp .ge 35, 3) := dk_162 0 35 (dk_at dksX3_plans_7 20 rfl rfl)
theorem dX3_plans_185 : decode cX3_plans 185 = .ok (.aload_n 0, 1) := dk_42 (dk_at dksX3_plans_7 23 rfl rfl)
theorem dX3_plans_186 : decode cX3_plans 186 = .ok (.getfield 31, 3) := dk_180 0 31 (dk_at dksX3_plans_8 0 rfl rfl)
theorem dX3_plans_189 : decode cX3_plans 189 = .ok (.iconst 4, 1) := dk_7 (dk_at dksX3_plans_8 3 rfl rfl)
theorem dX3_plans_190 : decode cX3_plans 190 = .ok (.iload_n 1, 1) := dk_27 (dk_at dksX3_plans_8 4 rfl rfl)
theorem dX3_plans_191 : decode cX3_plans 191 = .ok (.imul, 1) := dk_104 (dk_at dksX3_plans_8 5 rfl rfl)
theorem dX3_plans_192 : decode cX3_plans 192 = .ok (.iload 5, 2) := dk_21 5 (dk_at dksX3_plans_8 6 rfl rfl)
theorem dX3_plans_194 : decode cX3_plans 194 = .ok (.iadd, 1) := dk_96 (dk_at dksX3_plans_8 8 rfl rfl)
theorem dX3_plans_195 : decode cX3_plans 195 = .ok (.dup2, 1) := dk_92 (dk_at dksX3_plans_8 9 rfl rfl)
theorem dX3_plans_196 : decode cX3_plans 196 = .ok (.iaload, 1) := dk_46 (dk_at dksX3_plans_8 10 rfl rfl)
theorem dX3_plans_197 : decode cX3_plans 197 = .ok (.iload 5, 2) := dk_21 5 (dk_at dksX3_plans_8 11 rfl rfl)
theorem dX3_plans_199 : decode cX3_plans 199 = .ok (.iload 4, 2) := dk_21 4 (dk_at dksX3_plans_8 13 rfl rfl)
theorem dX3_plans_201 : decode cX3_plans 201 = .ok (.if_icmp .ge 7, 3) := dk_162 0 7 (dk_at dksX3_plans_8 15 rfl rfl)
theorem dX3_plans_204 : decode cX3_plans 204 = .ok (.iconst 1, 1) := dk_4 (dk_at dksX3_plans_8 18 rfl rfl)
theorem dX3_plans_205 : decode cX3_plans 205 = .ok (.goto 4, 3) := dk_167 0 4 (dk_at dksX3_plans_8 19 rfl rfl)
theorem dX3_plans_208 : decode cX3_plans 208 = .ok (.iconst 0, 1) := dk_3 (dk_at dksX3_plans_8 22 rfl rfl)
theorem dX3_plans_209 : decode cX3_plans 209 = .ok (.iadd, 1) := dk_96 (dk_at dksX3_plans_8 23 rfl rfl)
theorem dX3_plans_210 : decode cX3_plans 210 = .ok (.iastore, 1) := dk_79 (dk_at dksX3_plans_9 0 rfl rfl)
theorem dX3_plans_211 : decode cX3_plans 211 = .ok (.iinc 5 1, 3) := dk_132 5 1 (dk_at dksX3_plans_9 1 rfl rfl)
theorem dX3_plans_214 : decode cX3_plans 214 = .ok (.goto (-40), 3) := dk_167 255 216 (dk_at dksX3_plans_9 4 rfl rfl)
theorem dX3_plans_217 : decode cX3_plans 217 = .ok (.return_, 1) := dk_177 (dk_at dksX3_plans_9 7 rfl rfl)
abbrev cX3_clearingOf : ByteArray := prog_4_method_20_code
def yX3_clearingOf : MethodName := ⟨RX3, "clearingOf", "(II)I"⟩
def dkwX3_clearingOf_4 : List UInt8 := [21, 7, 167, 0, 5, 21, 5, 54, 5, 132, 6, 1, 167, 255, 189, 21, 5, 172]
abbrev dktX3_clearingOf_4 : List UInt8 := dkwX3_clearingOf_4 ++ []
def dkwX3_clearingOf_3 : List UInt8 := [180, 0, 7, 16, 16, 27, 104, 21, 6, 96, 46, 167, 0, 4, 3, 54, 7, 21, 7, 21, 5, 164, 0, 8]
abbrev dktX3_clearingOf_3 : List UInt8 := dkwX3_clearingOf_3 ++ dktX3_clearingOf_4
def dkwX3_clearingOf_2 : List UInt8 := [21, 6, 7, 108, 184, 0, 106, 153, 0, 30, 21, 4, 21, 6, 7, 112, 184, 0, 106, 153, 0, 18, 42]
abbrev dktX3_clearingOf_2 : List UInt8 := dkwX3_clearingOf_2 ++ dktX3_clearingOf_3
def dkwX3_clearingOf_1 : List UInt8 := [180, 0, 16, 27, 46, 112, 96, 46, 54, 4, 3, 54, 5, 3, 54, 6, 21, 6, 16, 16, 162, 0, 66, 29]
abbrev dktX3_clearingOf_1 : List UInt8 := dkwX3_clearingOf_1 ++ dktX3_clearingOf_2
def dkwX3_clearingOf_0 : List UInt8 := [42, 180, 0, 13, 7, 27, 104, 28, 96, 46, 62, 42, 180, 0, 13, 7, 27, 104, 28, 4, 96, 42]
abbrev dktX3_clearingOf_0 : List UInt8 := dkwX3_clearingOf_0 ++ dktX3_clearingOf_1
theorem dksX3_clearingOf_0 : cX3_clearingOf.data.toList.drop 0 = dktX3_clearingOf_0 := by decide +kernel
theorem dksX3_clearingOf_1 : cX3_clearingOf.data.toList.drop 22 = dktX3_clearingOf_1 := dk_seg dksX3_clearingOf_0 22 rfl rfl
theorem dksX3_clearingOf_2 : cX3_clearingOf.data.toList.drop 46 = dktX3_clearingOf_2 := dk_seg dksX3_clearingOf_1 24 rfl rfl
theorem dksX3_clearingOf_3 : cX3_clearingOf.data.toList.drop 69 = dktX3_clearingOf_3 := dk_seg dksX3_clearingOf_2 23 rfl rfl
theorem dksX3_clearingOf_4 : cX3_clearingOf.data.toList.drop 93 = dktX3_clearingOf_4 := dk_seg dksX3_clearingOf_3 24 rfl rfl
theorem dX3_clearingOf_0 : decode cX3_clearingOf 0 = .ok (.aload_n 0, 1) := dk_42 (dk_at dksX3_clearingOf_0 0 rfl rfl)
theorem dX3_clearingOf_1 : decode cX3_clearingOf 1 = .ok (.getfield 13, 3) := dk_180 0 13 (dk_at dksX3_clearingOf_0 1 rfl rfl)
theorem dX3_clearingOf_4 : decode cX3_clearingOf 4 = .ok (.iconst 4, 1) := dk_7 (dk_at dksX3_clearingOf_0 4 rfl rfl)
theorem dX3_clearingOf_5 : decode cX3_clearingOf 5 = .ok (.iload_n 1, 1) := dk_27 (dk_at dksX3_clearingOf_0 5 rfl rfl)
theorem dX3_clearingOf_6 : decode cX3_clearingOf 6 = .ok (.imul, 1) := dk_104 (dk_at dksX3_clearingOf_0 6 rfl rfl)
theorem dX3_clearingOf_7 : decode cX3_clearingOf 7 = .ok (.iload_n 2, 1) := dk_28 (dk_at dksX3_clearingOf_0 7 rfl rfl)
theorem dX3_clearingOf_8 : decode cX3_clearingOf 8 = .ok (.iadd, 1) := dk_96 (dk_at dksX3_clearingOf_0 8 rfl rfl)
theorem dX3_clearingOf_9 : decode cX3_clearingOf 9 = .ok (.iaload, 1) := dk_46 (dk_at dksX3_clearingOf_0 9 rfl rfl)
theorem dX3_clearingOf_10 : decode cX3_clearingOf 10 = .ok (.istore_n 3, 1) := dk_62 (dk_at dksX3_clearingOf_0 10 rfl rfl)
theorem dX3_clearingOf_11 : decode cX3_clearingOf 11 = .ok (.aload_n 0, 1) := dk_42 (dk_at dksX3_clearingOf_0 11 rfl rfl)
theorem dX3_clearingOf_12 : decode cX3_clearingOf 12 = .ok (.getfield 13, 3) := dk_180 0 13 (dk_at dksX3_clearingOf_0 12 rfl rfl)
theorem dX3_clearingOf_15 : decode cX3_clearingOf 15 = .ok (.iconst 4, 1) := dk_7 (dk_at dksX3_clearingOf_0 15 rfl rfl)
theorem dX3_clearingOf_16 : decode cX3_clearingOf 16 = .ok (.iload_n 1, 1) := dk_27 (dk_at dksX3_clearingOf_0 16 rfl rfl)
theorem dX3_clearingOf_17 : decode cX3_clearingOf 17 = .ok (.imul, 1) := dk_104 (dk_at dksX3_clearingOf_0 17 rfl rfl)
theorem dX3_clearingOf_18 : decode cX3_clearingOf 18 = .ok (.iload_n 2, 1) := dk_28 (dk_at dksX3_clearingOf_0 18 rfl rfl)
theorem dX3_clearingOf_19 : decode cX3_clearingOf 19 = .ok (.iconst 1, 1) := dk_4 (dk_at dksX3_clearingOf_0 19 rfl rfl)
theorem dX3_clearingOf_20 : decode cX3_clearingOf 20 = .ok (.iadd, 1) := dk_96 (dk_at dksX3_clearingOf_0 20 rfl rfl)
theorem dX3_clearingOf_21 : decode cX3_clearingOf 21 = .ok (.aload_n 0, 1) := dk_42 (dk_at dksX3_clearingOf_0 21 rfl rfl)
theorem dX3_clearingOf_22 : decode cX3_clearingOf 22 = .ok (.getfield 16, 3) := dk_180 0 16 (dk_at dksX3_clearingOf_1 0 rfl rfl)
theorem dX3_clearingOf_25 : decode cX3_clearingOf 25 = .ok (.iload_n 1, 1) := dk_27 (dk_at dksX3_clearingOf_1 3 rfl rfl)
theorem dX3_clearingOf_26 : decode cX3_clearingOf 26 = .ok (.iaload, 1) := dk_46 (dk_at dksX3_clearingOf_1 4 rfl rfl)
theorem dX3_clearingOf_27 : decode cX3_clearingOf 27 = .ok (.irem, 1) := dk_112 (dk_at dksX3_clearingOf_1 5 rfl rfl)
theorem dX3_clearingOf_28 : decode cX3_clearingOf 28 = .ok (.iadd, 1) := dk_96 (dk_at dksX3_clearingOf_1 6 rfl rfl)
theorem dX3_clearingOf_29 : decode cX3_clearingOf 29 = .ok (.iaload, 1) := dk_46 (dk_at dksX3_clearingOf_1 7 rfl rfl)
theorem dX3_clearingOf_30 : decode cX3_clearingOf 30 = .ok (.istore 4, 2) := dk_54 4 (dk_at dksX3_clearingOf_1 8 rfl rfl)
theorem dX3_clearingOf_32 : decode cX3_clearingOf 32 = .ok (.iconst 0, 1) := dk_3 (dk_at dksX3_clearingOf_1 10 rfl rfl)
theorem dX3_clearingOf_33 : decode cX3_clearingOf 33 = .ok (.istore 5, 2) := dk_54 5 (dk_at dksX3_clearingOf_1 11 rfl rfl)
theorem dX3_clearingOf_35 : decode cX3_clearingOf 35 = .ok (.iconst 0, 1) := dk_3 (dk_at dksX3_clearingOf_1 13 rfl rfl)
theorem dX3_clearingOf_36 : decode cX3_clearingOf 36 = .ok (.istore 6, 2) := dk_54 6 (dk_at dksX3_clearingOf_1 14 rfl rfl)
theorem dX3_clearingOf_38 : decode cX3_clearingOf 38 = .ok (.iload 6, 2) := dk_21 6 (dk_at dksX3_clearingOf_1 16 rfl rfl)
theorem dX3_clearingOf_40 : decode cX3_clearingOf 40 = .ok (.bipush 16, 2) := dk_16 16 (dk_at dksX3_clearingOf_1 18 rfl rfl)
theorem dX3_clearingOf_42 : decode cX3_clearingOf 42 = .ok (.if_icmp .ge 66, 3) := dk_162 0 66 (dk_at dksX3_clearingOf_1 20 rfl rfl)
theorem dX3_clearingOf_45 : decode cX3_clearingOf 45 = .ok (.iload_n 3, 1) := dk_29 (dk_at dksX3_clearingOf_1 23 rfl rfl)
theorem dX3_clearingOf_46 : decode cX3_clearingOf 46 = .ok (.iload 6, 2) := dk_21 6 (dk_at dksX3_clearingOf_2 0 rfl rfl)
theorem dX3_clearingOf_48 : decode cX3_clearingOf 48 = .ok (.iconst 4, 1) := dk_7 (dk_at dksX3_clearingOf_2 2 rfl rfl)
theorem dX3_clearingOf_49 : decode cX3_clearingOf 49 = .ok (.idiv, 1) := dk_108 (dk_at dksX3_clearingOf_2 3 rfl rfl)
theorem dX3_clearingOf_50 : decode cX3_clearingOf 50 = .ok (.invokestatic 106, 3) := dk_184 0 106 (dk_at dksX3_clearingOf_2 4 rfl rfl)
theorem dX3_clearingOf_53 : decode cX3_clearingOf 53 = .ok (.ifCond .eq 30, 3) := dk_153 0 30 (dk_at dksX3_clearingOf_2 7 rfl rfl)
theorem dX3_clearingOf_56 : decode cX3_clearingOf 56 = .ok (.iload 4, 2) := dk_21 4 (dk_at dksX3_clearingOf_2 10 rfl rfl)
theorem dX3_clearingOf_58 : decode cX3_clearingOf 58 = .ok (.iload 6, 2) := dk_21 6 (dk_at dksX3_clearingOf_2 12 rfl rfl)
theorem dX3_clearingOf_60 : decode cX3_clearingOf 60 = .ok (.iconst 4, 1) := dk_7 (dk_at dksX3_clearingOf_2 14 rfl rfl)
theorem dX3_clearingOf_61 : decode cX3_clearingOf 61 = .ok (.irem, 1) := dk_112 (dk_at dksX3_clearingOf_2 15 rfl rfl)
theorem dX3_clearingOf_62 : decode cX3_clearingOf 62 = .ok (.invokestatic 106, 3) := dk_184 0 106 (dk_at dksX3_clearingOf_2 16 rfl rfl)
theorem dX3_clearingOf_65 : decode cX3_clearingOf 65 = .ok (.ifCond .eq 18, 3) := dk_153 0 18 (dk_at dksX3_clearingOf_2 19 rfl rfl)
theorem dX3_clearingOf_68 : decode cX3_clearingOf 68 = .ok (.aload_n 0, 1) := dk_42 (dk_at dksX3_clearingOf_2 22 rfl rfl)
theorem dX3_clearingOf_69 : decode cX3_clearingOf 69 = .ok (.getfield 7, 3) := dk_180 0 7 (dk_at dksX3_clearingOf_3 0 rfl rfl)
theorem dX3_clearingOf_72 : decode cX3_clearingOf 72 = .ok (.bipush 16, 2) := dk_16 16 (dk_at dksX3_clearingOf_3 3 rfl rfl)
theorem dX3_clearingOf_74 : decode cX3_clearingOf 74 = .ok (.iload_n 1, 1) := dk_27 (dk_at dksX3_clearingOf_3 5 rfl rfl)
theorem dX3_clearingOf_75 : decode cX3_clearingOf 75 = .ok (.imul, 1) := dk_104 (dk_at dksX3_clearingOf_3 6 rfl rfl)
theorem dX3_clearingOf_76 : decode cX3_clearingOf 76 = .ok (.iload 6, 2) := dk_21 6 (dk_at dksX3_clearingOf_3 7 rfl rfl)
theorem dX3_clearingOf_78 : decode cX3_clearingOf 78 = .ok (.iadd, 1) := dk_96 (dk_at dksX3_clearingOf_3 9 rfl rfl)
theorem dX3_clearingOf_79 : decode cX3_clearingOf 79 = .ok (.iaload, 1) := dk_46 (dk_at dksX3_clearingOf_3 10 rfl rfl)
theorem dX3_clearingOf_80 : decode cX3_clearingOf 80 = .ok (.goto 4, 3) := dk_167 0 4 (dk_at dksX3_clearingOf_3 11 rfl rfl)
theorem dX3_clearingOf_83 : decode cX3_clearingOf 83 = .ok (.iconst 0, 1) := dk_3 (dk_at dksX3_clearingOf_3 14 rfl rfl)
theorem dX3_clearingOf_84 : decode cX3_clearingOf 84 = .ok (.istore 7, 2) := dk_54 7 (dk_at dksX3_clearingOf_3 15 rfl rfl)
theorem dX3_clearingOf_86 : decode cX3_clearingOf 86 = .ok (.iload 7, 2) := dk_21 7 (dk_at dksX3_clearingOf_3 17 rfl rfl)
theorem dX3_clearingOf_88 : decode cX3_clearingOf 88 = .ok (.iload 5, 2) := dk_21 5 (dk_at dksX3_clearingOf_3 19 rfl rfl)
theorem dX3_clearingOf_90 : decode cX3_clearingOf 90 = .ok (.if_icmp .le 8, 3) := dk_164 0 8 (dk_at dksX3_clearingOf_3 21 rfl rfl)
theorem dX3_clearingOf_93 : decode cX3_clearingOf 93 = .ok (.iload 7, 2) := dk_21 7 (dk_at dksX3_clearingOf_4 0 rfl rfl)
theorem dX3_clearingOf_95 : decode cX3_clearingOf 95 = .ok (.goto 5, 3) := dk_167 0 5 (dk_at dksX3_clearingOf_4 2 rfl rfl)
theorem dX3_clearingOf_98 : decode cX3_clearingOf 98 = .ok (.iload 5, 2) := dk_21 5 (dk_at dksX3_clearingOf_4 5 rfl rfl)
theorem dX3_clearingOf_100 : decode cX3_clearingOf 100 = .ok (.istore 5, 2) := dk_54 5 (dk_at dksX3_clearingOf_4 7 rfl rfl)
theorem dX3_clearingOf_102 : decode cX3_clearingOf 102 = .ok (.iinc 6 1, 3) := dk_132 6 1 (dk_at dksX3_clearingOf_4 9 rfl rfl)
theorem dX3_clearingOf_105 : decode cX3_clearingOf 105 = .ok (.goto (-67), 3) := dk_167 255 189 (dk_at dksX3_clearingOf_4 12 rfl rfl)
theorem dX3_clearingOf_108 : decode cX3_clearingOf 108 = .ok (.iload 5, 2) := dk_21 5 (dk_at dksX3_clearingOf_4 15 rfl rfl)
theorem dX3_clearingOf_110 : decode cX3_clearingOf 110 = .ok (.ireturn, 1) := dk_172 (dk_at dksX3_clearingOf_4 17 rfl rfl)
abbrev cX3_leastOf : ByteArray := prog_4_method_21_code
def yX3_leastOf : MethodName := ⟨RX3, "leastOf", "(II)I"⟩
def dkwX3_leastOf_0 : List UInt8 := [42, 180, 0, 13, 7, 27, 104, 28, 96, 46, 6, 184, 0, 106, 153, 0, 8, 16, 8, 167, 0, 4, 8, 172]
abbrev dktX3_leastOf_0 : List UInt8 := dkwX3_leastOf_0 ++ []
theorem dksX3_leastOf_0 : cX3_leastOf.data.toList.drop 0 = dktX3_leastOf_0 := by decide +kernel
theorem dX3_leastOf_0 : decode cX3_leastOf 0 = .ok (.aload_n 0, 1) := dk_42 (dk_at dksX3_leastOf_0 0 rfl rfl)
theorem dX3_leastOf_1 : decode cX3_leastOf 1 = .ok (.getfield 13, 3) := dk_180 0 13 (dk_at dksX3_leastOf_0 1 rfl rfl)
theorem dX3_leastOf_4 : decode cX3_leastOf 4 = .ok (.iconst 4, 1) := dk_7 (dk_at dksX3_leastOf_0 4 rfl rfl)
theorem dX3_leastOf_5 : decode cX3_leastOf 5 = .ok (.iload_n 1, 1) := dk_27 (dk_at dksX3_leastOf_0 5 rfl rfl)
theorem dX3_leastOf_6 : decode cX3_leastOf 6 = .ok (.imul, 1) := dk_104 (dk_at dksX3_leastOf_0 6 rfl rfl)
theorem dX3_leastOf_7 : decode cX3_leastOf 7 = .ok (.iload_n 2, 1) := dk_28 (dk_at dksX3_leastOf_0 7 rfl rfl)
theorem dX3_leastOf_8 : decode cX3_leastOf 8 = .ok (.iadd, 1) := dk_96 (dk_at dksX3_leastOf_0 8 rfl rfl)
theorem dX3_leastOf_9 : decode cX3_leastOf 9 = .ok (.iaload, 1) := dk_46 (dk_at dksX3_leastOf_0 9 rfl rfl)
theorem dX3_leastOf_10 : decode cX3_leastOf 10 = .ok (.iconst 3, 1) := dk_6 (dk_at dksX3_leastOf_0 10 rfl rfl)
theorem dX3_leastOf_11 : decode cX3_leastOf 11 = .ok (.invokestatic 106, 3) := dk_184 0 106 (dk_at dksX3_leastOf_0 11 rfl rfl)
theorem dX3_leastOf_14 : decode cX3_leastOf 14 = .ok (.ifCond .eq 8, 3) := dk_153 0 8 (dk_at dksX3_leastOf_0 14 rfl rfl)
theorem dX3_leastOf_17 : decode cX3_leastOf 17 = .ok (.bipush 8, 2) := dk_16 8 (dk_at dksX3_leastOf_0 17 rfl rfl)
theorem dX3_leastOf_19 : decode cX3_leastOf 19 = .ok (.goto 4, 3) := dk_167 0 4 (dk_at dksX3_leastOf_0 19 rfl rfl)
theorem dX3_leastOf_22 : decode cX3_leastOf 22 = .ok (.iconst 5, 1) := dk_8 (dk_at dksX3_leastOf_0 22 rfl rfl)
theorem dX3_leastOf_23 : decode cX3_leastOf 23 = .ok (.ireturn, 1) := dk_172 (dk_at dksX3_leastOf_0 23 rfl rfl)
abbrev cX3_weight : ByteArray := prog_4_method_22_code
def yX3_weight : MethodName := ⟨RX3, "weight", "(II)I"⟩
def dkwX3_weight_2 : List UInt8 := [21, 5, 29, 164, 0, 8, 21, 5, 167, 0, 4, 29, 62, 132, 4, 1, 167, 255, 199, 29, 172]
abbrev dktX3_weight_2 : List UInt8 := dkwX3_weight_2 ++ []
def dkwX3_weight_1 : List UInt8 := [184, 0, 106, 153, 0, 17, 42, 180, 0, 19, 7, 27, 104, 21, 4, 96, 46, 167, 0, 4, 3, 54, 5]
abbrev dktX3_weight_1 : List UInt8 := dkwX3_weight_1 ++ dktX3_weight_2
def dkwX3_weight_0 : List UInt8 := [3, 62, 3, 54, 4, 21, 4, 7, 162, 0, 57, 42, 180, 0, 13, 7, 27, 104, 28, 96, 46, 21, 4]
abbrev dktX3_weight_0 : List UInt8 := dkwX3_weight_0 ++ dktX3_weight_1
theorem dksX3_weight_0 : cX3_weight.data.toList.drop 0 = dktX3_weight_0 := by decide +kernel
theorem dksX3_weight_1 : cX3_weight.data.toList.drop 23 = dktX3_weight_1 := dk_seg dksX3_weight_0 23 rfl rfl
theorem dksX3_weight_2 : cX3_weight.data.toList.drop 46 = dktX3_weight_2 := dk_seg dksX3_weight_1 23 rfl rfl
theorem dX3_weight_0 : decode cX3_weight 0 = .ok (.iconst 0, 1) := dk_3 (dk_at dksX3_weight_0 0 rfl rfl)
theorem dX3_weight_1 : decode cX3_weight 1 = .ok (.istore_n 3, 1) := dk_62 (dk_at dksX3_weight_0 1 rfl rfl)
theorem dX3_weight_2 : decode cX3_weight 2 = .ok (.iconst 0, 1) := dk_3 (dk_at dksX3_weight_0 2 rfl rfl)
theorem dX3_weight_3 : decode cX3_weight 3 = .ok (.istore 4, 2) := dk_54 4 (dk_at dksX3_weight_0 3 rfl rfl)
theorem dX3_weight_5 : decode cX3_weight 5 = .ok (.iload 4, 2) := dk_21 4 (dk_at dksX3_weight_0 5 rfl rfl)
theorem dX3_weight_7 : decode cX3_weight 7 = .ok (.iconst 4, 1) := dk_7 (dk_at dksX3_weight_0 7 rfl rfl)
theorem dX3_weight_8 : decode cX3_weight 8 = .ok (.if_icmp .ge 57, 3) := dk_162 0 57 (dk_at dksX3_weight_0 8 rfl rfl)
theorem dX3_weight_11 : decode cX3_weight 11 = .ok (.aload_n 0, 1) := dk_42 (dk_at dksX3_weight_0 11 rfl rfl)
theorem dX3_weight_12 : decode cX3_weight 12 = .ok (.getfield 13, 3) := dk_180 0 13 (dk_at dksX3_weight_0 12 rfl rfl)
theorem dX3_weight_15 : decode cX3_weight 15 = .ok (.iconst 4, 1) := dk_7 (dk_at dksX3_weight_0 15 rfl rfl)
theorem dX3_weight_16 : decode cX3_weight 16 = .ok (.iload_n 1, 1) := dk_27 (dk_at dksX3_weight_0 16 rfl rfl)
theorem dX3_weight_17 : decode cX3_weight 17 = .ok (.imul, 1) := dk_104 (dk_at dksX3_weight_0 17 rfl rfl)
theorem dX3_weight_18 : decode cX3_weight 18 = .ok (.iload_n 2, 1) := dk_28 (dk_at dksX3_weight_0 18 rfl rfl)
theorem dX3_weight_19 : decode cX3_weight 19 = .ok (.iadd, 1) := dk_96 (dk_at dksX3_weight_0 19 rfl rfl)
theorem dX3_weight_20 : decode cX3_weight 20 = .ok (.iaload, 1) := dk_46 (dk_at dksX3_weight_0 20 rfl rfl)
theorem dX3_weight_21 : decode cX3_weight 21 = .ok (.iload 4, 2) := dk_21 4 (dk_at dksX3_weight_0 21 rfl rfl)
theorem dX3_weight_23 : decode cX3_weight 23 = .ok (.invokestatic 106, 3) := dk_184 0 106 (dk_at dksX3_weight_1 0 rfl rfl)
theorem dX3_weight_26 : decode cX3_weight 26 = .ok (.ifCond .eq 17, 3) := dk_153 0 17 (dk_at dksX3_weight_1 3 rfl rfl)
theorem dX3_weight_29 : decode cX3_weight 29 = .ok (.aload_n 0, 1) := dk_42 (dk_at dksX3_weight_1 6 rfl rfl)
theorem dX3_weight_30 : decode cX3_weight 30 = .ok (.getfield 19, 3) := dk_180 0 19 (dk_at dksX3_weight_1 7 rfl rfl)
theorem dX3_weight_33 : decode cX3_weight 33 = .ok (.iconst 4, 1) := dk_7 (dk_at dksX3_weight_1 10 rfl rfl)
theorem dX3_weight_34 : decode cX3_weight 34 = .ok (.iload_n 1, 1) := dk_27 (dk_at dksX3_weight_1 11 rfl rfl)
theorem dX3_weight_35 : decode cX3_weight 35 = .ok (.imul, 1) := dk_104 (dk_at dksX3_weight_1 12 rfl rfl)
theorem dX3_weight_36 : decode cX3_weight 36 = .ok (.iload 4, 2) := dk_21 4 (dk_at dksX3_weight_1 13 rfl rfl)
theorem dX3_weight_38 : decode cX3_weight 38 = .ok (.iadd, 1) := dk_96 (dk_at dksX3_weight_1 15 rfl rfl)
theorem dX3_weight_39 : decode cX3_weight 39 = .ok (.iaload, 1) := dk_46 (dk_at dksX3_weight_1 16 rfl rfl)
theorem dX3_weight_40 : decode cX3_weight 40 = .ok (.goto 4, 3) := dk_167 0 4 (dk_at dksX3_weight_1 17 rfl rfl)
theorem dX3_weight_43 : decode cX3_weight 43 = .ok (.iconst 0, 1) := dk_3 (dk_at dksX3_weight_1 20 rfl rfl)
theorem dX3_weight_44 : decode cX3_weight 44 = .ok (.istore 5, 2) := dk_54 5 (dk_at dksX3_weight_1 21 rfl rfl)
theorem dX3_weight_46 : decode cX3_weight 46 = .ok (.iload 5, 2) := dk_21 5 (dk_at dksX3_weight_2 0 rfl rfl)
theorem dX3_weight_48 : decode cX3_weight 48 = .ok (.iload_n 3, 1) := dk_29 (dk_at dksX3_weight_2 2 rfl rfl)
theorem dX3_weight_49 : decode cX3_weight 49 = .ok (.if_icmp .le 8, 3) := dk_164 0 8 (dk_at dksX3_weight_2 3 rfl rfl)
theorem dX3_weight_52 : decode cX3_weight 52 = .ok (.iload 5, 2) := dk_21 5 (dk_at dksX3_weight_2 6 rfl rfl)
theorem dX3_weight_54 : decode cX3_weight 54 = .ok (.goto 4, 3) := dk_167 0 4 (dk_at dksX3_weight_2 8 rfl rfl)
theorem dX3_weight_57 : decode cX3_weight 57 = .ok (.iload_n 3, 1) := dk_29 (dk_at dksX3_weight_2 11 rfl rfl)
theorem dX3_weight_58 : decode cX3_weight 58 = .ok (.istore_n 3, 1) := dk_62 (dk_at dksX3_weight_2 12 rfl rfl)
theorem dX3_weight_59 : decode cX3_weight 59 = .ok (.iinc 4 1, 3) := dk_132 4 1 (dk_at dksX3_weight_2 13 rfl rfl)
theorem dX3_weight_62 : decode cX3_weight 62 = .ok (.goto (-57), 3) := dk_167 255 199 (dk_at dksX3_weight_2 16 rfl rfl)
theorem dX3_weight_65 : decode cX3_weight 65 = .ok (.iload_n 3, 1) := dk_29 (dk_at dksX3_weight_2 19 rfl rfl)
theorem dX3_weight_66 : decode cX3_weight 66 = .ok (.ireturn, 1) := dk_172 (dk_at dksX3_weight_2 20 rfl rfl)
abbrev cX3_betters : ByteArray := prog_4_method_32_code
def yX3_betters : MethodName := ⟨RX3, "betters", "(I)Z"⟩
def dkwX3_betters_3 : List UInt8 := [167, 255, 202, 42, 180, 0, 22, 27, 21, 4, 79, 21, 4, 28, 159, 0, 7, 4, 167, 0, 4, 3, 172]
abbrev dktX3_betters_3 : List UInt8 := dkwX3_betters_3 ++ []
def dkwX3_betters_2 : List UInt8 := [167, 0, 5, 21, 4, 54, 4, 21, 6, 29, 164, 0, 8, 21, 6, 167, 0, 4, 29, 62, 132, 5, 1]
abbrev dktX3_betters_2 : List UInt8 := dkwX3_betters_2 ++ dktX3_betters_3
def dkwX3_betters_1 : List UInt8 := [42, 180, 0, 22, 27, 21, 5, 79, 42, 182, 0, 170, 54, 6, 21, 6, 29, 164, 0, 8, 21, 5]
abbrev dktX3_betters_1 : List UInt8 := dkwX3_betters_1 ++ dktX3_betters_2
def dkwX3_betters_0 : List UInt8 := [42, 180, 0, 22, 27, 46, 61, 2, 62, 3, 54, 4, 3, 54, 5, 21, 5, 42, 180, 0, 83, 162, 0, 51]
abbrev dktX3_betters_0 : List UInt8 := dkwX3_betters_0 ++ dktX3_betters_1
theorem dksX3_betters_0 : cX3_betters.data.toList.drop 0 = dktX3_betters_0 := by decide +kernel
theorem dksX3_betters_1 : cX3_betters.data.toList.drop 24 = dktX3_betters_1 := dk_seg dksX3_betters_0 24 rfl rfl
theorem dksX3_betters_2 : cX3_betters.data.toList.drop 46 = dktX3_betters_2 := dk_seg dksX3_betters_1 22 rfl rfl
theorem dksX3_betters_3 : cX3_betters.data.toList.drop 69 = dktX3_betters_3 := dk_seg dksX3_betters_2 23 rfl rfl
theorem dX3_betters_0 : decode cX3_betters 0 = .ok (.aload_n 0, 1) := dk_42 (dk_at dksX3_betters_0 0 rfl rfl)
theorem dX3_betters_1 : decode cX3_betters 1 = .ok (.getfield 22, 3) := dk_180 0 22 (dk_at dksX3_betters_0 1 rfl rfl)
theorem dX3_betters_4 : decode cX3_betters 4 = .ok (.iload_n 1, 1) := dk_27 (dk_at dksX3_betters_0 4 rfl rfl)
theorem dX3_betters_5 : decode cX3_betters 5 = .ok (.iaload, 1) := dk_46 (dk_at dksX3_betters_0 5 rfl rfl)
theorem dX3_betters_6 : decode cX3_betters 6 = .ok (.istore_n 2, 1) := dk_61 (dk_at dksX3_betters_0 6 rfl rfl)
theorem dX3_betters_7 : decode cX3_betters 7 = .ok (.iconst (-1), 1) := dk_2 (dk_at dksX3_betters_0 7 rfl rfl)
theorem dX3_betters_8 : decode cX3_betters 8 = .ok (.istore_n 3, 1) := dk_62 (dk_at dksX3_betters_0 8 rfl rfl)
theorem dX3_betters_9 : decode cX3_betters 9 = .ok (.iconst 0, 1) := dk_3 (dk_at dksX3_betters_0 9 rfl rfl)
theorem dX3_betters_10 : decode cX3_betters 10 = .ok (.istore 4, 2) := dk_54 4 (dk_at dksX3_betters_0 10 rfl rfl)
theorem dX3_betters_12 : decode cX3_betters 12 = .ok (.iconst 0, 1) := dk_3 (dk_at dksX3_betters_0 12 rfl rfl)
theorem dX3_betters_13 : decode cX3_betters 13 = .ok (.istore 5, 2) := dk_54 5 (dk_at dksX3_betters_0 13 rfl rfl)
theorem dX3_betters_15 : decode cX3_betters 15 = .ok (.iload 5, 2) := dk_21 5 (dk_at dksX3_betters_0 15 rfl rfl)
theorem dX3_betters_17 : decode cX3_betters 17 = .ok (.aload_n 0, 1) := dk_42 (dk_at dksX3_betters_0 17 rfl rfl)
theorem dX3_betters_18 : decode cX3_betters 18 = .ok (.getfield 83, 3) := dk_180 0 83 (dk_at dksX3_betters_0 18 rfl rfl)
theorem dX3_betters_21 : decode cX3_betters 21 = .ok (.if_icmp .ge 51, 3) := dk_162 0 51 (dk_at dksX3_betters_0 21 rfl rfl)
theorem dX3_betters_24 : decode cX3_betters 24 = .ok (.aload_n 0, 1) := dk_42 (dk_at dksX3_betters_1 0 rfl rfl)
theorem dX3_betters_25 : decode cX3_betters 25 = .ok (.getfield 22, 3) := dk_180 0 22 (dk_at dksX3_betters_1 1 rfl rfl)
theorem dX3_betters_28 : decode cX3_betters 28 = .ok (.iload_n 1, 1) := dk_27 (dk_at dksX3_betters_1 4 rfl rfl)
theorem dX3_betters_29 : decode cX3_betters 29 = .ok (.iload 5, 2) := dk_21 5 (dk_at dksX3_betters_1 5 rfl rfl)
theorem dX3_betters_31 : decode cX3_betters 31 = .ok (.iastore, 1) := dk_79 (dk_at dksX3_betters_1 7 rfl rfl)
theorem dX3_betters_32 : decode cX3_betters 32 = .ok (.aload_n 0, 1) := dk_42 (dk_at dksX3_betters_1 8 rfl rfl)
theorem dX3_betters_33 : decode cX3_betters 33 = .ok (.invokevirtual 170, 3) := dk_182 0 170 (dk_at dksX3_betters_1 9 rfl rfl)
theorem dX3_betters_36 : decode cX3_betters 36 = .ok (.istore 6, 2) := dk_54 6 (dk_at dksX3_betters_1 12 rfl rfl)
theorem dX3_betters_38 : decode cX3_betters 38 = .ok (.iload 6, 2) := dk_21 6 (dk_at dksX3_betters_1 14 rfl rfl)
theorem dX3_betters_40 : decode cX3_betters 40 = .ok (.iload_n 3, 1) := dk_29 (dk_at dksX3_betters_1 16 rfl rfl)
theorem dX3_betters_41 : decode cX3_betters 41 = .ok (.if_icmp .le 8, 3) := dk_164 0 8 (dk_at dksX3_betters_1 17 rfl rfl)
theorem dX3_betters_44 : decode cX3_betters 44 = .ok (.iload 5, 2) := dk_21 5 (dk_at dksX3_betters_1 20 rfl rfl)
theorem dX3_betters_46 : decode cX3_betters 46 = .ok (.goto 5, 3) := dk_167 0 5 (dk_at dksX3_betters_2 0 rfl rfl)
theorem dX3_betters_49 : decode cX3_betters 49 = .ok (.iload 4, 2) := dk_21 4 (dk_at dksX3_betters_2 3 rfl rfl)
theorem dX3_betters_51 : decode cX3_betters 51 = .ok (.istore 4, 2) := dk_54 4 (dk_at dksX3_betters_2 5 rfl rfl)
theorem dX3_betters_53 : decode cX3_betters 53 = .ok (.iload 6, 2) := dk_21 6 (dk_at dksX3_betters_2 7 rfl rfl)
theorem dX3_betters_55 : decode cX3_betters 55 = .ok (.iload_n 3, 1) := dk_29 (dk_at dksX3_betters_2 9 rfl rfl)
theorem dX3_betters_56 : decode cX3_betters 56 = .ok (.if_icmp .le 8, 3) := dk_164 0 8 (dk_at dksX3_betters_2 10 rfl rfl)
theorem dX3_betters_59 : decode cX3_betters 59 = .ok (.iload 6, 2) := dk_21 6 (dk_at dksX3_betters_2 13 rfl rfl)
theorem dX3_betters_61 : decode cX3_betters 61 = .ok (.goto 4, 3) := dk_167 0 4 (dk_at dksX3_betters_2 15 rfl rfl)
theorem dX3_betters_64 : decode cX3_betters 64 = .ok (.iload_n 3, 1) := dk_29 (dk_at dksX3_betters_2 18 rfl rfl)
theorem dX3_betters_65 : decode cX3_betters 65 = .ok (.istore_n 3, 1) := dk_62 (dk_at dksX3_betters_2 19 rfl rfl)
theorem dX3_betters_66 : decode cX3_betters 66 = .ok (.iinc 5 1, 3) := dk_132 5 1 (dk_at dksX3_betters_2 20 rfl rfl)
theorem dX3_betters_69 : decode cX3_betters 69 = .ok (.goto (-54), 3) := dk_167 255 202 (dk_at dksX3_betters_3 0 rfl rfl)
theorem dX3_betters_72 : decode cX3_betters 72 = .ok (.aload_n 0, 1) := dk_42 (dk_at dksX3_betters_3 3 rfl rfl)
theorem dX3_betters_73 : decode cX3_betters 73 = .ok (.getfield 22, 3) := dk_180 0 22 (dk_at dksX3_betters_3 4 rfl rfl)
theorem dX3_betters_76 : decode cX3_betters 76 = .ok (.iload_n 1, 1) := dk_27 (dk_at dksX3_betters_3 7 rfl rfl)
theorem dX3_betters_77 : decode cX3_betters 77 = .ok (.iload 4, 2) := dk_21 4 (dk_at dksX3_betters_3 8 rfl rfl)
theorem dX3_betters_79 : decode cX3_betters 79 = .ok (.iastore, 1) := dk_79 (dk_at dksX3_betters_3 10 rfl rfl)
theorem dX3_betters_80 : decode cX3_betters 80 = .ok (.iload 4, 2) := dk_21 4 (dk_at dksX3_betters_3 11 rfl rfl)
theorem dX3_betters_82 : decode cX3_betters 82 = .ok (.iload_n 2, 1) := dk_28 (dk_at dksX3_betters_3 13 rfl rfl)
theorem dX3_betters_83 : decode cX3_betters 83 = .ok (.if_icmp .eq 7, 3) := dk_159 0 7 (dk_at dksX3_betters_3 14 rfl rfl)
theorem dX3_betters_86 : decode cX3_betters 86 = .ok (.iconst 1, 1) := dk_4 (dk_at dksX3_betters_3 17 rfl rfl)
theorem dX3_betters_87 : decode cX3_betters 87 = .ok (.goto 4, 3) := dk_167 0 4 (dk_at dksX3_betters_3 18 rfl rfl)
theorem dX3_betters_90 : decode cX3_betters 90 = .ok (.iconst 0, 1) := dk_3 (dk_at dksX3_betters_3 21 rfl rfl)
theorem dX3_betters_91 : decode cX3_betters 91 = .ok (.ireturn, 1) := dk_172 (dk_at dksX3_betters_3 22 rfl rfl)
abbrev cX3_bands : ByteArray := prog_4_method_31_code
def yX3_bands : MethodName := ⟨RX3, "bands", "()I"⟩
def dkwX3_bands_0 : List UInt8 := [42, 4, 182, 0, 166, 42, 3, 182, 0, 166, 96, 172]
abbrev dktX3_bands_0 : List UInt8 := dkwX3_bands_0 ++ []
theorem dksX3_bands_0 : cX3_bands.data.toList.drop 0 = dktX3_bands_0 := by decide +kernel
theorem dX3_bands_0 : decode cX3_bands 0 = .ok (.aload_n 0, 1) := dk_42 (dk_at dksX3_bands_0 0 rfl rfl)
theorem dX3_bands_1 : decode cX3_bands 1 = .ok (.iconst 1, 1) := dk_4 (dk_at dksX3_bands_0 1 rfl rfl)
theorem dX3_bands_2 : decode cX3_bands 2 = .ok (.invokevirtual 166, 3) := dk_182 0 166 (dk_at dksX3_bands_0 2 rfl rfl)
theorem dX3_bands_5 : decode cX3_bands 5 = .ok (.aload_n 0, 1) := dk_42 (dk_at dksX3_bands_0 5 rfl rfl)
theorem dX3_bands_6 : decode cX3_bands 6 = .ok (.iconst 0, 1) := dk_3 (dk_at dksX3_bands_0 6 rfl rfl)
theorem dX3_bands_7 : decode cX3_bands 7 = .ok (.invokevirtual 166, 3) := dk_182 0 166 (dk_at dksX3_bands_0 7 rfl rfl)
theorem dX3_bands_10 : decode cX3_bands 10 = .ok (.iadd, 1) := dk_96 (dk_at dksX3_bands_0 10 rfl rfl)
theorem dX3_bands_11 : decode cX3_bands 11 = .ok (.ireturn, 1) := dk_172 (dk_at dksX3_bands_0 11 rfl rfl)
abbrev cX3_bandOf : ByteArray := prog_4_method_30_code
def yX3_bandOf : MethodName := ⟨RX3, "bandOf", "(Z)I"⟩
def dkwX3_bandOf_1 : List UInt8 := [167, 0, 4, 3, 96, 61, 132, 3, 1, 167, 255, 228, 28, 172]
abbrev dktX3_bandOf_1 : List UInt8 := dkwX3_bandOf_1 ++ []
def dkwX3_bandOf_0 : List UInt8 := [3, 61, 3, 62, 29, 42, 180, 0, 83, 162, 0, 26, 28, 42, 29, 27, 182, 0, 162, 153, 0, 7, 4]
abbrev dktX3_bandOf_0 : List UInt8 := dkwX3_bandOf_0 ++ dktX3_bandOf_1
theorem dksX3_bandOf_0 : cX3_bandOf.data.toList.drop 0 = dktX3_bandOf_0 := by decide +kernel
theorem dksX3_bandOf_1 : cX3_bandOf.data.toList.drop 23 = dktX3_bandOf_1 := dk_seg dksX3_bandOf_0 23 rfl rfl
theorem dX3_bandOf_0 : decode cX3_bandOf 0 = .ok (.iconst 0, 1) := dk_3 (dk_at dksX3_bandOf_0 0 rfl rfl)
theorem dX3_bandOf_1 : decode cX3_bandOf 1 = .ok (.istore_n 2, 1) := dk_61 (dk_at dksX3_bandOf_0 1 rfl rfl)
theorem dX3_bandOf_2 : decode cX3_bandOf 2 = .ok (.iconst 0, 1) := dk_3 (dk_at dksX3_bandOf_0 2 rfl rfl)
theorem dX3_bandOf_3 : decode cX3_bandOf 3 = .ok (.istore_n 3, 1) := dk_62 (dk_at dksX3_bandOf_0 3 rfl rfl)
theorem dX3_bandOf_4 : decode cX3_bandOf 4 = .ok (.iload_n 3, 1) := dk_29 (dk_at dksX3_bandOf_0 4 rfl rfl)
theorem dX3_bandOf_5 : decode cX3_bandOf 5 = .ok (.aload_n 0, 1) := dk_42 (dk_at dksX3_bandOf_0 5 rfl rfl)
theorem dX3_bandOf_6 : decode cX3_bandOf 6 = .ok (.getfield 83, 3) := dk_180 0 83 (dk_at dksX3_bandOf_0 6 rfl rfl)
theorem dX3_bandOf_9 : decode cX3_bandOf 9 = .ok (.if_icmp .ge 26, 3) := dk_162 0 26 (dk_at dksX3_bandOf_0 9 rfl rfl)
theorem dX3_bandOf_12 : decode cX3_bandOf 12 = .ok (.iload_n 2, 1) := dk_28 (dk_at dksX3_bandOf_0 12 rfl rfl)
theorem dX3_bandOf_13 : decode cX3_bandOf 13 = .ok (.aload_n 0, 1) := dk_42 (dk_at dksX3_bandOf_0 13 rfl rfl)
theorem dX3_bandOf_14 : decode cX3_bandOf 14 = .ok (.iload_n 3, 1) := dk_29 (dk_at dksX3_bandOf_0 14 rfl rfl)
theorem dX3_bandOf_15 : decode cX3_bandOf 15 = .ok (.iload_n 1, 1) := dk_27 (dk_at dksX3_bandOf_0 15 rfl rfl)
theorem dX3_bandOf_16 : decode cX3_bandOf 16 = .ok (.invokevirtual 162, 3) := dk_182 0 162 (dk_at dksX3_bandOf_0 16 rfl rfl)
theorem dX3_bandOf_19 : decode cX3_bandOf 19 = .ok (.ifCond .eq 7, 3) := dk_153 0 7 (dk_at dksX3_bandOf_0 19 rfl rfl)
theorem dX3_bandOf_22 : decode cX3_bandOf 22 = .ok (.iconst 1, 1) := dk_4 (dk_at dksX3_bandOf_0 22 rfl rfl)
theorem dX3_bandOf_23 : decode cX3_bandOf 23 = .ok (.goto 4, 3) := dk_167 0 4 (dk_at dksX3_bandOf_1 0 rfl rfl)
theorem dX3_bandOf_26 : decode cX3_bandOf 26 = .ok (.iconst 0, 1) := dk_3 (dk_at dksX3_bandOf_1 3 rfl rfl)
theorem dX3_bandOf_27 : decode cX3_bandOf 27 = .ok (.iadd, 1) := dk_96 (dk_at dksX3_bandOf_1 4 rfl rfl)
theorem dX3_bandOf_28 : decode cX3_bandOf 28 = .ok (.istore_n 2, 1) := dk_61 (dk_at dksX3_bandOf_1 5 rfl rfl)
theorem dX3_bandOf_29 : decode cX3_bandOf 29 = .ok (.iinc 3 1, 3) := dk_132 3 1 (dk_at dksX3_bandOf_1 6 rfl rfl)
theorem dX3_bandOf_32 : decode cX3_bandOf 32 = .ok (.goto (-28), 3) := dk_167 255 228 (dk_at dksX3_bandOf_1 9 rfl rfl)
theorem dX3_bandOf_35 : decode cX3_bandOf 35 = .ok (.iload_n 2, 1) := dk_28 (dk_at dksX3_bandOf_1 12 rfl rfl)
theorem dX3_bandOf_36 : decode cX3_bandOf 36 = .ok (.ireturn, 1) := dk_172 (dk_at dksX3_bandOf_1 13 rfl rfl)
abbrev cX3_isFree : ByteArray := prog_4_method_29_code
def yX3_isFree : MethodName := ⟨RX3, "isFree", "(IZ)Z"⟩
def dkwX3_isFree_4 : List UInt8 := [21, 5, 4, 100, 46, 167, 0, 4, 3, 96, 62, 132, 4, 1, 167, 255, 152, 4, 172]
abbrev dktX3_isFree_4 : List UInt8 := dkwX3_isFree_4 ++ []
def dkwX3_isFree_3 : List UInt8 := [42, 180, 0, 25, 21, 4, 46, 167, 0, 25, 28, 154, 0, 20, 21, 5, 158, 0, 15, 42, 180, 0, 25]
abbrev dktX3_isFree_3 : List UInt8 := dkwX3_isFree_3 ++ dktX3_isFree_4
def dkwX3_isFree_2 : List UInt8 := [182, 0, 158, 154, 0, 5, 3, 172, 29, 28, 153, 0, 24, 21, 4, 42, 180, 0, 76, 4, 100, 162, 0, 13]
abbrev dktX3_isFree_2 : List UInt8 := dkwX3_isFree_2 ++ dktX3_isFree_3
def dkwX3_isFree_1 : List UInt8 := [180, 0, 76, 4, 100, 21, 4, 100, 54, 5, 42, 21, 5, 28, 153, 0, 7, 3, 167, 0, 4, 4, 29, 3]
abbrev dktX3_isFree_1 : List UInt8 := dkwX3_isFree_1 ++ dktX3_isFree_2
def dkwX3_isFree_0 : List UInt8 := [27, 62, 3, 54, 4, 21, 4, 42, 180, 0, 76, 162, 0, 101, 28, 153, 0, 8, 21, 4, 167, 0, 12, 42]
abbrev dktX3_isFree_0 : List UInt8 := dkwX3_isFree_0 ++ dktX3_isFree_1
theorem dksX3_isFree_0 : cX3_isFree.data.toList.drop 0 = dktX3_isFree_0 := by decide +kernel
theorem dksX3_isFree_1 : cX3_isFree.data.toList.drop 24 = dktX3_isFree_1 := dk_seg dksX3_isFree_0 24 rfl rfl
theorem dksX3_isFree_2 : cX3_isFree.data.toList.drop 48 = dktX3_isFree_2 := dk_seg dksX3_isFree_1 24 rfl rfl
theorem dksX3_isFree_3 : cX3_isFree.data.toList.drop 72 = dktX3_isFree_3 := dk_seg dksX3_isFree_2 24 rfl rfl
theorem dksX3_isFree_4 : cX3_isFree.data.toList.drop 95 = dktX3_isFree_4 := dk_seg dksX3_isFree_3 23 rfl rfl
theorem dX3_isFree_0 : decode cX3_isFree 0 = .ok (.iload_n 1, 1) := dk_27 (dk_at dksX3_isFree_0 0 rfl rfl)
theorem dX3_isFree_1 : decode cX3_isFree 1 = .ok (.istore_n 3, 1) := dk_62 (dk_at dksX3_isFree_0 1 rfl rfl)
theorem dX3_isFree_2 : decode cX3_isFree 2 = .ok (.iconst 0, 1) := dk_3 (dk_at dksX3_isFree_0 2 rfl rfl)
theorem dX3_isFree_3 : decode cX3_isFree 3 = .ok (.istore 4, 2) := dk_54 4 (dk_at dksX3_isFree_0 3 rfl rfl)
theorem dX3_isFree_5 : decode cX3_isFree 5 = .ok (.iload 4, 2) := dk_21 4 (dk_at dksX3_isFree_0 5 rfl rfl)
theorem dX3_isFree_7 : decode cX3_isFree 7 = .ok (.aload_n 0, 1) := dk_42 (dk_at dksX3_isFree_0 7 rfl rfl)
theorem dX3_isFree_8 : decode cX3_isFree 8 = .ok (.getfield 76, 3) := dk_180 0 76 (dk_at dksX3_isFree_0 8 rfl rfl)
theorem dX3_isFree_11 : decode cX3_isFree 11 = .ok (.if_icmp .ge 101, 3) := dk_162 0 101 (dk_at dksX3_isFree_0 11 rfl rfl)
theorem dX3_isFree_14 : decode cX3_isFree 14 = .ok (.iload_n 2, 1) := dk_28 (dk_at dksX3_isFree_0 14 rfl rfl)
theorem dX3_isFree_15 : decode cX3_isFree 15 = .ok (.ifCond .eq 8, 3) := dk_153 0 8 (dk_at dksX3_isFree_0 15 rfl rfl)
theorem dX3_isFree_18 : decode cX3_isFree 18 = .ok (.iload 4, 2) := dk_21 4 (dk_at dksX3_isFree_0 18 rfl rfl)
theorem dX3_isFree_20 : decode cX3_isFree 20 = .ok (.goto 12, 3) := dk_167 0 12 (dk_at dksX3_isFree_0 20 rfl rfl)
theorem dX3_isFree_23 : decode cX3_isFree 23 = .ok (.aload_n 0, 1) := dk_42 (dk_at dksX3_isFree_0 23 rfl rfl)
theorem dX3_isFree_24 : decode cX3_isFree 24 = .ok (.getfield 76, 3) := dk_180 0 76 (dk_at dksX3_isFree_1 0 rfl rfl)
theorem dX3_isFree_27 : decode cX3_isFree 27 = .ok (.iconst 1, 1) := dk_4 (dk_at dksX3_isFree_1 3 rfl rfl)
theorem dX3_isFree_28 : decode cX3_isFree 28 = .ok (.isub, 1) := dk_100 (dk_at dksX3_isFree_1 4 rfl rfl)
theorem dX3_isFree_29 : decode cX3_isFree 29 = .ok (.iload 4, 2) := dk_21 4 (dk_at dksX3_isFree_1 5 rfl rfl)
theorem dX3_isFree_31 : decode cX3_isFree 31 = .ok (.isub, 1) := dk_100 (dk_at dksX3_isFree_1 7 rfl rfl)
theorem dX3_isFree_32 : decode cX3_isFree 32 = .ok (.istore 5, 2) := dk_54 5 (dk_at dksX3_isFree_1 8 rfl rfl)
theorem dX3_isFree_34 : decode cX3_isFree 34 = .ok (.aload_n 0, 1) := dk_42 (dk_at dksX3_isFree_1 10 rfl rfl)
theorem dX3_isFree_35 : decode cX3_isFree 35 = .ok (.iload 5, 2) := dk_21 5 (dk_at dksX3_isFree_1 11 rfl rfl)
theorem dX3_isFree_37 : decode cX3_isFree 37 = .ok (.iload_n 2, 1) := dk_28 (dk_at dksX3_isFree_1 13 rfl rfl)
theorem dX3_isFree_38 : decode cX3_isFree 38 = .ok (.ifCond .eq 7, 3) := dk_153 0 7 (dk_at dksX3_isFree_1 14 rfl rfl)
theorem dX3_isFree_41 : decode cX3_isFree 41 = .ok (.iconst 0, 1) := dk_3 (dk_at dksX3_isFree_1 17 rfl rfl)
theorem dX3_isFree_42 : decode cX3_isFree 42 = .ok (.goto 4, 3) := dk_167 0 4 (dk_at dksX3_isFree_1 18 rfl rfl)
theorem dX3_isFree_45 : decode cX3_isFree 45 = .ok (.iconst 1, 1) := dk_4 (dk_at dksX3_isFree_1 21 rfl rfl)
theorem dX3_isFree_46 : decode cX3_isFree 46 = .ok (.iload_n 3, 1) := dk_29 (dk_at dksX3_isFree_1 22 rfl rfl)
theorem dX3_isFree_47 : decode cX3_isFree 47 = .ok (.iconst 0, 1) := dk_3 (dk_at dksX3_isFree_1 23 rfl rfl)
theorem dX3_isFree_48 : decode cX3_isFree 48 = .ok (.invokevirtual 158, 3) := dk_182 0 158 (dk_at dksX3_isFree_2 0 rfl rfl)
theorem dX3_isFree_51 : decode cX3_isFree 51 = .ok (.ifCond .ne 5, 3) := dk_154 0 5 (dk_at dksX3_isFree_2 3 rfl rfl)
theorem dX3_isFree_54 : decode cX3_isFree 54 = .ok (.iconst 0, 1) := dk_3 (dk_at dksX3_isFree_2 6 rfl rfl)
theorem dX3_isFree_55 : decode cX3_isFree 55 = .ok (.ireturn, 1) := dk_172 (dk_at dksX3_isFree_2 7 rfl rfl)
theorem dX3_isFree_56 : decode cX3_isFree 56 = .ok (.iload_n 3, 1) := dk_29 (dk_at dksX3_isFree_2 8 rfl rfl)
theorem dX3_isFree_57 : decode cX3_isFree 57 = .ok (.iload_n 2, 1) := dk_28 (dk_at dksX3_isFree_2 9 rfl rfl)
theorem dX3_isFree_58 : decode cX3_isFree 58 = .ok (.ifCond .eq 24, 3) := dk_153 0 24 (dk_at dksX3_isFree_2 10 rfl rfl)
theorem dX3_isFree_61 : decode cX3_isFree 61 = .ok (.iload 4, 2) := dk_21 4 (dk_at dksX3_isFree_2 13 rfl rfl)
theorem dX3_isFree_63 : decode cX3_isFree 63 = .ok (.aload_n 0, 1) := dk_42 (dk_at dksX3_isFree_2 15 rfl rfl)
theorem dX3_isFree_64 : decode cX3_isFree 64 = .ok (.getfield 76, 3) := dk_180 0 76 (dk_at dksX3_isFree_2 16 rfl rfl)
theorem dX3_isFree_67 : decode cX3_isFree 67 = .ok (.iconst 1, 1) := dk_4 (dk_at dksX3_isFree_2 19 rfl rfl)
theorem dX3_isFree_68 : decode cX3_isFree 68 = .ok (.isub, 1) := dk_100 (dk_at dksX3_isFree_2 20 rfl rfl)
theorem dX3_isFree_69 : decode cX3_isFree 69 = .ok (.if_icmp .ge 13, 3) := dk_162 0 13 (dk_at dksX3_isFree_2 21 rfl rfl)
theorem dX3_isFree_72 : decode cX3_isFree 72 = .ok (.aload_n 0, 1) := dk_42 (dk_at dksX3_isFree_3 0 rfl rfl)
theorem dX3_isFree_73 : decode cX3_isFree 73 = .ok (.getfield 25, 3) := dk_180 0 25 (dk_at dksX3_isFree_3 1 rfl rfl)
theorem dX3_isFree_76 : decode cX3_isFree 76 = .ok (.iload 4, 2) := dk_21 4 (dk_at dksX3_isFree_3 4 rfl rfl)
theorem dX3_isFree_78 : decode cX3_isFree 78 = .ok (.iaload, 1) := dk_46 (dk_at dksX3_isFree_3 6 rfl rfl)
theorem dX3_isFree_79 : decode cX3_isFree 79 = .ok (.goto 25, 3) := dk_167 0 25 (dk_at dksX3_isFree_3 7 rfl rfl)
theorem dX3_isFree_82 : decode cX3_isFree 82 = .ok (.iload_n 2, 1) := dk_28 (dk_at dksX3_isFree_3 10 rfl rfl)
theorem dX3_isFree_83 : decode cX3_isFree 83 = .ok (.ifCond .ne 20, 3) := dk_154 0 20 (dk_at dksX3_isFree_3 11 rfl rfl)
theorem dX3_isFree_86 : decode cX3_isFree 86 = .ok (.iload 5, 2) := dk_21 5 (dk_at dksX3_isFree_3 14 rfl rfl)
theorem dX3_isFree_88 : decode cX3_isFree 88 = .ok (.ifCond .le 15, 3) := dk_158 0 15 (dk_at dksX3_isFree_3 16 rfl rfl)
theorem dX3_isFree_91 : decode cX3_isFree 91 = .ok (.aload_n 0, 1) := dk_42 (dk_at dksX3_isFree_3 19 rfl rfl)
theorem dX3_isFree_92 : decode cX3_isFree 92 = .ok (.getfield 25, 3) := dk_180 0 25 (dk_at dksX3_isFree_3 20 rfl rfl)
theorem dX3_isFree_95 : decode cX3_isFree 95 = .ok (.iload 5, 2) := dk_21 5 (dk_at dksX3_isFree_4 0 rfl rfl)
theorem dX3_isFree_97 : decode cX3_isFree 97 = .ok (.iconst 1, 1) := dk_4 (dk_at dksX3_isFree_4 2 rfl rfl)
theorem dX3_isFree_98 : decode cX3_isFree 98 = .ok (.isub, 1) := dk_100 (dk_at dksX3_isFree_4 3 rfl rfl)
theorem dX3_isFree_99 : decode cX3_isFree 99 = .ok (.iaload, 1) := dk_46 (dk_at dksX3_isFree_4 4 rfl rfl)
theorem dX3_isFree_100 : decode cX3_isFree 100 = .ok (.goto 4, 3) := dk_167 0 4 (dk_at dksX3_isFree_4 5 rfl rfl)
theorem dX3_isFree_103 : decode cX3_isFree 103 = .ok (.iconst 0, 1) := dk_3 (dk_at dksX3_isFree_4 8 rfl rfl)
theorem dX3_isFree_104 : decode cX3_isFree 104 = .ok (.iadd, 1) := dk_96 (dk_at dksX3_isFree_4 9 rfl rfl)
theorem dX3_isFree_105 : decode cX3_isFree 105 = .ok (.istore_n 3, 1) := dk_62 (dk_at dksX3_isFree_4 10 rfl rfl)
theorem dX3_isFree_106 : decode cX3_isFree 106 = .ok (.iinc 4 1, 3) := dk_132 4 1 (dk_at dksX3_isFree_4 11 rfl rfl)
theorem dX3_isFree_109 : decode cX3_isFree 109 = .ok (.goto (-104), 3) := dk_167 255 152 (dk_at dksX3_isFree_4 14 rfl rfl)
theorem dX3_isFree_112 : decode cX3_isFree 112 = .ok (.iconst 1, 1) := dk_4 (dk_at dksX3_isFree_4 17 rfl rfl)
theorem dX3_isFree_113 : decode cX3_isFree 113 = .ok (.ireturn, 1) := dk_172 (dk_at dksX3_isFree_4 18 rfl rfl)
abbrev cX3_isGreenAt : ByteArray := prog_4_method_28_code
def yX3_isGreenAt : MethodName := ⟨RX3, "isGreenAt", "(IIIZ)Z"⟩
def dkwX3_isGreenAt_1 : List UInt8 := [21, 5, 96, 46, 28, 184, 0, 106, 153, 0, 7, 4, 167, 0, 4, 3, 172]
abbrev dktX3_isGreenAt_1 : List UInt8 := dkwX3_isGreenAt_1 ++ []
def dkwX3_isGreenAt_0 : List UInt8 := [42, 27, 29, 21, 4, 182, 0, 154, 54, 5, 21, 5, 2, 159, 0, 25, 42, 180, 0, 13, 7, 27, 104]
abbrev dktX3_isGreenAt_0 : List UInt8 := dkwX3_isGreenAt_0 ++ dktX3_isGreenAt_1
theorem dksX3_isGreenAt_0 : cX3_isGreenAt.data.toList.drop 0 = dktX3_isGreenAt_0 := by decide +kernel
theorem dksX3_isGreenAt_1 : cX3_isGreenAt.data.toList.drop 23 = dktX3_isGreenAt_1 := dk_seg dksX3_isGreenAt_0 23 rfl rfl
theorem dX3_isGreenAt_0 : decode cX3_isGreenAt 0 = .ok (.aload_n 0, 1) := dk_42 (dk_at dksX3_isGreenAt_0 0 rfl rfl)
theorem dX3_isGreenAt_1 : decode cX3_isGreenAt 1 = .ok (.iload_n 1, 1) := dk_27 (dk_at dksX3_isGreenAt_0 1 rfl rfl)
theorem dX3_isGreenAt_2 : decode cX3_isGreenAt 2 = .ok (.iload_n 3, 1) := dk_29 (dk_at dksX3_isGreenAt_0 2 rfl rfl)
theorem dX3_isGreenAt_3 : decode cX3_isGreenAt 3 = .ok (.iload 4, 2) := dk_21 4 (dk_at dksX3_isGreenAt_0 3 rfl rfl)
theorem dX3_isGreenAt_5 : decode cX3_isGreenAt 5 = .ok (.invokevirtual 154, 3) := dk_182 0 154 (dk_at dksX3_isGreenAt_0 5 rfl rfl)
theorem dX3_isGreenAt_8 : decode cX3_isGreenAt 8 = .ok (.istore 5, 2) := dk_54 5 (dk_at dksX3_isGreenAt_0 8 rfl rfl)
theorem dX3_isGreenAt_10 : decode cX3_isGreenAt 10 = .ok (.iload 5, 2) := dk_21 5 (dk_at dksX3_isGreenAt_0 10 rfl rfl)
theorem dX3_isGreenAt_12 : decode cX3_isGreenAt 12 = .ok (.iconst (-1), 1) := dk_2 (dk_at dksX3_isGreenAt_0 12 rfl rfl)
theorem dX3_isGreenAt_13 : decode cX3_isGreenAt 13 = .ok (.if_icmp .eq 25, 3) := dk_159 0 25 (dk_at dksX3_isGreenAt_0 13 rfl rfl)
theorem dX3_isGreenAt_16 : decode cX3_isGreenAt 16 = .ok (.aload_n 0, 1) := dk_42 (dk_at dksX3_isGreenAt_0 16 rfl rfl)
theorem dX3_isGreenAt_17 : decode cX3_isGreenAt 17 = .ok (.getfield 13, 3) := dk_180 0 13 (dk_at dksX3_isGreenAt_0 17 rfl rfl)
theorem dX3_isGreenAt_20 : decode cX3_isGreenAt 20 = .ok (.iconst 4, 1) := dk_7 (dk_at dksX3_isGreenAt_0 20 rfl rfl)
theorem dX3_isGreenAt_21 : decode cX3_isGreenAt 21 = .ok (.iload_n 1, 1) := dk_27 (dk_at dksX3_isGreenAt_0 21 rfl rfl)
theorem dX3_isGreenAt_22 : decode cX3_isGreenAt 22 = .ok (.imul, 1) := dk_104 (dk_at dksX3_isGreenAt_0 22 rfl rfl)
theorem dX3_isGreenAt_23 : decode cX3_isGreenAt 23 = .ok (.iload 5, 2) := dk_21 5 (dk_at dksX3_isGreenAt_1 0 rfl rfl)
theorem dX3_isGreenAt_25 : decode cX3_isGreenAt 25 = .ok (.iadd, 1) := dk_96 (dk_at dksX3_isGreenAt_1 2 rfl rfl)
theorem dX3_isGreenAt_26 : decode cX3_isGreenAt 26 = .ok (.iaload, 1) := dk_46 (dk_at dksX3_isGreenAt_1 3 rfl rfl)
theorem dX3_isGreenAt_27 : decode cX3_isGreenAt 27 = .ok (.iload_n 2, 1) := dk_28 (dk_at dksX3_isGreenAt_1 4 rfl rfl)
theorem dX3_isGreenAt_28 : decode cX3_isGreenAt 28 = .ok (.invokestatic 106, 3) := dk_184 0 106 (dk_at dksX3_isGreenAt_1 5 rfl rfl)
theorem dX3_isGreenAt_31 : decode cX3_isGreenAt 31 = .ok (.ifCond .eq 7, 3) := dk_153 0 7 (dk_at dksX3_isGreenAt_1 8 rfl rfl)
theorem dX3_isGreenAt_34 : decode cX3_isGreenAt 34 = .ok (.iconst 1, 1) := dk_4 (dk_at dksX3_isGreenAt_1 11 rfl rfl)
theorem dX3_isGreenAt_35 : decode cX3_isGreenAt 35 = .ok (.goto 4, 3) := dk_167 0 4 (dk_at dksX3_isGreenAt_1 12 rfl rfl)
theorem dX3_isGreenAt_38 : decode cX3_isGreenAt 38 = .ok (.iconst 0, 1) := dk_3 (dk_at dksX3_isGreenAt_1 15 rfl rfl)
theorem dX3_isGreenAt_39 : decode cX3_isGreenAt 39 = .ok (.ireturn, 1) := dk_172 (dk_at dksX3_isGreenAt_1 16 rfl rfl)
abbrev cX3_phaseAt : ByteArray := prog_4_method_27_code
def yX3_phaseAt : MethodName := ⟨RX3, "phaseAt", "(IIZ)I"⟩
def dkwX3_phaseAt_7 : List UInt8 := [21, 6, 96, 46, 96, 100, 54, 4, 132, 6, 1, 167, 255, 129, 2, 172]
abbrev dktX3_phaseAt_7 : List UInt8 := dkwX3_phaseAt_7 ++ []
def dkwX3_phaseAt_6 : List UInt8 := [21, 4, 156, 0, 7, 2, 167, 0, 5, 21, 6, 172, 21, 4, 21, 7, 42, 180, 0, 34, 7, 27, 104]
abbrev dktX3_phaseAt_6 : List UInt8 := dkwX3_phaseAt_6 ++ dktX3_phaseAt_7
def dkwX3_phaseAt_5 : List UInt8 := [160, 0, 12, 42, 180, 0, 65, 27, 46, 167, 0, 4, 3, 100, 54, 7, 21, 4, 21, 7, 162, 0, 15]
abbrev dktX3_phaseAt_5 : List UInt8 := dkwX3_phaseAt_5 ++ dktX3_phaseAt_6
def dkwX3_phaseAt_4 : List UInt8 := [167, 0, 4, 3, 96, 54, 7, 21, 7, 21, 5, 153, 0, 23, 21, 6, 42, 180, 0, 62, 27, 46]
abbrev dktX3_phaseAt_4 : List UInt8 := dkwX3_phaseAt_4 ++ dktX3_phaseAt_5
def dkwX3_phaseAt_3 : List UInt8 := [21, 7, 21, 5, 153, 0, 23, 21, 6, 42, 180, 0, 59, 27, 46, 160, 0, 12, 42, 180, 0, 65, 27, 46]
abbrev dktX3_phaseAt_3 : List UInt8 := dkwX3_phaseAt_3 ++ dktX3_phaseAt_4
def dkwX3_phaseAt_2 : List UInt8 := [21, 6, 42, 180, 0, 16, 27, 46, 162, 0, 122, 42, 180, 0, 31, 7, 27, 104, 21, 6, 96, 46, 54, 7]
abbrev dktX3_phaseAt_2 : List UInt8 := dkwX3_phaseAt_2 ++ dktX3_phaseAt_3
def dkwX3_phaseAt_1 : List UInt8 := [180, 0, 56, 27, 46, 42, 27, 28, 182, 0, 151, 160, 0, 7, 4, 167, 0, 4, 3, 54, 5, 3, 54, 6]
abbrev dktX3_phaseAt_1 : List UInt8 := dkwX3_phaseAt_1 ++ dktX3_phaseAt_2
def dkwX3_phaseAt_0 : List UInt8 := [42, 27, 28, 182, 0, 148, 54, 4, 29, 153, 0, 31, 42, 180, 0, 53, 27, 51, 153, 0, 22, 42]
abbrev dktX3_phaseAt_0 : List UInt8 := dkwX3_phaseAt_0 ++ dktX3_phaseAt_1
theorem dksX3_phaseAt_0 : cX3_phaseAt.data.toList.drop 0 = dktX3_phaseAt_0 := by decide +kernel
theorem dksX3_phaseAt_1 : cX3_phaseAt.data.toList.drop 22 = dktX3_phaseAt_1 := dk_seg dksX3_phaseAt_0 22 rfl rfl
theorem dksX3_phaseAt_2 : cX3_phaseAt.data.toList.drop 46 = dktX3_phaseAt_2 := dk_seg dksX3_phaseAt_1 24 rfl rfl
theorem dksX3_phaseAt_3 : cX3_phaseAt.data.toList.drop 70 = dktX3_phaseAt_3 := dk_seg dksX3_phaseAt_2 24 rfl rfl
theorem dksX3_phaseAt_4 : cX3_phaseAt.data.toList.drop 94 = dktX3_phaseAt_4 := dk_seg dksX3_phaseAt_3 24 rfl rfl
theorem dksX3_phaseAt_5 : cX3_phaseAt.data.toList.drop 116 = dktX3_phaseAt_5 := dk_seg dksX3_phaseAt_4 22 rfl rfl
theorem dksX3_phaseAt_6 : cX3_phaseAt.data.toList.drop 139 = dktX3_phaseAt_6 := dk_seg dksX3_phaseAt_5 23 rfl rfl
theorem dksX3_phaseAt_7 : cX3_phaseAt.data.toList.drop 162 = dktX3_phaseAt_7 := dk_seg dksX3_phaseAt_6 23 rfl rfl
theorem dX3_phaseAt_0 : decode cX3_phaseAt 0 = .ok (.aload_n 0, 1) := dk_42 (dk_at dksX3_phaseAt_0 0 rfl rfl)
theorem dX3_phaseAt_1 : decode cX3_phaseAt 1 = .ok (.iload_n 1, 1) := dk_27 (dk_at dksX3_phaseAt_0 1 rfl rfl)
theorem dX3_phaseAt_2 : decode cX3_phaseAt 2 = .ok (.iload_n 2, 1) := dk_28 (dk_at dksX3_phaseAt_0 2 rfl rfl)
theorem dX3_phaseAt_3 : decode cX3_phaseAt 3 = .ok (.invokevirtual 148, 3) := dk_182 0 148 (dk_at dksX3_phaseAt_0 3 rfl rfl)
theorem dX3_phaseAt_6 : decode cX3_phaseAt 6 = .ok (.istore 4, 2) := dk_54 4 (dk_at dksX3_phaseAt_0 6 rfl rfl)
theorem dX3_phaseAt_8 : decode cX3_phaseAt 8 = .ok (.iload_n 3, 1) := dk_29 (dk_at dksX3_phaseAt_0 8 rfl rfl)
theorem dX3_phaseAt_9 : decode cX3_phaseAt 9 = .ok (.ifCond .eq 31, 3) := dk_153 0 31 (dk_at dksX3_phaseAt_0 9 rfl rfl)
theorem dX3_phaseAt_12 : decode cX3_phaseAt 12 = .ok (.aload_n 0, 1) := dk_42 (dk_at dksX3_phaseAt_0 12 rfl rfl)
theorem dX3_phaseAt_13 : decode cX3_phaseAt 13 = .ok (.getfield 53, 3) := dk_180 0 53 (dk_at dksX3_phaseAt_0 13 rfl rfl)
theorem dX3_phaseAt_16 : decode cX3_phaseAt 16 = .ok (.iload_n 1, 1) := dk_27 (dk_at dksX3_phaseAt_0 16 rfl rfl)
theorem dX3_phaseAt_17 : decode cX3_phaseAt 17 = .ok (.baload, 1) := dk_51 (dk_at dksX3_phaseAt_0 17 rfl rfl)
theorem dX3_phaseAt_18 : decode cX3_phaseAt 18 = .ok (.ifCond .eq 22, 3) := dk_153 0 22 (dk_at dksX3_phaseAt_0 18 rfl rfl)
theorem dX3_phaseAt_21 : decode cX3_phaseAt 21 = .ok (.aload_n 0, 1) := dk_42 (dk_at dksX3_phaseAt_0 21 rfl rfl)
theorem dX3_phaseAt_22 : decode cX3_phaseAt 22 = .ok (.getfield 56, 3) := dk_180 0 56 (dk_at dksX3_phaseAt_1 0 rfl rfl)
theorem dX3_phaseAt_25 : decode cX3_phaseAt 25 = .ok (.iload_n 1, 1) := dk_27 (dk_at dksX3_phaseAt_1 3 rfl rfl)
theorem dX3_phaseAt_26 : decode cX3_phaseAt 26 = .ok (.iaload, 1) := dk_46 (dk_at dksX3_phaseAt_1 4 rfl rfl)
theorem dX3_phaseAt_27 : decode cX3_phaseAt 27 = .ok (.aload_n 0, 1) := dk_42 (dk_at dksX3_phaseAt_1 5 rfl rfl)
theorem dX3_phaseAt_28 : decode cX3_phaseAt 28 = .ok (.iload_n 1, 1) := dk_27 (dk_at dksX3_phaseAt_1 6 rfl rfl)
theorem dX3_phaseAt_29 : decode cX3_phaseAt 29 = .ok (.iload_n 2, 1) := dk_28 (dk_at dksX3_phaseAt_1 7 rfl rfl)
theorem dX3_phaseAt_30 : decode cX3_phaseAt 30 = .ok (.invokevirtual 151, 3) := dk_182 0 151 (dk_at dksX3_phaseAt_1 8 rfl rfl)
theorem dX3_phaseAt_33 : decode cX3_phaseAt 33 = .ok (.if_icmp .ne 7, 3) := dk_160 0 7 (dk_at dksX3_phaseAt_1 11 rfl rfl)
theorem dX3_phaseAt_36 : decode cX3_phaseAt 36 = .ok (.iconst 1, 1) := dk_4 (dk_at dksX3_phaseAt_1 14 rfl rfl)
theorem dX3_phaseAt_37 : decode cX3_phaseAt 37 = .ok (.goto 4, 3) := dk_167 0 4 (dk_at dksX3_phaseAt_1 15 rfl rfl)
theorem dX3_phaseAt_40 : decode cX3_phaseAt 40 = .ok (.iconst 0, 1) := dk_3 (dk_at dksX3_phaseAt_1 18 rfl rfl)
theorem dX3_phaseAt_41 : decode cX3_phaseAt 41 = .ok (.istore 5, 2) := dk_54 5 (dk_at dksX3_phaseAt_1 19 rfl rfl)
theorem dX3_phaseAt_43 : decode cX3_phaseAt 43 = .ok (.iconst 0, 1) := dk_3 (dk_at dksX3_phaseAt_1 21 rfl rfl)
theorem dX3_phaseAt_44 : decode cX3_phaseAt 44 = .ok (.istore 6, 2) := dk_54 6 (dk_at dksX3_phaseAt_1 22 rfl rfl)
theorem dX3_phaseAt_46 : decode cX3_phaseAt 46 = .ok (.iload 6, 2) := dk_21 6 (dk_at dksX3_phaseAt_2 0 rfl rfl)
theorem dX3_phaseAt_48 : decode cX3_phaseAt 48 = .ok (.aload_n 0, 1) := dk_42 (dk_at dksX3_phaseAt_2 2 rfl rfl)
theorem dX3_phaseAt_49 : decode cX3_phaseAt 49 = .ok (.getfield 16, 3) := dk_180 0 16 (dk_at dksX3_phaseAt_2 3 rfl rfl)
theorem dX3_phaseAt_52 : decode cX3_phaseAt 52 = .ok (.iload_n 1, 1) := dk_27 (dk_at dksX3_phaseAt_2 6 rfl rfl)
theorem dX3_phaseAt_53 : decode cX3_phaseAt 53 = .ok (.iaload, 1) := dk_46 (dk_at dksX3_phaseAt_2 7 rfl rfl)
theorem dX3_phaseAt_54 : decode cX3_phaseAt 54 = .ok (.if_icmp .ge 122, 3) := dk_162 0 122 (dk_at dksX3_phaseAt_2 8 rfl rfl)
theorem dX3_phaseAt_57 : decode cX3_phaseAt 57 = .ok (.aload_n 0, 1) := dk_42 (dk_at dksX3_phaseAt_2 11 rfl rfl)
theorem dX3_phaseAt_58 : decode cX3_phaseAt 58 = .ok (.getfield 31, 3) := dk_180 0 31 (dk_at dksX3_phaseAt_2 12 rfl rfl)
theorem dX3_phaseAt_61 : decode cX3_phaseAt 61 = .ok (.iconst 4, 1) := dk_7 (dk_at dksX3_phaseAt_2 15 rfl rfl)
theorem dX3_phaseAt_62 : decode cX3_phaseAt 62 = .ok (.iload_n 1, 1) := dk_27 (dk_at dksX3_phaseAt_2 16 rfl rfl)
theorem dX3_phaseAt_63 : decode cX3_phaseAt 63 = .ok (.imul, 1) := dk_104 (dk_at dksX3_phaseAt_2 17 rfl rfl)
theorem dX3_phaseAt_64 : decode cX3_phaseAt 64 = .ok (.iload 6, 2) := dk_21 6 (dk_at dksX3_phaseAt_2 18 rfl rfl)
theorem dX3_phaseAt_66 : decode cX3_phaseAt 66 = .ok (.iadd, 1) := dk_96 (dk_at dksX3_phaseAt_2 20 rfl rfl)
theorem dX3_phaseAt_67 : decode cX3_phaseAt 67 = .ok (.iaload, 1) := dk_46 (dk_at dksX3_phaseAt_2 21 rfl rfl)
theorem dX3_phaseAt_68 : decode cX3_phaseAt 68 = .ok (.istore 7, 2) := dk_54 7 (dk_at dksX3_phaseAt_2 22 rfl rfl)
theorem dX3_phaseAt_70 : decode cX3_phaseAt 70 = .ok (.iload 7, 2) := dk_21 7 (dk_at dksX3_phaseAt_3 0 rfl rfl)
theorem dX3_phaseAt_72 : decode cX3_phaseAt 72 = .ok (.iload 5, 2) := dk_21 5 (dk_at dksX3_phaseAt_3 2 rfl rfl)
theorem dX3_phaseAt_74 : decode cX3_phaseAt 74 = .ok (.ifCond .eq 23, 3) := dk_153 0 23 (dk_at dksX3_phaseAt_3 4 rfl rfl)
theorem dX3_phaseAt_77 : decode cX3_phaseAt 77 = .ok (.iload 6, 2) := dk_21 6 (dk_at dksX3_phaseAt_3 7 rfl rfl)
theorem dX3_phaseAt_79 : decode cX3_phaseAt 79 = .ok (.aload_n 0, 1) := dk_42 (dk_at dksX3_phaseAt_3 9 rfl rfl)
theorem dX3_phaseAt_80 : decode cX3_phaseAt 80 = .ok (.getfield 59, 3) := dk_180 0 59 (dk_at dksX3_phaseAt_3 10 rfl rfl)
theorem dX3_phaseAt_83 : decode cX3_phaseAt 83 = .ok (.iload_n 1, 1) := dk_27 (dk_at dksX3_phaseAt_3 13 rfl rfl)
theorem dX3_phaseAt_84 : decode cX3_phaseAt 84 = .ok (.iaload, 1) := dk_46 (dk_at dksX3_phaseAt_3 14 rfl rfl)
theorem dX3_phaseAt_85 : decode cX3_phaseAt 85 = .ok (.if_icmp .ne 12, 3) := dk_160 0 12 (dk_at dksX3_phaseAt_3 15 rfl rfl)
theorem dX3_phaseAt_88 : decode cX3_phaseAt 88 = .ok (.aload_n 0, 1) := dk_42 (dk_at dksX3_phaseAt_3 18 rfl rfl)
theorem dX3_phaseAt_89 : decode cX3_phaseAt 89 = .ok (.getfield 65, 3) := dk_180 0 65 (dk_at dksX3_phaseAt_3 19 rfl rfl)
theorem dX3_phaseAt_92 : decode cX3_phaseAt 92 = .ok (.iload_n 1, 1) := dk_27 (dk_at dksX3_phaseAt_3 22 rfl rfl)
theorem dX3_phaseAt_93 : decode cX3_phaseAt 93 = .ok (.iaload, 1) := dk_46 (dk_at dksX3_phaseAt_3 23 rfl rfl)
theorem dX3_phaseAt_94 : decode cX3_phaseAt 94 = .ok (.goto 4, 3) := dk_167 0 4 (dk_at dksX3_phaseAt_4 0 rfl rfl)
theorem dX3_phaseAt_97 : decode cX3_phaseAt 97 = .ok (.iconst 0, 1) := dk_3 (dk_at dksX3_phaseAt_4 3 rfl rfl)
theorem dX3_phaseAt_98 : decode cX3_phaseAt 98 = .ok (.iadd, 1) := dk_96 (dk_at dksX3_phaseAt_4 4 rfl rfl)
theorem dX3_phaseAt_99 : decode cX3_phaseAt 99 = .ok (.istore 7, 2) := dk_54 7 (dk_at dksX3_phaseAt_4 5 rfl rfl)
theorem dX3_phaseAt_101 : decode cX3_phaseAt 101 = .ok (.iload 7, 2) := dk_21 7 (dk_at dksX3_phaseAt_4 7 rfl rfl)
theorem dX3_phaseAt_103 : decode cX3_phaseAt 103 = .ok (.iload 5, 2) := dk_21 5 (dk_at dksX3_phaseAt_4 9 rfl rfl)
theorem dX3_phaseAt_105 : decode cX3_phaseAt 105 = .ok (.ifCond .eq 23, 3) := dk_153 0 23 (dk_at dksX3_phaseAt_4 11 rfl rfl)
theorem dX3_phaseAt_108 : decode cX3_phaseAt 108 = .ok (.iload 6, 2) := dk_21 6 (dk_at dksX3_phaseAt_4 14 rfl rfl)
theorem dX3_phaseAt_110 : decode cX3_phaseAt 110 = .ok (.aload_n 0, 1) := dk_42 (dk_at dksX3_phaseAt_4 16 rfl rfl)
theorem dX3_phaseAt_111 : decode cX3_phaseAt 111 = .ok (.getfield 62, 3) := dk_180 0 62 (dk_at dksX3_phaseAt_4 17 rfl rfl)
theorem dX3_phaseAt_114 : decode cX3_phaseAt 114 = .ok (.iload_n 1, 1) := dk_27 (dk_at dksX3_phaseAt_4 20 rfl rfl)
theorem dX3_phaseAt_115 : decode cX3_phaseAt 115 = .ok (.iaload, 1) := dk_46 (dk_at dksX3_phaseAt_4 21 rfl rfl)
theorem dX3_phaseAt_116 : decode cX3_phaseAt 116 = .ok (.if_icmp .ne 12, 3) := dk_160 0 12 (dk_at dksX3_phaseAt_5 0 rfl rfl)
theorem dX3_phaseAt_119 : decode cX3_phaseAt 119 = .ok (.aload_n 0, 1) := dk_42 (dk_at dksX3_phaseAt_5 3 rfl rfl)
theorem dX3_phaseAt_120 : decode cX3_phaseAt 120 = .ok (.getfield 65, 3) := dk_180 0 65 (dk_at dksX3_phaseAt_5 4 rfl rfl)
theorem dX3_phaseAt_123 : decode cX3_phaseAt 123 = .ok (.iload_n 1, 1) := dk_27 (dk_at dksX3_phaseAt_5 7 rfl rfl)
theorem dX3_phaseAt_124 : decode cX3_phaseAt 124 = .ok (.iaload, 1) := dk_46 (dk_at dksX3_phaseAt_5 8 rfl rfl)
theorem dX3_phaseAt_125 : decode cX3_phaseAt 125 = .ok (.goto 4, 3) := dk_167 0 4 (dk_at dksX3_phaseAt_5 9 rfl rfl)
theorem dX3_phaseAt_128 : decode cX3_phaseAt 128 = .ok (.iconst 0, 1) := dk_3 (dk_at dksX3_phaseAt_5 12 rfl rfl)
theorem dX3_phaseAt_129 : decode cX3_phaseAt 129 = .ok (.isub, 1) := dk_100 (dk_at dksX3_phaseAt_5 13 rfl rfl)
theorem dX3_phaseAt_130 : decode cX3_phaseAt 130 = .ok (.istore 7, 2) := dk_54 7 (dk_at dksX3_phaseAt_5 14 rfl rfl)
theorem dX3_phaseAt_132 : decode cX3_phaseAt 132 = .ok (.iload 4, 2) := dk_21 4 (dk_at dksX3_phaseAt_5 16 rfl rfl)
theorem dX3_phaseAt_134 : decode cX3_phaseAt 134 = .ok (.iload 7, 2) := dk_21 7 (dk_at dksX3_phaseAt_5 18 rfl rfl)
theorem dX3_phaseAt_136 : decode cX3_phaseAt 136 = .ok (.if_icmp .ge 15, 3) := dk_162 0 15 (dk_at dksX3_phaseAt_5 20 rfl rfl)
theorem dX3_phaseAt_139 : decode cX3_phaseAt 139 = .ok (.iload 4, 2) := dk_21 4 (dk_at dksX3_phaseAt_6 0 rfl rfl)
theorem dX3_phaseAt_141 : decode cX3_phaseAt 141 = .ok (.ifCond .ge 7, 3) := dk_156 0 7 (dk_at dksX3_phaseAt_6 2 rfl rfl)
theorem dX3_phaseAt_144 : decode cX3_phaseAt 144 = .ok (.iconst (-1), 1) := dk_2 (dk_at dksX3_phaseAt_6 5 rfl rfl)
theorem dX3_phaseAt_145 : decode cX3_phaseAt 145 = .ok (.goto 5, 3) := dk_167 0 5 (dk_at dksX3_phaseAt_6 6 rfl rfl)
theorem dX3_phaseAt_148 : decode cX3_phaseAt 148 = .ok (.iload 6, 2) := dk_21 6 (dk_at dksX3_phaseAt_6 9 rfl rfl)
theorem dX3_phaseAt_150 : decode cX3_phaseAt 150 = .ok (.ireturn, 1) := dk_172 (dk_at dksX3_phaseAt_6 11 rfl rfl)
theorem dX3_phaseAt_151 : decode cX3_phaseAt 151 = .ok (.iload 4, 2) := dk_21 4 (dk_at dksX3_phaseAt_6 12 rfl rfl)
theorem dX3_phaseAt_153 : decode cX3_phaseAt 153 = .ok (.iload 7, 2) := dk_21 7 (dk_at dksX3_phaseAt_6 14 rfl rfl)
theorem dX3_phaseAt_155 : decode cX3_phaseAt 155 = .ok (.aload_n 0, 1) := dk_42 (dk_at dksX3_phaseAt_6 16 rfl rfl)
theorem dX3_phaseAt_156 : decode cX3_phaseAt 156 = .ok (.getfield 34, 3) := dk_180 0 34 (dk_at dksX3_phaseAt_6 17 rfl rfl)
theorem dX3_phaseAt_159 : decode cX3_phaseAt 159 = .ok (.iconst 4, 1) := dk_7 (dk_at dksX3_phaseAt_6 20 rfl rfl)
theorem dX3_phaseAt_160 : decode cX3_phaseAt 160 = .ok (.iload_n 1, 1) := dk_27 (dk_at dksX3_phaseAt_6 21 rfl rfl)
theorem dX3_phaseAt_161 : decode cX3_phaseAt 161 = .ok (.imul, 1) := dk_104 (dk_at dksX3_phaseAt_6 22 rfl rfl)
theorem dX3_phaseAt_162 : decode cX3_phaseAt 162 = .ok (.iload 6, 2) := dk_21 6 (dk_at dksX3_phaseAt_7 0 rfl rfl)
theorem dX3_phaseAt_164 : decode cX3_phaseAt 164 = .ok (.iadd, 1) := dk_96 (dk_at dksX3_phaseAt_7 2 rfl rfl)
theorem dX3_phaseAt_165 : decode cX3_phaseAt 165 = .ok (.iaload, 1) := dk_46 (dk_at dksX3_phaseAt_7 3 rfl rfl)
theorem dX3_phaseAt_166 : decode cX3_phaseAt 166 = .ok (.iadd, 1) := dk_96 (dk_at dksX3_phaseAt_7 4 rfl rfl)
theorem dX3_phaseAt_167 : decode cX3_phaseAt 167 = .ok (.isub, 1) := dk_100 (dk_at dksX3_phaseAt_7 5 rfl rfl)
theorem dX3_phaseAt_168 : decode cX3_phaseAt 168 = .ok (.istore 4, 2) := dk_54 4 (dk_at dksX3_phaseAt_7 6 rfl rfl)
theorem dX3_phaseAt_170 : decode cX3_phaseAt 170 = .ok (.iinc 6 1, 3) := dk_132 6 1 (dk_at dksX3_phaseAt_7 8 rfl rfl)
theorem dX3_phaseAt_173 : decode cX3_phaseAt 173 = .ok (.goto (-127), 3) := dk_167 255 129 (dk_at dksX3_phaseAt_7 11 rfl rfl)
theorem dX3_phaseAt_176 : decode cX3_phaseAt 176 = .ok (.iconst (-1), 1) := dk_2 (dk_at dksX3_phaseAt_7 14 rfl rfl)
theorem dX3_phaseAt_177 : decode cX3_phaseAt 177 = .ok (.ireturn, 1) := dk_172 (dk_at dksX3_phaseAt_7 15 rfl rfl)
abbrev cX3_secondOf : ByteArray := prog_4_method_25_code
def yX3_secondOf : MethodName := ⟨RX3, "secondOf", "(II)I"⟩
def dkwX3_secondOf_0 : List UInt8 := [28, 42, 180, 0, 22, 27, 46, 100, 42, 180, 0, 83, 112, 42, 180, 0, 83, 96, 42, 180, 0, 83, 112, 172]
abbrev dktX3_secondOf_0 : List UInt8 := dkwX3_secondOf_0 ++ []
theorem dksX3_secondOf_0 : cX3_secondOf.data.toList.drop 0 = dktX3_secondOf_0 := by decide +kernel
theorem dX3_secondOf_0 : decode cX3_secondOf 0 = .ok (.iload_n 2, 1) := dk_28 (dk_at dksX3_secondOf_0 0 rfl rfl)
theorem dX3_secondOf_1 : decode cX3_secondOf 1 = .ok (.aload_n 0, 1) := dk_42 (dk_at dksX3_secondOf_0 1 rfl rfl)
theorem dX3_secondOf_2 : decode cX3_secondOf 2 = .ok (.getfield 22, 3) := dk_180 0 22 (dk_at dksX3_secondOf_0 2 rfl rfl)
theorem dX3_secondOf_5 : decode cX3_secondOf 5 = .ok (.iload_n 1, 1) := dk_27 (dk_at dksX3_secondOf_0 5 rfl rfl)
theorem dX3_secondOf_6 : decode cX3_secondOf 6 = .ok (.iaload, 1) := dk_46 (dk_at dksX3_secondOf_0 6 rfl rfl)
theorem dX3_secondOf_7 : decode cX3_secondOf 7 = .ok (.isub, 1) := dk_100 (dk_at dksX3_secondOf_0 7 rfl rfl)
theorem dX3_secondOf_8 : decode cX3_secondOf 8 = .ok (.aload_n 0, 1) := dk_42 (dk_at dksX3_secondOf_0 8 rfl rfl)
theorem dX3_secondOf_9 : decode cX3_secondOf 9 = .ok (.getfield 83, 3) := dk_180 0 83 (dk_at dksX3_secondOf_0 9 rfl rfl)
theorem dX3_secondOf_12 : decode cX3_secondOf 12 = .ok (.irem, 1) := dk_112 (dk_at dksX3_secondOf_0 12 rfl rfl)
theorem dX3_secondOf_13 : decode cX3_secondOf 13 = .ok (.aload_n 0, 1) := dk_42 (dk_at dksX3_secondOf_0 13 rfl rfl)
theorem dX3_secondOf_14 : decode cX3_secondOf 14 = .ok (.getfield 83, 3) := dk_180 0 83 (dk_at dksX3_secondOf_0 14 rfl rfl)
theorem dX3_secondOf_17 : decode cX3_secondOf 17 = .ok (.iadd, 1) := dk_96 (dk_at dksX3_secondOf_0 17 rfl rfl)
theorem dX3_secondOf_18 : decode cX3_secondOf 18 = .ok (.aload_n 0, 1) := dk_42 (dk_at dksX3_secondOf_0 18 rfl rfl)
theorem dX3_secondOf_19 : decode cX3_secondOf 19 = .ok (.getfield 83, 3) := dk_180 0 83 (dk_at dksX3_secondOf_0 19 rfl rfl)
theorem dX3_secondOf_22 : decode cX3_secondOf 22 = .ok (.irem, 1) := dk_112 (dk_at dksX3_secondOf_0 22 rfl rfl)
theorem dX3_secondOf_23 : decode cX3_secondOf 23 = .ok (.ireturn, 1) := dk_172 (dk_at dksX3_secondOf_0 23 rfl rfl)
abbrev cX3_cycleOf : ByteArray := prog_4_method_26_code
def yX3_cycleOf : MethodName := ⟨RX3, "cycleOf", "(II)I"⟩
def dkwX3_cycleOf_0 : List UInt8 := [28, 42, 180, 0, 22, 27, 46, 100, 42, 27, 28, 182, 0, 148, 100, 42, 180, 0, 83, 108, 172]
abbrev dktX3_cycleOf_0 : List UInt8 := dkwX3_cycleOf_0 ++ []
theorem dksX3_cycleOf_0 : cX3_cycleOf.data.toList.drop 0 = dktX3_cycleOf_0 := by decide +kernel
theorem dX3_cycleOf_0 : decode cX3_cycleOf 0 = .ok (.iload_n 2, 1) := dk_28 (dk_at dksX3_cycleOf_0 0 rfl rfl)
theorem dX3_cycleOf_1 : decode cX3_cycleOf 1 = .ok (.aload_n 0, 1) := dk_42 (dk_at dksX3_cycleOf_0 1 rfl rfl)
theorem dX3_cycleOf_2 : decode cX3_cycleOf 2 = .ok (.getfield 22, 3) := dk_180 0 22 (dk_at dksX3_cycleOf_0 2 rfl rfl)
theorem dX3_cycleOf_5 : decode cX3_cycleOf 5 = .ok (.iload_n 1, 1) := dk_27 (dk_at dksX3_cycleOf_0 5 rfl rfl)
theorem dX3_cycleOf_6 : decode cX3_cycleOf 6 = .ok (.iaload, 1) := dk_46 (dk_at dksX3_cycleOf_0 6 rfl rfl)
theorem dX3_cycleOf_7 : decode cX3_cycleOf 7 = .ok (.isub, 1) := dk_100 (dk_at dksX3_cycleOf_0 7 rfl rfl)
theorem dX3_cycleOf_8 : decode cX3_cycleOf 8 = .ok (.aload_n 0, 1) := dk_42 (dk_at dksX3_cycleOf_0 8 rfl rfl)
theorem dX3_cycleOf_9 : decode cX3_cycleOf 9 = .ok (.iload_n 1, 1) := dk_27 (dk_at dksX3_cycleOf_0 9 rfl rfl)
theorem dX3_cycleOf_10 : decode cX3_cycleOf 10 = .ok (.iload_n 2, 1) := dk_28 (dk_at dksX3_cycleOf_0 10 rfl rfl)
theorem dX3_cycleOf_11 : decode cX3_cycleOf 11 = .ok (.invokevirtual 148, 3) := dk_182 0 148 (dk_at dksX3_cycleOf_0 11 rfl rfl)
theorem dX3_cycleOf_14 : decode cX3_cycleOf 14 = .ok (.isub, 1) := dk_100 (dk_at dksX3_cycleOf_0 14 rfl rfl)
theorem dX3_cycleOf_15 : decode cX3_cycleOf 15 = .ok (.aload_n 0, 1) := dk_42 (dk_at dksX3_cycleOf_0 15 rfl rfl)
theorem dX3_cycleOf_16 : decode cX3_cycleOf 16 = .ok (.getfield 83, 3) := dk_180 0 83 (dk_at dksX3_cycleOf_0 16 rfl rfl)
theorem dX3_cycleOf_19 : decode cX3_cycleOf 19 = .ok (.idiv, 1) := dk_108 (dk_at dksX3_cycleOf_0 19 rfl rfl)
theorem dX3_cycleOf_20 : decode cX3_cycleOf 20 = .ok (.ireturn, 1) := dk_172 (dk_at dksX3_cycleOf_0 20 rfl rfl)
abbrev cX3_junctions : ByteArray := prog_4_method_34_code
def yX3_junctions : MethodName := ⟨RX3, "junctions", "()I"⟩
def dkwX3_junctions_0 : List UInt8 := [42, 3, 181, 0, 72, 42, 180, 0, 76, 172]
abbrev dktX3_junctions_0 : List UInt8 := dkwX3_junctions_0 ++ []
theorem dksX3_junctions_0 : cX3_junctions.data.toList.drop 0 = dktX3_junctions_0 := by decide +kernel
theorem dX3_junctions_0 : decode cX3_junctions 0 = .ok (.aload_n 0, 1) := dk_42 (dk_at dksX3_junctions_0 0 rfl rfl)
theorem dX3_junctions_1 : decode cX3_junctions 1 = .ok (.iconst 0, 1) := dk_3 (dk_at dksX3_junctions_0 1 rfl rfl)
theorem dX3_junctions_2 : decode cX3_junctions 2 = .ok (.putfield 72, 3) := dk_181 0 72 (dk_at dksX3_junctions_0 2 rfl rfl)
theorem dX3_junctions_5 : decode cX3_junctions 5 = .ok (.aload_n 0, 1) := dk_42 (dk_at dksX3_junctions_0 5 rfl rfl)
theorem dX3_junctions_6 : decode cX3_junctions 6 = .ok (.getfield 76, 3) := dk_180 0 76 (dk_at dksX3_junctions_0 6 rfl rfl)
theorem dX3_junctions_9 : decode cX3_junctions 9 = .ok (.ireturn, 1) := dk_172 (dk_at dksX3_junctions_0 9 rfl rfl)
abbrev cX3_hasPlan : ByteArray := prog_4_method_36_code
def yX3_hasPlan : MethodName := ⟨RX3, "hasPlan", "(I)Z"⟩
def dkwX3_hasPlan_1 : List UInt8 := [182, 0, 181, 153, 0, 7, 4, 167, 0, 4, 3, 172]
abbrev dktX3_hasPlan_1 : List UInt8 := dkwX3_hasPlan_1 ++ []
def dkwX3_hasPlan_0 : List UInt8 := [42, 42, 27, 182, 0, 118, 153, 0, 7, 3, 167, 0, 4, 4, 182, 0, 102, 153, 0, 15, 42, 27]
abbrev dktX3_hasPlan_0 : List UInt8 := dkwX3_hasPlan_0 ++ dktX3_hasPlan_1
theorem dksX3_hasPlan_0 : cX3_hasPlan.data.toList.drop 0 = dktX3_hasPlan_0 := by decide +kernel
theorem dksX3_hasPlan_1 : cX3_hasPlan.data.toList.drop 22 = dktX3_hasPlan_1 := dk_seg dksX3_hasPlan_0 22 rfl rfl
theorem dX3_hasPlan_0 : decode cX3_hasPlan 0 = .ok (.aload_n 0, 1) := dk_42 (dk_at dksX3_hasPlan_0 0 rfl rfl)
theorem dX3_hasPlan_1 : decode cX3_hasPlan 1 = .ok (.aload_n 0, 1) := dk_42 (dk_at dksX3_hasPlan_0 1 rfl rfl)
theorem dX3_hasPlan_2 : decode cX3_hasPlan 2 = .ok (.iload_n 1, 1) := dk_27 (dk_at dksX3_hasPlan_0 2 rfl rfl)
theorem dX3_hasPlan_3 : decode cX3_hasPlan 3 = .ok (.invokevirtual 118, 3) := dk_182 0 118 (dk_at dksX3_hasPlan_0 3 rfl rfl)
theorem dX3_hasPlan_6 : decode cX3_hasPlan 6 = .ok (.ifCond .eq 7, 3) := dk_153 0 7 (dk_at dksX3_hasPlan_0 6 rfl rfl)
theorem dX3_hasPlan_9 : decode cX3_hasPlan 9 = .ok (.iconst 0, 1) := dk_3 (dk_at dksX3_hasPlan_0 9 rfl rfl)
theorem dX3_hasPlan_10 : decode cX3_hasPlan 10 = .ok (.goto 4, 3) := dk_167 0 4 (dk_at dksX3_hasPlan_0 10 rfl rfl)
theorem dX3_hasPlan_13 : decode cX3_hasPlan 13 = .ok (.iconst 1, 1) := dk_4 (dk_at dksX3_hasPlan_0 13 rfl rfl)
theorem dX3_hasPlan_14 : decode cX3_hasPlan 14 = .ok (.invokevirtual 102, 3) := dk_182 0 102 (dk_at dksX3_hasPlan_0 14 rfl rfl)
theorem dX3_hasPlan_17 : decode cX3_hasPlan 17 = .ok (.ifCond .eq 15, 3) := dk_153 0 15 (dk_at dksX3_hasPlan_0 17 rfl rfl)
theorem dX3_hasPlan_20 : decode cX3_hasPlan 20 = .ok (.aload_n 0, 1) := dk_42 (dk_at dksX3_hasPlan_0 20 rfl rfl)
theorem dX3_hasPlan_21 : decode cX3_hasPlan 21 = .ok (.iload_n 1, 1) := dk_27 (dk_at dksX3_hasPlan_0 21 rfl rfl)
theorem dX3_hasPlan_22 : decode cX3_hasPlan 22 = .ok (.invokevirtual 181, 3) := dk_182 0 181 (dk_at dksX3_hasPlan_1 0 rfl rfl)
theorem dX3_hasPlan_25 : decode cX3_hasPlan 25 = .ok (.ifCond .eq 7, 3) := dk_153 0 7 (dk_at dksX3_hasPlan_1 3 rfl rfl)
theorem dX3_hasPlan_28 : decode cX3_hasPlan 28 = .ok (.iconst 1, 1) := dk_4 (dk_at dksX3_hasPlan_1 6 rfl rfl)
theorem dX3_hasPlan_29 : decode cX3_hasPlan 29 = .ok (.goto 4, 3) := dk_167 0 4 (dk_at dksX3_hasPlan_1 7 rfl rfl)
theorem dX3_hasPlan_32 : decode cX3_hasPlan 32 = .ok (.iconst 0, 1) := dk_3 (dk_at dksX3_hasPlan_1 10 rfl rfl)
theorem dX3_hasPlan_33 : decode cX3_hasPlan 33 = .ok (.ireturn, 1) := dk_172 (dk_at dksX3_hasPlan_1 11 rfl rfl)
abbrev cX3_isPlanned : ByteArray := prog_4_method_35_code
def yX3_isPlanned : MethodName := ⟨RX3, "isPlanned", "(I)Z"⟩
def dkwX3_isPlanned_0 : List UInt8 := [42, 27, 182, 0, 144, 42, 180, 0, 37, 27, 51, 172]
abbrev dktX3_isPlanned_0 : List UInt8 := dkwX3_isPlanned_0 ++ []
theorem dksX3_isPlanned_0 : cX3_isPlanned.data.toList.drop 0 = dktX3_isPlanned_0 := by decide +kernel
theorem dX3_isPlanned_0 : decode cX3_isPlanned 0 = .ok (.aload_n 0, 1) := dk_42 (dk_at dksX3_isPlanned_0 0 rfl rfl)
theorem dX3_isPlanned_1 : decode cX3_isPlanned 1 = .ok (.iload_n 1, 1) := dk_27 (dk_at dksX3_isPlanned_0 1 rfl rfl)
theorem dX3_isPlanned_2 : decode cX3_isPlanned 2 = .ok (.invokevirtual 144, 3) := dk_182 0 144 (dk_at dksX3_isPlanned_0 2 rfl rfl)
theorem dX3_isPlanned_5 : decode cX3_isPlanned 5 = .ok (.aload_n 0, 1) := dk_42 (dk_at dksX3_isPlanned_0 5 rfl rfl)
theorem dX3_isPlanned_6 : decode cX3_isPlanned 6 = .ok (.getfield 37, 3) := dk_180 0 37 (dk_at dksX3_isPlanned_0 6 rfl rfl)
theorem dX3_isPlanned_9 : decode cX3_isPlanned 9 = .ok (.iload_n 1, 1) := dk_27 (dk_at dksX3_isPlanned_0 9 rfl rfl)
theorem dX3_isPlanned_10 : decode cX3_isPlanned 10 = .ok (.baload, 1) := dk_51 (dk_at dksX3_isPlanned_0 10 rfl rfl)
theorem dX3_isPlanned_11 : decode cX3_isPlanned 11 = .ok (.ireturn, 1) := dk_172 (dk_at dksX3_isPlanned_0 11 rfl rfl)
abbrev cX3_green : ByteArray := prog_4_method_38_code
def yX3_green : MethodName := ⟨RX3, "green", "(II)I"⟩
def dkwX3_green_2 : List UInt8 := [172]
abbrev dktX3_green_2 : List UInt8 := dkwX3_green_2 ++ []
def dkwX3_green_1 : List UInt8 := [167, 0, 4, 5, 182, 0, 102, 153, 0, 16, 42, 180, 0, 31, 7, 27, 104, 28, 96, 46, 167, 0, 4, 3]
abbrev dktX3_green_1 : List UInt8 := dkwX3_green_1 ++ dktX3_green_2
def dkwX3_green_0 : List UInt8 := [42, 42, 27, 28, 182, 0, 184, 154, 0, 7, 4, 167, 0, 16, 42, 27, 182, 0, 181, 153, 0, 7, 3]
abbrev dktX3_green_0 : List UInt8 := dkwX3_green_0 ++ dktX3_green_1
theorem dksX3_green_0 : cX3_green.data.toList.drop 0 = dktX3_green_0 := by decide +kernel
theorem dksX3_green_1 : cX3_green.data.toList.drop 23 = dktX3_green_1 := dk_seg dksX3_green_0 23 rfl rfl
theorem dksX3_green_2 : cX3_green.data.toList.drop 47 = dktX3_green_2 := dk_seg dksX3_green_1 24 rfl rfl
theorem dX3_green_0 : decode cX3_green 0 = .ok (.aload_n 0, 1) := dk_42 (dk_at dksX3_green_0 0 rfl rfl)
theorem dX3_green_1 : decode cX3_green 1 = .ok (.aload_n 0, 1) := dk_42 (dk_at dksX3_green_0 1 rfl rfl)
theorem dX3_green_2 : decode cX3_green 2 = .ok (.iload_n 1, 1) := dk_27 (dk_at dksX3_green_0 2 rfl rfl)
theorem dX3_green_3 : decode cX3_green 3 = .ok (.iload_n 2, 1) := dk_28 (dk_at dksX3_green_0 3 rfl rfl)
theorem dX3_green_4 : decode cX3_green 4 = .ok (.invokevirtual 184, 3) := dk_182 0 184 (dk_at dksX3_green_0 4 rfl rfl)
theorem dX3_green_7 : decode cX3_green 7 = .ok (.ifCond .ne 7, 3) := dk_154 0 7 (dk_at dksX3_green_0 7 rfl rfl)
theorem dX3_green_10 : decode cX3_green 10 = .ok (.iconst 1, 1) := dk_4 (dk_at dksX3_green_0 10 rfl rfl)
theorem dX3_green_11 : decode cX3_green 11 = .ok (.goto 16, 3) := dk_167 0 16 (dk_at dksX3_green_0 11 rfl rfl)
theorem dX3_green_14 : decode cX3_green 14 = .ok (.aload_n 0, 1) := dk_42 (dk_at dksX3_green_0 14 rfl rfl)
theorem dX3_green_15 : decode cX3_green 15 = .ok (.iload_n 1, 1) := dk_27 (dk_at dksX3_green_0 15 rfl rfl)
theorem dX3_green_16 : decode cX3_green 16 = .ok (.invokevirtual 181, 3) := dk_182 0 181 (dk_at dksX3_green_0 16 rfl rfl)
theorem dX3_green_19 : decode cX3_green 19 = .ok (.ifCond .eq 7, 3) := dk_153 0 7 (dk_at dksX3_green_0 19 rfl rfl)
theorem dX3_green_22 : decode cX3_green 22 = .ok (.iconst 0, 1) := dk_3 (dk_at dksX3_green_0 22 rfl rfl)
theorem dX3_green_23 : decode cX3_green 23 = .ok (.goto 4, 3) := dk_167 0 4 (dk_at dksX3_green_1 0 rfl rfl)
theorem dX3_green_26 : decode cX3_green 26 = .ok (.iconst 2, 1) := dk_5 (dk_at dksX3_green_1 3 rfl rfl)
theorem dX3_green_27 : decode cX3_green 27 = .ok (.invokevirtual 102, 3) := dk_182 0 102 (dk_at dksX3_green_1 4 rfl rfl)
theorem dX3_green_30 : decode cX3_green 30 = .ok (.ifCond .eq 16, 3) := dk_153 0 16 (dk_at dksX3_green_1 7 rfl rfl)
theorem dX3_green_33 : decode cX3_green 33 = .ok (.aload_n 0, 1) := dk_42 (dk_at dksX3_green_1 10 rfl rfl)
theorem dX3_green_34 : decode cX3_green 34 = .ok (.getfield 31, 3) := dk_180 0 31 (dk_at dksX3_green_1 11 rfl rfl)
theorem dX3_green_37 : decode cX3_green 37 = .ok (.iconst 4, 1) := dk_7 (dk_at dksX3_green_1 14 rfl rfl)
theorem dX3_green_38 : decode cX3_green 38 = .ok (.iload_n 1, 1) := dk_27 (dk_at dksX3_green_1 15 rfl rfl)
theorem dX3_green_39 : decode cX3_green 39 = .ok (.imul, 1) := dk_104 (dk_at dksX3_green_1 16 rfl rfl)
theorem dX3_green_40 : decode cX3_green 40 = .ok (.iload_n 2, 1) := dk_28 (dk_at dksX3_green_1 17 rfl rfl)
theorem dX3_green_41 : decode cX3_green 41 = .ok (.iadd, 1) := dk_96 (dk_at dksX3_green_1 18 rfl rfl)
theorem dX3_green_42 : decode cX3_green 42 = .ok (.iaload, 1) := dk_46 (dk_at dksX3_green_1 19 rfl rfl)
theorem dX3_green_43 : decode cX3_green 43 = .ok (.goto 4, 3) := dk_167 0 4 (dk_at dksX3_green_1 20 rfl rfl)
theorem dX3_green_46 : decode cX3_green 46 = .ok (.iconst 0, 1) := dk_3 (dk_at dksX3_green_1 23 rfl rfl)
theorem dX3_green_47 : decode cX3_green 47 = .ok (.ireturn, 1) := dk_172 (dk_at dksX3_green_2 0 rfl rfl)
abbrev cX3_isPhase : ByteArray := prog_4_method_37_code
def yX3_isPhase : MethodName := ⟨RX3, "isPhase", "(II)Z"⟩
def dkwX3_isPhase_1 : List UInt8 := [4, 167, 0, 4, 3, 172]
abbrev dktX3_isPhase_1 : List UInt8 := dkwX3_isPhase_1 ++ []
def dkwX3_isPhase_0 : List UInt8 := [42, 27, 182, 0, 118, 153, 0, 23, 28, 3, 42, 180, 0, 16, 27, 46, 4, 100, 184, 0, 79, 153, 0, 7]
abbrev dktX3_isPhase_0 : List UInt8 := dkwX3_isPhase_0 ++ dktX3_isPhase_1
theorem dksX3_isPhase_0 : cX3_isPhase.data.toList.drop 0 = dktX3_isPhase_0 := by decide +kernel
theorem dksX3_isPhase_1 : cX3_isPhase.data.toList.drop 24 = dktX3_isPhase_1 := dk_seg dksX3_isPhase_0 24 rfl rfl
theorem dX3_isPhase_0 : decode cX3_isPhase 0 = .ok (.aload_n 0, 1) := dk_42 (dk_at dksX3_isPhase_0 0 rfl rfl)
theorem dX3_isPhase_1 : decode cX3_isPhase 1 = .ok (.iload_n 1, 1) := dk_27 (dk_at dksX3_isPhase_0 1 rfl rfl)
theorem dX3_isPhase_2 : decode cX3_isPhase 2 = .ok (.invokevirtual 118, 3) := dk_182 0 118 (dk_at dksX3_isPhase_0 2 rfl rfl)
theorem dX3_isPhase_5 : decode cX3_isPhase 5 = .ok (.ifCond .eq 23, 3) := dk_153 0 23 (dk_at dksX3_isPhase_0 5 rfl rfl)
theorem dX3_isPhase_8 : decode cX3_isPhase 8 = .ok (.iload_n 2, 1) := dk_28 (dk_at dksX3_isPhase_0 8 rfl rfl)
theorem dX3_isPhase_9 : decode cX3_isPhase 9 = .ok (.iconst 0, 1) := dk_3 (dk_at dksX3_isPhase_0 9 rfl rfl)
theorem dX3_isPhase_10 : decode cX3_isPhase 10 = .ok (.aload_n 0, 1) := dk_42 (dk_at dksX3_isPhase_0 10 rfl rfl)
theorem dX3_isPhase_11 : decode cX3_isPhase 11 = .ok (.getfield 16, 3) := dk_180 0 16 (dk_at dksX3_isPhase_0 11 rfl rfl)
theorem dX3_isPhase_14 : decode cX3_isPhase 14 = .ok (.iload_n 1, 1) := dk_27 (dk_at dksX3_isPhase_0 14 rfl rfl)
theorem dX3_isPhase_15 : decode cX3_isPhase 15 = .ok (.iaload, 1) := dk_46 (dk_at dksX3_isPhase_0 15 rfl rfl)
theorem dX3_isPhase_16 : decode cX3_isPhase 16 = .ok (.iconst 1, 1) := dk_4 (dk_at dksX3_isPhase_0 16 rfl rfl)
theorem dX3_isPhase_17 : decode cX3_isPhase 17 = .ok (.isub, 1) := dk_100 (dk_at dksX3_isPhase_0 17 rfl rfl)
theorem dX3_isPhase_18 : decode cX3_isPhase 18 = .ok (.invokestatic 79, 3) := dk_184 0 79 (dk_at dksX3_isPhase_0 18 rfl rfl)
theorem dX3_isPhase_21 : decode cX3_isPhase 21 = .ok (.ifCond .eq 7, 3) := dk_153 0 7 (dk_at dksX3_isPhase_0 21 rfl rfl)
theorem dX3_isPhase_24 : decode cX3_isPhase 24 = .ok (.iconst 1, 1) := dk_4 (dk_at dksX3_isPhase_1 0 rfl rfl)
theorem dX3_isPhase_25 : decode cX3_isPhase 25 = .ok (.goto 4, 3) := dk_167 0 4 (dk_at dksX3_isPhase_1 1 rfl rfl)
theorem dX3_isPhase_28 : decode cX3_isPhase 28 = .ok (.iconst 0, 1) := dk_3 (dk_at dksX3_isPhase_1 4 rfl rfl)
theorem dX3_isPhase_29 : decode cX3_isPhase 29 = .ok (.ireturn, 1) := dk_172 (dk_at dksX3_isPhase_1 5 rfl rfl)
abbrev cX3_clearing : ByteArray := prog_4_method_39_code
def yX3_clearing : MethodName := ⟨RX3, "clearing", "(II)I"⟩
def dkwX3_clearing_1 : List UInt8 := [182, 0, 134, 167, 0, 4, 3, 172]
abbrev dktX3_clearing_1 : List UInt8 := dkwX3_clearing_1 ++ []
def dkwX3_clearing_0 : List UInt8 := [42, 42, 27, 28, 182, 0, 184, 153, 0, 7, 3, 167, 0, 4, 4, 182, 0, 102, 153, 0, 12, 42, 27, 28]
abbrev dktX3_clearing_0 : List UInt8 := dkwX3_clearing_0 ++ dktX3_clearing_1
theorem dksX3_clearing_0 : cX3_clearing.data.toList.drop 0 = dktX3_clearing_0 := by decide +kernel
theorem dksX3_clearing_1 : cX3_clearing.data.toList.drop 24 = dktX3_clearing_1 := dk_seg dksX3_clearing_0 24 rfl rfl
theorem dX3_clearing_0 : decode cX3_clearing 0 = .ok (.aload_n 0, 1) := dk_42 (dk_at dksX3_clearing_0 0 rfl rfl)
theorem dX3_clearing_1 : decode cX3_clearing 1 = .ok (.aload_n 0, 1) := dk_42 (dk_at dksX3_clearing_0 1 rfl rfl)
theorem dX3_clearing_2 : decode cX3_clearing 2 = .ok (.iload_n 1, 1) := dk_27 (dk_at dksX3_clearing_0 2 rfl rfl)
theorem dX3_clearing_3 : decode cX3_clearing 3 = .ok (.iload_n 2, 1) := dk_28 (dk_at dksX3_clearing_0 3 rfl rfl)
theorem dX3_clearing_4 : decode cX3_clearing 4 = .ok (.invokevirtual 184, 3) := dk_182 0 184 (dk_at dksX3_clearing_0 4 rfl rfl)
theorem dX3_clearing_7 : decode cX3_clearing 7 = .ok (.ifCond .eq 7, 3) := dk_153 0 7 (dk_at dksX3_clearing_0 7 rfl rfl)
theorem dX3_clearing_10 : decode cX3_clearing 10 = .ok (.iconst 0, 1) := dk_3 (dk_at dksX3_clearing_0 10 rfl rfl)
theorem dX3_clearing_11 : decode cX3_clearing 11 = .ok (.goto 4, 3) := dk_167 0 4 (dk_at dksX3_clearing_0 11 rfl rfl)
theorem dX3_clearing_14 : decode cX3_clearing 14 = .ok (.iconst 1, 1) := dk_4 (dk_at dksX3_clearing_0 14 rfl rfl)
theorem dX3_clearing_15 : decode cX3_clearing 15 = .ok (.invokevirtual 102, 3) := dk_182 0 102 (dk_at dksX3_clearing_0 15 rfl rfl)
theorem dX3_clearing_18 : decode cX3_clearing 18 = .ok (.ifCond .eq 12, 3) := dk_153 0 12 (dk_at dksX3_clearing_0 18 rfl rfl)
theorem dX3_clearing_21 : decode cX3_clearing 21 = .ok (.aload_n 0, 1) := dk_42 (dk_at dksX3_clearing_0 21 rfl rfl)
theorem dX3_clearing_22 : decode cX3_clearing 22 = .ok (.iload_n 1, 1) := dk_27 (dk_at dksX3_clearing_0 22 rfl rfl)
theorem dX3_clearing_23 : decode cX3_clearing 23 = .ok (.iload_n 2, 1) := dk_28 (dk_at dksX3_clearing_0 23 rfl rfl)
theorem dX3_clearing_24 : decode cX3_clearing 24 = .ok (.invokevirtual 134, 3) := dk_182 0 134 (dk_at dksX3_clearing_1 0 rfl rfl)
theorem dX3_clearing_27 : decode cX3_clearing 27 = .ok (.goto 4, 3) := dk_167 0 4 (dk_at dksX3_clearing_1 3 rfl rfl)
theorem dX3_clearing_30 : decode cX3_clearing 30 = .ok (.iconst 0, 1) := dk_3 (dk_at dksX3_clearing_1 6 rfl rfl)
theorem dX3_clearing_31 : decode cX3_clearing 31 = .ok (.ireturn, 1) := dk_172 (dk_at dksX3_clearing_1 7 rfl rfl)
abbrev cX3_offset : ByteArray := prog_4_method_40_code
def yX3_offset : MethodName := ⟨RX3, "offset", "(I)I"⟩
def dkwX3_offset_1 : List UInt8 := [27, 46, 167, 0, 4, 3, 172]
abbrev dktX3_offset_1 : List UInt8 := dkwX3_offset_1 ++ []
def dkwX3_offset_0 : List UInt8 := [42, 42, 27, 182, 0, 118, 153, 0, 7, 3, 167, 0, 4, 4, 182, 0, 102, 153, 0, 12, 42, 180, 0, 22]
abbrev dktX3_offset_0 : List UInt8 := dkwX3_offset_0 ++ dktX3_offset_1
theorem dksX3_offset_0 : cX3_offset.data.toList.drop 0 = dktX3_offset_0 := by decide +kernel
theorem dksX3_offset_1 : cX3_offset.data.toList.drop 24 = dktX3_offset_1 := dk_seg dksX3_offset_0 24 rfl rfl
theorem dX3_offset_0 : decode cX3_offset 0 = .ok (.aload_n 0, 1) := dk_42 (dk_at dksX3_offset_0 0 rfl rfl)
theorem dX3_offset_1 : decode cX3_offset 1 = .ok (.aload_n 0, 1) := dk_42 (dk_at dksX3_offset_0 1 rfl rfl)
theorem dX3_offset_2 : decode cX3_offset 2 = .ok (.iload_n 1, 1) := dk_27 (dk_at dksX3_offset_0 2 rfl rfl)
theorem dX3_offset_3 : decode cX3_offset 3 = .ok (.invokevirtual 118, 3) := dk_182 0 118 (dk_at dksX3_offset_0 3 rfl rfl)
theorem dX3_offset_6 : decode cX3_offset 6 = .ok (.ifCond .eq 7, 3) := dk_153 0 7 (dk_at dksX3_offset_0 6 rfl rfl)
theorem dX3_offset_9 : decode cX3_offset 9 = .ok (.iconst 0, 1) := dk_3 (dk_at dksX3_offset_0 9 rfl rfl)
theorem dX3_offset_10 : decode cX3_offset 10 = .ok (.goto 4, 3) := dk_167 0 4 (dk_at dksX3_offset_0 10 rfl rfl)
theorem dX3_offset_13 : decode cX3_offset 13 = .ok (.iconst 1, 1) := dk_4 (dk_at dksX3_offset_0 13 rfl rfl)
theorem dX3_offset_14 : decode cX3_offset 14 = .ok (.invokevirtual 102, 3) := dk_182 0 102 (dk_at dksX3_offset_0 14 rfl rfl)
theorem dX3_offset_17 : decode cX3_offset 17 = .ok (.ifCond .eq 12, 3) := dk_153 0 12 (dk_at dksX3_offset_0 17 rfl rfl)
theorem dX3_offset_20 : decode cX3_offset 20 = .ok (.aload_n 0, 1) := dk_42 (dk_at dksX3_offset_0 20 rfl rfl)
theorem dX3_offset_21 : decode cX3_offset 21 = .ok (.getfield 22, 3) := dk_180 0 22 (dk_at dksX3_offset_0 21 rfl rfl)
theorem dX3_offset_24 : decode cX3_offset 24 = .ok (.iload_n 1, 1) := dk_27 (dk_at dksX3_offset_1 0 rfl rfl)
theorem dX3_offset_25 : decode cX3_offset 25 = .ok (.iaload, 1) := dk_46 (dk_at dksX3_offset_1 1 rfl rfl)
theorem dX3_offset_26 : decode cX3_offset 26 = .ok (.goto 4, 3) := dk_167 0 4 (dk_at dksX3_offset_1 2 rfl rfl)
theorem dX3_offset_29 : decode cX3_offset 29 = .ok (.iconst 0, 1) := dk_3 (dk_at dksX3_offset_1 5 rfl rfl)
theorem dX3_offset_30 : decode cX3_offset 30 = .ok (.ireturn, 1) := dk_172 (dk_at dksX3_offset_1 6 rfl rfl)
abbrev cX3_isGreen : ByteArray := prog_4_method_41_code
def yX3_isGreen : MethodName := ⟨RX3, "isGreen", "(III)Z"⟩
def dkwX3_isGreen_3 : List UInt8 := [182, 0, 158, 153, 0, 7, 4, 167, 0, 4, 3, 172]
abbrev dktX3_isGreen_3 : List UInt8 := dkwX3_isGreen_3 ++ []
def dkwX3_isGreen_2 : List UInt8 := [27, 182, 0, 181, 153, 0, 7, 3, 167, 0, 4, 6, 182, 0, 102, 153, 0, 18, 42, 27, 28, 29, 3]
abbrev dktX3_isGreen_2 : List UInt8 := dkwX3_isGreen_2 ++ dktX3_isGreen_3
def dkwX3_isGreen_1 : List UInt8 := [21, 4, 154, 0, 7, 4, 167, 0, 30, 29, 3, 18, 187, 184, 0, 79, 154, 0, 7, 5, 167, 0, 16, 42]
abbrev dktX3_isGreen_1 : List UInt8 := dkwX3_isGreen_1 ++ dktX3_isGreen_2
def dkwX3_isGreen_0 : List UInt8 := [42, 27, 182, 0, 118, 153, 0, 14, 28, 184, 0, 121, 153, 0, 7, 4, 167, 0, 4, 3, 54, 4, 42]
abbrev dktX3_isGreen_0 : List UInt8 := dkwX3_isGreen_0 ++ dktX3_isGreen_1
theorem dksX3_isGreen_0 : cX3_isGreen.data.toList.drop 0 = dktX3_isGreen_0 := by decide +kernel
theorem dksX3_isGreen_1 : cX3_isGreen.data.toList.drop 23 = dktX3_isGreen_1 := dk_seg dksX3_isGreen_0 23 rfl rfl
theorem dksX3_isGreen_2 : cX3_isGreen.data.toList.drop 47 = dktX3_isGreen_2 := dk_seg dksX3_isGreen_1 24 rfl rfl
theorem dksX3_isGreen_3 : cX3_isGreen.data.toList.drop 70 = dktX3_isGreen_3 := dk_seg dksX3_isGreen_2 23 rfl rfl
theorem dX3_isGreen_0 : decode cX3_isGreen 0 = .ok (.aload_n 0, 1) := dk_42 (dk_at dksX3_isGreen_0 0 rfl rfl)
theorem dX3_isGreen_1 : decode cX3_isGreen 1 = .ok (.iload_n 1, 1) := dk_27 (dk_at dksX3_isGreen_0 1 rfl rfl)
theorem dX3_isGreen_2 : decode cX3_isGreen 2 = .ok (.invokevirtual 118, 3) := dk_182 0 118 (dk_at dksX3_isGreen_0 2 rfl rfl)
theorem dX3_isGreen_5 : decode cX3_isGreen 5 = .ok (.ifCond .eq 14, 3) := dk_153 0 14 (dk_at dksX3_isGreen_0 5 rfl rfl)
theorem dX3_isGreen_8 : decode cX3_isGreen 8 = .ok (.iload_n 2, 1) := dk_28 (dk_at dksX3_isGreen_0 8 rfl rfl)
theorem dX3_isGreen_9 : decode cX3_isGreen 9 = .ok (.invokestatic 121, 3) := dk_184 0 121 (dk_at dksX3_isGreen_0 9 rfl rfl)
theorem dX3_isGreen_12 : decode cX3_isGreen 12 = .ok (.ifCond .eq 7, 3) := dk_153 0 7 (dk_at dksX3_isGreen_0 12 rfl rfl)
theorem dX3_isGreen_15 : decode cX3_isGreen 15 = .ok (.iconst 1, 1) := dk_4 (dk_at dksX3_isGreen_0 15 rfl rfl)
theorem dX3_isGreen_16 : decode cX3_isGreen 16 = .ok (.goto 4, 3) := dk_167 0 4 (dk_at dksX3_isGreen_0 16 rfl rfl)
theorem dX3_isGreen_19 : decode cX3_isGreen 19 = .ok (.iconst 0, 1) := dk_3 (dk_at dksX3_isGreen_0 19 rfl rfl)
theorem dX3_isGreen_20 : decode cX3_isGreen 20 = .ok (.istore 4, 2) := dk_54 4 (dk_at dksX3_isGreen_0 20 rfl rfl)
theorem dX3_isGreen_22 : decode cX3_isGreen 22 = .ok (.aload_n 0, 1) := dk_42 (dk_at dksX3_isGreen_0 22 rfl rfl)
theorem dX3_isGreen_23 : decode cX3_isGreen 23 = .ok (.iload 4, 2) := dk_21 4 (dk_at dksX3_isGreen_1 0 rfl rfl)
theorem dX3_isGreen_25 : decode cX3_isGreen 25 = .ok (.ifCond .ne 7, 3) := dk_154 0 7 (dk_at dksX3_isGreen_1 2 rfl rfl)
theorem dX3_isGreen_28 : decode cX3_isGreen 28 = .ok (.iconst 1, 1) := dk_4 (dk_at dksX3_isGreen_1 5 rfl rfl)
theorem dX3_isGreen_29 : decode cX3_isGreen 29 = .ok (.goto 30, 3) := dk_167 0 30 (dk_at dksX3_isGreen_1 6 rfl rfl)
theorem dX3_isGreen_32 : decode cX3_isGreen 32 = .ok (.iload_n 3, 1) := dk_29 (dk_at dksX3_isGreen_1 9 rfl rfl)
theorem dX3_isGreen_33 : decode cX3_isGreen 33 = .ok (.iconst 0, 1) := dk_3 (dk_at dksX3_isGreen_1 10 rfl rfl)
theorem dX3_isGreen_34 : decode cX3_isGreen 34 = .ok (.ldc 187, 2) := dk_18 187 (dk_at dksX3_isGreen_1 11 rfl rfl)
theorem dX3_isGreen_36 : decode cX3_isGreen 36 = .ok (.invokestatic 79, 3) := dk_184 0 79 (dk_at dksX3_isGreen_1 13 rfl rfl)
theorem dX3_isGreen_39 : decode cX3_isGreen 39 = .ok (.ifCond .ne 7, 3) := dk_154 0 7 (dk_at dksX3_isGreen_1 16 rfl rfl)
theorem dX3_isGreen_42 : decode cX3_isGreen 42 = .ok (.iconst 2, 1) := dk_5 (dk_at dksX3_isGreen_1 19 rfl rfl)
theorem dX3_isGreen_43 : decode cX3_isGreen 43 = .ok (.goto 16, 3) := dk_167 0 16 (dk_at dksX3_isGreen_1 20 rfl rfl)
theorem dX3_isGreen_46 : decode cX3_isGreen 46 = .ok (.aload_n 0, 1) := dk_42 (dk_at dksX3_isGreen_1 23 rfl rfl)
theorem dX3_isGreen_47 : decode cX3_isGreen 47 = .ok (.iload_n 1, 1) := dk_27 (dk_at dksX3_isGreen_2 0 rfl rfl)
theorem dX3_isGreen_48 : decode cX3_isGreen 48 = .ok (.invokevirtual 181, 3) := dk_182 0 181 (dk_at dksX3_isGreen_2 1 rfl rfl)
theorem dX3_isGreen_51 : decode cX3_isGreen 51 = .ok (.ifCond .eq 7, 3) := dk_153 0 7 (dk_at dksX3_isGreen_2 4 rfl rfl)
theorem dX3_isGreen_54 : decode cX3_isGreen 54 = .ok (.iconst 0, 1) := dk_3 (dk_at dksX3_isGreen_2 7 rfl rfl)
theorem dX3_isGreen_55 : decode cX3_isGreen 55 = .ok (.goto 4, 3) := dk_167 0 4 (dk_at dksX3_isGreen_2 8 rfl rfl)
theorem dX3_isGreen_58 : decode cX3_isGreen 58 = .ok (.iconst 3, 1) := dk_6 (dk_at dksX3_isGreen_2 11 rfl rfl)
theorem dX3_isGreen_59 : decode cX3_isGreen 59 = .ok (.invokevirtual 102, 3) := dk_182 0 102 (dk_at dksX3_isGreen_2 12 rfl rfl)
theorem dX3_isGreen_62 : decode cX3_isGreen 62 = .ok (.ifCond .eq 18, 3) := dk_153 0 18 (dk_at dksX3_isGreen_2 15 rfl rfl)
theorem dX3_isGreen_65 : decode cX3_isGreen 65 = .ok (.aload_n 0, 1) := dk_42 (dk_at dksX3_isGreen_2 18 rfl rfl)
theorem dX3_isGreen_66 : decode cX3_isGreen 66 = .ok (.iload_n 1, 1) := dk_27 (dk_at dksX3_isGreen_2 19 rfl rfl)
theorem dX3_isGreen_67 : decode cX3_isGreen 67 = .ok (.iload_n 2, 1) := dk_28 (dk_at dksX3_isGreen_2 20 rfl rfl)
theorem dX3_isGreen_68 : decode cX3_isGreen 68 = .ok (.iload_n 3, 1) := dk_29 (dk_at dksX3_isGreen_2 21 rfl rfl)
theorem dX3_isGreen_69 : decode cX3_isGreen 69 = .ok (.iconst 0, 1) := dk_3 (dk_at dksX3_isGreen_2 22 rfl rfl)
theorem dX3_isGreen_70 : decode cX3_isGreen 70 = .ok (.invokevirtual 158, 3) := dk_182 0 158 (dk_at dksX3_isGreen_3 0 rfl rfl)
theorem dX3_isGreen_73 : decode cX3_isGreen 73 = .ok (.ifCond .eq 7, 3) := dk_153 0 7 (dk_at dksX3_isGreen_3 3 rfl rfl)
theorem dX3_isGreen_76 : decode cX3_isGreen 76 = .ok (.iconst 1, 1) := dk_4 (dk_at dksX3_isGreen_3 6 rfl rfl)
theorem dX3_isGreen_77 : decode cX3_isGreen 77 = .ok (.goto 4, 3) := dk_167 0 4 (dk_at dksX3_isGreen_3 7 rfl rfl)
theorem dX3_isGreen_80 : decode cX3_isGreen 80 = .ok (.iconst 0, 1) := dk_3 (dk_at dksX3_isGreen_3 10 rfl rfl)
theorem dX3_isGreen_81 : decode cX3_isGreen 81 = .ok (.ireturn, 1) := dk_172 (dk_at dksX3_isGreen_3 11 rfl rfl)
abbrev cX3_breaches : ByteArray := prog_4_method_43_code
def yX3_breaches : MethodName := ⟨RX3, "breaches", "(I)I"⟩
def dkwX3_breaches_3 : List UInt8 := [172]
abbrev dktX3_breaches_3 : List UInt8 := dkwX3_breaches_3 ++ []
def dkwX3_breaches_2 : List UInt8 := [28, 42, 27, 29, 182, 0, 188, 153, 0, 7, 4, 167, 0, 4, 3, 96, 61, 132, 3, 1, 167, 255, 228, 28]
abbrev dktX3_breaches_2 : List UInt8 := dkwX3_breaches_2 ++ dktX3_breaches_3
def dkwX3_breaches_1 : List UInt8 := [167, 0, 4, 5, 182, 0, 102, 154, 0, 5, 3, 172, 3, 61, 3, 62, 29, 42, 180, 0, 83, 162, 0, 26]
abbrev dktX3_breaches_1 : List UInt8 := dkwX3_breaches_1 ++ dktX3_breaches_2
def dkwX3_breaches_0 : List UInt8 := [42, 42, 27, 182, 0, 118, 154, 0, 7, 4, 167, 0, 16, 42, 27, 182, 0, 181, 153, 0, 7, 3]
abbrev dktX3_breaches_0 : List UInt8 := dkwX3_breaches_0 ++ dktX3_breaches_1
theorem dksX3_breaches_0 : cX3_breaches.data.toList.drop 0 = dktX3_breaches_0 := by decide +kernel
theorem dksX3_breaches_1 : cX3_breaches.data.toList.drop 22 = dktX3_breaches_1 := dk_seg dksX3_breaches_0 22 rfl rfl
theorem dksX3_breaches_2 : cX3_breaches.data.toList.drop 46 = dktX3_breaches_2 := dk_seg dksX3_breaches_1 24 rfl rfl
theorem dksX3_breaches_3 : cX3_breaches.data.toList.drop 70 = dktX3_breaches_3 := dk_seg dksX3_breaches_2 24 rfl rfl
theorem dX3_breaches_0 : decode cX3_breaches 0 = .ok (.aload_n 0, 1) := dk_42 (dk_at dksX3_breaches_0 0 rfl rfl)
theorem dX3_breaches_1 : decode cX3_breaches 1 = .ok (.aload_n 0, 1) := dk_42 (dk_at dksX3_breaches_0 1 rfl rfl)
theorem dX3_breaches_2 : decode cX3_breaches 2 = .ok (.iload_n 1, 1) := dk_27 (dk_at dksX3_breaches_0 2 rfl rfl)
theorem dX3_breaches_3 : decode cX3_breaches 3 = .ok (.invokevirtual 118, 3) := dk_182 0 118 (dk_at dksX3_breaches_0 3 rfl rfl)
theorem dX3_breaches_6 : decode cX3_breaches 6 = .ok (.ifCond .ne 7, 3) := dk_154 0 7 (dk_at dksX3_breaches_0 6 rfl rfl)
theorem dX3_breaches_9 : decode cX3_breaches 9 = .ok (.iconst 1, 1) := dk_4 (dk_at dksX3_breaches_0 9 rfl rfl)
theorem dX3_breaches_10 : decode cX3_breaches 10 = .ok (.goto 16, 3) := dk_167 0 16 (dk_at dksX3_breaches_0 10 rfl rfl)
theorem dX3_breaches_13 : decode cX3_breaches 13 = .ok (.aload_n 0, 1) := dk_42 (dk_at dksX3_breaches_0 13 rfl rfl)
theorem dX3_breaches_14 : decode cX3_breaches 14 = .ok (.iload_n 1, 1) := dk_27 (dk_at dksX3_breaches_0 14 rfl rfl)
theorem dX3_breaches_15 : decode cX3_breaches 15 = .ok (.invokevirtual 181, 3) := dk_182 0 181 (dk_at dksX3_breaches_0 15 rfl rfl)
theorem dX3_breaches_18 : decode cX3_breaches 18 = .ok (.ifCond .eq 7, 3) := dk_153 0 7 (dk_at dksX3_breaches_0 18 rfl rfl)
theorem dX3_breaches_21 : decode cX3_breaches 21 = .ok (.iconst 0, 1) := dk_3 (dk_at dksX3_breaches_0 21 rfl rfl)
theorem dX3_breaches_22 : decode cX3_breaches 22 = .ok (.goto 4, 3) := dk_167 0 4 (dk_at dksX3_breaches_1 0 rfl rfl)
theorem dX3_breaches_25 : decode cX3_breaches 25 = .ok (.iconst 2, 1) := dk_5 (dk_at dksX3_breaches_1 3 rfl rfl)
theorem dX3_breaches_26 : decode cX3_breaches 26 = .ok (.invokevirtual 102, 3) := dk_182 0 102 (dk_at dksX3_breaches_1 4 rfl rfl)
theorem dX3_breaches_29 : decode cX3_breaches 29 = .ok (.ifCond .ne 5, 3) := dk_154 0 5 (dk_at dksX3_breaches_1 7 rfl rfl)
theorem dX3_breaches_32 : decode cX3_breaches 32 = .ok (.iconst 0, 1) := dk_3 (dk_at dksX3_breaches_1 10 rfl rfl)
theorem dX3_breaches_33 : decode cX3_breaches 33 = .ok (.ireturn, 1) := dk_172 (dk_at dksX3_breaches_1 11 rfl rfl)
theorem dX3_breaches_34 : decode cX3_breaches 34 = .ok (.iconst 0, 1) := dk_3 (dk_at dksX3_breaches_1 12 rfl rfl)
theorem dX3_breaches_35 : decode cX3_breaches 35 = .ok (.istore_n 2, 1) := dk_61 (dk_at dksX3_breaches_1 13 rfl rfl)
theorem dX3_breaches_36 : decode cX3_breaches 36 = .ok (.iconst 0, 1) := dk_3 (dk_at dksX3_breaches_1 14 rfl rfl)
theorem dX3_breaches_37 : decode cX3_breaches 37 = .ok (.istore_n 3, 1) := dk_62 (dk_at dksX3_breaches_1 15 rfl rfl)
theorem dX3_breaches_38 : decode cX3_breaches 38 = .ok (.iload_n 3, 1) := dk_29 (dk_at dksX3_breaches_1 16 rfl rfl)
theorem dX3_breaches_39 : decode cX3_breaches 39 = .ok (.aload_n 0, 1) := dk_42 (dk_at dksX3_breaches_1 17 rfl rfl)
theorem dX3_breaches_40 : decode cX3_breaches 40 = .ok (.getfield 83, 3) := dk_180 0 83 (dk_at dksX3_breaches_1 18 rfl rfl)
theorem dX3_breaches_43 : decode cX3_breaches 43 = .ok (.if_icmp .ge 26, 3) := dk_162 0 26 (dk_at dksX3_breaches_1 21 rfl rfl)
theorem dX3_breaches_46 : decode cX3_breaches 46 = .ok (.iload_n 2, 1) := dk_28 (dk_at dksX3_breaches_2 0 rfl rfl)
theorem dX3_breaches_47 : decode cX3_breaches 47 = .ok (.aload_n 0, 1) := dk_42 (dk_at dksX3_breaches_2 1 rfl rfl)
theorem dX3_breaches_48 : decode cX3_breaches 48 = .ok (.iload_n 1, 1) := dk_27 (dk_at dksX3_breaches_2 2 rfl rfl)
theorem dX3_breaches_49 : decode cX3_breaches 49 = .ok (.iload_n 3, 1) := dk_29 (dk_at dksX3_breaches_2 3 rfl rfl)
theorem dX3_breaches_50 : decode cX3_breaches 50 = .ok (.invokevirtual 188, 3) := dk_182 0 188 (dk_at dksX3_breaches_2 4 rfl rfl)
theorem dX3_breaches_53 : decode cX3_breaches 53 = .ok (.ifCond .eq 7, 3) := dk_153 0 7 (dk_at dksX3_breaches_2 7 rfl rfl)
theorem dX3_breaches_56 : decode cX3_breaches 56 = .ok (.iconst 1, 1) := dk_4 (dk_at dksX3_breaches_2 10 rfl rfl)
theorem dX3_breaches_57 : decode cX3_breaches 57 = .ok (.goto 4, 3) := dk_167 0 4 (dk_at dksX3_breaches_2 11 rfl rfl)
theorem dX3_breaches_60 : decode cX3_breaches 60 = .ok (.iconst 0, 1) := dk_3 (dk_at dksX3_breaches_2 14 rfl rfl)
theorem dX3_breaches_61 : decode cX3_breaches 61 = .ok (.iadd, 1) := dk_96 (dk_at dksX3_breaches_2 15 rfl rfl)
theorem dX3_breaches_62 : decode cX3_breaches 62 = .ok (.istore_n 2, 1) := dk_61 (dk_at dksX3_breaches_2 16 rfl rfl)
theorem dX3_breaches_63 : decode cX3_breaches 63 = .ok (.iinc 3 1, 3) := dk_132 3 1 (dk_at dksX3_breaches_2 17 rfl rfl)
theorem dX3_breaches_66 : decode cX3_breaches 66 = .ok (.goto (-28), 3) := dk_167 255 228 (dk_at dksX3_breaches_2 20 rfl rfl)
theorem dX3_breaches_69 : decode cX3_breaches 69 = .ok (.iload_n 2, 1) := dk_28 (dk_at dksX3_breaches_2 23 rfl rfl)
theorem dX3_breaches_70 : decode cX3_breaches 70 = .ok (.ireturn, 1) := dk_172 (dk_at dksX3_breaches_3 0 rfl rfl)
abbrev cX3_isBreach : ByteArray := prog_4_method_42_code
def yX3_isBreach : MethodName := ⟨RX3, "isBreach", "(II)Z"⟩
def dkwX3_isBreach_3 : List UInt8 := [167, 255, 187, 3, 172]
abbrev dktX3_isBreach_3 : List UInt8 := dkwX3_isBreach_3 ++ []
def dkwX3_isBreach_2 : List UInt8 := [112, 28, 21, 5, 96, 3, 182, 0, 158, 153, 0, 5, 4, 172, 132, 5, 1, 167, 255, 215, 132, 3, 1]
abbrev dktX3_isBreach_2 : List UInt8 := dkwX3_isBreach_2 ++ dktX3_isBreach_3
def dkwX3_isBreach_1 : List UInt8 := [21, 5, 21, 4, 163, 0, 40, 42, 27, 29, 7, 108, 28, 3, 182, 0, 158, 153, 0, 27, 42, 27, 29, 7]
abbrev dktX3_isBreach_1 : List UInt8 := dkwX3_isBreach_1 ++ dktX3_isBreach_2
def dkwX3_isBreach_0 : List UInt8 := [3, 62, 29, 16, 16, 162, 0, 69, 42, 180, 0, 7, 16, 16, 27, 104, 29, 96, 46, 54, 4, 3, 54, 5]
abbrev dktX3_isBreach_0 : List UInt8 := dkwX3_isBreach_0 ++ dktX3_isBreach_1
theorem dksX3_isBreach_0 : cX3_isBreach.data.toList.drop 0 = dktX3_isBreach_0 := by decide +kernel
theorem dksX3_isBreach_1 : cX3_isBreach.data.toList.drop 24 = dktX3_isBreach_1 := dk_seg dksX3_isBreach_0 24 rfl rfl
theorem dksX3_isBreach_2 : cX3_isBreach.data.toList.drop 48 = dktX3_isBreach_2 := dk_seg dksX3_isBreach_1 24 rfl rfl
theorem dksX3_isBreach_3 : cX3_isBreach.data.toList.drop 71 = dktX3_isBreach_3 := dk_seg dksX3_isBreach_2 23 rfl rfl
theorem dX3_isBreach_0 : decode cX3_isBreach 0 = .ok (.iconst 0, 1) := dk_3 (dk_at dksX3_isBreach_0 0 rfl rfl)
theorem dX3_isBreach_1 : decode cX3_isBreach 1 = .ok (.istore_n 3, 1) := dk_62 (dk_at dksX3_isBreach_0 1 rfl rfl)
theorem dX3_isBreach_2 : decode cX3_isBreach 2 = .ok (.iload_n 3, 1) := dk_29 (dk_at dksX3_isBreach_0 2 rfl rfl)
theorem dX3_isBreach_3 : decode cX3_isBreach 3 = .ok (.bipush 16, 2) := dk_16 16 (dk_at dksX3_isBreach_0 3 rfl rfl)
theorem dX3_isBreach_5 : decode cX3_isBreach 5 = .ok (.if_icmp .ge 69, 3) := dk_162 0 69 (dk_at dksX3_isBreach_0 5 rfl rfl)
theorem dX3_isBreach_8 : decode cX3_isBreach 8 = .ok (.aload_n 0, 1) := dk_42 (dk_at dksX3_isBreach_0 8 rfl rfl)
theorem dX3_isBreach_9 : decode cX3_isBreach 9 = .ok (.getfield 7, 3) := dk_180 0 7 (dk_at dksX3_isBreach_0 9 rfl rfl)
theorem dX3_isBreach_12 : decode cX3_isBreach 12 = .ok (.bipush 16, 2) := dk_16 16 (dk_at dksX3_isBreach_0 12 rfl rfl)
theorem dX3_isBreach_14 : decode cX3_isBreach 14 = .ok (.iload_n 1, 1) := dk_27 (dk_at dksX3_isBreach_0 14 rfl rfl)
theorem dX3_isBreach_15 : decode cX3_isBreach 15 = .ok (.imul, 1) := dk_104 (dk_at dksX3_isBreach_0 15 rfl rfl)
theorem dX3_isBreach_16 : decode cX3_isBreach 16 = .ok (.iload_n 3, 1) := dk_29 (dk_at dksX3_isBreach_0 16 rfl rfl)
theorem dX3_isBreach_17 : decode cX3_isBreach 17 = .ok (.iadd, 1) := dk_96 (dk_at dksX3_isBreach_0 17 rfl rfl)
theorem dX3_isBreach_18 : decode cX3_isBreach 18 = .ok (.iaload, 1) := dk_46 (dk_at dksX3_isBreach_0 18 rfl rfl)
theorem dX3_isBreach_19 : decode cX3_isBreach 19 = .ok (.istore 4, 2) := dk_54 4 (dk_at dksX3_isBreach_0 19 rfl rfl)
theorem dX3_isBreach_21 : decode cX3_isBreach 21 = .ok (.iconst 0, 1) := dk_3 (dk_at dksX3_isBreach_0 21 rfl rfl)
theorem dX3_isBreach_22 : decode cX3_isBreach 22 = .ok (.istore 5, 2) := dk_54 5 (dk_at dksX3_isBreach_0 22 rfl rfl)
theorem dX3_isBreach_24 : decode cX3_isBreach 24 = .ok (.iload 5, 2) := dk_21 5 (dk_at dksX3_isBreach_1 0 rfl rfl)
theorem dX3_isBreach_26 : decode cX3_isBreach 26 = .ok (.iload 4, 2) := dk_21 4 (dk_at dksX3_isBreach_1 2 rfl rfl)
theorem dX3_isBreach_28 : decode cX3_isBreach 28 = .ok (.if_icmp .gt 40, 3) := dk_163 0 40 (dk_at dksX3_isBreach_1 4 rfl rfl)
theorem dX3_isBreach_31 : decode cX3_isBreach 31 = .ok (.aload_n 0, 1) := dk_42 (dk_at dksX3_isBreach_1 7 rfl rfl)
theorem dX3_isBreach_32 : decode cX3_isBreach 32 = .ok (.iload_n 1, 1) := dk_27 (dk_at dksX3_isBreach_1 8 rfl rfl)
theorem dX3_isBreach_33 : decode cX3_isBreach 33 = .ok (.iload_n 3, 1) := dk_29 (dk_at dksX3_isBreach_1 9 rfl rfl)
theorem dX3_isBreach_34 : decode cX3_isBreach 34 = .ok (.iconst 4, 1) := dk_7 (dk_at dksX3_isBreach_1 10 rfl rfl)
theorem dX3_isBreach_35 : decode cX3_isBreach 35 = .ok (.idiv, 1) := dk_108 (dk_at dksX3_isBreach_1 11 rfl rfl)
theorem dX3_isBreach_36 : decode cX3_isBreach 36 = .ok (.iload_n 2, 1) := dk_28 (dk_at dksX3_isBreach_1 12 rfl rfl)
theorem dX3_isBreach_37 : decode cX3_isBreach 37 = .ok (.iconst 0, 1) := dk_3 (dk_at dksX3_isBreach_1 13 rfl rfl)
theorem dX3_isBreach_38 : decode cX3_isBreach 38 = .ok (.invokevirtual 158, 3) := dk_182 0 158 (dk_at dksX3_isBreach_1 14 rfl rfl)
theorem dX3_isBreach_41 : decode cX3_isBreach 41 = .ok (.ifCond .eq 27, 3) := dk_153 0 27 (dk_at dksX3_isBreach_1 17 rfl rfl)
theorem dX3_isBreach_44 : decode cX3_isBreach 44 = .ok (.aload_n 0, 1) := dk_42 (dk_at dksX3_isBreach_1 20 rfl rfl)
theorem dX3_isBreach_45 : decode cX3_isBreach 45 = .ok (.iload_n 1, 1) := dk_27 (dk_at dksX3_isBreach_1 21 rfl rfl)
theorem dX3_isBreach_46 : decode cX3_isBreach 46 = .ok (.iload_n 3, 1) := dk_29 (dk_at dksX3_isBreach_1 22 rfl rfl)
theorem dX3_isBreach_47 : decode cX3_isBreach 47 = .ok (.iconst 4, 1) := dk_7 (dk_at dksX3_isBreach_1 23 rfl rfl)
theorem dX3_isBreach_48 : decode cX3_isBreach 48 = .ok (.irem, 1) := dk_112 (dk_at dksX3_isBreach_2 0 rfl rfl)
theorem dX3_isBreach_49 : decode cX3_isBreach 49 = .ok (.iload_n 2, 1) := dk_28 (dk_at dksX3_isBreach_2 1 rfl rfl)
theorem dX3_isBreach_50 : decode cX3_isBreach 50 = .ok (.iload 5, 2) := dk_21 5 (dk_at dksX3_isBreach_2 2 rfl rfl)
theorem dX3_isBreach_52 : decode cX3_isBreach 52 = .ok (.iadd, 1) := dk_96 (dk_at dksX3_isBreach_2 4 rfl rfl)
theorem dX3_isBreach_53 : decode cX3_isBreach 53 = .ok (.iconst 0, 1) := dk_3 (dk_at dksX3_isBreach_2 5 rfl rfl)
theorem dX3_isBreach_54 : decode cX3_isBreach 54 = .ok (.invokevirtual 158, 3) := dk_182 0 158 (dk_at dksX3_isBreach_2 6 rfl rfl)
theorem dX3_isBreach_57 : decode cX3_isBreach 57 = .ok (.ifCond .eq 5, 3) := dk_153 0 5 (dk_at dksX3_isBreach_2 9 rfl rfl)
theorem dX3_isBreach_60 : decode cX3_isBreach 60 = .ok (.iconst 1, 1) := dk_4 (dk_at dksX3_isBreach_2 12 rfl rfl)
theorem dX3_isBreach_61 : decode cX3_isBreach 61 = .ok (.ireturn, 1) := dk_172 (dk_at dksX3_isBreach_2 13 rfl rfl)
theorem dX3_isBreach_62 : decode cX3_isBreach 62 = .ok (.iinc 5 1, 3) := dk_132 5 1 (dk_at dksX3_isBreach_2 14 rfl rfl)
theorem dX3_isBreach_65 : decode cX3_isBreach 65 = .ok (.goto (-41), 3) := dk_167 255 215 (dk_at dksX3_isBreach_2 17 rfl rfl)
theorem dX3_isBreach_68 : decode cX3_isBreach 68 = .ok (.iinc 3 1, 3) := dk_132 3 1 (dk_at dksX3_isBreach_2 20 rfl rfl)
theorem dX3_isBreach_71 : decode cX3_isBreach 71 = .ok (.goto (-69), 3) := dk_167 255 187 (dk_at dksX3_isBreach_3 0 rfl rfl)
theorem dX3_isBreach_74 : decode cX3_isBreach 74 = .ok (.iconst 0, 1) := dk_3 (dk_at dksX3_isBreach_3 3 rfl rfl)
theorem dX3_isBreach_75 : decode cX3_isBreach 75 = .ok (.ireturn, 1) := dk_172 (dk_at dksX3_isBreach_3 4 rfl rfl)
abbrev cX3_band : ByteArray := prog_4_method_44_code
def yX3_band : MethodName := ⟨RX3, "band", "(Z)I"⟩
def dkwX3_band_1 : List UInt8 := [167, 0, 4, 3, 172]
abbrev dktX3_band_1 : List UInt8 := dkwX3_band_1 ++ []
def dkwX3_band_0 : List UInt8 := [42, 42, 182, 0, 174, 153, 0, 7, 3, 167, 0, 4, 4, 182, 0, 102, 153, 0, 11, 42, 27, 182, 0, 166]
abbrev dktX3_band_0 : List UInt8 := dkwX3_band_0 ++ dktX3_band_1
theorem dksX3_band_0 : cX3_band.data.toList.drop 0 = dktX3_band_0 := by decide +kernel
theorem dksX3_band_1 : cX3_band.data.toList.drop 24 = dktX3_band_1 := dk_seg dksX3_band_0 24 rfl rfl
theorem dX3_band_0 : decode cX3_band 0 = .ok (.aload_n 0, 1) := dk_42 (dk_at dksX3_band_0 0 rfl rfl)
theorem dX3_band_1 : decode cX3_band 1 = .ok (.aload_n 0, 1) := dk_42 (dk_at dksX3_band_0 1 rfl rfl)
theorem dX3_band_2 : decode cX3_band 2 = .ok (.invokevirtual 174, 3) := dk_182 0 174 (dk_at dksX3_band_0 2 rfl rfl)
theorem dX3_band_5 : decode cX3_band 5 = .ok (.ifCond .eq 7, 3) := dk_153 0 7 (dk_at dksX3_band_0 5 rfl rfl)
theorem dX3_band_8 : decode cX3_band 8 = .ok (.iconst 0, 1) := dk_3 (dk_at dksX3_band_0 8 rfl rfl)
theorem dX3_band_9 : decode cX3_band 9 = .ok (.goto 4, 3) := dk_167 0 4 (dk_at dksX3_band_0 9 rfl rfl)
theorem dX3_band_12 : decode cX3_band 12 = .ok (.iconst 1, 1) := dk_4 (dk_at dksX3_band_0 12 rfl rfl)
theorem dX3_band_13 : decode cX3_band 13 = .ok (.invokevirtual 102, 3) := dk_182 0 102 (dk_at dksX3_band_0 13 rfl rfl)
theorem dX3_band_16 : decode cX3_band 16 = .ok (.ifCond .eq 11, 3) := dk_153 0 11 (dk_at dksX3_band_0 16 rfl rfl)
theorem dX3_band_19 : decode cX3_band 19 = .ok (.aload_n 0, 1) := dk_42 (dk_at dksX3_band_0 19 rfl rfl)
theorem dX3_band_20 : decode cX3_band 20 = .ok (.iload_n 1, 1) := dk_27 (dk_at dksX3_band_0 20 rfl rfl)
theorem dX3_band_21 : decode cX3_band 21 = .ok (.invokevirtual 166, 3) := dk_182 0 166 (dk_at dksX3_band_0 21 rfl rfl)
theorem dX3_band_24 : decode cX3_band 24 = .ok (.goto 4, 3) := dk_167 0 4 (dk_at dksX3_band_1 0 rfl rfl)
theorem dX3_band_27 : decode cX3_band 27 = .ok (.iconst 0, 1) := dk_3 (dk_at dksX3_band_1 3 rfl rfl)
theorem dX3_band_28 : decode cX3_band 28 = .ok (.ireturn, 1) := dk_172 (dk_at dksX3_band_1 4 rfl rfl)
abbrev cX3_bestByAll : ByteArray := prog_4_method_45_code
def yX3_bestByAll : MethodName := ⟨RX3, "bestByAll", "()I"⟩
def dkwX3_bestByAll_5 : List UInt8 := [132, 4, 1, 167, 255, 182, 42, 180, 0, 22, 4, 27, 79, 42, 180, 0, 22, 5, 28, 79, 29, 172]
abbrev dktX3_bestByAll_5 : List UInt8 := dkwX3_bestByAll_5 ++ []
def dkwX3_bestByAll_4 : List UInt8 := [180, 0, 83, 108, 79, 42, 182, 0, 170, 54, 5, 21, 5, 29, 164, 0, 8, 21, 5, 167, 0, 4, 29, 62]
abbrev dktX3_bestByAll_4 : List UInt8 := dkwX3_bestByAll_4 ++ dktX3_bestByAll_5
def dkwX3_bestByAll_3 : List UInt8 := [162, 0, 54, 42, 180, 0, 22, 4, 21, 4, 42, 180, 0, 83, 112, 79, 42, 180, 0, 22, 5, 21, 4, 42]
abbrev dktX3_bestByAll_3 : List UInt8 := dkwX3_bestByAll_3 ++ dktX3_bestByAll_4
def dkwX3_bestByAll_2 : List UInt8 := [21, 4, 42, 180, 0, 83, 42, 180, 0, 76, 6, 160, 0, 10, 42, 180, 0, 83, 167, 0, 4, 4, 104]
abbrev dktX3_bestByAll_2 : List UInt8 := dkwX3_bestByAll_2 ++ dktX3_bestByAll_3
def dkwX3_bestByAll_1 : List UInt8 := [154, 0, 5, 3, 172, 42, 180, 0, 22, 4, 46, 60, 42, 180, 0, 22, 5, 46, 61, 3, 62, 3, 54, 4]
abbrev dktX3_bestByAll_1 : List UInt8 := dkwX3_bestByAll_1 ++ dktX3_bestByAll_2
def dkwX3_bestByAll_0 : List UInt8 := [42, 42, 182, 0, 174, 153, 0, 11, 42, 180, 0, 76, 6, 164, 0, 7, 4, 167, 0, 4, 3, 182, 0, 102]
abbrev dktX3_bestByAll_0 : List UInt8 := dkwX3_bestByAll_0 ++ dktX3_bestByAll_1
theorem dksX3_bestByAll_0 : cX3_bestByAll.data.toList.drop 0 = dktX3_bestByAll_0 := by decide +kernel
theorem dksX3_bestByAll_1 : cX3_bestByAll.data.toList.drop 24 = dktX3_bestByAll_1 := dk_seg dksX3_bestByAll_0 24 rfl rfl
theorem dksX3_bestByAll_2 : cX3_bestByAll.data.toList.drop 48 = dktX3_bestByAll_2 := dk_seg dksX3_bestByAll_1 24 rfl rfl
theorem dksX3_bestByAll_3 : cX3_bestByAll.data.toList.drop 71 = dktX3_bestByAll_3 := dk_seg dksX3_bestByAll_2 23 rfl rfl
theorem dksX3_bestByAll_4 : cX3_bestByAll.data.toList.drop 95 = dktX3_bestByAll_4 := dk_seg dksX3_bestByAll_3 24 rfl rfl
theorem dksX3_bestByAll_5 : cX3_bestByAll.data.toList.drop 119 = dktX3_bestByAll_5 := dk_seg dksX3_bestByAll_4 24 rfl rfl
theorem dX3_bestByAll_0 : decode cX3_bestByAll 0 = .ok (.aload_n 0, 1) := dk_42 (dk_at dksX3_bestByAll_0 0 rfl rfl)
theorem dX3_bestByAll_1 : decode cX3_bestByAll 1 = .ok (.aload_n 0, 1) := dk_42 (dk_at dksX3_bestByAll_0 1 rfl rfl)
theorem dX3_bestByAll_2 : decode cX3_bestByAll 2 = .ok (.invokevirtual 174, 3) := dk_182 0 174 (dk_at dksX3_bestByAll_0 2 rfl rfl)
theorem dX3_bestByAll_5 : decode cX3_bestByAll 5 = .ok (.ifCond .eq 11, 3) := dk_153 0 11 (dk_at dksX3_bestByAll_0 5 rfl rfl)
theorem dX3_bestByAll_8 : decode cX3_bestByAll 8 = .ok (.aload_n 0, 1) := dk_42 (dk_at dksX3_bestByAll_0 8 rfl rfl)
theorem dX3_bestByAll_9 : decode cX3_bestByAll 9 = .ok (.getfield 76, 3) := dk_180 0 76 (dk_at dksX3_bestByAll_0 9 rfl rfl)
theorem dX3_bestByAll_12 : decode cX3_bestByAll 12 = .ok (.iconst 3, 1) := dk_6 (dk_at dksX3_bestByAll_0 12 rfl rfl)
theorem dX3_bestByAll_13 : decode cX3_bestByAll 13 = .ok (.if_icmp .le 7, 3) := dk_164 0 7 (dk_at dksX3_bestByAll_0 13 rfl rfl)
theorem dX3_bestByAll_16 : decode cX3_bestByAll 16 = .ok (.iconst 1, 1) := dk_4 (dk_at dksX3_bestByAll_0 16 rfl rfl)
theorem dX3_bestByAll_17 : decode cX3_bestByAll 17 = .ok (.goto 4, 3) := dk_167 0 4 (dk_at dksX3_bestByAll_0 17 rfl rfl)
theorem dX3_bestByAll_20 : decode cX3_bestByAll 20 = .ok (.iconst 0, 1) := dk_3 (dk_at dksX3_bestByAll_0 20 rfl rfl)
theorem dX3_bestByAll_21 : decode cX3_bestByAll 21 = .ok (.invokevirtual 102, 3) := dk_182 0 102 (dk_at dksX3_bestByAll_0 21 rfl rfl)
theorem dX3_bestByAll_24 : decode cX3_bestByAll 24 = .ok (.ifCond .ne 5, 3) := dk_154 0 5 (dk_at dksX3_bestByAll_1 0 rfl rfl)
theorem dX3_bestByAll_27 : decode cX3_bestByAll 27 = .ok (.iconst 0, 1) := dk_3 (dk_at dksX3_bestByAll_1 3 rfl rfl)
theorem dX3_bestByAll_28 : decode cX3_bestByAll 28 = .ok (.ireturn, 1) := dk_172 (dk_at dksX3_bestByAll_1 4 rfl rfl)
theorem dX3_bestByAll_29 : decode cX3_bestByAll 29 = .ok (.aload_n 0, 1) := dk_42 (dk_at dksX3_bestByAll_1 5 rfl rfl)
theorem dX3_bestByAll_30 : decode cX3_bestByAll 30 = .ok (.getfield 22, 3) := dk_180 0 22 (dk_at dksX3_bestByAll_1 6 rfl rfl)
theorem dX3_bestByAll_33 : decode cX3_bestByAll 33 = .ok (.iconst 1, 1) := dk_4 (dk_at dksX3_bestByAll_1 9 rfl rfl)
theorem dX3_bestByAll_34 : decode cX3_bestByAll 34 = .ok (.iaload, 1) := dk_46 (dk_at dksX3_bestByAll_1 10 rfl rfl)
theorem dX3_bestByAll_35 : decode cX3_bestByAll 35 = .ok (.istore_n 1, 1) := dk_60 (dk_at dksX3_bestByAll_1 11 rfl rfl)
theorem dX3_bestByAll_36 : decode cX3_bestByAll 36 = .ok (.aload_n 0, 1) := dk_42 (dk_at dksX3_bestByAll_1 12 rfl rfl)
theorem dX3_bestByAll_37 : decode cX3_bestByAll 37 = .ok (.getfield 22, 3) := dk_180 0 22 (dk_at dksX3_bestByAll_1 13 rfl rfl)
theorem dX3_bestByAll_40 : decode cX3_bestByAll 40 = .ok (.iconst 2, 1) := dk_5 (dk_at dksX3_bestByAll_1 16 rfl rfl)
theorem dX3_bestByAll_41 : decode cX3_bestByAll 41 = .ok (.iaload, 1) := dk_46 (dk_at dksX3_bestByAll_1 17 rfl rfl)
theorem dX3_bestByAll_42 : decode cX3_bestByAll 42 = .ok (.istore_n 2, 1) := dk_61 (dk_at dksX3_bestByAll_1 18 rfl rfl)
theorem dX3_bestByAll_43 : decode cX3_bestByAll 43 = .ok (.iconst 0, 1) := dk_3 (dk_at dksX3_bestByAll_1 19 rfl rfl)
theorem dX3_bestByAll_44 : decode cX3_bestByAll 44 = .ok (.istore_n 3, 1) := dk_62 (dk_at dksX3_bestByAll_1 20 rfl rfl)
theorem dX3_bestByAll_45 : decode cX3_bestByAll 45 = .ok (.iconst 0, 1) := dk_3 (dk_at dksX3_bestByAll_1 21 rfl rfl)
theorem dX3_bestByAll_46 : decode cX3_bestByAll 46 = .ok (.istore 4, 2) := dk_54 4 (dk_at dksX3_bestByAll_1 22 rfl rfl)
theorem dX3_bestByAll_48 : decode cX3_bestByAll 48 = .ok (.iload 4, 2) := dk_21 4 (dk_at dksX3_bestByAll_2 0 rfl rfl)
theorem dX3_bestByAll_50 : decode cX3_bestByAll 50 = .ok (.aload_n 0, 1) := dk_42 (dk_at dksX3_bestByAll_2 2 rfl rfl)
theorem dX3_bestByAll_51 : decode cX3_bestByAll 51 = .ok (.getfield 83, 3) := dk_180 0 83 (dk_at dksX3_bestByAll_2 3 rfl rfl)
theorem dX3_bestByAll_54 : decode cX3_bestByAll 54 = .ok (.aload_n 0, 1) := dk_42 (dk_at dksX3_bestByAll_2 6 rfl rfl)
theorem dX3_bestByAll_55 : decode cX3_bestByAll 55 = .ok (.getfield 76, 3) := dk_180 0 76 (dk_at dksX3_bestByAll_2 7 rfl rfl)
theorem dX3_bestByAll_58 : decode cX3_bestByAll 58 = .ok (.iconst 3, 1) := dk_6 (dk_at dksX3_bestByAll_2 10 rfl rfl)
theorem dX3_bestByAll_59 : decode cX3_bestByAll 59 = .ok (.if_icmp .ne 10, 3) := dk_160 0 10 (dk_at dksX3_bestByAll_2 11 rfl rfl)
theorem dX3_bestByAll_62 : decode cX3_bestByAll 62 = .ok (.aload_n 0, 1) := dk_42 (dk_at dksX3_bestByAll_2 14 rfl rfl)
theorem dX3_bestByAll_63 : decode cX3_bestByAll 63 = .ok (.getfield 83, 3) := dk_180 0 83 (dk_at dksX3_bestByAll_2 15 rfl rfl)
theorem dX3_bestByAll_66 : decode cX3_bestByAll 66 = .ok (.goto 4, 3) := dk_167 0 4 (dk_at dksX3_bestByAll_2 18 rfl rfl)
theorem dX3_bestByAll_69 : decode cX3_bestByAll 69 = .ok (.iconst 1, 1) := dk_4 (dk_at dksX3_bestByAll_2 21 rfl rfl)
theorem dX3_bestByAll_70 : decode cX3_bestByAll 70 = .ok (.imul, 1) := dk_104 (dk_at dksX3_bestByAll_2 22 rfl rfl)
theorem dX3_bestByAll_71 : decode cX3_bestByAll 71 = .ok (.if_icmp .ge 54, 3) := dk_162 0 54 (dk_at dksX3_bestByAll_3 0 rfl rfl)
theorem dX3_bestByAll_74 : decode cX3_bestByAll 74 = .ok (.aload_n 0, 1) := dk_42 (dk_at dksX3_bestByAll_3 3 rfl rfl)
theorem dX3_bestByAll_75 : decode cX3_bestByAll 75 = .ok (.getfield 22, 3) := dk_180 0 22 (dk_at dksX3_bestByAll_3 4 rfl rfl)
theorem dX3_bestByAll_78 : decode cX3_bestByAll 78 = .ok (.iconst 1, 1) := dk_4 (dk_at dksX3_bestByAll_3 7 rfl rfl)
theorem dX3_bestByAll_79 : decode cX3_bestByAll 79 = .ok (.iload 4, 2) := dk_21 4 (dk_at dksX3_bestByAll_3 8 rfl rfl)
theorem dX3_bestByAll_81 : decode cX3_bestByAll 81 = .ok (.aload_n 0, 1) := dk_42 (dk_at dksX3_bestByAll_3 10 rfl rfl)
theorem dX3_bestByAll_82 : decode cX3_bestByAll 82 = .ok (.getfield 83, 3) := dk_180 0 83 (dk_at dksX3_bestByAll_3 11 rfl rfl)
theorem dX3_bestByAll_85 : decode cX3_bestByAll 85 = .ok (.irem, 1) := dk_112 (dk_at dksX3_bestByAll_3 14 rfl rfl)
theorem dX3_bestByAll_86 : decode cX3_bestByAll 86 = .ok (.iastore, 1) := dk_79 (dk_at dksX3_bestByAll_3 15 rfl rfl)
theorem dX3_bestByAll_87 : decode cX3_bestByAll 87 = .ok (.aload_n 0, 1) := dk_42 (dk_at dksX3_bestByAll_3 16 rfl rfl)
theorem dX3_bestByAll_88 : decode cX3_bestByAll 88 = .ok (.getfield 22, 3) := dk_180 0 22 (dk_at dksX3_bestByAll_3 17 rfl rfl)
theorem dX3_bestByAll_91 : decode cX3_bestByAll 91 = .ok (.iconst 2, 1) := dk_5 (dk_at dksX3_bestByAll_3 20 rfl rfl)
theorem dX3_bestByAll_92 : decode cX3_bestByAll 92 = .ok (.iload 4, 2) := dk_21 4 (dk_at dksX3_bestByAll_3 21 rfl rfl)
theorem dX3_bestByAll_94 : decode cX3_bestByAll 94 = .ok (.aload_n 0, 1) := dk_42 (dk_at dksX3_bestByAll_3 23 rfl rfl)
theorem dX3_bestByAll_95 : decode cX3_bestByAll 95 = .ok (.getfield 83, 3) := dk_180 0 83 (dk_at dksX3_bestByAll_4 0 rfl rfl)
theorem dX3_bestByAll_98 : decode cX3_bestByAll 98 = .ok (.idiv, 1) := dk_108 (dk_at dksX3_bestByAll_4 3 rfl rfl)
theorem dX3_bestByAll_99 : decode cX3_bestByAll 99 = .ok (.iastore, 1) := dk_79 (dk_at dksX3_bestByAll_4 4 rfl rfl)
theorem dX3_bestByAll_100 : decode cX3_bestByAll 100 = .ok (.aload_n 0, 1) := dk_42 (dk_at dksX3_bestByAll_4 5 rfl rfl)
theorem dX3_bestByAll_101 : decode cX3_bestByAll 101 = .ok (.invokevirtual 170, 3) := dk_182 0 170 (dk_at dksX3_bestByAll_4 6 rfl rfl)
theorem dX3_bestByAll_104 : decode cX3_bestByAll 104 = .ok (.istore 5, 2) := dk_54 5 (dk_at dksX3_bestByAll_4 9 rfl rfl)
theorem dX3_bestByAll_106 : decode cX3_bestByAll 106 = .ok (.iload 5, 2) := dk_21 5 (dk_at dksX3_bestByAll_4 11 rfl rfl)
theorem dX3_bestByAll_108 : decode cX3_bestByAll 108 = .ok (.iload_n 3, 1) := dk_29 (dk_at dksX3_bestByAll_4 13 rfl rfl)
theorem dX3_bestByAll_109 : decode cX3_bestByAll 109 = .ok (.if_icmp .le 8, 3) := dk_164 0 8 (dk_at dksX3_bestByAll_4 14 rfl rfl)
theorem dX3_bestByAll_112 : decode cX3_bestByAll 112 = .ok (.iload 5, 2) := dk_21 5 (dk_at dksX3_bestByAll_4 17 rfl rfl)
theorem dX3_bestByAll_114 : decode cX3_bestByAll 114 = .ok (.goto 4, 3) := dk_167 0 4 (dk_at dksX3_bestByAll_4 19 rfl rfl)
theorem dX3_bestByAll_117 : decode cX3_bestByAll 117 = .ok (.iload_n 3, 1) := dk_29 (dk_at dksX3_bestByAll_4 22 rfl rfl)
theorem dX3_bestByAll_118 : decode cX3_bestByAll 118 = .ok (.istore_n 3, 1) := dk_62 (dk_at dksX3_bestByAll_4 23 rfl rfl)
theorem dX3_bestByAll_119 : decode cX3_bestByAll 119 = .ok (.iinc 4 1, 3) := dk_132 4 1 (dk_at dksX3_bestByAll_5 0 rfl rfl)
theorem dX3_bestByAll_122 : decode cX3_bestByAll 122 = .ok (.goto (-74), 3) := dk_167 255 182 (dk_at dksX3_bestByAll_5 3 rfl rfl)
theorem dX3_bestByAll_125 : decode cX3_bestByAll 125 = .ok (.aload_n 0, 1) := dk_42 (dk_at dksX3_bestByAll_5 6 rfl rfl)
theorem dX3_bestByAll_126 : decode cX3_bestByAll 126 = .ok (.getfield 22, 3) := dk_180 0 22 (dk_at dksX3_bestByAll_5 7 rfl rfl)
theorem dX3_bestByAll_129 : decode cX3_bestByAll 129 = .ok (.iconst 1, 1) := dk_4 (dk_at dksX3_bestByAll_5 10 rfl rfl)
theorem dX3_bestByAll_130 : decode cX3_bestByAll 130 = .ok (.iload_n 1, 1) := dk_27 (dk_at dksX3_bestByAll_5 11 rfl rfl)
theorem dX3_bestByAll_131 : decode cX3_bestByAll 131 = .ok (.iastore, 1) := dk_79 (dk_at dksX3_bestByAll_5 12 rfl rfl)
theorem dX3_bestByAll_132 : decode cX3_bestByAll 132 = .ok (.aload_n 0, 1) := dk_42 (dk_at dksX3_bestByAll_5 13 rfl rfl)
theorem dX3_bestByAll_133 : decode cX3_bestByAll 133 = .ok (.getfield 22, 3) := dk_180 0 22 (dk_at dksX3_bestByAll_5 14 rfl rfl)
theorem dX3_bestByAll_136 : decode cX3_bestByAll 136 = .ok (.iconst 2, 1) := dk_5 (dk_at dksX3_bestByAll_5 17 rfl rfl)
theorem dX3_bestByAll_137 : decode cX3_bestByAll 137 = .ok (.iload_n 2, 1) := dk_28 (dk_at dksX3_bestByAll_5 18 rfl rfl)
theorem dX3_bestByAll_138 : decode cX3_bestByAll 138 = .ok (.iastore, 1) := dk_79 (dk_at dksX3_bestByAll_5 19 rfl rfl)
theorem dX3_bestByAll_139 : decode cX3_bestByAll 139 = .ok (.iload_n 3, 1) := dk_29 (dk_at dksX3_bestByAll_5 20 rfl rfl)
theorem dX3_bestByAll_140 : decode cX3_bestByAll 140 = .ok (.ireturn, 1) := dk_172 (dk_at dksX3_bestByAll_5 21 rfl rfl)
abbrev cX3_run : ByteArray := prog_4_method_50_code
def yX3_run : MethodName := ⟨RX3, "run", "(I)I"⟩
def dkwX3_run_5 : List UInt8 := [132, 3, 1, 167, 255, 196, 42, 180, 0, 99, 28, 100, 172]
abbrev dktX3_run_5 : List UInt8 := dkwX3_run_5 ++ []
def dkwX3_run_4 : List UInt8 := [42, 21, 4, 182, 0, 201, 132, 4, 1, 167, 255, 220, 42, 89, 180, 0, 90, 4, 96, 181, 0, 90]
abbrev dktX3_run_4 : List UInt8 := dkwX3_run_4 ++ dktX3_run_5
def dkwX3_run_3 : List UInt8 := [180, 0, 76, 162, 0, 33, 21, 4, 154, 0, 10, 42, 182, 0, 195, 167, 0, 9, 42, 21, 4, 182, 0, 198]
abbrev dktX3_run_3 : List UInt8 := dkwX3_run_3 ++ dktX3_run_4
def dkwX3_run_2 : List UInt8 := [42, 4, 181, 0, 86, 42, 180, 0, 99, 61, 3, 62, 29, 27, 162, 0, 61, 3, 54, 4, 21, 4, 42]
abbrev dktX3_run_2 : List UInt8 := dkwX3_run_2 ++ dktX3_run_3
def dkwX3_run_1 : List UInt8 := [180, 0, 90, 27, 96, 17, 28, 32, 164, 0, 7, 5, 167, 0, 4, 3, 182, 0, 102, 154, 0, 5, 3, 172]
abbrev dktX3_run_1 : List UInt8 := dkwX3_run_1 ++ dktX3_run_2
def dkwX3_run_0 : List UInt8 := [42, 27, 4, 17, 2, 88, 184, 0, 79, 154, 0, 7, 4, 167, 0, 27, 42, 182, 0, 174, 153, 0, 15, 42]
abbrev dktX3_run_0 : List UInt8 := dkwX3_run_0 ++ dktX3_run_1
theorem dksX3_run_0 : cX3_run.data.toList.drop 0 = dktX3_run_0 := by decide +kernel
theorem dksX3_run_1 : cX3_run.data.toList.drop 24 = dktX3_run_1 := dk_seg dksX3_run_0 24 rfl rfl
theorem dksX3_run_2 : cX3_run.data.toList.drop 48 = dktX3_run_2 := dk_seg dksX3_run_1 24 rfl rfl
theorem dksX3_run_3 : cX3_run.data.toList.drop 71 = dktX3_run_3 := dk_seg dksX3_run_2 23 rfl rfl
theorem dksX3_run_4 : cX3_run.data.toList.drop 95 = dktX3_run_4 := dk_seg dksX3_run_3 24 rfl rfl
theorem dksX3_run_5 : cX3_run.data.toList.drop 117 = dktX3_run_5 := dk_seg dksX3_run_4 22 rfl rfl
theorem dX3_run_0 : decode cX3_run 0 = .ok (.aload_n 0, 1) := dk_42 (dk_at dksX3_run_0 0 rfl rfl)
theorem dX3_run_1 : decode cX3_run 1 = .ok (.iload_n 1, 1) := dk_27 (dk_at dksX3_run_0 1 rfl rfl)
theorem dX3_run_2 : decode cX3_run 2 = .ok (.iconst 1, 1) := dk_4 (dk_at dksX3_run_0 2 rfl rfl)
theorem dX3_run_3 : decode cX3_run 3 = .ok (.sipush 600, 3) := dk_17 2 88 (dk_at dksX3_run_0 3 rfl rfl)
theorem dX3_run_6 : decode cX3_run 6 = .ok (.invokestatic 79, 3) := dk_184 0 79 (dk_at dksX3_run_0 6 rfl rfl)
theorem dX3_run_9 : decode cX3_run 9 = .ok (.ifCond .ne 7, 3) := dk_154 0 7 (dk_at dksX3_run_0 9 rfl rfl)
theorem dX3_run_12 : decode cX3_run 12 = .ok (.iconst 1, 1) := dk_4 (dk_at dksX3_run_0 12 rfl rfl)
theorem dX3_run_13 : decode cX3_run 13 = .ok (.goto 27, 3) := dk_167 0 27 (dk_at dksX3_run_0 13 rfl rfl)
theorem dX3_run_16 : decode cX3_run 16 = .ok (.aload_n 0, 1) := dk_42 (dk_at dksX3_run_0 16 rfl rfl)
theorem dX3_run_17 : decode cX3_run 17 = .ok (.invokevirtual 174, 3) := dk_182 0 174 (dk_at dksX3_run_0 17 rfl rfl)
theorem dX3_run_20 : decode cX3_run 20 = .ok (.ifCond .eq 15, 3) := dk_153 0 15 (dk_at dksX3_run_0 20 rfl rfl)
theorem dX3_run_23 : decode cX3_run 23 = .ok (.aload_n 0, 1) := dk_42 (dk_at dksX3_run_0 23 rfl rfl)
theorem dX3_run_24 : decode cX3_run 24 = .ok (.getfield 90, 3) := dk_180 0 90 (dk_at dksX3_run_1 0 rfl rfl)
theorem dX3_run_27 : decode cX3_run 27 = .ok (.iload_n 1, 1) := dk_27 (dk_at dksX3_run_1 3 rfl rfl)
theorem dX3_run_28 : decode cX3_run 28 = .ok (.iadd, 1) := dk_96 (dk_at dksX3_run_1 4 rfl rfl)
theorem dX3_run_29 : decode cX3_run 29 = .ok (.sipush 7200, 3) := dk_17 28 32 (dk_at dksX3_run_1 5 rfl rfl)
theorem dX3_run_32 : decode cX3_run 32 = .ok (.if_icmp .le 7, 3) := dk_164 0 7 (dk_at dksX3_run_1 8 rfl rfl)
theorem dX3_run_35 : decode cX3_run 35 = .ok (.iconst 2, 1) := dk_5 (dk_at dksX3_run_1 11 rfl rfl)
theorem dX3_run_36 : decode cX3_run 36 = .ok (.goto 4, 3) := dk_167 0 4 (dk_at dksX3_run_1 12 rfl rfl)
theorem dX3_run_39 : decode cX3_run 39 = .ok (.iconst 0, 1) := dk_3 (dk_at dksX3_run_1 15 rfl rfl)
theorem dX3_run_40 : decode cX3_run 40 = .ok (.invokevirtual 102, 3) := dk_182 0 102 (dk_at dksX3_run_1 16 rfl rfl)
theorem dX3_run_43 : decode cX3_run 43 = .ok (.ifCond .ne 5, 3) := dk_154 0 5 (dk_at dksX3_run_1 19 rfl rfl)
theorem dX3_run_46 : decode cX3_run 46 = .ok (.iconst 0, 1) := dk_3 (dk_at dksX3_run_1 22 rfl rfl)
theorem dX3_run_47 : decode cX3_run 47 = .ok (.ireturn, 1) := dk_172 (dk_at dksX3_run_1 23 rfl rfl)
theorem dX3_run_48 : decode cX3_run 48 = .ok (.aload_n 0, 1) := dk_42 (dk_at dksX3_run_2 0 rfl rfl)
theorem dX3_run_49 : decode cX3_run 49 = .ok (.iconst 1, 1) := dk_4 (dk_at dksX3_run_2 1 rfl rfl)
theorem dX3_run_50 : decode cX3_run 50 = .ok (.putfield 86, 3) := dk_181 0 86 (dk_at dksX3_run_2 2 rfl rfl)
theorem dX3_run_53 : decode cX3_run 53 = .ok (.aload_n 0, 1) := dk_42 (dk_at dksX3_run_2 5 rfl rfl)
theorem dX3_run_54 : decode cX3_run 54 = .ok (.getfield 99, 3) := dk_180 0 99 (dk_at dksX3_run_2 6 rfl rfl)
theorem dX3_run_57 : decode cX3_run 57 = .ok (.istore_n 2, 1) := dk_61 (dk_at dksX3_run_2 9 rfl rfl)
theorem dX3_run_58 : decode cX3_run 58 = .ok (.iconst 0, 1) := dk_3 (dk_at dksX3_run_2 10 rfl rfl)
theorem dX3_run_59 : decode cX3_run 59 = .ok (.istore_n 3, 1) := dk_62 (dk_at dksX3_run_2 11 rfl rfl)
theorem dX3_run_60 : decode cX3_run 60 = .ok (.iload_n 3, 1) := dk_29 (dk_at dksX3_run_2 12 rfl rfl)
theorem dX3_run_61 : decode cX3_run 61 = .ok (.iload_n 1, 1) := dk_27 (dk_at dksX3_run_2 13 rfl rfl)
theorem dX3_run_62 : decode cX3_run 62 = .ok (.if_icmp .ge 61, 3) := dk_162 0 61 (dk_at dksX3_run_2 14 rfl rfl)
theorem dX3_run_65 : decode cX3_run 65 = .ok (.iconst 0, 1) := dk_3 (dk_at dksX3_run_2 17 rfl rfl)
theorem dX3_run_66 : decode cX3_run 66 = .ok (.istore 4, 2) := dk_54 4 (dk_at dksX3_run_2 18 rfl rfl)
theorem dX3_run_68 : decode cX3_run 68 = .ok (.iload 4, 2) := dk_21 4 (dk_at dksX3_run_2 20 rfl rfl)
theorem dX3_run_70 : decode cX3_run 70 = .ok (.aload_n 0, 1) := dk_42 (dk_at dksX3_run_2 22 rfl rfl)
theorem dX3_run_71 : decode cX3_run 71 = .ok (.getfield 76, 3) := dk_180 0 76 (dk_at dksX3_run_3 0 rfl rfl)
theorem dX3_run_74 : decode cX3_run 74 = .ok (.if_icmp .ge 33, 3) := dk_162 0 33 (dk_at dksX3_run_3 3 rfl rfl)
theorem dX3_run_77 : decode cX3_run 77 = .ok (.iload 4, 2) := dk_21 4 (dk_at dksX3_run_3 6 rfl rfl)
theorem dX3_run_79 : decode cX3_run 79 = .ok (.ifCond .ne 10, 3) := dk_154 0 10 (dk_at dksX3_run_3 8 rfl rfl)
theorem dX3_run_82 : decode cX3_run 82 = .ok (.aload_n 0, 1) := dk_42 (dk_at dksX3_run_3 11 rfl rfl)
theorem dX3_run_83 : decode cX3_run 83 = .ok (.invokevirtual 195, 3) := dk_182 0 195 (dk_at dksX3_run_3 12 rfl rfl)
theorem dX3_run_86 : decode cX3_run 86 = .ok (.goto 9, 3) := dk_167 0 9 (dk_at dksX3_run_3 15 rfl rfl)
theorem dX3_run_89 : decode cX3_run 89 = .ok (.aload_n 0, 1) := dk_42 (dk_at dksX3_run_3 18 rfl rfl)
theorem dX3_run_90 : decode cX3_run 90 = .ok (.iload 4, 2) := dk_21 4 (dk_at dksX3_run_3 19 rfl rfl)
theorem dX3_run_92 : decode cX3_run 92 = .ok (.invokevirtual 198, 3) := dk_182 0 198 (dk_at dksX3_run_3 21 rfl rfl)
theorem dX3_run_95 : decode cX3_run 95 = .ok (.aload_n 0, 1) := dk_42 (dk_at dksX3_run_4 0 rfl rfl)
theorem dX3_run_96 : decode cX3_run 96 = .ok (.iload 4, 2) := dk_21 4 (dk_at dksX3_run_4 1 rfl rfl)
theorem dX3_run_98 : decode cX3_run 98 = .ok (.invokevirtual 201, 3) := dk_182 0 201 (dk_at dksX3_run_4 3 rfl rfl)
theorem dX3_run_101 : decode cX3_run 101 = .ok (.iinc 4 1, 3) := dk_132 4 1 (dk_at dksX3_run_4 6 rfl rfl)
theorem dX3_run_104 : decode cX3_run 104 = .ok (.goto (-36), 3) := dk_167 255 220 (dk_at dksX3_run_4 9 rfl rfl)
theorem dX3_run_107 : decode cX3_run 107 = .ok (.aload_n 0, 1) := dk_42 (dk_at dksX3_run_4 12 rfl rfl)
theorem dX3_run_108 : decode cX3_run 108 = .ok (.dup, 1) := dk_89 (dk_at dksX3_run_4 13 rfl rfl)
theorem dX3_run_109 : decode cX3_run 109 = .ok (.getfield 90, 3) := dk_180 0 90 (dk_at dksX3_run_4 14 rfl rfl)
theorem dX3_run_112 : decode cX3_run 112 = .ok (.iconst 1, 1) := dk_4 (dk_at dksX3_run_4 17 rfl rfl)
theorem dX3_run_113 : decode cX3_run 113 = .ok (.iadd, 1) := dk_96 (dk_at dksX3_run_4 18 rfl rfl)
theorem dX3_run_114 : decode cX3_run 114 = .ok (.putfield 90, 3) := dk_181 0 90 (dk_at dksX3_run_4 19 rfl rfl)
theorem dX3_run_117 : decode cX3_run 117 = .ok (.iinc 3 1, 3) := dk_132 3 1 (dk_at dksX3_run_5 0 rfl rfl)
theorem dX3_run_120 : decode cX3_run 120 = .ok (.goto (-60), 3) := dk_167 255 196 (dk_at dksX3_run_5 3 rfl rfl)
theorem dX3_run_123 : decode cX3_run 123 = .ok (.aload_n 0, 1) := dk_42 (dk_at dksX3_run_5 6 rfl rfl)
theorem dX3_run_124 : decode cX3_run 124 = .ok (.getfield 99, 3) := dk_180 0 99 (dk_at dksX3_run_5 7 rfl rfl)
theorem dX3_run_127 : decode cX3_run 127 = .ok (.iload_n 2, 1) := dk_28 (dk_at dksX3_run_5 10 rfl rfl)
theorem dX3_run_128 : decode cX3_run 128 = .ok (.isub, 1) := dk_100 (dk_at dksX3_run_5 11 rfl rfl)
theorem dX3_run_129 : decode cX3_run 129 = .ok (.ireturn, 1) := dk_172 (dk_at dksX3_run_5 12 rfl rfl)
abbrev cX3_arrives : ByteArray := prog_4_method_47_code
def yX3_arrives : MethodName := ⟨RX3, "arrives", "()V"⟩
def dkwX3_arrives_2 : List UInt8 := [181, 0, 96, 42, 180, 0, 41, 3, 92, 46, 4, 96, 79, 177]
abbrev dktX3_arrives_2 : List UInt8 := dkwX3_arrives_2 ++ []
def dkwX3_arrives_1 : List UInt8 := [161, 0, 35, 42, 89, 180, 0, 93, 17, 14, 16, 100, 181, 0, 93, 42, 89, 180, 0, 96, 4, 96]
abbrev dktX3_arrives_1 : List UInt8 := dkwX3_arrives_1 ++ dktX3_arrives_2
def dkwX3_arrives_0 : List UInt8 := [42, 89, 180, 0, 93, 42, 180, 0, 19, 3, 46, 96, 181, 0, 93, 42, 180, 0, 93, 17, 14, 16]
abbrev dktX3_arrives_0 : List UInt8 := dkwX3_arrives_0 ++ dktX3_arrives_1
theorem dksX3_arrives_0 : cX3_arrives.data.toList.drop 0 = dktX3_arrives_0 := by decide +kernel
theorem dksX3_arrives_1 : cX3_arrives.data.toList.drop 22 = dktX3_arrives_1 := dk_seg dksX3_arrives_0 22 rfl rfl
theorem dksX3_arrives_2 : cX3_arrives.data.toList.drop 44 = dktX3_arrives_2 := dk_seg dksX3_arrives_1 22 rfl rfl
theorem dX3_arrives_0 : decode cX3_arrives 0 = .ok (.aload_n 0, 1) := dk_42 (dk_at dksX3_arrives_0 0 rfl rfl)
theorem dX3_arrives_1 : decode cX3_arrives 1 = .ok (.dup, 1) := dk_89 (dk_at dksX3_arrives_0 1 rfl rfl)
theorem dX3_arrives_2 : decode cX3_arrives 2 = .ok (.getfield 93, 3) := dk_180 0 93 (dk_at dksX3_arrives_0 2 rfl rfl)
theorem dX3_arrives_5 : decode cX3_arrives 5 = .ok (.aload_n 0, 1) := dk_42 (dk_at dksX3_arrives_0 5 rfl rfl)
theorem dX3_arrives_6 : decode cX3_arrives 6 = .ok (.getfield 19, 3) := dk_180 0 19 (dk_at dksX3_arrives_0 6 rfl rfl)
theorem dX3_arrives_9 : decode cX3_arrives 9 = .ok (.iconst 0, 1) := dk_3 (dk_at dksX3_arrives_0 9 rfl rfl)
theorem dX3_arrives_10 : decode cX3_arrives 10 = .ok (.iaload, 1) := dk_46 (dk_at dksX3_arrives_0 10 rfl rfl)
theorem dX3_arrives_11 : decode cX3_arrives 11 = .ok (.iadd, 1) := dk_96 (dk_at dksX3_arrives_0 11 rfl rfl)
theorem dX3_arrives_12 : decode cX3_arrives 12 = .ok (.putfield 93, 3) := dk_181 0 93 (dk_at dksX3_arrives_0 12 rfl rfl)
theorem dX3_arrives_15 : decode cX3_arrives 15 = .ok (.aload_n 0, 1) := dk_42 (dk_at dksX3_arrives_0 15 rfl rfl)
theorem dX3_arrives_16 : decode cX3_arrives 16 = .ok (.getfield 93, 3) := dk_180 0 93 (dk_at dksX3_arrives_0 16 rfl rfl)
theorem dX3_arrives_19 : decode cX3_arrives 19 = .ok (.sipush 3600, 3) := dk_17 14 16 (dk_at dksX3_arrives_0 19 rfl rfl)
theorem dX3_arrives_22 : decode cX3_arrives 22 = .ok (.if_icmp .lt 35, 3) := dk_161 0 35 (dk_at dksX3_arrives_1 0 rfl rfl)
theorem dX3_arrives_25 : decode cX3_arrives 25 = .ok (.aload_n 0, 1) := dk_42 (dk_at dksX3_arrives_1 3 rfl rfl)
theorem dX3_arrives_26 : decode cX3_arrives 26 = .ok (.dup, 1) := dk_89 (dk_at dksX3_arrives_1 4 rfl rfl)
theorem dX3_arrives_27 : decode cX3_arrives 27 = .ok (.getfield 93, 3) := dk_180 0 93 (dk_at dksX3_arrives_1 5 rfl rfl)
theorem dX3_arrives_30 : decode cX3_arrives 30 = .ok (.sipush 3600, 3) := dk_17 14 16 (dk_at dksX3_arrives_1 8 rfl rfl)
theorem dX3_arrives_33 : decode cX3_arrives 33 = .ok (.isub, 1) := dk_100 (dk_at dksX3_arrives_1 11 rfl rfl)
theorem dX3_arrives_34 : decode cX3_arrives 34 = .ok (.putfield 93, 3) := dk_181 0 93 (dk_at dksX3_arrives_1 12 rfl rfl)
theorem dX3_arrives_37 : decode cX3_arrives 37 = .ok (.aload_n 0, 1) := dk_42 (dk_at dksX3_arrives_1 15 rfl rfl)
theorem dX3_arrives_38 : decode cX3_arrives 38 = .ok (.dup, 1) := dk_89 (dk_at dksX3_arrives_1 16 rfl rfl)
theorem dX3_arrives_39 : decode cX3_arrives 39 = .ok (.getfield 96, 3) := dk_180 0 96 (dk_at dksX3_arrives_1 17 rfl rfl)
theorem dX3_arrives_42 : decode cX3_arrives 42 = .ok (.iconst 1, 1) := dk_4 (dk_at dksX3_arrives_1 20 rfl rfl)
theorem dX3_arrives_43 : decode cX3_arrives 43 = .ok (.iadd, 1) := dk_96 (dk_at dksX3_arrives_1 21 rfl rfl)
theorem dX3_arrives_44 : decode cX3_arrives 44 = .ok (.putfield 96, 3) := dk_181 0 96 (dk_at dksX3_arrives_2 0 rfl rfl)
theorem dX3_arrives_47 : decode cX3_arrives 47 = .ok (.aload_n 0, 1) := dk_42 (dk_at dksX3_arrives_2 3 rfl rfl)
theorem dX3_arrives_48 : decode cX3_arrives 48 = .ok (.getfield 41, 3) := dk_180 0 41 (dk_at dksX3_arrives_2 4 rfl rfl)
theorem dX3_arrives_51 : decode cX3_arrives 51 = .ok (.iconst 0, 1) := dk_3 (dk_at dksX3_arrives_2 7 rfl rfl)
theorem dX3_arrives_52 : decode cX3_arrives 52 = .ok (.dup2, 1) := dk_92 (dk_at dksX3_arrives_2 8 rfl rfl)
theorem dX3_arrives_53 : decode cX3_arrives 53 = .ok (.iaload, 1) := dk_46 (dk_at dksX3_arrives_2 9 rfl rfl)
theorem dX3_arrives_54 : decode cX3_arrives 54 = .ok (.iconst 1, 1) := dk_4 (dk_at dksX3_arrives_2 10 rfl rfl)
theorem dX3_arrives_55 : decode cX3_arrives 55 = .ok (.iadd, 1) := dk_96 (dk_at dksX3_arrives_2 11 rfl rfl)
theorem dX3_arrives_56 : decode cX3_arrives 56 = .ok (.iastore, 1) := dk_79 (dk_at dksX3_arrives_2 12 rfl rfl)
theorem dX3_arrives_57 : decode cX3_arrives 57 = .ok (.return_, 1) := dk_177 (dk_at dksX3_arrives_2 13 rfl rfl)
abbrev cX3_joins : ByteArray := prog_4_method_46_code
def yX3_joins : MethodName := ⟨RX3, "joins", "(I)V"⟩
def dkwX3_joins_3 : List UInt8 := [4, 96, 46, 79, 132, 3, 1, 167, 255, 219, 42, 180, 0, 41, 27, 92, 46, 4, 96, 79, 167, 255, 169, 177]
abbrev dktX3_joins_3 : List UInt8 := dkwX3_joins_3 ++ []
def dkwX3_joins_2 : List UInt8 := [46, 162, 0, 33, 42, 180, 0, 50, 16, 40, 28, 104, 29, 96, 42, 180, 0, 50, 16, 40, 28, 104, 29, 96]
abbrev dktX3_joins_2 : List UInt8 := dkwX3_joins_2 ++ dktX3_joins_3
def dkwX3_joins_1 : List UInt8 := [180, 0, 90, 160, 0, 68, 42, 180, 0, 47, 28, 92, 46, 4, 100, 79, 3, 62, 29, 42, 180, 0, 47, 28]
abbrev dktX3_joins_1 : List UInt8 := dkwX3_joins_1 ++ dktX3_joins_2
def dkwX3_joins_0 : List UInt8 := [27, 4, 100, 61, 42, 180, 0, 47, 28, 46, 158, 0, 84, 42, 180, 0, 50, 16, 40, 28, 104, 46, 42]
abbrev dktX3_joins_0 : List UInt8 := dkwX3_joins_0 ++ dktX3_joins_1
theorem dksX3_joins_0 : cX3_joins.data.toList.drop 0 = dktX3_joins_0 := by decide +kernel
theorem dksX3_joins_1 : cX3_joins.data.toList.drop 23 = dktX3_joins_1 := dk_seg dksX3_joins_0 23 rfl rfl
theorem dksX3_joins_2 : cX3_joins.data.toList.drop 47 = dktX3_joins_2 := dk_seg dksX3_joins_1 24 rfl rfl
theorem dksX3_joins_3 : cX3_joins.data.toList.drop 71 = dktX3_joins_3 := dk_seg dksX3_joins_2 24 rfl rfl
theorem dX3_joins_0 : decode cX3_joins 0 = .ok (.iload_n 1, 1) := dk_27 (dk_at dksX3_joins_0 0 rfl rfl)
theorem dX3_joins_1 : decode cX3_joins 1 = .ok (.iconst 1, 1) := dk_4 (dk_at dksX3_joins_0 1 rfl rfl)
theorem dX3_joins_2 : decode cX3_joins 2 = .ok (.isub, 1) := dk_100 (dk_at dksX3_joins_0 2 rfl rfl)
theorem dX3_joins_3 : decode cX3_joins 3 = .ok (.istore_n 2, 1) := dk_61 (dk_at dksX3_joins_0 3 rfl rfl)
theorem dX3_joins_4 : decode cX3_joins 4 = .ok (.aload_n 0, 1) := dk_42 (dk_at dksX3_joins_0 4 rfl rfl)
theorem dX3_joins_5 : decode cX3_joins 5 = .ok (.getfield 47, 3) := dk_180 0 47 (dk_at dksX3_joins_0 5 rfl rfl)
theorem dX3_joins_8 : decode cX3_joins 8 = .ok (.iload_n 2, 1) := dk_28 (dk_at dksX3_joins_0 8 rfl rfl)
theorem dX3_joins_9 : decode cX3_joins 9 = .ok (.iaload, 1) := dk_46 (dk_at dksX3_joins_0 9 rfl rfl)
theorem dX3_joins_10 : decode cX3_joins 10 = .ok (.ifCond .le 84, 3) := dk_158 0 84 (dk_at dksX3_joins_0 10 rfl rfl)
theorem dX3_joins_13 : decode cX3_joins 13 = .ok (.aload_n 0, 1) := dk_42 (dk_at dksX3_joins_0 13 rfl rfl)
theorem dX3_joins_14 : decode cX3_joins 14 = .ok (.getfield 50, 3) := dk_180 0 50 (dk_at dksX3_joins_0 14 rfl rfl)
theorem dX3_joins_17 : decode cX3_joins 17 = .ok (.bipush 40, 2) := dk_16 40 (dk_at dksX3_joins_0 17 rfl rfl)
theorem dX3_joins_19 : decode cX3_joins 19 = .ok (.iload_n 2, 1) := dk_28 (dk_at dksX3_joins_0 19 rfl rfl)
theorem dX3_joins_20 : decode cX3_joins 20 = .ok (.imul, 1) := dk_104 (dk_at dksX3_joins_0 20 rfl rfl)
theorem dX3_joins_21 : decode cX3_joins 21 = .ok (.iaload, 1) := dk_46 (dk_at dksX3_joins_0 21 rfl rfl)
theorem dX3_joins_22 : decode cX3_joins 22 = .ok (.aload_n 0, 1) := dk_42 (dk_at dksX3_joins_0 22 rfl rfl)
theorem dX3_joins_23 : decode cX3_joins 23 = .ok (.getfield 90, 3) := dk_180 0 90 (dk_at dksX3_joins_1 0 rfl rfl)
theorem dX3_joins_26 : decode cX3_joins 26 = .ok (.if_icmp .ne 68, 3) := dk_160 0 68 (dk_at dksX3_joins_1 3 rfl rfl)
theorem dX3_joins_29 : decode cX3_joins 29 = .ok (.aload_n 0, 1) := dk_42 (dk_at dksX3_joins_1 6 rfl rfl)
theorem dX3_joins_30 : decode cX3_joins 30 = .ok (.getfield 47, 3) := dk_180 0 47 (dk_at dksX3_joins_1 7 rfl rfl)
theorem dX3_joins_33 : decode cX3_joins 33 = .ok (.iload_n 2, 1) := dk_28 (dk_at dksX3_joins_1 10 rfl rfl)
theorem dX3_joins_34 : decode cX3_joins 34 = .ok (.dup2, 1) := dk_92 (dk_at dksX3_joins_1 11 rfl rfl)
theorem dX3_joins_35 : decode cX3_joins 35 = .ok (.iaload, 1) := dk_46 (dk_at dksX3_joins_1 12 rfl rfl)
theorem dX3_joins_36 : decode cX3_joins 36 = .ok (.iconst 1, 1) := dk_4 (dk_at dksX3_joins_1 13 rfl rfl)
theorem dX3_joins_37 : decode cX3_joins 37 = .ok (.isub, 1) := dk_100 (dk_at dksX3_joins_1 14 rfl rfl)
theorem dX3_joins_38 : decode cX3_joins 38 = .ok (.iastore, 1) := dk_79 (dk_at dksX3_joins_1 15 rfl rfl)
theorem dX3_joins_39 : decode cX3_joins 39 = .ok (.iconst 0, 1) := dk_3 (dk_at dksX3_joins_1 16 rfl rfl)
theorem dX3_joins_40 : decode cX3_joins 40 = .ok (.istore_n 3, 1) := dk_62 (dk_at dksX3_joins_1 17 rfl rfl)
theorem dX3_joins_41 : decode cX3_joins 41 = .ok (.iload_n 3, 1) := dk_29 (dk_at dksX3_joins_1 18 rfl rfl)
theorem dX3_joins_42 : decode cX3_joins 42 = .ok (.aload_n 0, 1) := dk_42 (dk_at dksX3_joins_1 19 rfl rfl)
theorem dX3_joins_43 : decode cX3_joins 43 = .ok (.getfield 47, 3) := dk_180 0 47 (dk_at dksX3_joins_1 20 rfl rfl)
theorem dX3_joins_46 : decode cX3_joins 46 = .ok (.iload_n 2, 1) := dk_28 (dk_at dksX3_joins_1 23 rfl rfl)
theorem dX3_joins_47 : decode cX3_joins 47 = .ok (.iaload, 1) := dk_46 (dk_at dksX3_joins_2 0 rfl rfl)
theorem dX3_joins_48 : decode cX3_joins 48 = .ok (.if_icmp .ge 33, 3) := dk_162 0 33 (dk_at dksX3_joins_2 1 rfl rfl)
theorem dX3_joins_51 : decode cX3_joins 51 = .ok (.aload_n 0, 1) := dk_42 (dk_at dksX3_joins_2 4 rfl rfl)
theorem dX3_joins_52 : decode cX3_joins 52 = .ok (.getfield 50, 3) := dk_180 0 50 (dk_at dksX3_joins_2 5 rfl rfl)
theorem dX3_joins_55 : decode cX3_joins 55 = .ok (.bipush 40, 2) := dk_16 40 (dk_at dksX3_joins_2 8 rfl rfl)
theorem dX3_joins_57 : decode cX3_joins 57 = .ok (.iload_n 2, 1) := dk_28 (dk_at dksX3_joins_2 10 rfl rfl)
theorem dX3_joins_58 : decode cX3_joins 58 = .ok (.imul, 1) := dk_104 (dk_at dksX3_joins_2 11 rfl rfl)
theorem dX3_joins_59 : decode cX3_joins 59 = .ok (.iload_n 3, 1) := dk_29 (dk_at dksX3_joins_2 12 rfl rfl)
theorem dX3_joins_60 : decode cX3_joins 60 = .ok (.iadd, 1) := dk_96 (dk_at dksX3_joins_2 13 rfl rfl)
theorem dX3_joins_61 : decode cX3_joins 61 = .ok (.aload_n 0, 1) := dk_42 (dk_at dksX3_joins_2 14 rfl rfl)
theorem dX3_joins_62 : decode cX3_joins 62 = .ok (.getfield 50, 3) := dk_180 0 50 (dk_at dksX3_joins_2 15 rfl rfl)
theorem dX3_joins_65 : decode cX3_joins 65 = .ok (.bipush 40, 2) := dk_16 40 (dk_at dksX3_joins_2 18 rfl rfl)
theorem dX3_joins_67 : decode cX3_joins 67 = .ok (.iload_n 2, 1) := dk_28 (dk_at dksX3_joins_2 20 rfl rfl)
theorem dX3_joins_68 : decode cX3_joins 68 = .ok (.imul, 1) := dk_104 (dk_at dksX3_joins_2 21 rfl rfl)
theorem dX3_joins_69 : decode cX3_joins 69 = .ok (.iload_n 3, 1) := dk_29 (dk_at dksX3_joins_2 22 rfl rfl)
theorem dX3_joins_70 : decode cX3_joins 70 = .ok (.iadd, 1) := dk_96 (dk_at dksX3_joins_2 23 rfl rfl)
theorem dX3_joins_71 : decode cX3_joins 71 = .ok (.iconst 1, 1) := dk_4 (dk_at dksX3_joins_3 0 rfl rfl)
theorem dX3_joins_72 : decode cX3_joins 72 = .ok (.iadd, 1) := dk_96 (dk_at dksX3_joins_3 1 rfl rfl)
theorem dX3_joins_73 : decode cX3_joins 73 = .ok (.iaload, 1) := dk_46 (dk_at dksX3_joins_3 2 rfl rfl)
theorem dX3_joins_74 : decode cX3_joins 74 = .ok (.iastore, 1) := dk_79 (dk_at dksX3_joins_3 3 rfl rfl)
theorem dX3_joins_75 : decode cX3_joins 75 = .ok (.iinc 3 1, 3) := dk_132 3 1 (dk_at dksX3_joins_3 4 rfl rfl)
theorem dX3_joins_78 : decode cX3_joins 78 = .ok (.goto (-37), 3) := dk_167 255 219 (dk_at dksX3_joins_3 7 rfl rfl)
theorem dX3_joins_81 : decode cX3_joins 81 = .ok (.aload_n 0, 1) := dk_42 (dk_at dksX3_joins_3 10 rfl rfl)
theorem dX3_joins_82 : decode cX3_joins 82 = .ok (.getfield 41, 3) := dk_180 0 41 (dk_at dksX3_joins_3 11 rfl rfl)
theorem dX3_joins_85 : decode cX3_joins 85 = .ok (.iload_n 1, 1) := dk_27 (dk_at dksX3_joins_3 14 rfl rfl)
theorem dX3_joins_86 : decode cX3_joins 86 = .ok (.dup2, 1) := dk_92 (dk_at dksX3_joins_3 15 rfl rfl)
theorem dX3_joins_87 : decode cX3_joins 87 = .ok (.iaload, 1) := dk_46 (dk_at dksX3_joins_3 16 rfl rfl)
theorem dX3_joins_88 : decode cX3_joins 88 = .ok (.iconst 1, 1) := dk_4 (dk_at dksX3_joins_3 17 rfl rfl)
theorem dX3_joins_89 : decode cX3_joins 89 = .ok (.iadd, 1) := dk_96 (dk_at dksX3_joins_3 18 rfl rfl)
theorem dX3_joins_90 : decode cX3_joins 90 = .ok (.iastore, 1) := dk_79 (dk_at dksX3_joins_3 19 rfl rfl)
theorem dX3_joins_91 : decode cX3_joins 91 = .ok (.goto (-87), 3) := dk_167 255 169 (dk_at dksX3_joins_3 20 rfl rfl)
theorem dX3_joins_94 : decode cX3_joins 94 = .ok (.return_, 1) := dk_177 (dk_at dksX3_joins_3 23 rfl rfl)
abbrev cX3_leaves : ByteArray := prog_4_method_49_code
def yX3_leaves : MethodName := ⟨RX3, "leaves", "(I)V"⟩
def dkwX3_leaves_7 : List UInt8 := [180, 0, 47, 27, 92, 46, 4, 96, 79, 177]
abbrev dktX3_leaves_7 : List UInt8 := dkwX3_leaves_7 ++ []
def dkwX3_leaves_6 : List UInt8 := [16, 40, 27, 104, 42, 180, 0, 47, 27, 46, 96, 42, 180, 0, 90, 42, 180, 0, 25, 27, 46, 96, 79, 42]
abbrev dktX3_leaves_6 : List UInt8 := dkwX3_leaves_6 ++ dktX3_leaves_7
def dkwX3_leaves_5 : List UInt8 := [3, 79, 29, 153, 0, 16, 42, 89, 180, 0, 99, 4, 96, 181, 0, 99, 167, 0, 40, 42, 180, 0, 50]
abbrev dktX3_leaves_5 : List UInt8 := dkwX3_leaves_5 ++ dktX3_leaves_6
def dkwX3_leaves_4 : List UInt8 := [180, 0, 28, 27, 46, 161, 0, 4, 177, 42, 180, 0, 41, 27, 92, 46, 4, 100, 79, 42, 180, 0, 44, 27]
abbrev dktX3_leaves_4 : List UInt8 := dkwX3_leaves_4 ++ dktX3_leaves_5
def dkwX3_leaves_3 : List UInt8 := [5, 161, 0, 30, 42, 180, 0, 41, 27, 46, 153, 0, 21, 29, 154, 0, 18, 42, 27, 182, 0, 191, 42]
abbrev dktX3_leaves_3 : List UInt8 := dkwX3_leaves_3 ++ dktX3_leaves_4
def dkwX3_leaves_2 : List UInt8 := [5, 79, 27, 42, 180, 0, 76, 4, 100, 160, 0, 7, 4, 167, 0, 4, 3, 62, 42, 180, 0, 44, 27, 46]
abbrev dktX3_leaves_2 : List UInt8 := dkwX3_leaves_2 ++ dktX3_leaves_3
def dkwX3_leaves_1 : List UInt8 := [167, 0, 25, 42, 180, 0, 44, 27, 46, 5, 162, 0, 14, 42, 180, 0, 44, 27, 46, 4, 96, 167, 0, 4]
abbrev dktX3_leaves_1 : List UInt8 := dkwX3_leaves_1 ++ dktX3_leaves_2
def dkwX3_leaves_0 : List UInt8 := [42, 27, 3, 42, 180, 0, 90, 4, 182, 0, 158, 61, 42, 180, 0, 44, 27, 28, 154, 0, 7, 3]
abbrev dktX3_leaves_0 : List UInt8 := dkwX3_leaves_0 ++ dktX3_leaves_1
theorem dksX3_leaves_0 : cX3_leaves.data.toList.drop 0 = dktX3_leaves_0 := by decide +kernel
theorem dksX3_leaves_1 : cX3_leaves.data.toList.drop 22 = dktX3_leaves_1 := dk_seg dksX3_leaves_0 22 rfl rfl
theorem dksX3_leaves_2 : cX3_leaves.data.toList.drop 46 = dktX3_leaves_2 := dk_seg dksX3_leaves_1 24 rfl rfl
theorem dksX3_leaves_3 : cX3_leaves.data.toList.drop 70 = dktX3_leaves_3 := dk_seg dksX3_leaves_2 24 rfl rfl
theorem dksX3_leaves_4 : cX3_leaves.data.toList.drop 93 = dktX3_leaves_4 := dk_seg dksX3_leaves_3 23 rfl rfl
theorem dksX3_leaves_5 : cX3_leaves.data.toList.drop 117 = dktX3_leaves_5 := dk_seg dksX3_leaves_4 24 rfl rfl
theorem dksX3_leaves_6 : cX3_leaves.data.toList.drop 140 = dktX3_leaves_6 := dk_seg dksX3_leaves_5 23 rfl rfl
theorem dksX3_leaves_7 : cX3_leaves.data.toList.drop 164 = dktX3_leaves_7 := dk_seg dksX3_leaves_6 24 rfl rfl
theorem dX3_leaves_0 : decode cX3_leaves 0 = .ok (.aload_n 0, 1) := dk_42 (dk_at dksX3_leaves_0 0 rfl rfl)
theorem dX3_leaves_1 : decode cX3_leaves 1 = .ok (.iload_n 1, 1) := dk_27 (dk_at dksX3_leaves_0 1 rfl rfl)
theorem dX3_leaves_2 : decode cX3_leaves 2 = .ok (.iconst 0, 1) := dk_3 (dk_at dksX3_leaves_0 2 rfl rfl)
theorem dX3_leaves_3 : decode cX3_leaves 3 = .ok (.aload_n 0, 1) := dk_42 (dk_at dksX3_leaves_0 3 rfl rfl)
theorem dX3_leaves_4 : decode cX3_leaves 4 = .ok (.getfield 90, 3) := dk_180 0 90 (dk_at dksX3_leaves_0 4 rfl rfl)
theorem dX3_leaves_7 : decode cX3_leaves 7 = .ok (.iconst 1, 1) := dk_4 (dk_at dksX3_leaves_0 7 rfl rfl)
theorem dX3_leaves_8 : decode cX3_leaves 8 = .ok (.invokevirtual 158, 3) := dk_182 0 158 (dk_at dksX3_leaves_0 8 rfl rfl)
theorem dX3_leaves_11 : decode cX3_leaves 11 = .ok (.istore_n 2, 1) := dk_61 (dk_at dksX3_leaves_0 11 rfl rfl)
theorem dX3_leaves_12 : decode cX3_leaves 12 = .ok (.aload_n 0, 1) := dk_42 (dk_at dksX3_leaves_0 12 rfl rfl)
theorem dX3_leaves_13 : decode cX3_leaves 13 = .ok (.getfield 44, 3) := dk_180 0 44 (dk_at dksX3_leaves_0 13 rfl rfl)
theorem dX3_leaves_16 : decode cX3_leaves 16 = .ok (.iload_n 1, 1) := dk_27 (dk_at dksX3_leaves_0 16 rfl rfl)
theorem dX3_leaves_17 : decode cX3_leaves 17 = .ok (.iload_n 2, 1) := dk_28 (dk_at dksX3_leaves_0 17 rfl rfl)
theorem dX3_leaves_18 : decode cX3_leaves 18 = .ok (.ifCond .ne 7, 3) := dk_154 0 7 (dk_at dksX3_leaves_0 18 rfl rfl)
theorem dX3_leaves_21 : decode cX3_leaves 21 = .ok (.iconst 0, 1) := dk_3 (dk_at dksX3_leaves_0 21 rfl rfl)
theorem dX3_leaves_22 : decode cX3_leaves 22 = .ok (.goto 25, 3) := dk_167 0 25 (dk_at dksX3_leaves_1 0 rfl rfl)
theorem dX3_leaves_25 : decode cX3_leaves 25 = .ok (.aload_n 0, 1) := dk_42 (dk_at dksX3_leaves_1 3 rfl rfl)
theorem dX3_leaves_26 : decode cX3_leaves 26 = .ok (.getfield 44, 3) := dk_180 0 44 (dk_at dksX3_leaves_1 4 rfl rfl)
theorem dX3_leaves_29 : decode cX3_leaves 29 = .ok (.iload_n 1, 1) := dk_27 (dk_at dksX3_leaves_1 7 rfl rfl)
theorem dX3_leaves_30 : decode cX3_leaves 30 = .ok (.iaload, 1) := dk_46 (dk_at dksX3_leaves_1 8 rfl rfl)
theorem dX3_leaves_31 : decode cX3_leaves 31 = .ok (.iconst 2, 1) := dk_5 (dk_at dksX3_leaves_1 9 rfl rfl)
theorem dX3_leaves_32 : decode cX3_leaves 32 = .ok (.if_icmp .ge 14, 3) := dk_162 0 14 (dk_at dksX3_leaves_1 10 rfl rfl)
theorem dX3_leaves_35 : decode cX3_leaves 35 = .ok (.aload_n 0, 1) := dk_42 (dk_at dksX3_leaves_1 13 rfl rfl)
theorem dX3_leaves_36 : decode cX3_leaves 36 = .ok (.getfield 44, 3) := dk_180 0 44 (dk_at dksX3_leaves_1 14 rfl rfl)
theorem dX3_leaves_39 : decode cX3_leaves 39 = .ok (.iload_n 1, 1) := dk_27 (dk_at dksX3_leaves_1 17 rfl rfl)
theorem dX3_leaves_40 : decode cX3_leaves 40 = .ok (.iaload, 1) := dk_46 (dk_at dksX3_leaves_1 18 rfl rfl)
theorem dX3_leaves_41 : decode cX3_leaves 41 = .ok (.iconst 1, 1) := dk_4 (dk_at dksX3_leaves_1 19 rfl rfl)
theorem dX3_leaves_42 : decode cX3_leaves 42 = .ok (.iadd, 1) := dk_96 (dk_at dksX3_leaves_1 20 rfl rfl)
theorem dX3_leaves_43 : decode cX3_leaves 43 = .ok (.goto 4, 3) := dk_167 0 4 (dk_at dksX3_leaves_1 21 rfl rfl)
theorem dX3_leaves_46 : decode cX3_leaves 46 = .ok (.iconst 2, 1) := dk_5 (dk_at dksX3_leaves_2 0 rfl rfl)
theorem dX3_leaves_47 : decode cX3_leaves 47 = .ok (.iastore, 1) := dk_79 (dk_at dksX3_leaves_2 1 rfl rfl)
theorem dX3_leaves_48 : decode cX3_leaves 48 = .ok (.iload_n 1, 1) := dk_27 (dk_at dksX3_leaves_2 2 rfl rfl)
theorem dX3_leaves_49 : decode cX3_leaves 49 = .ok (.aload_n 0, 1) := dk_42 (dk_at dksX3_leaves_2 3 rfl rfl)
theorem dX3_leaves_50 : decode cX3_leaves 50 = .ok (.getfield 76, 3) := dk_180 0 76 (dk_at dksX3_leaves_2 4 rfl rfl)
theorem dX3_leaves_53 : decode cX3_leaves 53 = .ok (.iconst 1, 1) := dk_4 (dk_at dksX3_leaves_2 7 rfl rfl)
theorem dX3_leaves_54 : decode cX3_leaves 54 = .ok (.isub, 1) := dk_100 (dk_at dksX3_leaves_2 8 rfl rfl)
theorem dX3_leaves_55 : decode cX3_leaves 55 = .ok (.if_icmp .ne 7, 3) := dk_160 0 7 (dk_at dksX3_leaves_2 9 rfl rfl)
theorem dX3_leaves_58 : decode cX3_leaves 58 = .ok (.iconst 1, 1) := dk_4 (dk_at dksX3_leaves_2 12 rfl rfl)
theorem dX3_leaves_59 : decode cX3_leaves 59 = .ok (.goto 4, 3) := dk_167 0 4 (dk_at dksX3_leaves_2 13 rfl rfl)
theorem dX3_leaves_62 : decode cX3_leaves 62 = .ok (.iconst 0, 1) := dk_3 (dk_at dksX3_leaves_2 16 rfl rfl)
theorem dX3_leaves_63 : decode cX3_leaves 63 = .ok (.istore_n 3, 1) := dk_62 (dk_at dksX3_leaves_2 17 rfl rfl)
theorem dX3_leaves_64 : decode cX3_leaves 64 = .ok (.aload_n 0, 1) := dk_42 (dk_at dksX3_leaves_2 18 rfl rfl)
theorem dX3_leaves_65 : decode cX3_leaves 65 = .ok (.getfield 44, 3) := dk_180 0 44 (dk_at dksX3_leaves_2 19 rfl rfl)
theorem dX3_leaves_68 : decode cX3_leaves 68 = .ok (.iload_n 1, 1) := dk_27 (dk_at dksX3_leaves_2 22 rfl rfl)
theorem dX3_leaves_69 : decode cX3_leaves 69 = .ok (.iaload, 1) := dk_46 (dk_at dksX3_leaves_2 23 rfl rfl)
theorem dX3_leaves_70 : decode cX3_leaves 70 = .ok (.iconst 2, 1) := dk_5 (dk_at dksX3_leaves_3 0 rfl rfl)
theorem dX3_leaves_71 : decode cX3_leaves 71 = .ok (.if_icmp .lt 30, 3) := dk_161 0 30 (dk_at dksX3_leaves_3 1 rfl rfl)
theorem dX3_leaves_74 : decode cX3_leaves 74 = .ok (.aload_n 0, 1) := dk_42 (dk_at dksX3_leaves_3 4 rfl rfl)
theorem dX3_leaves_75 : decode cX3_leaves 75 = .ok (.getfield 41, 3) := dk_180 0 41 (dk_at dksX3_leaves_3 5 rfl rfl)
theorem dX3_leaves_78 : decode cX3_leaves 78 = .ok (.iload_n 1, 1) := dk_27 (dk_at dksX3_leaves_3 8 rfl rfl)
theorem dX3_leaves_79 : decode cX3_leaves 79 = .ok (.iaload, 1) := dk_46 (dk_at dksX3_leaves_3 9 rfl rfl)
theorem dX3_leaves_80 : decode cX3_leaves 80 = .ok (.ifCond .eq 21, 3) := dk_153 0 21 (dk_at dksX3_leaves_3 10 rfl rfl)
theorem dX3_leaves_83 : decode cX3_leaves 83 = .ok (.iload_n 3, 1) := dk_29 (dk_at dksX3_leaves_3 13 rfl rfl)
theorem dX3_leaves_84 : decode cX3_leaves 84 = .ok (.ifCond .ne 18, 3) := dk_154 0 18 (dk_at dksX3_leaves_3 14 rfl rfl)
theorem dX3_leaves_87 : decode cX3_leaves 87 = .ok (.aload_n 0, 1) := dk_42 (dk_at dksX3_leaves_3 17 rfl rfl)
theorem dX3_leaves_88 : decode cX3_leaves 88 = .ok (.iload_n 1, 1) := dk_27 (dk_at dksX3_leaves_3 18 rfl rfl)
theorem dX3_leaves_89 : decode cX3_leaves 89 = .ok (.invokevirtual 191, 3) := dk_182 0 191 (dk_at dksX3_leaves_3 19 rfl rfl)
theorem dX3_leaves_92 : decode cX3_leaves 92 = .ok (.aload_n 0, 1) := dk_42 (dk_at dksX3_leaves_3 22 rfl rfl)
theorem dX3_leaves_93 : decode cX3_leaves 93 = .ok (.getfield 28, 3) := dk_180 0 28 (dk_at dksX3_leaves_4 0 rfl rfl)
theorem dX3_leaves_96 : decode cX3_leaves 96 = .ok (.iload_n 1, 1) := dk_27 (dk_at dksX3_leaves_4 3 rfl rfl)
theorem dX3_leaves_97 : decode cX3_leaves 97 = .ok (.iaload, 1) := dk_46 (dk_at dksX3_leaves_4 4 rfl rfl)
theorem dX3_leaves_98 : decode cX3_leaves 98 = .ok (.if_icmp .lt 4, 3) := dk_161 0 4 (dk_at dksX3_leaves_4 5 rfl rfl)
theorem dX3_leaves_101 : decode cX3_leaves 101 = .ok (.return_, 1) := dk_177 (dk_at dksX3_leaves_4 8 rfl rfl)
theorem dX3_leaves_102 : decode cX3_leaves 102 = .ok (.aload_n 0, 1) := dk_42 (dk_at dksX3_leaves_4 9 rfl rfl)
theorem dX3_leaves_103 : decode cX3_leaves 103 = .ok (.getfield 41, 3) := dk_180 0 41 (dk_at dksX3_leaves_4 10 rfl rfl)
theorem dX3_leaves_106 : decode cX3_leaves 106 = .ok (.iload_n 1, 1) := dk_27 (dk_at dksX3_leaves_4 13 rfl rfl)
theorem dX3_leaves_107 : decode cX3_leaves 107 = .ok (.dup2, 1) := dk_92 (dk_at dksX3_leaves_4 14 rfl rfl)
theorem dX3_leaves_108 : decode cX3_leaves 108 = .ok (.iaload, 1) := dk_46 (dk_at dksX3_leaves_4 15 rfl rfl)
theorem dX3_leaves_109 : decode cX3_leaves 109 = .ok (.iconst 1, 1) := dk_4 (dk_at dksX3_leaves_4 16 rfl rfl)
theorem dX3_leaves_110 : decode cX3_leaves 110 = .ok (.isub, 1) := dk_100 (dk_at dksX3_leaves_4 17 rfl rfl)
theorem dX3_leaves_111 : decode cX3_leaves 111 = .ok (.iastore, 1) := dk_79 (dk_at dksX3_leaves_4 18 rfl rfl)
theorem dX3_leaves_112 : decode cX3_leaves 112 = .ok (.aload_n 0, 1) := dk_42 (dk_at dksX3_leaves_4 19 rfl rfl)
theorem dX3_leaves_113 : decode cX3_leaves 113 = .ok (.getfield 44, 3) := dk_180 0 44 (dk_at dksX3_leaves_4 20 rfl rfl)
theorem dX3_leaves_116 : decode cX3_leaves 116 = .ok (.iload_n 1, 1) := dk_27 (dk_at dksX3_leaves_4 23 rfl rfl)
theorem dX3_leaves_117 : decode cX3_leaves 117 = .ok (.iconst 0, 1) := dk_3 (dk_at dksX3_leaves_5 0 rfl rfl)
theorem dX3_leaves_118 : decode cX3_leaves 118 = .ok (.iastore, 1) := dk_79 (dk_at dksX3_leaves_5 1 rfl rfl)
theorem dX3_leaves_119 : decode cX3_leaves 119 = .ok (.iload_n 3, 1) := dk_29 (dk_at dksX3_leaves_5 2 rfl rfl)
theorem dX3_leaves_120 : decode cX3_leaves 120 = .ok (.ifCond .eq 16, 3) := dk_153 0 16 (dk_at dksX3_leaves_5 3 rfl rfl)
theorem dX3_leaves_123 : decode cX3_leaves 123 = .ok (.aload_n 0, 1) := dk_42 (dk_at dksX3_leaves_5 6 rfl rfl)
theorem dX3_leaves_124 : decode cX3_leaves 124 = .ok (.dup, 1) := dk_89 (dk_at dksX3_leaves_5 7 rfl rfl)
theorem dX3_leaves_125 : decode cX3_leaves 125 = .ok (.getfield 99, 3) := dk_180 0 99 (dk_at dksX3_leaves_5 8 rfl rfl)
theorem dX3_leaves_128 : decode cX3_leaves 128 = .ok (.iconst 1, 1) := dk_4 (dk_at dksX3_leaves_5 11 rfl rfl)
theorem dX3_leaves_129 : decode cX3_leaves 129 = .ok (.iadd, 1) := dk_96 (dk_at dksX3_leaves_5 12 rfl rfl)
theorem dX3_leaves_130 : decode cX3_leaves 130 = .ok (.putfield 99, 3) := dk_181 0 99 (dk_at dksX3_leaves_5 13 rfl rfl)
theorem dX3_leaves_133 : decode cX3_leaves 133 = .ok (.goto 40, 3) := dk_167 0 40 (dk_at dksX3_leaves_5 16 rfl rfl)
theorem dX3_leaves_136 : decode cX3_leaves 136 = .ok (.aload_n 0, 1) := dk_42 (dk_at dksX3_leaves_5 19 rfl rfl)
theorem dX3_leaves_137 : decode cX3_leaves 137 = .ok (.getfield 50, 3) := dk_180 0 50 (dk_at dksX3_leaves_5 20 rfl rfl)
theorem dX3_leaves_140 : decode cX3_leaves 140 = .ok (.bipush 40, 2) := dk_16 40 (dk_at dksX3_leaves_6 0 rfl rfl)
theorem dX3_leaves_142 : decode cX3_leaves 142 = .ok (.iload_n 1, 1) := dk_27 (dk_at dksX3_leaves_6 2 rfl rfl)
theorem dX3_leaves_143 : decode cX3_leaves 143 = .ok (.imul, 1) := dk_104 (dk_at dksX3_leaves_6 3 rfl rfl)
theorem dX3_leaves_144 : decode cX3_leaves 144 = .ok (.aload_n 0, 1) := dk_42 (dk_at dksX3_leaves_6 4 rfl rfl)
theorem dX3_leaves_145 : decode cX3_leaves 145 = .ok (.getfield 47, 3) := dk_180 0 47 (dk_at dksX3_leaves_6 5 rfl rfl)
theorem dX3_leaves_148 : decode cX3_leaves 148 = .ok (.iload_n 1, 1) := dk_27 (dk_at dksX3_leaves_6 8 rfl rfl)
theorem dX3_leaves_149 : decode cX3_leaves 149 = .ok (.iaload, 1) := dk_46 (dk_at dksX3_leaves_6 9 rfl rfl)
theorem dX3_leaves_150 : decode cX3_leaves 150 = .ok (.iadd, 1) := dk_96 (dk_at dksX3_leaves_6 10 rfl rfl)
theorem dX3_leaves_151 : decode cX3_leaves 151 = .ok (.aload_n 0, 1) := dk_42 (dk_at dksX3_leaves_6 11 rfl rfl)
theorem dX3_leaves_152 : decode cX3_leaves 152 = .ok (.getfield 90, 3) := dk_180 0 90 (dk_at dksX3_leaves_6 12 rfl rfl)
theorem dX3_leaves_155 : decode cX3_leaves 155 = .ok (.aload_n 0, 1) := dk_42 (dk_at dksX3_leaves_6 15 rfl rfl)
theorem dX3_leaves_156 : decode cX3_leaves 156 = .ok (.getfield 25, 3) := dk_180 0 25 (dk_at dksX3_leaves_6 16 rfl rfl)
theorem dX3_leaves_159 : decode cX3_leaves 159 = .ok (.iload_n 1, 1) := dk_27 (dk_at dksX3_leaves_6 19 rfl rfl)
theorem dX3_leaves_160 : decode cX3_leaves 160 = .ok (.iaload, 1) := dk_46 (dk_at dksX3_leaves_6 20 rfl rfl)
theorem dX3_leaves_161 : decode cX3_leaves 161 = .ok (.iadd, 1) := dk_96 (dk_at dksX3_leaves_6 21 rfl rfl)
theorem dX3_leaves_162 : decode cX3_leaves 162 = .ok (.iastore, 1) := dk_79 (dk_at dksX3_leaves_6 22 rfl rfl)
theorem dX3_leaves_163 : decode cX3_leaves 163 = .ok (.aload_n 0, 1) := dk_42 (dk_at dksX3_leaves_6 23 rfl rfl)
theorem dX3_leaves_164 : decode cX3_leaves 164 = .ok (.getfield 47, 3) := dk_180 0 47 (dk_at dksX3_leaves_7 0 rfl rfl)
theorem dX3_leaves_167 : decode cX3_leaves 167 = .ok (.iload_n 1, 1) := dk_27 (dk_at dksX3_leaves_7 3 rfl rfl)
theorem dX3_leaves_168 : decode cX3_leaves 168 = .ok (.dup2, 1) := dk_92 (dk_at dksX3_leaves_7 4 rfl rfl)
theorem dX3_leaves_169 : decode cX3_leaves 169 = .ok (.iaload, 1) := dk_46 (dk_at dksX3_leaves_7 5 rfl rfl)
theorem dX3_leaves_170 : decode cX3_leaves 170 = .ok (.iconst 1, 1) := dk_4 (dk_at dksX3_leaves_7 6 rfl rfl)
theorem dX3_leaves_171 : decode cX3_leaves 171 = .ok (.iadd, 1) := dk_96 (dk_at dksX3_leaves_7 7 rfl rfl)
theorem dX3_leaves_172 : decode cX3_leaves 172 = .ok (.iastore, 1) := dk_79 (dk_at dksX3_leaves_7 8 rfl rfl)
theorem dX3_leaves_173 : decode cX3_leaves 173 = .ok (.return_, 1) := dk_177 (dk_at dksX3_leaves_7 9 rfl rfl)
abbrev cX3_heldOf : ByteArray := prog_4_method_48_code
def yX3_heldOf : MethodName := ⟨RX3, "heldOf", "(I)I"⟩
def dkwX3_heldOf_0 : List UInt8 := [42, 180, 0, 47, 27, 46, 42, 180, 0, 41, 27, 4, 96, 46, 96, 172]
abbrev dktX3_heldOf_0 : List UInt8 := dkwX3_heldOf_0 ++ []
theorem dksX3_heldOf_0 : cX3_heldOf.data.toList.drop 0 = dktX3_heldOf_0 := by decide +kernel
theorem dX3_heldOf_0 : decode cX3_heldOf 0 = .ok (.aload_n 0, 1) := dk_42 (dk_at dksX3_heldOf_0 0 rfl rfl)
theorem dX3_heldOf_1 : decode cX3_heldOf 1 = .ok (.getfield 47, 3) := dk_180 0 47 (dk_at dksX3_heldOf_0 1 rfl rfl)
theorem dX3_heldOf_4 : decode cX3_heldOf 4 = .ok (.iload_n 1, 1) := dk_27 (dk_at dksX3_heldOf_0 4 rfl rfl)
theorem dX3_heldOf_5 : decode cX3_heldOf 5 = .ok (.iaload, 1) := dk_46 (dk_at dksX3_heldOf_0 5 rfl rfl)
theorem dX3_heldOf_6 : decode cX3_heldOf 6 = .ok (.aload_n 0, 1) := dk_42 (dk_at dksX3_heldOf_0 6 rfl rfl)
theorem dX3_heldOf_7 : decode cX3_heldOf 7 = .ok (.getfield 41, 3) := dk_180 0 41 (dk_at dksX3_heldOf_0 7 rfl rfl)
theorem dX3_heldOf_10 : decode cX3_heldOf 10 = .ok (.iload_n 1, 1) := dk_27 (dk_at dksX3_heldOf_0 10 rfl rfl)
theorem dX3_heldOf_11 : decode cX3_heldOf 11 = .ok (.iconst 1, 1) := dk_4 (dk_at dksX3_heldOf_0 11 rfl rfl)
theorem dX3_heldOf_12 : decode cX3_heldOf 12 = .ok (.iadd, 1) := dk_96 (dk_at dksX3_heldOf_0 12 rfl rfl)
theorem dX3_heldOf_13 : decode cX3_heldOf 13 = .ok (.iaload, 1) := dk_46 (dk_at dksX3_heldOf_0 13 rfl rfl)
theorem dX3_heldOf_14 : decode cX3_heldOf 14 = .ok (.iadd, 1) := dk_96 (dk_at dksX3_heldOf_0 14 rfl rfl)
theorem dX3_heldOf_15 : decode cX3_heldOf 15 = .ok (.ireturn, 1) := dk_172 (dk_at dksX3_heldOf_0 15 rfl rfl)
abbrev cX3_callBus : ByteArray := prog_4_method_56_code
def yX3_callBus : MethodName := ⟨RX3, "callBus", "(II)I"⟩
def dkwX3_callBus_7 : List UInt8 := [182, 0, 216, 184, 0, 213, 42, 27, 29, 182, 0, 210, 184, 0, 213, 79, 42, 180, 0, 65, 27, 46, 172]
abbrev dktX3_callBus_7 : List UInt8 := dkwX3_callBus_7 ++ []
def dkwX3_callBus_6 : List UInt8 := [21, 4, 29, 164, 0, 35, 42, 180, 0, 62, 27, 29, 79, 42, 180, 0, 65, 27, 8, 42, 27, 29]
abbrev dktX3_callBus_6 : List UInt8 := dkwX3_callBus_6 ++ dktX3_callBus_7
def dkwX3_callBus_5 : List UInt8 := [27, 8, 42, 27, 21, 4, 4, 96, 182, 0, 210, 184, 0, 213, 79, 167, 0, 46, 29, 2, 159, 0, 41]
abbrev dktX3_callBus_5 : List UInt8 := dkwX3_callBus_5 ++ dktX3_callBus_6
def dkwX3_callBus_4 : List UInt8 := [180, 0, 16, 27, 46, 4, 100, 162, 0, 35, 42, 180, 0, 62, 27, 21, 4, 4, 96, 79, 42, 180, 0, 65]
abbrev dktX3_callBus_4 : List UInt8 := dkwX3_callBus_4 ++ dktX3_callBus_5
def dkwX3_callBus_3 : List UInt8 := [180, 0, 62, 27, 21, 4, 79, 42, 180, 0, 65, 27, 3, 79, 29, 21, 4, 160, 0, 48, 21, 4, 42]
abbrev dktX3_callBus_3 : List UInt8 := dkwX3_callBus_3 ++ dktX3_callBus_4
def dkwX3_callBus_2 : List UInt8 := [42, 180, 0, 56, 27, 42, 27, 42, 180, 0, 90, 182, 0, 151, 79, 42, 180, 0, 59, 27, 21, 4, 79, 42]
abbrev dktX3_callBus_2 : List UInt8 := dkwX3_callBus_2 ++ dktX3_callBus_3
def dkwX3_callBus_1 : List UInt8 := [182, 0, 154, 62, 42, 27, 28, 182, 0, 204, 54, 4, 42, 4, 181, 0, 86, 42, 180, 0, 53, 27, 4, 84]
abbrev dktX3_callBus_1 : List UInt8 := dkwX3_callBus_1 ++ dktX3_callBus_2
def dkwX3_callBus_0 : List UInt8 := [42, 42, 27, 28, 182, 0, 207, 182, 0, 102, 154, 0, 5, 3, 172, 42, 27, 42, 180, 0, 90, 3]
abbrev dktX3_callBus_0 : List UInt8 := dkwX3_callBus_0 ++ dktX3_callBus_1
theorem dksX3_callBus_0 : cX3_callBus.data.toList.drop 0 = dktX3_callBus_0 := by decide +kernel
theorem dksX3_callBus_1 : cX3_callBus.data.toList.drop 22 = dktX3_callBus_1 := dk_seg dksX3_callBus_0 22 rfl rfl
theorem dksX3_callBus_2 : cX3_callBus.data.toList.drop 46 = dktX3_callBus_2 := dk_seg dksX3_callBus_1 24 rfl rfl
theorem dksX3_callBus_3 : cX3_callBus.data.toList.drop 70 = dktX3_callBus_3 := dk_seg dksX3_callBus_2 24 rfl rfl
theorem dksX3_callBus_4 : cX3_callBus.data.toList.drop 93 = dktX3_callBus_4 := dk_seg dksX3_callBus_3 23 rfl rfl
theorem dksX3_callBus_5 : cX3_callBus.data.toList.drop 117 = dktX3_callBus_5 := dk_seg dksX3_callBus_4 24 rfl rfl
theorem dksX3_callBus_6 : cX3_callBus.data.toList.drop 140 = dktX3_callBus_6 := dk_seg dksX3_callBus_5 23 rfl rfl
theorem dksX3_callBus_7 : cX3_callBus.data.toList.drop 162 = dktX3_callBus_7 := dk_seg dksX3_callBus_6 22 rfl rfl
theorem dX3_callBus_0 : decode cX3_callBus 0 = .ok (.aload_n 0, 1) := dk_42 (dk_at dksX3_callBus_0 0 rfl rfl)
theorem dX3_callBus_1 : decode cX3_callBus 1 = .ok (.aload_n 0, 1) := dk_42 (dk_at dksX3_callBus_0 1 rfl rfl)
theorem dX3_callBus_2 : decode cX3_callBus 2 = .ok (.iload_n 1, 1) := dk_27 (dk_at dksX3_callBus_0 2 rfl rfl)
theorem dX3_callBus_3 : decode cX3_callBus 3 = .ok (.iload_n 2, 1) := dk_28 (dk_at dksX3_callBus_0 3 rfl rfl)
theorem dX3_callBus_4 : decode cX3_callBus 4 = .ok (.invokevirtual 207, 3) := dk_182 0 207 (dk_at dksX3_callBus_0 4 rfl rfl)
theorem dX3_callBus_7 : decode cX3_callBus 7 = .ok (.invokevirtual 102, 3) := dk_182 0 102 (dk_at dksX3_callBus_0 7 rfl rfl)
theorem dX3_callBus_10 : decode cX3_callBus 10 = .ok (.ifCond .ne 5, 3) := dk_154 0 5 (dk_at dksX3_callBus_0 10 rfl rfl)
theorem dX3_callBus_13 : decode cX3_callBus 13 = .ok (.iconst 0, 1) := dk_3 (dk_at dksX3_callBus_0 13 rfl rfl)
theorem dX3_callBus_14 : decode cX3_callBus 14 = .ok (.ireturn, 1) := dk_172 (dk_at dksX3_callBus_0 14 rfl rfl)
theorem dX3_callBus_15 : decode cX3_callBus 15 = .ok (.aload_n 0, 1) := dk_42 (dk_at dksX3_callBus_0 15 rfl rfl)
theorem dX3_callBus_16 : decode cX3_callBus 16 = .ok (.iload_n 1, 1) := dk_27 (dk_at dksX3_callBus_0 16 rfl rfl)
theorem dX3_callBus_17 : decode cX3_callBus 17 = .ok (.aload_n 0, 1) := dk_42 (dk_at dksX3_callBus_0 17 rfl rfl)
theorem dX3_callBus_18 : decode cX3_callBus 18 = .ok (.getfield 90, 3) := dk_180 0 90 (dk_at dksX3_callBus_0 18 rfl rfl)
theorem dX3_callBus_21 : decode cX3_callBus 21 = .ok (.iconst 0, 1) := dk_3 (dk_at dksX3_callBus_0 21 rfl rfl)
theorem dX3_callBus_22 : decode cX3_callBus 22 = .ok (.invokevirtual 154, 3) := dk_182 0 154 (dk_at dksX3_callBus_1 0 rfl rfl)
theorem dX3_callBus_25 : decode cX3_callBus 25 = .ok (.istore_n 3, 1) := dk_62 (dk_at dksX3_callBus_1 3 rfl rfl)
theorem dX3_callBus_26 : decode cX3_callBus 26 = .ok (.aload_n 0, 1) := dk_42 (dk_at dksX3_callBus_1 4 rfl rfl)
theorem dX3_callBus_27 : decode cX3_callBus 27 = .ok (.iload_n 1, 1) := dk_27 (dk_at dksX3_callBus_1 5 rfl rfl)
theorem dX3_callBus_28 : decode cX3_callBus 28 = .ok (.iload_n 2, 1) := dk_28 (dk_at dksX3_callBus_1 6 rfl rfl)
theorem dX3_callBus_29 : decode cX3_callBus 29 = .ok (.invokevirtual 204, 3) := dk_182 0 204 (dk_at dksX3_callBus_1 7 rfl rfl)
theorem dX3_callBus_32 : decode cX3_callBus 32 = .ok (.istore 4, 2) := dk_54 4 (dk_at dksX3_callBus_1 10 rfl rfl)
theorem dX3_callBus_34 : decode cX3_callBus 34 = .ok (.aload_n 0, 1) := dk_42 (dk_at dksX3_callBus_1 12 rfl rfl)
theorem dX3_callBus_35 : decode cX3_callBus 35 = .ok (.iconst 1, 1) := dk_4 (dk_at dksX3_callBus_1 13 rfl rfl)
theorem dX3_callBus_36 : decode cX3_callBus 36 = .ok (.putfield 86, 3) := dk_181 0 86 (dk_at dksX3_callBus_1 14 rfl rfl)
theorem dX3_callBus_39 : decode cX3_callBus 39 = .ok (.aload_n 0, 1) := dk_42 (dk_at dksX3_callBus_1 17 rfl rfl)
theorem dX3_callBus_40 : decode cX3_callBus 40 = .ok (.getfield 53, 3) := dk_180 0 53 (dk_at dksX3_callBus_1 18 rfl rfl)
theorem dX3_callBus_43 : decode cX3_callBus 43 = .ok (.iload_n 1, 1) := dk_27 (dk_at dksX3_callBus_1 21 rfl rfl)
theorem dX3_callBus_44 : decode cX3_callBus 44 = .ok (.iconst 1, 1) := dk_4 (dk_at dksX3_callBus_1 22 rfl rfl)
theorem dX3_callBus_45 : decode cX3_callBus 45 = .ok (.bastore, 1) := dk_84 (dk_at dksX3_callBus_1 23 rfl rfl)
theorem dX3_callBus_46 : decode cX3_callBus 46 = .ok (.aload_n 0, 1) := dk_42 (dk_at dksX3_callBus_2 0 rfl rfl)
theorem dX3_callBus_47 : decode cX3_callBus 47 = .ok (.getfield 56, 3) := dk_180 0 56 (dk_at dksX3_callBus_2 1 rfl rfl)
theorem dX3_callBus_50 : decode cX3_callBus 50 = .ok (.iload_n 1, 1) := dk_27 (dk_at dksX3_callBus_2 4 rfl rfl)
theorem dX3_callBus_51 : decode cX3_callBus 51 = .ok (.aload_n 0, 1) := dk_42 (dk_at dksX3_callBus_2 5 rfl rfl)
theorem dX3_callBus_52 : decode cX3_callBus 52 = .ok (.iload_n 1, 1) := dk_27 (dk_at dksX3_callBus_2 6 rfl rfl)
theorem dX3_callBus_53 : decode cX3_callBus 53 = .ok (.aload_n 0, 1) := dk_42 (dk_at dksX3_callBus_2 7 rfl rfl)
theorem dX3_callBus_54 : decode cX3_callBus 54 = .ok (.getfield 90, 3) := dk_180 0 90 (dk_at dksX3_callBus_2 8 rfl rfl)
theorem dX3_callBus_57 : decode cX3_callBus 57 = .ok (.invokevirtual 151, 3) := dk_182 0 151 (dk_at dksX3_callBus_2 11 rfl rfl)
theorem dX3_callBus_60 : decode cX3_callBus 60 = .ok (.iastore, 1) := dk_79 (dk_at dksX3_callBus_2 14 rfl rfl)
theorem dX3_callBus_61 : decode cX3_callBus 61 = .ok (.aload_n 0, 1) := dk_42 (dk_at dksX3_callBus_2 15 rfl rfl)
theorem dX3_callBus_62 : decode cX3_callBus 62 = .ok (.getfield 59, 3) := dk_180 0 59 (dk_at dksX3_callBus_2 16 rfl rfl)
theorem dX3_callBus_65 : decode cX3_callBus 65 = .ok (.iload_n 1, 1) := dk_27 (dk_at dksX3_callBus_2 19 rfl rfl)
theorem dX3_callBus_66 : decode cX3_callBus 66 = .ok (.iload 4, 2) := dk_21 4 (dk_at dksX3_callBus_2 20 rfl rfl)
theorem dX3_callBus_68 : decode cX3_callBus 68 = .ok (.iastore, 1) := dk_79 (dk_at dksX3_callBus_2 22 rfl rfl)
theorem dX3_callBus_69 : decode cX3_callBus 69 = .ok (.aload_n 0, 1) := dk_42 (dk_at dksX3_callBus_2 23 rfl rfl)
theorem dX3_callBus_70 : decode cX3_callBus 70 = .ok (.getfield 62, 3) := dk_180 0 62 (dk_at dksX3_callBus_3 0 rfl rfl)
theorem dX3_callBus_73 : decode cX3_callBus 73 = .ok (.iload_n 1, 1) := dk_27 (dk_at dksX3_callBus_3 3 rfl rfl)
theorem dX3_callBus_74 : decode cX3_callBus 74 = .ok (.iload 4, 2) := dk_21 4 (dk_at dksX3_callBus_3 4 rfl rfl)
theorem dX3_callBus_76 : decode cX3_callBus 76 = .ok (.iastore, 1) := dk_79 (dk_at dksX3_callBus_3 6 rfl rfl)
theorem dX3_callBus_77 : decode cX3_callBus 77 = .ok (.aload_n 0, 1) := dk_42 (dk_at dksX3_callBus_3 7 rfl rfl)
theorem dX3_callBus_78 : decode cX3_callBus 78 = .ok (.getfield 65, 3) := dk_180 0 65 (dk_at dksX3_callBus_3 8 rfl rfl)
theorem dX3_callBus_81 : decode cX3_callBus 81 = .ok (.iload_n 1, 1) := dk_27 (dk_at dksX3_callBus_3 11 rfl rfl)
theorem dX3_callBus_82 : decode cX3_callBus 82 = .ok (.iconst 0, 1) := dk_3 (dk_at dksX3_callBus_3 12 rfl rfl)
theorem dX3_callBus_83 : decode cX3_callBus 83 = .ok (.iastore, 1) := dk_79 (dk_at dksX3_callBus_3 13 rfl rfl)
theorem dX3_callBus_84 : decode cX3_callBus 84 = .ok (.iload_n 3, 1) := dk_29 (dk_at dksX3_callBus_3 14 rfl rfl)
theorem dX3_callBus_85 : decode cX3_callBus 85 = .ok (.iload 4, 2) := dk_21 4 (dk_at dksX3_callBus_3 15 rfl rfl)
theorem dX3_callBus_87 : decode cX3_callBus 87 = .ok (.if_icmp .ne 48, 3) := dk_160 0 48 (dk_at dksX3_callBus_3 17 rfl rfl)
theorem dX3_callBus_90 : decode cX3_callBus 90 = .ok (.iload 4, 2) := dk_21 4 (dk_at dksX3_callBus_3 20 rfl rfl)
theorem dX3_callBus_92 : decode cX3_callBus 92 = .ok (.aload_n 0, 1) := dk_42 (dk_at dksX3_callBus_3 22 rfl rfl)
theorem dX3_callBus_93 : decode cX3_callBus 93 = .ok (.getfield 16, 3) := dk_180 0 16 (dk_at dksX3_callBus_4 0 rfl rfl)
theorem dX3_callBus_96 : decode cX3_callBus 96 = .ok (.iload_n 1, 1) := dk_27 (dk_at dksX3_callBus_4 3 rfl rfl)
theorem dX3_callBus_97 : decode cX3_callBus 97 = .ok (.iaload, 1) := dk_46 (dk_at dksX3_callBus_4 4 rfl rfl)
theorem dX3_callBus_98 : decode cX3_callBus 98 = .ok (.iconst 1, 1) := dk_4 (dk_at dksX3_callBus_4 5 rfl rfl)
theorem dX3_callBus_99 : decode cX3_callBus 99 = .ok (.isub, 1) := dk_100 (dk_at dksX3_callBus_4 6 rfl rfl)
theorem dX3_callBus_100 : decode cX3_callBus 100 = .ok (.if_icmp .ge 35, 3) := dk_162 0 35 (dk_at dksX3_callBus_4 7 rfl rfl)
theorem dX3_callBus_103 : decode cX3_callBus 103 = .ok (.aload_n 0, 1) := dk_42 (dk_at dksX3_callBus_4 10 rfl rfl)
theorem dX3_callBus_104 : decode cX3_callBus 104 = .ok (.getfield 62, 3) := dk_180 0 62 (dk_at dksX3_callBus_4 11 rfl rfl)
theorem dX3_callBus_107 : decode cX3_callBus 107 = .ok (.iload_n 1, 1) := dk_27 (dk_at dksX3_callBus_4 14 rfl rfl)
theorem dX3_callBus_108 : decode cX3_callBus 108 = .ok (.iload 4, 2) := dk_21 4 (dk_at dksX3_callBus_4 15 rfl rfl)
theorem dX3_callBus_110 : decode cX3_callBus 110 = .ok (.iconst 1, 1) := dk_4 (dk_at dksX3_callBus_4 17 rfl rfl)
theorem dX3_callBus_111 : decode cX3_callBus 111 = .ok (.iadd, 1) := dk_96 (dk_at dksX3_callBus_4 18 rfl rfl)
theorem dX3_callBus_112 : decode cX3_callBus 112 = .ok (.iastore, 1) := dk_79 (dk_at dksX3_callBus_4 19 rfl rfl)
theorem dX3_callBus_113 : decode cX3_callBus 113 = .ok (.aload_n 0, 1) := dk_42 (dk_at dksX3_callBus_4 20 rfl rfl)
theorem dX3_callBus_114 : decode cX3_callBus 114 = .ok (.getfield 65, 3) := dk_180 0 65 (dk_at dksX3_callBus_4 21 rfl rfl)
theorem dX3_callBus_117 : decode cX3_callBus 117 = .ok (.iload_n 1, 1) := dk_27 (dk_at dksX3_callBus_5 0 rfl rfl)
theorem dX3_callBus_118 : decode cX3_callBus 118 = .ok (.iconst 5, 1) := dk_8 (dk_at dksX3_callBus_5 1 rfl rfl)
theorem dX3_callBus_119 : decode cX3_callBus 119 = .ok (.aload_n 0, 1) := dk_42 (dk_at dksX3_callBus_5 2 rfl rfl)
theorem dX3_callBus_120 : decode cX3_callBus 120 = .ok (.iload_n 1, 1) := dk_27 (dk_at dksX3_callBus_5 3 rfl rfl)
theorem dX3_callBus_121 : decode cX3_callBus 121 = .ok (.iload 4, 2) := dk_21 4 (dk_at dksX3_callBus_5 4 rfl rfl)
theorem dX3_callBus_123 : decode cX3_callBus 123 = .ok (.iconst 1, 1) := dk_4 (dk_at dksX3_callBus_5 6 rfl rfl)
theorem dX3_callBus_124 : decode cX3_callBus 124 = .ok (.iadd, 1) := dk_96 (dk_at dksX3_callBus_5 7 rfl rfl)
theorem dX3_callBus_125 : decode cX3_callBus 125 = .ok (.invokevirtual 210, 3) := dk_182 0 210 (dk_at dksX3_callBus_5 8 rfl rfl)
theorem dX3_callBus_128 : decode cX3_callBus 128 = .ok (.invokestatic 213, 3) := dk_184 0 213 (dk_at dksX3_callBus_5 11 rfl rfl)
theorem dX3_callBus_131 : decode cX3_callBus 131 = .ok (.iastore, 1) := dk_79 (dk_at dksX3_callBus_5 14 rfl rfl)
theorem dX3_callBus_132 : decode cX3_callBus 132 = .ok (.goto 46, 3) := dk_167 0 46 (dk_at dksX3_callBus_5 15 rfl rfl)
theorem dX3_callBus_135 : decode cX3_callBus 135 = .ok (.iload_n 3, 1) := dk_29 (dk_at dksX3_callBus_5 18 rfl rfl)
theorem dX3_callBus_136 : decode cX3_callBus 136 = .ok (.iconst (-1), 1) := dk_2 (dk_at dksX3_callBus_5 19 rfl rfl)
theorem dX3_callBus_137 : decode cX3_callBus 137 = .ok (.if_icmp .eq 41, 3) := dk_159 0 41 (dk_at dksX3_callBus_5 20 rfl rfl)
theorem dX3_callBus_140 : decode cX3_callBus 140 = .ok (.iload 4, 2) := dk_21 4 (dk_at dksX3_callBus_6 0 rfl rfl)
theorem dX3_callBus_142 : decode cX3_callBus 142 = .ok (.iload_n 3, 1) := dk_29 (dk_at dksX3_callBus_6 2 rfl rfl)
theorem dX3_callBus_143 : decode cX3_callBus 143 = .ok (.if_icmp .le 35, 3) := dk_164 0 35 (dk_at dksX3_callBus_6 3 rfl rfl)
theorem dX3_callBus_146 : decode cX3_callBus 146 = .ok (.aload_n 0, 1) := dk_42 (dk_at dksX3_callBus_6 6 rfl rfl)
theorem dX3_callBus_147 : decode cX3_callBus 147 = .ok (.getfield 62, 3) := dk_180 0 62 (dk_at dksX3_callBus_6 7 rfl rfl)
theorem dX3_callBus_150 : decode cX3_callBus 150 = .ok (.iload_n 1, 1) := dk_27 (dk_at dksX3_callBus_6 10 rfl rfl)
theorem dX3_callBus_151 : decode cX3_callBus 151 = .ok (.iload_n 3, 1) := dk_29 (dk_at dksX3_callBus_6 11 rfl rfl)
theorem dX3_callBus_152 : decode cX3_callBus 152 = .ok (.iastore, 1) := dk_79 (dk_at dksX3_callBus_6 12 rfl rfl)
theorem dX3_callBus_153 : decode cX3_callBus 153 = .ok (.aload_n 0, 1) := dk_42 (dk_at dksX3_callBus_6 13 rfl rfl)
theorem dX3_callBus_154 : decode cX3_callBus 154 = .ok (.getfield 65, 3) := dk_180 0 65 (dk_at dksX3_callBus_6 14 rfl rfl)
theorem dX3_callBus_157 : decode cX3_callBus 157 = .ok (.iload_n 1, 1) := dk_27 (dk_at dksX3_callBus_6 17 rfl rfl)
theorem dX3_callBus_158 : decode cX3_callBus 158 = .ok (.iconst 5, 1) := dk_8 (dk_at dksX3_callBus_6 18 rfl rfl)
theorem dX3_callBus_159 : decode cX3_callBus 159 = .ok (.aload_n 0, 1) := dk_42 (dk_at dksX3_callBus_6 19 rfl rfl)
theorem dX3_callBus_160 : decode cX3_callBus 160 = .ok (.iload_n 1, 1) := dk_27 (dk_at dksX3_callBus_6 20 rfl rfl)
theorem dX3_callBus_161 : decode cX3_callBus 161 = .ok (.iload_n 3, 1) := dk_29 (dk_at dksX3_callBus_6 21 rfl rfl)
theorem dX3_callBus_162 : decode cX3_callBus 162 = .ok (.invokevirtual 216, 3) := dk_182 0 216 (dk_at dksX3_callBus_7 0 rfl rfl)
theorem dX3_callBus_165 : decode cX3_callBus 165 = .ok (.invokestatic 213, 3) := dk_184 0 213 (dk_at dksX3_callBus_7 3 rfl rfl)
theorem dX3_callBus_168 : decode cX3_callBus 168 = .ok (.aload_n 0, 1) := dk_42 (dk_at dksX3_callBus_7 6 rfl rfl)
theorem dX3_callBus_169 : decode cX3_callBus 169 = .ok (.iload_n 1, 1) := dk_27 (dk_at dksX3_callBus_7 7 rfl rfl)
theorem dX3_callBus_170 : decode cX3_callBus 170 = .ok (.iload_n 3, 1) := dk_29 (dk_at dksX3_callBus_7 8 rfl rfl)
theorem dX3_callBus_171 : decode cX3_callBus 171 = .ok (.invokevirtual 210, 3) := dk_182 0 210 (dk_at dksX3_callBus_7 9 rfl rfl)
theorem dX3_callBus_174 : decode cX3_callBus 174 = .ok (.invokestatic 213, 3) := dk_184 0 213 (dk_at dksX3_callBus_7 12 rfl rfl)
theorem dX3_callBus_177 : decode cX3_callBus 177 = .ok (.iastore, 1) := dk_79 (dk_at dksX3_callBus_7 15 rfl rfl)
theorem dX3_callBus_178 : decode cX3_callBus 178 = .ok (.aload_n 0, 1) := dk_42 (dk_at dksX3_callBus_7 16 rfl rfl)
theorem dX3_callBus_179 : decode cX3_callBus 179 = .ok (.getfield 65, 3) := dk_180 0 65 (dk_at dksX3_callBus_7 17 rfl rfl)
theorem dX3_callBus_182 : decode cX3_callBus 182 = .ok (.iload_n 1, 1) := dk_27 (dk_at dksX3_callBus_7 20 rfl rfl)
theorem dX3_callBus_183 : decode cX3_callBus 183 = .ok (.iaload, 1) := dk_46 (dk_at dksX3_callBus_7 21 rfl rfl)
theorem dX3_callBus_184 : decode cX3_callBus 184 = .ok (.ireturn, 1) := dk_172 (dk_at dksX3_callBus_7 22 rfl rfl)
abbrev cX3_errorOfCall : ByteArray := prog_4_method_52_code
def yX3_errorOfCall : MethodName := ⟨RX3, "errorOfCall", "(II)I"⟩
def dkwX3_errorOfCall_3 : List UInt8 := [153, 0, 7, 5, 167, 0, 4, 3, 172]
abbrev dktX3_errorOfCall_3 : List UInt8 := dkwX3_errorOfCall_3 ++ []
def dkwX3_errorOfCall_2 : List UInt8 := [167, 0, 4, 3, 62, 42, 182, 0, 174, 153, 0, 17, 42, 27, 28, 182, 0, 204, 2, 159, 0, 7, 29]
abbrev dktX3_errorOfCall_2 : List UInt8 := dkwX3_errorOfCall_2 ++ dktX3_errorOfCall_3
def dkwX3_errorOfCall_1 : List UInt8 := [153, 0, 25, 42, 180, 0, 56, 27, 46, 42, 27, 42, 180, 0, 90, 182, 0, 151, 160, 0, 7, 4]
abbrev dktX3_errorOfCall_1 : List UInt8 := dkwX3_errorOfCall_1 ++ dktX3_errorOfCall_2
def dkwX3_errorOfCall_0 : List UInt8 := [42, 27, 182, 0, 118, 153, 0, 10, 28, 184, 0, 121, 154, 0, 5, 4, 172, 42, 180, 0, 53, 27, 51]
abbrev dktX3_errorOfCall_0 : List UInt8 := dkwX3_errorOfCall_0 ++ dktX3_errorOfCall_1
theorem dksX3_errorOfCall_0 : cX3_errorOfCall.data.toList.drop 0 = dktX3_errorOfCall_0 := by decide +kernel
theorem dksX3_errorOfCall_1 : cX3_errorOfCall.data.toList.drop 23 = dktX3_errorOfCall_1 := dk_seg dksX3_errorOfCall_0 23 rfl rfl
theorem dksX3_errorOfCall_2 : cX3_errorOfCall.data.toList.drop 45 = dktX3_errorOfCall_2 := dk_seg dksX3_errorOfCall_1 22 rfl rfl
theorem dksX3_errorOfCall_3 : cX3_errorOfCall.data.toList.drop 68 = dktX3_errorOfCall_3 := dk_seg dksX3_errorOfCall_2 23 rfl rfl
theorem dX3_errorOfCall_0 : decode cX3_errorOfCall 0 = .ok (.aload_n 0, 1) := dk_42 (dk_at dksX3_errorOfCall_0 0 rfl rfl)
theorem dX3_errorOfCall_1 : decode cX3_errorOfCall 1 = .ok (.iload_n 1, 1) := dk_27 (dk_at dksX3_errorOfCall_0 1 rfl rfl)
theorem dX3_errorOfCall_2 : decode cX3_errorOfCall 2 = .ok (.invokevirtual 118, 3) := dk_182 0 118 (dk_at dksX3_errorOfCall_0 2 rfl rfl)
theorem dX3_errorOfCall_5 : decode cX3_errorOfCall 5 = .ok (.ifCond .eq 10, 3) := dk_153 0 10 (dk_at dksX3_errorOfCall_0 5 rfl rfl)
theorem dX3_errorOfCall_8 : decode cX3_errorOfCall 8 = .ok (.iload_n 2, 1) := dk_28 (dk_at dksX3_errorOfCall_0 8 rfl rfl)
theorem dX3_errorOfCall_9 : decode cX3_errorOfCall 9 = .ok (.invokestatic 121, 3) := dk_184 0 121 (dk_at dksX3_errorOfCall_0 9 rfl rfl)
theorem dX3_errorOfCall_12 : decode cX3_errorOfCall 12 = .ok (.ifCond .ne 5, 3) := dk_154 0 5 (dk_at dksX3_errorOfCall_0 12 rfl rfl)
theorem dX3_errorOfCall_15 : decode cX3_errorOfCall 15 = .ok (.iconst 1, 1) := dk_4 (dk_at dksX3_errorOfCall_0 15 rfl rfl)
theorem dX3_errorOfCall_16 : decode cX3_errorOfCall 16 = .ok (.ireturn, 1) := dk_172 (dk_at dksX3_errorOfCall_0 16 rfl rfl)
theorem dX3_errorOfCall_17 : decode cX3_errorOfCall 17 = .ok (.aload_n 0, 1) := dk_42 (dk_at dksX3_errorOfCall_0 17 rfl rfl)
theorem dX3_errorOfCall_18 : decode cX3_errorOfCall 18 = .ok (.getfield 53, 3) := dk_180 0 53 (dk_at dksX3_errorOfCall_0 18 rfl rfl)
theorem dX3_errorOfCall_21 : decode cX3_errorOfCall 21 = .ok (.iload_n 1, 1) := dk_27 (dk_at dksX3_errorOfCall_0 21 rfl rfl)
theorem dX3_errorOfCall_22 : decode cX3_errorOfCall 22 = .ok (.baload, 1) := dk_51 (dk_at dksX3_errorOfCall_0 22 rfl rfl)
theorem dX3_errorOfCall_23 : decode cX3_errorOfCall 23 = .ok (.ifCond .eq 25, 3) := dk_153 0 25 (dk_at dksX3_errorOfCall_1 0 rfl rfl)
theorem dX3_errorOfCall_26 : decode cX3_errorOfCall 26 = .ok (.aload_n 0, 1) := dk_42 (dk_at dksX3_errorOfCall_1 3 rfl rfl)
theorem dX3_errorOfCall_27 : decode cX3_errorOfCall 27 = .ok (.getfield 56, 3) := dk_180 0 56 (dk_at dksX3_errorOfCall_1 4 rfl rfl)
theorem dX3_errorOfCall_30 : decode cX3_errorOfCall 30 = .ok (.iload_n 1, 1) := dk_27 (dk_at dksX3_errorOfCall_1 7 rfl rfl)
theorem dX3_errorOfCall_31 : decode cX3_errorOfCall 31 = .ok (.iaload, 1) := dk_46 (dk_at dksX3_errorOfCall_1 8 rfl rfl)
theorem dX3_errorOfCall_32 : decode cX3_errorOfCall 32 = .ok (.aload_n 0, 1) := dk_42 (dk_at dksX3_errorOfCall_1 9 rfl rfl)
theorem dX3_errorOfCall_33 : decode cX3_errorOfCall 33 = .ok (.iload_n 1, 1) := dk_27 (dk_at dksX3_errorOfCall_1 10 rfl rfl)
theorem dX3_errorOfCall_34 : decode cX3_errorOfCall 34 = .ok (.aload_n 0, 1) := dk_42 (dk_at dksX3_errorOfCall_1 11 rfl rfl)
theorem dX3_errorOfCall_35 : decode cX3_errorOfCall 35 = .ok (.getfield 90, 3) := dk_180 0 90 (dk_at dksX3_errorOfCall_1 12 rfl rfl)
theorem dX3_errorOfCall_38 : decode cX3_errorOfCall 38 = .ok (.invokevirtual 151, 3) := dk_182 0 151 (dk_at dksX3_errorOfCall_1 15 rfl rfl)
theorem dX3_errorOfCall_41 : decode cX3_errorOfCall 41 = .ok (.if_icmp .ne 7, 3) := dk_160 0 7 (dk_at dksX3_errorOfCall_1 18 rfl rfl)
theorem dX3_errorOfCall_44 : decode cX3_errorOfCall 44 = .ok (.iconst 1, 1) := dk_4 (dk_at dksX3_errorOfCall_1 21 rfl rfl)
theorem dX3_errorOfCall_45 : decode cX3_errorOfCall 45 = .ok (.goto 4, 3) := dk_167 0 4 (dk_at dksX3_errorOfCall_2 0 rfl rfl)
theorem dX3_errorOfCall_48 : decode cX3_errorOfCall 48 = .ok (.iconst 0, 1) := dk_3 (dk_at dksX3_errorOfCall_2 3 rfl rfl)
theorem dX3_errorOfCall_49 : decode cX3_errorOfCall 49 = .ok (.istore_n 3, 1) := dk_62 (dk_at dksX3_errorOfCall_2 4 rfl rfl)
theorem dX3_errorOfCall_50 : decode cX3_errorOfCall 50 = .ok (.aload_n 0, 1) := dk_42 (dk_at dksX3_errorOfCall_2 5 rfl rfl)
theorem dX3_errorOfCall_51 : decode cX3_errorOfCall 51 = .ok (.invokevirtual 174, 3) := dk_182 0 174 (dk_at dksX3_errorOfCall_2 6 rfl rfl)
theorem dX3_errorOfCall_54 : decode cX3_errorOfCall 54 = .ok (.ifCond .eq 17, 3) := dk_153 0 17 (dk_at dksX3_errorOfCall_2 9 rfl rfl)
theorem dX3_errorOfCall_57 : decode cX3_errorOfCall 57 = .ok (.aload_n 0, 1) := dk_42 (dk_at dksX3_errorOfCall_2 12 rfl rfl)
theorem dX3_errorOfCall_58 : decode cX3_errorOfCall 58 = .ok (.iload_n 1, 1) := dk_27 (dk_at dksX3_errorOfCall_2 13 rfl rfl)
theorem dX3_errorOfCall_59 : decode cX3_errorOfCall 59 = .ok (.iload_n 2, 1) := dk_28 (dk_at dksX3_errorOfCall_2 14 rfl rfl)
theorem dX3_errorOfCall_60 : decode cX3_errorOfCall 60 = .ok (.invokevirtual 204, 3) := dk_182 0 204 (dk_at dksX3_errorOfCall_2 15 rfl rfl)
theorem dX3_errorOfCall_63 : decode cX3_errorOfCall 63 = .ok (.iconst (-1), 1) := dk_2 (dk_at dksX3_errorOfCall_2 18 rfl rfl)
theorem dX3_errorOfCall_64 : decode cX3_errorOfCall 64 = .ok (.if_icmp .eq 7, 3) := dk_159 0 7 (dk_at dksX3_errorOfCall_2 19 rfl rfl)
theorem dX3_errorOfCall_67 : decode cX3_errorOfCall 67 = .ok (.iload_n 3, 1) := dk_29 (dk_at dksX3_errorOfCall_2 22 rfl rfl)
theorem dX3_errorOfCall_68 : decode cX3_errorOfCall 68 = .ok (.ifCond .eq 7, 3) := dk_153 0 7 (dk_at dksX3_errorOfCall_3 0 rfl rfl)
theorem dX3_errorOfCall_71 : decode cX3_errorOfCall 71 = .ok (.iconst 2, 1) := dk_5 (dk_at dksX3_errorOfCall_3 3 rfl rfl)
theorem dX3_errorOfCall_72 : decode cX3_errorOfCall 72 = .ok (.goto 4, 3) := dk_167 0 4 (dk_at dksX3_errorOfCall_3 4 rfl rfl)
theorem dX3_errorOfCall_75 : decode cX3_errorOfCall 75 = .ok (.iconst 0, 1) := dk_3 (dk_at dksX3_errorOfCall_3 7 rfl rfl)
theorem dX3_errorOfCall_76 : decode cX3_errorOfCall 76 = .ok (.ireturn, 1) := dk_172 (dk_at dksX3_errorOfCall_3 8 rfl rfl)
abbrev cX3_phaseOf : ByteArray := prog_4_method_51_code
def yX3_phaseOf : MethodName := ⟨RX3, "phaseOf", "(II)I"⟩
def dkwX3_phaseOf_1 : List UInt8 := [184, 0, 106, 153, 0, 5, 29, 172, 132, 3, 1, 167, 255, 224, 2, 172]
abbrev dktX3_phaseOf_1 : List UInt8 := dkwX3_phaseOf_1 ++ []
def dkwX3_phaseOf_0 : List UInt8 := [3, 62, 29, 42, 180, 0, 16, 27, 46, 162, 0, 28, 42, 180, 0, 13, 7, 27, 104, 29, 96, 46, 28]
abbrev dktX3_phaseOf_0 : List UInt8 := dkwX3_phaseOf_0 ++ dktX3_phaseOf_1
theorem dksX3_phaseOf_0 : cX3_phaseOf.data.toList.drop 0 = dktX3_phaseOf_0 := by decide +kernel
theorem dksX3_phaseOf_1 : cX3_phaseOf.data.toList.drop 23 = dktX3_phaseOf_1 := dk_seg dksX3_phaseOf_0 23 rfl rfl
theorem dX3_phaseOf_0 : decode cX3_phaseOf 0 = .ok (.iconst 0, 1) := dk_3 (dk_at dksX3_phaseOf_0 0 rfl rfl)
theorem dX3_phaseOf_1 : decode cX3_phaseOf 1 = .ok (.istore_n 3, 1) := dk_62 (dk_at dksX3_phaseOf_0 1 rfl rfl)
theorem dX3_phaseOf_2 : decode cX3_phaseOf 2 = .ok (.iload_n 3, 1) := dk_29 (dk_at dksX3_phaseOf_0 2 rfl rfl)
theorem dX3_phaseOf_3 : decode cX3_phaseOf 3 = .ok (.aload_n 0, 1) := dk_42 (dk_at dksX3_phaseOf_0 3 rfl rfl)
theorem dX3_phaseOf_4 : decode cX3_phaseOf 4 = .ok (.getfield 16, 3) := dk_180 0 16 (dk_at dksX3_phaseOf_0 4 rfl rfl)
theorem dX3_phaseOf_7 : decode cX3_phaseOf 7 = .ok (.iload_n 1, 1) := dk_27 (dk_at dksX3_phaseOf_0 7 rfl rfl)
theorem dX3_phaseOf_8 : decode cX3_phaseOf 8 = .ok (.iaload, 1) := dk_46 (dk_at dksX3_phaseOf_0 8 rfl rfl)
theorem dX3_phaseOf_9 : decode cX3_phaseOf 9 = .ok (.if_icmp .ge 28, 3) := dk_162 0 28 (dk_at dksX3_phaseOf_0 9 rfl rfl)
theorem dX3_phaseOf_12 : decode cX3_phaseOf 12 = .ok (.aload_n 0, 1) := dk_42 (dk_at dksX3_phaseOf_0 12 rfl rfl)
theorem dX3_phaseOf_13 : decode cX3_phaseOf 13 = .ok (.getfield 13, 3) := dk_180 0 13 (dk_at dksX3_phaseOf_0 13 rfl rfl)
theorem dX3_phaseOf_16 : decode cX3_phaseOf 16 = .ok (.iconst 4, 1) := dk_7 (dk_at dksX3_phaseOf_0 16 rfl rfl)
theorem dX3_phaseOf_17 : decode cX3_phaseOf 17 = .ok (.iload_n 1, 1) := dk_27 (dk_at dksX3_phaseOf_0 17 rfl rfl)
theorem dX3_phaseOf_18 : decode cX3_phaseOf 18 = .ok (.imul, 1) := dk_104 (dk_at dksX3_phaseOf_0 18 rfl rfl)
theorem dX3_phaseOf_19 : decode cX3_phaseOf 19 = .ok (.iload_n 3, 1) := dk_29 (dk_at dksX3_phaseOf_0 19 rfl rfl)
theorem dX3_phaseOf_20 : decode cX3_phaseOf 20 = .ok (.iadd, 1) := dk_96 (dk_at dksX3_phaseOf_0 20 rfl rfl)
theorem dX3_phaseOf_21 : decode cX3_phaseOf 21 = .ok (.iaload, 1) := dk_46 (dk_at dksX3_phaseOf_0 21 rfl rfl)
theorem dX3_phaseOf_22 : decode cX3_phaseOf 22 = .ok (.iload_n 2, 1) := dk_28 (dk_at dksX3_phaseOf_0 22 rfl rfl)
theorem dX3_phaseOf_23 : decode cX3_phaseOf 23 = .ok (.invokestatic 106, 3) := dk_184 0 106 (dk_at dksX3_phaseOf_1 0 rfl rfl)
theorem dX3_phaseOf_26 : decode cX3_phaseOf 26 = .ok (.ifCond .eq 5, 3) := dk_153 0 5 (dk_at dksX3_phaseOf_1 3 rfl rfl)
theorem dX3_phaseOf_29 : decode cX3_phaseOf 29 = .ok (.iload_n 3, 1) := dk_29 (dk_at dksX3_phaseOf_1 6 rfl rfl)
theorem dX3_phaseOf_30 : decode cX3_phaseOf 30 = .ok (.ireturn, 1) := dk_172 (dk_at dksX3_phaseOf_1 7 rfl rfl)
theorem dX3_phaseOf_31 : decode cX3_phaseOf 31 = .ok (.iinc 3 1, 3) := dk_132 3 1 (dk_at dksX3_phaseOf_1 8 rfl rfl)
theorem dX3_phaseOf_34 : decode cX3_phaseOf 34 = .ok (.goto (-32), 3) := dk_167 255 224 (dk_at dksX3_phaseOf_1 11 rfl rfl)
theorem dX3_phaseOf_37 : decode cX3_phaseOf 37 = .ok (.iconst (-1), 1) := dk_2 (dk_at dksX3_phaseOf_1 14 rfl rfl)
theorem dX3_phaseOf_38 : decode cX3_phaseOf 38 = .ok (.ireturn, 1) := dk_172 (dk_at dksX3_phaseOf_1 15 rfl rfl)
abbrev cX3_above : ByteArray := prog_4_method_54_code
def yX3_above : MethodName := ⟨RX3, "above", "(II)I"⟩
def dkwX3_above_0 : List UInt8 := [42, 180, 0, 31, 7, 27, 104, 28, 96, 46, 42, 27, 28, 182, 0, 138, 100, 172]
abbrev dktX3_above_0 : List UInt8 := dkwX3_above_0 ++ []
theorem dksX3_above_0 : cX3_above.data.toList.drop 0 = dktX3_above_0 := by decide +kernel
theorem dX3_above_0 : decode cX3_above 0 = .ok (.aload_n 0, 1) := dk_42 (dk_at dksX3_above_0 0 rfl rfl)
theorem dX3_above_1 : decode cX3_above 1 = .ok (.getfield 31, 3) := dk_180 0 31 (dk_at dksX3_above_0 1 rfl rfl)
theorem dX3_above_4 : decode cX3_above 4 = .ok (.iconst 4, 1) := dk_7 (dk_at dksX3_above_0 4 rfl rfl)
theorem dX3_above_5 : decode cX3_above 5 = .ok (.iload_n 1, 1) := dk_27 (dk_at dksX3_above_0 5 rfl rfl)
theorem dX3_above_6 : decode cX3_above 6 = .ok (.imul, 1) := dk_104 (dk_at dksX3_above_0 6 rfl rfl)
theorem dX3_above_7 : decode cX3_above 7 = .ok (.iload_n 2, 1) := dk_28 (dk_at dksX3_above_0 7 rfl rfl)
theorem dX3_above_8 : decode cX3_above 8 = .ok (.iadd, 1) := dk_96 (dk_at dksX3_above_0 8 rfl rfl)
theorem dX3_above_9 : decode cX3_above 9 = .ok (.iaload, 1) := dk_46 (dk_at dksX3_above_0 9 rfl rfl)
theorem dX3_above_10 : decode cX3_above 10 = .ok (.aload_n 0, 1) := dk_42 (dk_at dksX3_above_0 10 rfl rfl)
theorem dX3_above_11 : decode cX3_above 11 = .ok (.iload_n 1, 1) := dk_27 (dk_at dksX3_above_0 11 rfl rfl)
theorem dX3_above_12 : decode cX3_above 12 = .ok (.iload_n 2, 1) := dk_28 (dk_at dksX3_above_0 12 rfl rfl)
theorem dX3_above_13 : decode cX3_above 13 = .ok (.invokevirtual 138, 3) := dk_182 0 138 (dk_at dksX3_above_0 13 rfl rfl)
theorem dX3_above_16 : decode cX3_above 16 = .ok (.isub, 1) := dk_100 (dk_at dksX3_above_0 16 rfl rfl)
theorem dX3_above_17 : decode cX3_above 17 = .ok (.ireturn, 1) := dk_172 (dk_at dksX3_above_0 17 rfl rfl)
abbrev cX3_least : ByteArray := prog_4_method_53_code
def yX3_least : MethodName := ⟨RX3, "least", "(II)I"⟩
def dkwX3_least_0 : List UInt8 := [26, 27, 162, 0, 7, 26, 167, 0, 4, 27, 172]
abbrev dktX3_least_0 : List UInt8 := dkwX3_least_0 ++ []
theorem dksX3_least_0 : cX3_least.data.toList.drop 0 = dktX3_least_0 := by decide +kernel
theorem dX3_least_0 : decode cX3_least 0 = .ok (.iload_n 0, 1) := dk_26 (dk_at dksX3_least_0 0 rfl rfl)
theorem dX3_least_1 : decode cX3_least 1 = .ok (.iload_n 1, 1) := dk_27 (dk_at dksX3_least_0 1 rfl rfl)
theorem dX3_least_2 : decode cX3_least 2 = .ok (.if_icmp .ge 7, 3) := dk_162 0 7 (dk_at dksX3_least_0 2 rfl rfl)
theorem dX3_least_5 : decode cX3_least 5 = .ok (.iload_n 0, 1) := dk_26 (dk_at dksX3_least_0 5 rfl rfl)
theorem dX3_least_6 : decode cX3_least 6 = .ok (.goto 4, 3) := dk_167 0 4 (dk_at dksX3_least_0 6 rfl rfl)
theorem dX3_least_9 : decode cX3_least 9 = .ok (.iload_n 1, 1) := dk_27 (dk_at dksX3_least_0 9 rfl rfl)
theorem dX3_least_10 : decode cX3_least 10 = .ok (.ireturn, 1) := dk_172 (dk_at dksX3_least_0 10 rfl rfl)
abbrev cX3_behind : ByteArray := prog_4_method_55_code
def yX3_behind : MethodName := ⟨RX3, "behind", "(II)I"⟩
def dkwX3_behind_2 : List UInt8 := [182, 0, 151, 42, 27, 42, 180, 0, 90, 182, 0, 151, 160, 0, 9, 132, 3, 1, 167, 255, 194, 29, 172]
abbrev dktX3_behind_2 : List UInt8 := dkwX3_behind_2 ++ []
def dkwX3_behind_1 : List UInt8 := [180, 0, 31, 7, 27, 104, 28, 96, 46, 4, 100, 162, 0, 34, 42, 27, 42, 180, 0, 90, 29, 96, 4, 96]
abbrev dktX3_behind_1 : List UInt8 := dkwX3_behind_1 ++ dktX3_behind_2
def dkwX3_behind_0 : List UInt8 := [3, 62, 42, 27, 42, 180, 0, 90, 29, 96, 4, 96, 3, 182, 0, 154, 28, 160, 0, 50, 29, 42]
abbrev dktX3_behind_0 : List UInt8 := dkwX3_behind_0 ++ dktX3_behind_1
theorem dksX3_behind_0 : cX3_behind.data.toList.drop 0 = dktX3_behind_0 := by decide +kernel
theorem dksX3_behind_1 : cX3_behind.data.toList.drop 22 = dktX3_behind_1 := dk_seg dksX3_behind_0 22 rfl rfl
theorem dksX3_behind_2 : cX3_behind.data.toList.drop 46 = dktX3_behind_2 := dk_seg dksX3_behind_1 24 rfl rfl
theorem dX3_behind_0 : decode cX3_behind 0 = .ok (.iconst 0, 1) := dk_3 (dk_at dksX3_behind_0 0 rfl rfl)
theorem dX3_behind_1 : decode cX3_behind 1 = .ok (.istore_n 3, 1) := dk_62 (dk_at dksX3_behind_0 1 rfl rfl)
theorem dX3_behind_2 : decode cX3_behind 2 = .ok (.aload_n 0, 1) := dk_42 (dk_at dksX3_behind_0 2 rfl rfl)
theorem dX3_behind_3 : decode cX3_behind 3 = .ok (.iload_n 1, 1) := dk_27 (dk_at dksX3_behind_0 3 rfl rfl)
theorem dX3_behind_4 : decode cX3_behind 4 = .ok (.aload_n 0, 1) := dk_42 (dk_at dksX3_behind_0 4 rfl rfl)
theorem dX3_behind_5 : decode cX3_behind 5 = .ok (.getfield 90, 3) := dk_180 0 90 (dk_at dksX3_behind_0 5 rfl rfl)
theorem dX3_behind_8 : decode cX3_behind 8 = .ok (.iload_n 3, 1) := dk_29 (dk_at dksX3_behind_0 8 rfl rfl)
theorem dX3_behind_9 : decode cX3_behind 9 = .ok (.iadd, 1) := dk_96 (dk_at dksX3_behind_0 9 rfl rfl)
theorem dX3_behind_10 : decode cX3_behind 10 = .ok (.iconst 1, 1) := dk_4 (dk_at dksX3_behind_0 10 rfl rfl)
theorem dX3_behind_11 : decode cX3_behind 11 = .ok (.iadd, 1) := dk_96 (dk_at dksX3_behind_0 11 rfl rfl)
theorem dX3_behind_12 : decode cX3_behind 12 = .ok (.iconst 0, 1) := dk_3 (dk_at dksX3_behind_0 12 rfl rfl)
theorem dX3_behind_13 : decode cX3_behind 13 = .ok (.invokevirtual 154, 3) := dk_182 0 154 (dk_at dksX3_behind_0 13 rfl rfl)
theorem dX3_behind_16 : decode cX3_behind 16 = .ok (.iload_n 2, 1) := dk_28 (dk_at dksX3_behind_0 16 rfl rfl)
theorem dX3_behind_17 : decode cX3_behind 17 = .ok (.if_icmp .ne 50, 3) := dk_160 0 50 (dk_at dksX3_behind_0 17 rfl rfl)
theorem dX3_behind_20 : decode cX3_behind 20 = .ok (.iload_n 3, 1) := dk_29 (dk_at dksX3_behind_0 20 rfl rfl)
theorem dX3_behind_21 : decode cX3_behind 21 = .ok (.aload_n 0, 1) := dk_42 (dk_at dksX3_behind_0 21 rfl rfl)
theorem dX3_behind_22 : decode cX3_behind 22 = .ok (.getfield 31, 3) := dk_180 0 31 (dk_at dksX3_behind_1 0 rfl rfl)
theorem dX3_behind_25 : decode cX3_behind 25 = .ok (.iconst 4, 1) := dk_7 (dk_at dksX3_behind_1 3 rfl rfl)
theorem dX3_behind_26 : decode cX3_behind 26 = .ok (.iload_n 1, 1) := dk_27 (dk_at dksX3_behind_1 4 rfl rfl)
theorem dX3_behind_27 : decode cX3_behind 27 = .ok (.imul, 1) := dk_104 (dk_at dksX3_behind_1 5 rfl rfl)
theorem dX3_behind_28 : decode cX3_behind 28 = .ok (.iload_n 2, 1) := dk_28 (dk_at dksX3_behind_1 6 rfl rfl)
theorem dX3_behind_29 : decode cX3_behind 29 = .ok (.iadd, 1) := dk_96 (dk_at dksX3_behind_1 7 rfl rfl)
theorem dX3_behind_30 : decode cX3_behind 30 = .ok (.iaload, 1) := dk_46 (dk_at dksX3_behind_1 8 rfl rfl)
theorem dX3_behind_31 : decode cX3_behind 31 = .ok (.iconst 1, 1) := dk_4 (dk_at dksX3_behind_1 9 rfl rfl)
theorem dX3_behind_32 : decode cX3_behind 32 = .ok (.isub, 1) := dk_100 (dk_at dksX3_behind_1 10 rfl rfl)
theorem dX3_behind_33 : decode cX3_behind 33 = .ok (.if_icmp .ge 34, 3) := dk_162 0 34 (dk_at dksX3_behind_1 11 rfl rfl)
theorem dX3_behind_36 : decode cX3_behind 36 = .ok (.aload_n 0, 1) := dk_42 (dk_at dksX3_behind_1 14 rfl rfl)
theorem dX3_behind_37 : decode cX3_behind 37 = .ok (.iload_n 1, 1) := dk_27 (dk_at dksX3_behind_1 15 rfl rfl)
theorem dX3_behind_38 : decode cX3_behind 38 = .ok (.aload_n 0, 1) := dk_42 (dk_at dksX3_behind_1 16 rfl rfl)
theorem dX3_behind_39 : decode cX3_behind 39 = .ok (.getfield 90, 3) := dk_180 0 90 (dk_at dksX3_behind_1 17 rfl rfl)
theorem dX3_behind_42 : decode cX3_behind 42 = .ok (.iload_n 3, 1) := dk_29 (dk_at dksX3_behind_1 20 rfl rfl)
theorem dX3_behind_43 : decode cX3_behind 43 = .ok (.iadd, 1) := dk_96 (dk_at dksX3_behind_1 21 rfl rfl)
theorem dX3_behind_44 : decode cX3_behind 44 = .ok (.iconst 1, 1) := dk_4 (dk_at dksX3_behind_1 22 rfl rfl)
theorem dX3_behind_45 : decode cX3_behind 45 = .ok (.iadd, 1) := dk_96 (dk_at dksX3_behind_1 23 rfl rfl)
theorem dX3_behind_46 : decode cX3_behind 46 = .ok (.invokevirtual 151, 3) := dk_182 0 151 (dk_at dksX3_behind_2 0 rfl rfl)
theorem dX3_behind_49 : decode cX3_behind 49 = .ok (.aload_n 0, 1) := dk_42 (dk_at dksX3_behind_2 3 rfl rfl)
theorem dX3_behind_50 : decode cX3_behind 50 = .ok (.iload_n 1, 1) := dk_27 (dk_at dksX3_behind_2 4 rfl rfl)
theorem dX3_behind_51 : decode cX3_behind 51 = .ok (.aload_n 0, 1) := dk_42 (dk_at dksX3_behind_2 5 rfl rfl)
theorem dX3_behind_52 : decode cX3_behind 52 = .ok (.getfield 90, 3) := dk_180 0 90 (dk_at dksX3_behind_2 6 rfl rfl)
theorem dX3_behind_55 : decode cX3_behind 55 = .ok (.invokevirtual 151, 3) := dk_182 0 151 (dk_at dksX3_behind_2 9 rfl rfl)
theorem dX3_behind_58 : decode cX3_behind 58 = .ok (.if_icmp .ne 9, 3) := dk_160 0 9 (dk_at dksX3_behind_2 12 rfl rfl)
theorem dX3_behind_61 : decode cX3_behind 61 = .ok (.iinc 3 1, 3) := dk_132 3 1 (dk_at dksX3_behind_2 15 rfl rfl)
theorem dX3_behind_64 : decode cX3_behind 64 = .ok (.goto (-62), 3) := dk_167 255 194 (dk_at dksX3_behind_2 18 rfl rfl)
theorem dX3_behind_67 : decode cX3_behind 67 = .ok (.iload_n 3, 1) := dk_29 (dk_at dksX3_behind_2 21 rfl rfl)
theorem dX3_behind_68 : decode cX3_behind 68 = .ok (.ireturn, 1) := dk_172 (dk_at dksX3_behind_2 22 rfl rfl)
abbrev cX3_clock : ByteArray := prog_4_method_57_code
def yX3_clock : MethodName := ⟨RX3, "clock", "()I"⟩
def dkwX3_clock_0 : List UInt8 := [42, 3, 181, 0, 72, 42, 180, 0, 90, 172]
abbrev dktX3_clock_0 : List UInt8 := dkwX3_clock_0 ++ []
theorem dksX3_clock_0 : cX3_clock.data.toList.drop 0 = dktX3_clock_0 := by decide +kernel
theorem dX3_clock_0 : decode cX3_clock 0 = .ok (.aload_n 0, 1) := dk_42 (dk_at dksX3_clock_0 0 rfl rfl)
theorem dX3_clock_1 : decode cX3_clock 1 = .ok (.iconst 0, 1) := dk_3 (dk_at dksX3_clock_0 1 rfl rfl)
theorem dX3_clock_2 : decode cX3_clock 2 = .ok (.putfield 72, 3) := dk_181 0 72 (dk_at dksX3_clock_0 2 rfl rfl)
theorem dX3_clock_5 : decode cX3_clock 5 = .ok (.aload_n 0, 1) := dk_42 (dk_at dksX3_clock_0 5 rfl rfl)
theorem dX3_clock_6 : decode cX3_clock 6 = .ok (.getfield 90, 3) := dk_180 0 90 (dk_at dksX3_clock_0 6 rfl rfl)
theorem dX3_clock_9 : decode cX3_clock 9 = .ok (.ireturn, 1) := dk_172 (dk_at dksX3_clock_0 9 rfl rfl)
abbrev cX3_phaseNow : ByteArray := prog_4_method_58_code
def yX3_phaseNow : MethodName := ⟨RX3, "phaseNow", "(I)I"⟩
def dkwX3_phaseNow_2 : List UInt8 := [172]
abbrev dktX3_phaseNow_2 : List UInt8 := dkwX3_phaseNow_2 ++ []
def dkwX3_phaseNow_1 : List UInt8 := [167, 0, 4, 5, 182, 0, 102, 153, 0, 16, 42, 27, 42, 180, 0, 90, 4, 182, 0, 154, 167, 0, 4, 3]
abbrev dktX3_phaseNow_1 : List UInt8 := dkwX3_phaseNow_1 ++ dktX3_phaseNow_2
def dkwX3_phaseNow_0 : List UInt8 := [42, 42, 27, 182, 0, 118, 154, 0, 7, 4, 167, 0, 16, 42, 27, 182, 0, 181, 153, 0, 7, 3]
abbrev dktX3_phaseNow_0 : List UInt8 := dkwX3_phaseNow_0 ++ dktX3_phaseNow_1
theorem dksX3_phaseNow_0 : cX3_phaseNow.data.toList.drop 0 = dktX3_phaseNow_0 := by decide +kernel
theorem dksX3_phaseNow_1 : cX3_phaseNow.data.toList.drop 22 = dktX3_phaseNow_1 := dk_seg dksX3_phaseNow_0 22 rfl rfl
theorem dksX3_phaseNow_2 : cX3_phaseNow.data.toList.drop 46 = dktX3_phaseNow_2 := dk_seg dksX3_phaseNow_1 24 rfl rfl
theorem dX3_phaseNow_0 : decode cX3_phaseNow 0 = .ok (.aload_n 0, 1) := dk_42 (dk_at dksX3_phaseNow_0 0 rfl rfl)
theorem dX3_phaseNow_1 : decode cX3_phaseNow 1 = .ok (.aload_n 0, 1) := dk_42 (dk_at dksX3_phaseNow_0 1 rfl rfl)
theorem dX3_phaseNow_2 : decode cX3_phaseNow 2 = .ok (.iload_n 1, 1) := dk_27 (dk_at dksX3_phaseNow_0 2 rfl rfl)
theorem dX3_phaseNow_3 : decode cX3_phaseNow 3 = .ok (.invokevirtual 118, 3) := dk_182 0 118 (dk_at dksX3_phaseNow_0 3 rfl rfl)
theorem dX3_phaseNow_6 : decode cX3_phaseNow 6 = .ok (.ifCond .ne 7, 3) := dk_154 0 7 (dk_at dksX3_phaseNow_0 6 rfl rfl)
theorem dX3_phaseNow_9 : decode cX3_phaseNow 9 = .ok (.iconst 1, 1) := dk_4 (dk_at dksX3_phaseNow_0 9 rfl rfl)
theorem dX3_phaseNow_10 : decode cX3_phaseNow 10 = .ok (.goto 16, 3) := dk_167 0 16 (dk_at dksX3_phaseNow_0 10 rfl rfl)
theorem dX3_phaseNow_13 : decode cX3_phaseNow 13 = .ok (.aload_n 0, 1) := dk_42 (dk_at dksX3_phaseNow_0 13 rfl rfl)
theorem dX3_phaseNow_14 : decode cX3_phaseNow 14 = .ok (.iload_n 1, 1) := dk_27 (dk_at dksX3_phaseNow_0 14 rfl rfl)
theorem dX3_phaseNow_15 : decode cX3_phaseNow 15 = .ok (.invokevirtual 181, 3) := dk_182 0 181 (dk_at dksX3_phaseNow_0 15 rfl rfl)
theorem dX3_phaseNow_18 : decode cX3_phaseNow 18 = .ok (.ifCond .eq 7, 3) := dk_153 0 7 (dk_at dksX3_phaseNow_0 18 rfl rfl)
theorem dX3_phaseNow_21 : decode cX3_phaseNow 21 = .ok (.iconst 0, 1) := dk_3 (dk_at dksX3_phaseNow_0 21 rfl rfl)
theorem dX3_phaseNow_22 : decode cX3_phaseNow 22 = .ok (.goto 4, 3) := dk_167 0 4 (dk_at dksX3_phaseNow_1 0 rfl rfl)
theorem dX3_phaseNow_25 : decode cX3_phaseNow 25 = .ok (.iconst 2, 1) := dk_5 (dk_at dksX3_phaseNow_1 3 rfl rfl)
theorem dX3_phaseNow_26 : decode cX3_phaseNow 26 = .ok (.invokevirtual 102, 3) := dk_182 0 102 (dk_at dksX3_phaseNow_1 4 rfl rfl)
theorem dX3_phaseNow_29 : decode cX3_phaseNow 29 = .ok (.ifCond .eq 16, 3) := dk_153 0 16 (dk_at dksX3_phaseNow_1 7 rfl rfl)
theorem dX3_phaseNow_32 : decode cX3_phaseNow 32 = .ok (.aload_n 0, 1) := dk_42 (dk_at dksX3_phaseNow_1 10 rfl rfl)
theorem dX3_phaseNow_33 : decode cX3_phaseNow 33 = .ok (.iload_n 1, 1) := dk_27 (dk_at dksX3_phaseNow_1 11 rfl rfl)
theorem dX3_phaseNow_34 : decode cX3_phaseNow 34 = .ok (.aload_n 0, 1) := dk_42 (dk_at dksX3_phaseNow_1 12 rfl rfl)
theorem dX3_phaseNow_35 : decode cX3_phaseNow 35 = .ok (.getfield 90, 3) := dk_180 0 90 (dk_at dksX3_phaseNow_1 13 rfl rfl)
theorem dX3_phaseNow_38 : decode cX3_phaseNow 38 = .ok (.iconst 1, 1) := dk_4 (dk_at dksX3_phaseNow_1 16 rfl rfl)
theorem dX3_phaseNow_39 : decode cX3_phaseNow 39 = .ok (.invokevirtual 154, 3) := dk_182 0 154 (dk_at dksX3_phaseNow_1 17 rfl rfl)
theorem dX3_phaseNow_42 : decode cX3_phaseNow 42 = .ok (.goto 4, 3) := dk_167 0 4 (dk_at dksX3_phaseNow_1 20 rfl rfl)
theorem dX3_phaseNow_45 : decode cX3_phaseNow 45 = .ok (.iconst 0, 1) := dk_3 (dk_at dksX3_phaseNow_1 23 rfl rfl)
theorem dX3_phaseNow_46 : decode cX3_phaseNow 46 = .ok (.ireturn, 1) := dk_172 (dk_at dksX3_phaseNow_2 0 rfl rfl)
abbrev cX3_queue : ByteArray := prog_4_method_59_code
def yX3_queue : MethodName := ⟨RX3, "queue", "(I)I"⟩
def dkwX3_queue_1 : List UInt8 := [27, 46, 167, 0, 4, 3, 172]
abbrev dktX3_queue_1 : List UInt8 := dkwX3_queue_1 ++ []
def dkwX3_queue_0 : List UInt8 := [42, 42, 27, 182, 0, 118, 153, 0, 7, 3, 167, 0, 4, 4, 182, 0, 102, 153, 0, 12, 42, 180, 0, 41]
abbrev dktX3_queue_0 : List UInt8 := dkwX3_queue_0 ++ dktX3_queue_1
theorem dksX3_queue_0 : cX3_queue.data.toList.drop 0 = dktX3_queue_0 := by decide +kernel
theorem dksX3_queue_1 : cX3_queue.data.toList.drop 24 = dktX3_queue_1 := dk_seg dksX3_queue_0 24 rfl rfl
theorem dX3_queue_0 : decode cX3_queue 0 = .ok (.aload_n 0, 1) := dk_42 (dk_at dksX3_queue_0 0 rfl rfl)
theorem dX3_queue_1 : decode cX3_queue 1 = .ok (.aload_n 0, 1) := dk_42 (dk_at dksX3_queue_0 1 rfl rfl)
theorem dX3_queue_2 : decode cX3_queue 2 = .ok (.iload_n 1, 1) := dk_27 (dk_at dksX3_queue_0 2 rfl rfl)
theorem dX3_queue_3 : decode cX3_queue 3 = .ok (.invokevirtual 118, 3) := dk_182 0 118 (dk_at dksX3_queue_0 3 rfl rfl)
theorem dX3_queue_6 : decode cX3_queue 6 = .ok (.ifCond .eq 7, 3) := dk_153 0 7 (dk_at dksX3_queue_0 6 rfl rfl)
theorem dX3_queue_9 : decode cX3_queue 9 = .ok (.iconst 0, 1) := dk_3 (dk_at dksX3_queue_0 9 rfl rfl)
theorem dX3_queue_10 : decode cX3_queue 10 = .ok (.goto 4, 3) := dk_167 0 4 (dk_at dksX3_queue_0 10 rfl rfl)
theorem dX3_queue_13 : decode cX3_queue 13 = .ok (.iconst 1, 1) := dk_4 (dk_at dksX3_queue_0 13 rfl rfl)
theorem dX3_queue_14 : decode cX3_queue 14 = .ok (.invokevirtual 102, 3) := dk_182 0 102 (dk_at dksX3_queue_0 14 rfl rfl)
theorem dX3_queue_17 : decode cX3_queue 17 = .ok (.ifCond .eq 12, 3) := dk_153 0 12 (dk_at dksX3_queue_0 17 rfl rfl)
theorem dX3_queue_20 : decode cX3_queue 20 = .ok (.aload_n 0, 1) := dk_42 (dk_at dksX3_queue_0 20 rfl rfl)
theorem dX3_queue_21 : decode cX3_queue 21 = .ok (.getfield 41, 3) := dk_180 0 41 (dk_at dksX3_queue_0 21 rfl rfl)
theorem dX3_queue_24 : decode cX3_queue 24 = .ok (.iload_n 1, 1) := dk_27 (dk_at dksX3_queue_1 0 rfl rfl)
theorem dX3_queue_25 : decode cX3_queue 25 = .ok (.iaload, 1) := dk_46 (dk_at dksX3_queue_1 1 rfl rfl)
theorem dX3_queue_26 : decode cX3_queue 26 = .ok (.goto 4, 3) := dk_167 0 4 (dk_at dksX3_queue_1 2 rfl rfl)
theorem dX3_queue_29 : decode cX3_queue 29 = .ok (.iconst 0, 1) := dk_3 (dk_at dksX3_queue_1 5 rfl rfl)
theorem dX3_queue_30 : decode cX3_queue 30 = .ok (.ireturn, 1) := dk_172 (dk_at dksX3_queue_1 6 rfl rfl)
abbrev cX3_held : ByteArray := prog_4_method_60_code
def yX3_held : MethodName := ⟨RX3, "held", "(I)I"⟩
def dkwX3_held_1 : List UInt8 := [182, 0, 191, 167, 0, 4, 3, 172]
abbrev dktX3_held_1 : List UInt8 := dkwX3_held_1 ++ []
def dkwX3_held_0 : List UInt8 := [42, 42, 27, 182, 0, 131, 153, 0, 7, 3, 167, 0, 4, 4, 182, 0, 102, 153, 0, 11, 42, 27]
abbrev dktX3_held_0 : List UInt8 := dkwX3_held_0 ++ dktX3_held_1
theorem dksX3_held_0 : cX3_held.data.toList.drop 0 = dktX3_held_0 := by decide +kernel
theorem dksX3_held_1 : cX3_held.data.toList.drop 22 = dktX3_held_1 := dk_seg dksX3_held_0 22 rfl rfl
theorem dX3_held_0 : decode cX3_held 0 = .ok (.aload_n 0, 1) := dk_42 (dk_at dksX3_held_0 0 rfl rfl)
theorem dX3_held_1 : decode cX3_held 1 = .ok (.aload_n 0, 1) := dk_42 (dk_at dksX3_held_0 1 rfl rfl)
theorem dX3_held_2 : decode cX3_held 2 = .ok (.iload_n 1, 1) := dk_27 (dk_at dksX3_held_0 2 rfl rfl)
theorem dX3_held_3 : decode cX3_held 3 = .ok (.invokevirtual 131, 3) := dk_182 0 131 (dk_at dksX3_held_0 3 rfl rfl)
theorem dX3_held_6 : decode cX3_held 6 = .ok (.ifCond .eq 7, 3) := dk_153 0 7 (dk_at dksX3_held_0 6 rfl rfl)
theorem dX3_held_9 : decode cX3_held 9 = .ok (.iconst 0, 1) := dk_3 (dk_at dksX3_held_0 9 rfl rfl)
theorem dX3_held_10 : decode cX3_held 10 = .ok (.goto 4, 3) := dk_167 0 4 (dk_at dksX3_held_0 10 rfl rfl)
theorem dX3_held_13 : decode cX3_held 13 = .ok (.iconst 1, 1) := dk_4 (dk_at dksX3_held_0 13 rfl rfl)
theorem dX3_held_14 : decode cX3_held 14 = .ok (.invokevirtual 102, 3) := dk_182 0 102 (dk_at dksX3_held_0 14 rfl rfl)
theorem dX3_held_17 : decode cX3_held 17 = .ok (.ifCond .eq 11, 3) := dk_153 0 11 (dk_at dksX3_held_0 17 rfl rfl)
theorem dX3_held_20 : decode cX3_held 20 = .ok (.aload_n 0, 1) := dk_42 (dk_at dksX3_held_0 20 rfl rfl)
theorem dX3_held_21 : decode cX3_held 21 = .ok (.iload_n 1, 1) := dk_27 (dk_at dksX3_held_0 21 rfl rfl)
theorem dX3_held_22 : decode cX3_held 22 = .ok (.invokevirtual 191, 3) := dk_182 0 191 (dk_at dksX3_held_1 0 rfl rfl)
theorem dX3_held_25 : decode cX3_held 25 = .ok (.goto 4, 3) := dk_167 0 4 (dk_at dksX3_held_1 3 rfl rfl)
theorem dX3_held_28 : decode cX3_held 28 = .ok (.iconst 0, 1) := dk_3 (dk_at dksX3_held_1 6 rfl rfl)
theorem dX3_held_29 : decode cX3_held 29 = .ok (.ireturn, 1) := dk_172 (dk_at dksX3_held_1 7 rfl rfl)
abbrev cX3_come : ByteArray := prog_4_method_61_code
def yX3_come : MethodName := ⟨RX3, "come", "()I"⟩
def dkwX3_come_0 : List UInt8 := [42, 3, 181, 0, 72, 42, 180, 0, 96, 172]
abbrev dktX3_come_0 : List UInt8 := dkwX3_come_0 ++ []
theorem dksX3_come_0 : cX3_come.data.toList.drop 0 = dktX3_come_0 := by decide +kernel
theorem dX3_come_0 : decode cX3_come 0 = .ok (.aload_n 0, 1) := dk_42 (dk_at dksX3_come_0 0 rfl rfl)
theorem dX3_come_1 : decode cX3_come 1 = .ok (.iconst 0, 1) := dk_3 (dk_at dksX3_come_0 1 rfl rfl)
theorem dX3_come_2 : decode cX3_come 2 = .ok (.putfield 72, 3) := dk_181 0 72 (dk_at dksX3_come_0 2 rfl rfl)
theorem dX3_come_5 : decode cX3_come 5 = .ok (.aload_n 0, 1) := dk_42 (dk_at dksX3_come_0 5 rfl rfl)
theorem dX3_come_6 : decode cX3_come 6 = .ok (.getfield 96, 3) := dk_180 0 96 (dk_at dksX3_come_0 6 rfl rfl)
theorem dX3_come_9 : decode cX3_come 9 = .ok (.ireturn, 1) := dk_172 (dk_at dksX3_come_0 9 rfl rfl)
abbrev cX3_through : ByteArray := prog_4_method_62_code
def yX3_through : MethodName := ⟨RX3, "through", "()I"⟩
def dkwX3_through_0 : List UInt8 := [42, 3, 181, 0, 72, 42, 180, 0, 99, 172]
abbrev dktX3_through_0 : List UInt8 := dkwX3_through_0 ++ []
theorem dksX3_through_0 : cX3_through.data.toList.drop 0 = dktX3_through_0 := by decide +kernel
theorem dX3_through_0 : decode cX3_through 0 = .ok (.aload_n 0, 1) := dk_42 (dk_at dksX3_through_0 0 rfl rfl)
theorem dX3_through_1 : decode cX3_through 1 = .ok (.iconst 0, 1) := dk_3 (dk_at dksX3_through_0 1 rfl rfl)
theorem dX3_through_2 : decode cX3_through 2 = .ok (.putfield 72, 3) := dk_181 0 72 (dk_at dksX3_through_0 2 rfl rfl)
theorem dX3_through_5 : decode cX3_through 5 = .ok (.aload_n 0, 1) := dk_42 (dk_at dksX3_through_0 5 rfl rfl)
theorem dX3_through_6 : decode cX3_through 6 = .ok (.getfield 99, 3) := dk_180 0 99 (dk_at dksX3_through_0 6 rfl rfl)
theorem dX3_through_9 : decode cX3_through 9 = .ok (.ireturn, 1) := dk_172 (dk_at dksX3_through_0 9 rfl rfl)
theorem q48 : (Jvm.Cond.initialized "GreenwaveModel") ∈ lw_all := lw_g (lw_at lw_m1 3 rfl) rfl
theorem q592 : (Jvm.Cond.instantiable "GreenwaveModel" (27 : Nat)) ∈ lw_all := lw_g (lw_at lw_m3 67 rfl) rfl
theorem q594 : (Jvm.Cond.instanceMethod ({ cls := "GreenwaveModel", name := "<init>", desc := "()V" } : Jvm.MethodName)) ∈ lw_all := lw_g (lw_at lw_m3 69 rfl) rfl
theorem q595 : (Jvm.Cond.code ({ cls := "GreenwaveModel", name := "<init>", desc := "()V" } : Jvm.MethodName) prog_4_method_1_code (1 : Nat) (Option.none : Option Jvm.ClassFile.FieldType)) ∈ lw_all := lw_g (lw_at lw_m3 70 rfl) rfl
theorem q596 : (Jvm.Cond.methodLink "GreenwaveModel" (1 : Nat) ({ cls := "java/lang/Object", name := "<init>", desc := "()V" } : Jvm.MethodName)) ∈ lw_all := lw_g (lw_at lw_m3 71 rfl) rfl
theorem q597 : (Jvm.Cond.methodLink "GreenwaveModel" (68 : Nat) ({ cls := "GreenwaveModel", name := "begins", desc := "(II)V" } : Jvm.MethodName)) ∈ lw_all := lw_g (lw_at lw_m3 72 rfl) rfl
theorem q598 : (Jvm.Cond.privateMethod ({ cls := "GreenwaveModel", name := "begins", desc := "(II)V" } : Jvm.MethodName)) ∈ lw_tbl := lw_at lw_m3 73 rfl
theorem q599 : (Jvm.Cond.instanceMethod ({ cls := "GreenwaveModel", name := "begins", desc := "(II)V" } : Jvm.MethodName)) ∈ lw_all := lw_g (lw_at lw_m3 74 rfl) rfl
theorem q600 : (Jvm.Cond.code ({ cls := "GreenwaveModel", name := "begins", desc := "(II)V" } : Jvm.MethodName) prog_4_method_10_code (4 : Nat) (Option.none : Option Jvm.ClassFile.FieldType)) ∈ lw_all := lw_g (lw_at lw_m3 75 rfl) rfl
theorem q601 : (Jvm.Cond.fieldLink "GreenwaveModel" (72 : Nat) "GreenwaveModel" "thrown" "I") ∈ lw_all := lw_g (lw_at lw_m3 76 rfl) rfl
theorem q602 : (Jvm.Cond.fieldLink "GreenwaveModel" (76 : Nat) "GreenwaveModel" "junctions" "I") ∈ lw_all := lw_g (lw_at lw_m3 77 rfl) rfl
theorem q603 : (Jvm.Cond.fieldLink "GreenwaveModel" (83 : Nat) "GreenwaveModel" "cycle" "I") ∈ lw_all := lw_g (lw_at lw_m3 78 rfl) rfl
theorem q604 : (Jvm.Cond.fieldLink "GreenwaveModel" (86 : Nat) "GreenwaveModel" "isBegun" "Z") ∈ lw_all := lw_g (lw_at lw_m3 79 rfl) rfl
theorem q605 : (Jvm.Cond.fieldLink "GreenwaveModel" (7 : Nat) "GreenwaveModel" "conflicts" "[I") ∈ lw_all := lw_g (lw_at lw_m3 80 rfl) rfl
theorem q606 : (Jvm.Cond.fieldLink "GreenwaveModel" (13 : Nat) "GreenwaveModel" "phases" "[I") ∈ lw_all := lw_g (lw_at lw_m3 81 rfl) rfl
theorem q607 : (Jvm.Cond.fieldLink "GreenwaveModel" (16 : Nat) "GreenwaveModel" "many" "[I") ∈ lw_all := lw_g (lw_at lw_m3 82 rfl) rfl
theorem q608 : (Jvm.Cond.fieldLink "GreenwaveModel" (19 : Nat) "GreenwaveModel" "flows" "[I") ∈ lw_all := lw_g (lw_at lw_m3 83 rfl) rfl
theorem q609 : (Jvm.Cond.fieldLink "GreenwaveModel" (22 : Nat) "GreenwaveModel" "offsets" "[I") ∈ lw_all := lw_g (lw_at lw_m3 84 rfl) rfl
theorem q610 : (Jvm.Cond.fieldLink "GreenwaveModel" (25 : Nat) "GreenwaveModel" "seconds" "[I") ∈ lw_all := lw_g (lw_at lw_m3 85 rfl) rfl
theorem q611 : (Jvm.Cond.fieldLink "GreenwaveModel" (28 : Nat) "GreenwaveModel" "rooms" "[I") ∈ lw_all := lw_g (lw_at lw_m3 86 rfl) rfl
theorem q612 : (Jvm.Cond.fieldLink "GreenwaveModel" (31 : Nat) "GreenwaveModel" "greens" "[I") ∈ lw_all := lw_g (lw_at lw_m3 87 rfl) rfl
theorem q613 : (Jvm.Cond.fieldLink "GreenwaveModel" (34 : Nat) "GreenwaveModel" "clearings" "[I") ∈ lw_all := lw_g (lw_at lw_m3 88 rfl) rfl
theorem q614 : (Jvm.Cond.fieldLink "GreenwaveModel" (37 : Nat) "GreenwaveModel" "arePlanned" "[Z") ∈ lw_all := lw_g (lw_at lw_m3 89 rfl) rfl
theorem q615 : (Jvm.Cond.fieldLink "GreenwaveModel" (90 : Nat) "GreenwaveModel" "clock" "I") ∈ lw_all := lw_g (lw_at lw_m3 90 rfl) rfl
theorem q616 : (Jvm.Cond.fieldLink "GreenwaveModel" (93 : Nat) "GreenwaveModel" "arrivals" "I") ∈ lw_all := lw_g (lw_at lw_m3 91 rfl) rfl
theorem q617 : (Jvm.Cond.fieldLink "GreenwaveModel" (96 : Nat) "GreenwaveModel" "come" "I") ∈ lw_all := lw_g (lw_at lw_m3 92 rfl) rfl
theorem q618 : (Jvm.Cond.fieldLink "GreenwaveModel" (99 : Nat) "GreenwaveModel" "through" "I") ∈ lw_all := lw_g (lw_at lw_m3 93 rfl) rfl
theorem q619 : (Jvm.Cond.fieldLink "GreenwaveModel" (41 : Nat) "GreenwaveModel" "queues" "[I") ∈ lw_all := lw_g (lw_at lw_m3 94 rfl) rfl
theorem q620 : (Jvm.Cond.fieldLink "GreenwaveModel" (44 : Nat) "GreenwaveModel" "readies" "[I") ∈ lw_all := lw_g (lw_at lw_m3 95 rfl) rfl
theorem q621 : (Jvm.Cond.fieldLink "GreenwaveModel" (47 : Nat) "GreenwaveModel" "onWay" "[I") ∈ lw_all := lw_g (lw_at lw_m3 96 rfl) rfl
theorem q622 : (Jvm.Cond.fieldLink "GreenwaveModel" (50 : Nat) "GreenwaveModel" "ends" "[I") ∈ lw_all := lw_g (lw_at lw_m3 97 rfl) rfl
theorem q623 : (Jvm.Cond.fieldLink "GreenwaveModel" (53 : Nat) "GreenwaveModel" "wasCalled" "[Z") ∈ lw_all := lw_g (lw_at lw_m3 98 rfl) rfl
theorem q624 : (Jvm.Cond.fieldLink "GreenwaveModel" (56 : Nat) "GreenwaveModel" "calledIn" "[I") ∈ lw_all := lw_g (lw_at lw_m3 99 rfl) rfl
theorem q625 : (Jvm.Cond.fieldLink "GreenwaveModel" (59 : Nat) "GreenwaveModel" "gainers" "[I") ∈ lw_all := lw_g (lw_at lw_m3 100 rfl) rfl
theorem q626 : (Jvm.Cond.fieldLink "GreenwaveModel" (62 : Nat) "GreenwaveModel" "givers" "[I") ∈ lw_all := lw_g (lw_at lw_m3 101 rfl) rfl
theorem q627 : (Jvm.Cond.fieldLink "GreenwaveModel" (65 : Nat) "GreenwaveModel" "gains" "[I") ∈ lw_all := lw_g (lw_at lw_m3 102 rfl) rfl
theorem q628 : (Jvm.Cond.lays "GreenwaveModel" "GreenwaveModel" "thrown" "I") ∈ lw_all := lw_g (lw_at lw_m3 103 rfl) rfl
theorem q629 : (Jvm.Cond.soleField "GreenwaveModel" "thrown") ∈ lw_all := lw_g (lw_at lw_m3 104 rfl) rfl
theorem q630 : (Jvm.Cond.lays "GreenwaveModel" "GreenwaveModel" "junctions" "I") ∈ lw_all := lw_g (lw_at lw_m3 105 rfl) rfl
theorem q631 : (Jvm.Cond.soleField "GreenwaveModel" "junctions") ∈ lw_all := lw_g (lw_at lw_m3 106 rfl) rfl
theorem q632 : (Jvm.Cond.lays "GreenwaveModel" "GreenwaveModel" "cycle" "I") ∈ lw_all := lw_g (lw_at lw_m3 107 rfl) rfl
theorem q633 : (Jvm.Cond.soleField "GreenwaveModel" "cycle") ∈ lw_all := lw_g (lw_at lw_m3 108 rfl) rfl
theorem q634 : (Jvm.Cond.lays "GreenwaveModel" "GreenwaveModel" "isBegun" "Z") ∈ lw_all := lw_g (lw_at lw_m3 109 rfl) rfl
theorem q635 : (Jvm.Cond.soleField "GreenwaveModel" "isBegun") ∈ lw_all := lw_g (lw_at lw_m3 110 rfl) rfl
theorem q636 : (Jvm.Cond.laysFinal "GreenwaveModel" "GreenwaveModel" "conflicts" "[I") ∈ lw_all := lw_g (lw_at lw_m3 111 rfl) rfl
theorem q637 : (Jvm.Cond.soleField "GreenwaveModel" "conflicts") ∈ lw_all := lw_g (lw_at lw_m3 112 rfl) rfl
theorem q638 : (Jvm.Cond.laysFinal "GreenwaveModel" "GreenwaveModel" "phases" "[I") ∈ lw_all := lw_g (lw_at lw_m3 113 rfl) rfl
theorem q639 : (Jvm.Cond.soleField "GreenwaveModel" "phases") ∈ lw_all := lw_g (lw_at lw_m3 114 rfl) rfl
theorem q640 : (Jvm.Cond.laysFinal "GreenwaveModel" "GreenwaveModel" "many" "[I") ∈ lw_all := lw_g (lw_at lw_m3 115 rfl) rfl
theorem q641 : (Jvm.Cond.soleField "GreenwaveModel" "many") ∈ lw_all := lw_g (lw_at lw_m3 116 rfl) rfl
theorem q642 : (Jvm.Cond.laysFinal "GreenwaveModel" "GreenwaveModel" "flows" "[I") ∈ lw_all := lw_g (lw_at lw_m3 117 rfl) rfl
theorem q643 : (Jvm.Cond.soleField "GreenwaveModel" "flows") ∈ lw_all := lw_g (lw_at lw_m3 118 rfl) rfl
theorem q644 : (Jvm.Cond.laysFinal "GreenwaveModel" "GreenwaveModel" "offsets" "[I") ∈ lw_all := lw_g (lw_at lw_m3 119 rfl) rfl
theorem q645 : (Jvm.Cond.soleField "GreenwaveModel" "offsets") ∈ lw_all := lw_g (lw_at lw_m3 120 rfl) rfl
theorem q646 : (Jvm.Cond.laysFinal "GreenwaveModel" "GreenwaveModel" "seconds" "[I") ∈ lw_all := lw_g (lw_at lw_m3 121 rfl) rfl
theorem q647 : (Jvm.Cond.soleField "GreenwaveModel" "seconds") ∈ lw_all := lw_g (lw_at lw_m3 122 rfl) rfl
theorem q648 : (Jvm.Cond.laysFinal "GreenwaveModel" "GreenwaveModel" "rooms" "[I") ∈ lw_all := lw_g (lw_at lw_m3 123 rfl) rfl
theorem q649 : (Jvm.Cond.soleField "GreenwaveModel" "rooms") ∈ lw_all := lw_g (lw_at lw_m3 124 rfl) rfl
theorem q650 : (Jvm.Cond.laysFinal "GreenwaveModel" "GreenwaveModel" "greens" "[I") ∈ lw_all := lw_g (lw_at lw_m3 125 rfl) rfl
theorem q651 : (Jvm.Cond.soleField "GreenwaveModel" "greens") ∈ lw_all := lw_g (lw_at lw_m3 126 rfl) rfl
theorem q652 : (Jvm.Cond.laysFinal "GreenwaveModel" "GreenwaveModel" "clearings" "[I") ∈ lw_all := lw_g (lw_at lw_m3 127 rfl) rfl
theorem q653 : (Jvm.Cond.soleField "GreenwaveModel" "clearings") ∈ lw_all := lw_g (lw_at lw_m3 128 rfl) rfl
theorem q654 : (Jvm.Cond.laysFinal "GreenwaveModel" "GreenwaveModel" "arePlanned" "[Z") ∈ lw_all := lw_g (lw_at lw_m3 129 rfl) rfl
theorem q655 : (Jvm.Cond.soleField "GreenwaveModel" "arePlanned") ∈ lw_all := lw_g (lw_at lw_m3 130 rfl) rfl
theorem q656 : (Jvm.Cond.lays "GreenwaveModel" "GreenwaveModel" "clock" "I") ∈ lw_all := lw_g (lw_at lw_m3 131 rfl) rfl
theorem q657 : (Jvm.Cond.soleField "GreenwaveModel" "clock") ∈ lw_all := lw_g (lw_at lw_m3 132 rfl) rfl
theorem q658 : (Jvm.Cond.lays "GreenwaveModel" "GreenwaveModel" "arrivals" "I") ∈ lw_all := lw_g (lw_at lw_m3 133 rfl) rfl
theorem q659 : (Jvm.Cond.soleField "GreenwaveModel" "arrivals") ∈ lw_all := lw_g (lw_at lw_m3 134 rfl) rfl
theorem q660 : (Jvm.Cond.lays "GreenwaveModel" "GreenwaveModel" "come" "I") ∈ lw_all := lw_g (lw_at lw_m3 135 rfl) rfl
theorem q661 : (Jvm.Cond.soleField "GreenwaveModel" "come") ∈ lw_all := lw_g (lw_at lw_m3 136 rfl) rfl
theorem q662 : (Jvm.Cond.lays "GreenwaveModel" "GreenwaveModel" "through" "I") ∈ lw_all := lw_g (lw_at lw_m3 137 rfl) rfl
theorem q663 : (Jvm.Cond.soleField "GreenwaveModel" "through") ∈ lw_all := lw_g (lw_at lw_m3 138 rfl) rfl
theorem q664 : (Jvm.Cond.laysFinal "GreenwaveModel" "GreenwaveModel" "queues" "[I") ∈ lw_all := lw_g (lw_at lw_m3 139 rfl) rfl
theorem q665 : (Jvm.Cond.soleField "GreenwaveModel" "queues") ∈ lw_all := lw_g (lw_at lw_m3 140 rfl) rfl
theorem q666 : (Jvm.Cond.laysFinal "GreenwaveModel" "GreenwaveModel" "readies" "[I") ∈ lw_all := lw_g (lw_at lw_m3 141 rfl) rfl
theorem q667 : (Jvm.Cond.soleField "GreenwaveModel" "readies") ∈ lw_all := lw_g (lw_at lw_m3 142 rfl) rfl
theorem q668 : (Jvm.Cond.laysFinal "GreenwaveModel" "GreenwaveModel" "onWay" "[I") ∈ lw_all := lw_g (lw_at lw_m3 143 rfl) rfl
theorem q669 : (Jvm.Cond.soleField "GreenwaveModel" "onWay") ∈ lw_all := lw_g (lw_at lw_m3 144 rfl) rfl
theorem q670 : (Jvm.Cond.laysFinal "GreenwaveModel" "GreenwaveModel" "ends" "[I") ∈ lw_all := lw_g (lw_at lw_m3 145 rfl) rfl
theorem q671 : (Jvm.Cond.soleField "GreenwaveModel" "ends") ∈ lw_all := lw_g (lw_at lw_m3 146 rfl) rfl
theorem q672 : (Jvm.Cond.laysFinal "GreenwaveModel" "GreenwaveModel" "wasCalled" "[Z") ∈ lw_all := lw_g (lw_at lw_m3 147 rfl) rfl
theorem q673 : (Jvm.Cond.soleField "GreenwaveModel" "wasCalled") ∈ lw_all := lw_g (lw_at lw_m3 148 rfl) rfl
theorem q674 : (Jvm.Cond.laysFinal "GreenwaveModel" "GreenwaveModel" "calledIn" "[I") ∈ lw_all := lw_g (lw_at lw_m3 149 rfl) rfl
theorem q675 : (Jvm.Cond.soleField "GreenwaveModel" "calledIn") ∈ lw_all := lw_g (lw_at lw_m3 150 rfl) rfl
theorem q676 : (Jvm.Cond.laysFinal "GreenwaveModel" "GreenwaveModel" "gainers" "[I") ∈ lw_all := lw_g (lw_at lw_m3 151 rfl) rfl
theorem q677 : (Jvm.Cond.soleField "GreenwaveModel" "gainers") ∈ lw_all := lw_g (lw_at lw_m3 152 rfl) rfl
theorem q678 : (Jvm.Cond.laysFinal "GreenwaveModel" "GreenwaveModel" "givers" "[I") ∈ lw_all := lw_g (lw_at lw_m3 153 rfl) rfl
theorem q679 : (Jvm.Cond.soleField "GreenwaveModel" "givers") ∈ lw_all := lw_g (lw_at lw_m3 154 rfl) rfl
theorem q680 : (Jvm.Cond.laysFinal "GreenwaveModel" "GreenwaveModel" "gains" "[I") ∈ lw_all := lw_g (lw_at lw_m3 155 rfl) rfl
theorem q681 : (Jvm.Cond.soleField "GreenwaveModel" "gains") ∈ lw_all := lw_g (lw_at lw_m3 156 rfl) rfl
theorem q682 : (Jvm.Cond.superclass "GreenwaveModel" "java/lang/Object") ∈ lw_all := lw_g (lw_at lw_m3 157 rfl) rfl
theorem q684 : (Jvm.Cond.instanceMethod ({ cls := "GreenwaveModel", name := "thrown", desc := "()I" } : Jvm.MethodName)) ∈ lw_all := lw_g (lw_at lw_m3 159 rfl) rfl
theorem q685 : (Jvm.Cond.selects "GreenwaveModel" ({ cls := "GreenwaveModel", name := "thrown", desc := "()I" } : Jvm.MethodName) ({ cls := "GreenwaveModel", name := "thrown", desc := "()I" } : Jvm.MethodName)) ∈ lw_all := lw_g (lw_at lw_m3 160 rfl) rfl
theorem q686 : (Jvm.Cond.code ({ cls := "GreenwaveModel", name := "thrown", desc := "()I" } : Jvm.MethodName) prog_4_method_2_code (1 : Nat) (Option.some Jvm.ClassFile.FieldType.int)) ∈ lw_all := lw_g (lw_at lw_m3 161 rfl) rfl
theorem q688 : (Jvm.Cond.instanceMethod ({ cls := "GreenwaveModel", name := "begin", desc := "(II)V" } : Jvm.MethodName)) ∈ lw_all := lw_g (lw_at lw_m3 163 rfl) rfl
theorem q689 : (Jvm.Cond.selects "GreenwaveModel" ({ cls := "GreenwaveModel", name := "begin", desc := "(II)V" } : Jvm.MethodName) ({ cls := "GreenwaveModel", name := "begin", desc := "(II)V" } : Jvm.MethodName)) ∈ lw_all := lw_g (lw_at lw_m3 164 rfl) rfl
theorem q690 : (Jvm.Cond.code ({ cls := "GreenwaveModel", name := "begin", desc := "(II)V" } : Jvm.MethodName) prog_4_method_11_code (3 : Nat) (Option.none : Option Jvm.ClassFile.FieldType)) ∈ lw_all := lw_g (lw_at lw_m3 165 rfl) rfl
theorem q691 : (Jvm.Cond.methodLink "GreenwaveModel" (79 : Nat) ({ cls := "GreenwaveModel", name := "in", desc := "(III)Z" } : Jvm.MethodName)) ∈ lw_all := lw_g (lw_at lw_m3 166 rfl) rfl
theorem q692 : (Jvm.Cond.static ({ cls := "GreenwaveModel", name := "in", desc := "(III)Z" } : Jvm.MethodName)) ∈ lw_all := lw_g (lw_at lw_m3 167 rfl) rfl
theorem q693 : (Jvm.Cond.code ({ cls := "GreenwaveModel", name := "in", desc := "(III)Z" } : Jvm.MethodName) prog_4_method_4_code (3 : Nat) (Option.some Jvm.ClassFile.FieldType.boolean)) ∈ lw_all := lw_g (lw_at lw_m3 168 rfl) rfl
theorem q694 : (Jvm.Cond.methodLink "GreenwaveModel" (102 : Nat) ({ cls := "GreenwaveModel", name := "holds", desc := "(I)Z" } : Jvm.MethodName)) ∈ lw_all := lw_g (lw_at lw_m3 169 rfl) rfl
theorem q695 : (Jvm.Cond.privateMethod ({ cls := "GreenwaveModel", name := "holds", desc := "(I)Z" } : Jvm.MethodName)) ∈ lw_tbl := lw_at lw_m3 170 rfl
theorem q696 : (Jvm.Cond.instanceMethod ({ cls := "GreenwaveModel", name := "holds", desc := "(I)Z" } : Jvm.MethodName)) ∈ lw_all := lw_g (lw_at lw_m3 171 rfl) rfl
theorem q697 : (Jvm.Cond.code ({ cls := "GreenwaveModel", name := "holds", desc := "(I)Z" } : Jvm.MethodName) prog_4_method_3_code (2 : Nat) (Option.some Jvm.ClassFile.FieldType.boolean)) ∈ lw_all := lw_g (lw_at lw_m3 172 rfl) rfl
theorem q699 : (Jvm.Cond.instanceMethod ({ cls := "GreenwaveModel", name := "setConflict", desc := "(IIII)I" } : Jvm.MethodName)) ∈ lw_all := lw_g (lw_at lw_m3 174 rfl) rfl
theorem q700 : (Jvm.Cond.selects "GreenwaveModel" ({ cls := "GreenwaveModel", name := "setConflict", desc := "(IIII)I" } : Jvm.MethodName) ({ cls := "GreenwaveModel", name := "setConflict", desc := "(IIII)I" } : Jvm.MethodName)) ∈ lw_all := lw_g (lw_at lw_m3 175 rfl) rfl
theorem q701 : (Jvm.Cond.code ({ cls := "GreenwaveModel", name := "setConflict", desc := "(IIII)I" } : Jvm.MethodName) prog_4_method_15_code (6 : Nat) (Option.some Jvm.ClassFile.FieldType.int)) ∈ lw_all := lw_g (lw_at lw_m3 176 rfl) rfl
theorem q702 : (Jvm.Cond.methodLink "GreenwaveModel" (124 : Nat) ({ cls := "GreenwaveModel", name := "errorOfConflict", desc := "(IIII)I" } : Jvm.MethodName)) ∈ lw_all := lw_g (lw_at lw_m3 177 rfl) rfl
theorem q703 : (Jvm.Cond.privateMethod ({ cls := "GreenwaveModel", name := "errorOfConflict", desc := "(IIII)I" } : Jvm.MethodName)) ∈ lw_tbl := lw_at lw_m3 178 rfl
theorem q704 : (Jvm.Cond.instanceMethod ({ cls := "GreenwaveModel", name := "errorOfConflict", desc := "(IIII)I" } : Jvm.MethodName)) ∈ lw_all := lw_g (lw_at lw_m3 179 rfl) rfl
theorem q705 : (Jvm.Cond.code ({ cls := "GreenwaveModel", name := "errorOfConflict", desc := "(IIII)I" } : Jvm.MethodName) prog_4_method_14_code (8 : Nat) (Option.some Jvm.ClassFile.FieldType.int)) ∈ lw_all := lw_g (lw_at lw_m3 180 rfl) rfl
theorem q706 : (Jvm.Cond.methodLink "GreenwaveModel" (118 : Nat) ({ cls := "GreenwaveModel", name := "isJunction", desc := "(I)Z" } : Jvm.MethodName)) ∈ lw_all := lw_g (lw_at lw_m3 181 rfl) rfl
theorem q707 : (Jvm.Cond.privateMethod ({ cls := "GreenwaveModel", name := "isJunction", desc := "(I)Z" } : Jvm.MethodName)) ∈ lw_tbl := lw_at lw_m3 182 rfl
theorem q708 : (Jvm.Cond.instanceMethod ({ cls := "GreenwaveModel", name := "isJunction", desc := "(I)Z" } : Jvm.MethodName)) ∈ lw_all := lw_g (lw_at lw_m3 183 rfl) rfl
theorem q709 : (Jvm.Cond.code ({ cls := "GreenwaveModel", name := "isJunction", desc := "(I)Z" } : Jvm.MethodName) prog_4_method_6_code (2 : Nat) (Option.some Jvm.ClassFile.FieldType.boolean)) ∈ lw_all := lw_g (lw_at lw_m3 184 rfl) rfl
theorem q710 : (Jvm.Cond.methodLink "GreenwaveModel" (121 : Nat) ({ cls := "GreenwaveModel", name := "isMovement", desc := "(I)Z" } : Jvm.MethodName)) ∈ lw_all := lw_g (lw_at lw_m3 185 rfl) rfl
theorem q711 : (Jvm.Cond.static ({ cls := "GreenwaveModel", name := "isMovement", desc := "(I)Z" } : Jvm.MethodName)) ∈ lw_all := lw_g (lw_at lw_m3 186 rfl) rfl
theorem q712 : (Jvm.Cond.code ({ cls := "GreenwaveModel", name := "isMovement", desc := "(I)Z" } : Jvm.MethodName) prog_4_method_7_code (1 : Nat) (Option.some Jvm.ClassFile.FieldType.boolean)) ∈ lw_all := lw_g (lw_at lw_m3 187 rfl) rfl
theorem q713 : (Jvm.Cond.methodLink "GreenwaveModel" (106 : Nat) ({ cls := "GreenwaveModel", name := "has", desc := "(II)Z" } : Jvm.MethodName)) ∈ lw_all := lw_g (lw_at lw_m3 188 rfl) rfl
theorem q714 : (Jvm.Cond.static ({ cls := "GreenwaveModel", name := "has", desc := "(II)Z" } : Jvm.MethodName)) ∈ lw_all := lw_g (lw_at lw_m3 189 rfl) rfl
theorem q715 : (Jvm.Cond.code ({ cls := "GreenwaveModel", name := "has", desc := "(II)Z" } : Jvm.MethodName) prog_4_method_5_code (2 : Nat) (Option.some Jvm.ClassFile.FieldType.boolean)) ∈ lw_all := lw_g (lw_at lw_m3 190 rfl) rfl
theorem q716 : (Jvm.Cond.methodLink "GreenwaveModel" (110 : Nat) ({ cls := "GreenwaveModel", name := "conflict", desc := "(III)I" } : Jvm.MethodName)) ∈ lw_all := lw_g (lw_at lw_m3 191 rfl) rfl
theorem q717 : (Jvm.Cond.static ({ cls := "GreenwaveModel", name := "conflict", desc := "(III)I" } : Jvm.MethodName)) ∈ lw_all := lw_g (lw_at lw_m3 192 rfl) rfl
theorem q718 : (Jvm.Cond.code ({ cls := "GreenwaveModel", name := "conflict", desc := "(III)I" } : Jvm.MethodName) prog_4_method_9_code (3 : Nat) (Option.some Jvm.ClassFile.FieldType.int)) ∈ lw_all := lw_g (lw_at lw_m3 193 rfl) rfl
theorem q720 : (Jvm.Cond.instanceMethod ({ cls := "GreenwaveModel", name := "setPhases", desc := "(IIIII)I" } : Jvm.MethodName)) ∈ lw_all := lw_g (lw_at lw_m3 195 rfl) rfl
theorem q721 : (Jvm.Cond.selects "GreenwaveModel" ({ cls := "GreenwaveModel", name := "setPhases", desc := "(IIIII)I" } : Jvm.MethodName) ({ cls := "GreenwaveModel", name := "setPhases", desc := "(IIIII)I" } : Jvm.MethodName)) ∈ lw_all := lw_g (lw_at lw_m3 196 rfl) rfl
theorem q722 : (Jvm.Cond.code ({ cls := "GreenwaveModel", name := "setPhases", desc := "(IIIII)I" } : Jvm.MethodName) prog_4_method_16_code (8 : Nat) (Option.some Jvm.ClassFile.FieldType.int)) ∈ lw_all := lw_g (lw_at lw_m3 197 rfl) rfl
theorem q723 : (Jvm.Cond.methodLink "GreenwaveModel" (128 : Nat) ({ cls := "GreenwaveModel", name := "isBad", desc := "(II)Z" } : Jvm.MethodName)) ∈ lw_all := lw_g (lw_at lw_m3 198 rfl) rfl
theorem q724 : (Jvm.Cond.privateMethod ({ cls := "GreenwaveModel", name := "isBad", desc := "(II)Z" } : Jvm.MethodName)) ∈ lw_tbl := lw_at lw_m3 199 rfl
theorem q725 : (Jvm.Cond.instanceMethod ({ cls := "GreenwaveModel", name := "isBad", desc := "(II)Z" } : Jvm.MethodName)) ∈ lw_all := lw_g (lw_at lw_m3 200 rfl) rfl
theorem q726 : (Jvm.Cond.code ({ cls := "GreenwaveModel", name := "isBad", desc := "(II)Z" } : Jvm.MethodName) prog_4_method_13_code (4 : Nat) (Option.some Jvm.ClassFile.FieldType.boolean)) ∈ lw_all := lw_g (lw_at lw_m3 201 rfl) rfl
theorem q727 : (Jvm.Cond.methodLink "GreenwaveModel" (114 : Nat) ({ cls := "GreenwaveModel", name := "areIn", desc := "(IIII)Z" } : Jvm.MethodName)) ∈ lw_all := lw_g (lw_at lw_m3 202 rfl) rfl
theorem q728 : (Jvm.Cond.privateMethod ({ cls := "GreenwaveModel", name := "areIn", desc := "(IIII)Z" } : Jvm.MethodName)) ∈ lw_tbl := lw_at lw_m3 203 rfl
theorem q729 : (Jvm.Cond.instanceMethod ({ cls := "GreenwaveModel", name := "areIn", desc := "(IIII)Z" } : Jvm.MethodName)) ∈ lw_all := lw_g (lw_at lw_m3 204 rfl) rfl
theorem q730 : (Jvm.Cond.code ({ cls := "GreenwaveModel", name := "areIn", desc := "(IIII)Z" } : Jvm.MethodName) prog_4_method_12_code (5 : Nat) (Option.some Jvm.ClassFile.FieldType.boolean)) ∈ lw_all := lw_g (lw_at lw_m3 205 rfl) rfl
theorem q732 : (Jvm.Cond.instanceMethod ({ cls := "GreenwaveModel", name := "setFlow", desc := "(III)I" } : Jvm.MethodName)) ∈ lw_all := lw_g (lw_at lw_m3 207 rfl) rfl
theorem q733 : (Jvm.Cond.selects "GreenwaveModel" ({ cls := "GreenwaveModel", name := "setFlow", desc := "(III)I" } : Jvm.MethodName) ({ cls := "GreenwaveModel", name := "setFlow", desc := "(III)I" } : Jvm.MethodName)) ∈ lw_all := lw_g (lw_at lw_m3 208 rfl) rfl
theorem q734 : (Jvm.Cond.code ({ cls := "GreenwaveModel", name := "setFlow", desc := "(III)I" } : Jvm.MethodName) prog_4_method_17_code (6 : Nat) (Option.some Jvm.ClassFile.FieldType.int)) ∈ lw_all := lw_g (lw_at lw_m3 209 rfl) rfl
theorem q736 : (Jvm.Cond.instanceMethod ({ cls := "GreenwaveModel", name := "setLink", desc := "(III)V" } : Jvm.MethodName)) ∈ lw_all := lw_g (lw_at lw_m3 211 rfl) rfl
theorem q737 : (Jvm.Cond.selects "GreenwaveModel" ({ cls := "GreenwaveModel", name := "setLink", desc := "(III)V" } : Jvm.MethodName) ({ cls := "GreenwaveModel", name := "setLink", desc := "(III)V" } : Jvm.MethodName)) ∈ lw_all := lw_g (lw_at lw_m3 212 rfl) rfl
theorem q738 : (Jvm.Cond.code ({ cls := "GreenwaveModel", name := "setLink", desc := "(III)V" } : Jvm.MethodName) prog_4_method_18_code (5 : Nat) (Option.none : Option Jvm.ClassFile.FieldType)) ∈ lw_all := lw_g (lw_at lw_m3 213 rfl) rfl
theorem q739 : (Jvm.Cond.methodLink "GreenwaveModel" (131 : Nat) ({ cls := "GreenwaveModel", name := "isLink", desc := "(I)Z" } : Jvm.MethodName)) ∈ lw_all := lw_g (lw_at lw_m3 214 rfl) rfl
theorem q740 : (Jvm.Cond.privateMethod ({ cls := "GreenwaveModel", name := "isLink", desc := "(I)Z" } : Jvm.MethodName)) ∈ lw_tbl := lw_at lw_m3 215 rfl
theorem q741 : (Jvm.Cond.instanceMethod ({ cls := "GreenwaveModel", name := "isLink", desc := "(I)Z" } : Jvm.MethodName)) ∈ lw_all := lw_g (lw_at lw_m3 216 rfl) rfl
theorem q742 : (Jvm.Cond.code ({ cls := "GreenwaveModel", name := "isLink", desc := "(I)Z" } : Jvm.MethodName) prog_4_method_8_code (2 : Nat) (Option.some Jvm.ClassFile.FieldType.boolean)) ∈ lw_all := lw_g (lw_at lw_m3 217 rfl) rfl
theorem q744 : (Jvm.Cond.instanceMethod ({ cls := "GreenwaveModel", name := "setOffset", desc := "(II)I" } : Jvm.MethodName)) ∈ lw_all := lw_g (lw_at lw_m3 219 rfl) rfl
theorem q745 : (Jvm.Cond.selects "GreenwaveModel" ({ cls := "GreenwaveModel", name := "setOffset", desc := "(II)I" } : Jvm.MethodName) ({ cls := "GreenwaveModel", name := "setOffset", desc := "(II)I" } : Jvm.MethodName)) ∈ lw_all := lw_g (lw_at lw_m3 220 rfl) rfl
theorem q746 : (Jvm.Cond.code ({ cls := "GreenwaveModel", name := "setOffset", desc := "(II)I" } : Jvm.MethodName) prog_4_method_19_code (4 : Nat) (Option.some Jvm.ClassFile.FieldType.int)) ∈ lw_all := lw_g (lw_at lw_m3 221 rfl) rfl
theorem q748 : (Jvm.Cond.instanceMethod ({ cls := "GreenwaveModel", name := "improve", desc := "()I" } : Jvm.MethodName)) ∈ lw_all := lw_g (lw_at lw_m3 223 rfl) rfl
theorem q749 : (Jvm.Cond.selects "GreenwaveModel" ({ cls := "GreenwaveModel", name := "improve", desc := "()I" } : Jvm.MethodName) ({ cls := "GreenwaveModel", name := "improve", desc := "()I" } : Jvm.MethodName)) ∈ lw_all := lw_g (lw_at lw_m3 224 rfl) rfl
theorem q750 : (Jvm.Cond.code ({ cls := "GreenwaveModel", name := "improve", desc := "()I" } : Jvm.MethodName) prog_4_method_33_code (4 : Nat) (Option.some Jvm.ClassFile.FieldType.int)) ∈ lw_all := lw_g (lw_at lw_m3 225 rfl) rfl
theorem q751 : (Jvm.Cond.methodLink "GreenwaveModel" (174 : Nat) ({ cls := "GreenwaveModel", name := "plansAll", desc := "()Z" } : Jvm.MethodName)) ∈ lw_all := lw_g (lw_at lw_m3 226 rfl) rfl
theorem q752 : (Jvm.Cond.privateMethod ({ cls := "GreenwaveModel", name := "plansAll", desc := "()Z" } : Jvm.MethodName)) ∈ lw_tbl := lw_at lw_m3 227 rfl
theorem q753 : (Jvm.Cond.instanceMethod ({ cls := "GreenwaveModel", name := "plansAll", desc := "()Z" } : Jvm.MethodName)) ∈ lw_all := lw_g (lw_at lw_m3 228 rfl) rfl
theorem q754 : (Jvm.Cond.code ({ cls := "GreenwaveModel", name := "plansAll", desc := "()Z" } : Jvm.MethodName) prog_4_method_24_code (3 : Nat) (Option.some Jvm.ClassFile.FieldType.boolean)) ∈ lw_all := lw_g (lw_at lw_m3 229 rfl) rfl
theorem q755 : (Jvm.Cond.methodLink "GreenwaveModel" (144 : Nat) ({ cls := "GreenwaveModel", name := "plans", desc := "(I)V" } : Jvm.MethodName)) ∈ lw_all := lw_g (lw_at lw_m3 230 rfl) rfl
theorem q756 : (Jvm.Cond.privateMethod ({ cls := "GreenwaveModel", name := "plans", desc := "(I)V" } : Jvm.MethodName)) ∈ lw_tbl := lw_at lw_m3 231 rfl
theorem q757 : (Jvm.Cond.instanceMethod ({ cls := "GreenwaveModel", name := "plans", desc := "(I)V" } : Jvm.MethodName)) ∈ lw_all := lw_g (lw_at lw_m3 232 rfl) rfl
theorem q758 : (Jvm.Cond.code ({ cls := "GreenwaveModel", name := "plans", desc := "(I)V" } : Jvm.MethodName) prog_4_method_23_code (7 : Nat) (Option.none : Option Jvm.ClassFile.FieldType)) ∈ lw_all := lw_g (lw_at lw_m3 233 rfl) rfl
theorem q759 : (Jvm.Cond.methodLink "GreenwaveModel" (134 : Nat) ({ cls := "GreenwaveModel", name := "clearingOf", desc := "(II)I" } : Jvm.MethodName)) ∈ lw_all := lw_g (lw_at lw_m3 234 rfl) rfl
theorem q760 : (Jvm.Cond.privateMethod ({ cls := "GreenwaveModel", name := "clearingOf", desc := "(II)I" } : Jvm.MethodName)) ∈ lw_tbl := lw_at lw_m3 235 rfl
theorem q761 : (Jvm.Cond.instanceMethod ({ cls := "GreenwaveModel", name := "clearingOf", desc := "(II)I" } : Jvm.MethodName)) ∈ lw_all := lw_g (lw_at lw_m3 236 rfl) rfl
theorem q762 : (Jvm.Cond.code ({ cls := "GreenwaveModel", name := "clearingOf", desc := "(II)I" } : Jvm.MethodName) prog_4_method_20_code (8 : Nat) (Option.some Jvm.ClassFile.FieldType.int)) ∈ lw_all := lw_g (lw_at lw_m3 237 rfl) rfl
theorem q763 : (Jvm.Cond.methodLink "GreenwaveModel" (138 : Nat) ({ cls := "GreenwaveModel", name := "leastOf", desc := "(II)I" } : Jvm.MethodName)) ∈ lw_all := lw_g (lw_at lw_m3 238 rfl) rfl
theorem q764 : (Jvm.Cond.privateMethod ({ cls := "GreenwaveModel", name := "leastOf", desc := "(II)I" } : Jvm.MethodName)) ∈ lw_tbl := lw_at lw_m3 239 rfl
theorem q765 : (Jvm.Cond.instanceMethod ({ cls := "GreenwaveModel", name := "leastOf", desc := "(II)I" } : Jvm.MethodName)) ∈ lw_all := lw_g (lw_at lw_m4 0 rfl) rfl
theorem q766 : (Jvm.Cond.code ({ cls := "GreenwaveModel", name := "leastOf", desc := "(II)I" } : Jvm.MethodName) prog_4_method_21_code (3 : Nat) (Option.some Jvm.ClassFile.FieldType.int)) ∈ lw_all := lw_g (lw_at lw_m4 1 rfl) rfl
theorem q767 : (Jvm.Cond.methodLink "GreenwaveModel" (141 : Nat) ({ cls := "GreenwaveModel", name := "weight", desc := "(II)I" } : Jvm.MethodName)) ∈ lw_all := lw_g (lw_at lw_m4 2 rfl) rfl
theorem q768 : (Jvm.Cond.privateMethod ({ cls := "GreenwaveModel", name := "weight", desc := "(II)I" } : Jvm.MethodName)) ∈ lw_tbl := lw_at lw_m4 3 rfl
theorem q769 : (Jvm.Cond.instanceMethod ({ cls := "GreenwaveModel", name := "weight", desc := "(II)I" } : Jvm.MethodName)) ∈ lw_all := lw_g (lw_at lw_m4 4 rfl) rfl
theorem q770 : (Jvm.Cond.code ({ cls := "GreenwaveModel", name := "weight", desc := "(II)I" } : Jvm.MethodName) prog_4_method_22_code (6 : Nat) (Option.some Jvm.ClassFile.FieldType.int)) ∈ lw_all := lw_g (lw_at lw_m4 5 rfl) rfl
theorem q771 : (Jvm.Cond.methodLink "GreenwaveModel" (178 : Nat) ({ cls := "GreenwaveModel", name := "betters", desc := "(I)Z" } : Jvm.MethodName)) ∈ lw_all := lw_g (lw_at lw_m4 6 rfl) rfl
theorem q772 : (Jvm.Cond.privateMethod ({ cls := "GreenwaveModel", name := "betters", desc := "(I)Z" } : Jvm.MethodName)) ∈ lw_tbl := lw_at lw_m4 7 rfl
theorem q773 : (Jvm.Cond.instanceMethod ({ cls := "GreenwaveModel", name := "betters", desc := "(I)Z" } : Jvm.MethodName)) ∈ lw_all := lw_g (lw_at lw_m4 8 rfl) rfl
theorem q774 : (Jvm.Cond.code ({ cls := "GreenwaveModel", name := "betters", desc := "(I)Z" } : Jvm.MethodName) prog_4_method_32_code (7 : Nat) (Option.some Jvm.ClassFile.FieldType.boolean)) ∈ lw_all := lw_g (lw_at lw_m4 9 rfl) rfl
theorem q775 : (Jvm.Cond.methodLink "GreenwaveModel" (170 : Nat) ({ cls := "GreenwaveModel", name := "bands", desc := "()I" } : Jvm.MethodName)) ∈ lw_all := lw_g (lw_at lw_m4 10 rfl) rfl
theorem q776 : (Jvm.Cond.privateMethod ({ cls := "GreenwaveModel", name := "bands", desc := "()I" } : Jvm.MethodName)) ∈ lw_tbl := lw_at lw_m4 11 rfl
theorem q777 : (Jvm.Cond.instanceMethod ({ cls := "GreenwaveModel", name := "bands", desc := "()I" } : Jvm.MethodName)) ∈ lw_all := lw_g (lw_at lw_m4 12 rfl) rfl
theorem q778 : (Jvm.Cond.code ({ cls := "GreenwaveModel", name := "bands", desc := "()I" } : Jvm.MethodName) prog_4_method_31_code (1 : Nat) (Option.some Jvm.ClassFile.FieldType.int)) ∈ lw_all := lw_g (lw_at lw_m4 13 rfl) rfl
theorem q779 : (Jvm.Cond.methodLink "GreenwaveModel" (166 : Nat) ({ cls := "GreenwaveModel", name := "bandOf", desc := "(Z)I" } : Jvm.MethodName)) ∈ lw_all := lw_g (lw_at lw_m4 14 rfl) rfl
theorem q780 : (Jvm.Cond.privateMethod ({ cls := "GreenwaveModel", name := "bandOf", desc := "(Z)I" } : Jvm.MethodName)) ∈ lw_tbl := lw_at lw_m4 15 rfl
theorem q781 : (Jvm.Cond.instanceMethod ({ cls := "GreenwaveModel", name := "bandOf", desc := "(Z)I" } : Jvm.MethodName)) ∈ lw_all := lw_g (lw_at lw_m4 16 rfl) rfl
theorem q782 : (Jvm.Cond.code ({ cls := "GreenwaveModel", name := "bandOf", desc := "(Z)I" } : Jvm.MethodName) prog_4_method_30_code (4 : Nat) (Option.some Jvm.ClassFile.FieldType.int)) ∈ lw_all := lw_g (lw_at lw_m4 17 rfl) rfl
theorem q783 : (Jvm.Cond.methodLink "GreenwaveModel" (162 : Nat) ({ cls := "GreenwaveModel", name := "isFree", desc := "(IZ)Z" } : Jvm.MethodName)) ∈ lw_all := lw_g (lw_at lw_m4 18 rfl) rfl
theorem q784 : (Jvm.Cond.privateMethod ({ cls := "GreenwaveModel", name := "isFree", desc := "(IZ)Z" } : Jvm.MethodName)) ∈ lw_tbl := lw_at lw_m4 19 rfl
theorem q785 : (Jvm.Cond.instanceMethod ({ cls := "GreenwaveModel", name := "isFree", desc := "(IZ)Z" } : Jvm.MethodName)) ∈ lw_all := lw_g (lw_at lw_m4 20 rfl) rfl
theorem q786 : (Jvm.Cond.code ({ cls := "GreenwaveModel", name := "isFree", desc := "(IZ)Z" } : Jvm.MethodName) prog_4_method_29_code (6 : Nat) (Option.some Jvm.ClassFile.FieldType.boolean)) ∈ lw_all := lw_g (lw_at lw_m4 21 rfl) rfl
theorem q787 : (Jvm.Cond.methodLink "GreenwaveModel" (158 : Nat) ({ cls := "GreenwaveModel", name := "isGreenAt", desc := "(IIIZ)Z" } : Jvm.MethodName)) ∈ lw_all := lw_g (lw_at lw_m4 22 rfl) rfl
theorem q788 : (Jvm.Cond.privateMethod ({ cls := "GreenwaveModel", name := "isGreenAt", desc := "(IIIZ)Z" } : Jvm.MethodName)) ∈ lw_tbl := lw_at lw_m4 23 rfl
theorem q789 : (Jvm.Cond.instanceMethod ({ cls := "GreenwaveModel", name := "isGreenAt", desc := "(IIIZ)Z" } : Jvm.MethodName)) ∈ lw_all := lw_g (lw_at lw_m4 24 rfl) rfl
theorem q790 : (Jvm.Cond.code ({ cls := "GreenwaveModel", name := "isGreenAt", desc := "(IIIZ)Z" } : Jvm.MethodName) prog_4_method_28_code (6 : Nat) (Option.some Jvm.ClassFile.FieldType.boolean)) ∈ lw_all := lw_g (lw_at lw_m4 25 rfl) rfl
theorem q791 : (Jvm.Cond.methodLink "GreenwaveModel" (154 : Nat) ({ cls := "GreenwaveModel", name := "phaseAt", desc := "(IIZ)I" } : Jvm.MethodName)) ∈ lw_all := lw_g (lw_at lw_m4 26 rfl) rfl
theorem q792 : (Jvm.Cond.privateMethod ({ cls := "GreenwaveModel", name := "phaseAt", desc := "(IIZ)I" } : Jvm.MethodName)) ∈ lw_tbl := lw_at lw_m4 27 rfl
theorem q793 : (Jvm.Cond.instanceMethod ({ cls := "GreenwaveModel", name := "phaseAt", desc := "(IIZ)I" } : Jvm.MethodName)) ∈ lw_all := lw_g (lw_at lw_m4 28 rfl) rfl
theorem q794 : (Jvm.Cond.code ({ cls := "GreenwaveModel", name := "phaseAt", desc := "(IIZ)I" } : Jvm.MethodName) prog_4_method_27_code (8 : Nat) (Option.some Jvm.ClassFile.FieldType.int)) ∈ lw_all := lw_g (lw_at lw_m4 29 rfl) rfl
theorem q795 : (Jvm.Cond.methodLink "GreenwaveModel" (148 : Nat) ({ cls := "GreenwaveModel", name := "secondOf", desc := "(II)I" } : Jvm.MethodName)) ∈ lw_all := lw_g (lw_at lw_m4 30 rfl) rfl
theorem q796 : (Jvm.Cond.privateMethod ({ cls := "GreenwaveModel", name := "secondOf", desc := "(II)I" } : Jvm.MethodName)) ∈ lw_tbl := lw_at lw_m4 31 rfl
theorem q797 : (Jvm.Cond.instanceMethod ({ cls := "GreenwaveModel", name := "secondOf", desc := "(II)I" } : Jvm.MethodName)) ∈ lw_all := lw_g (lw_at lw_m4 32 rfl) rfl
theorem q798 : (Jvm.Cond.code ({ cls := "GreenwaveModel", name := "secondOf", desc := "(II)I" } : Jvm.MethodName) prog_4_method_25_code (3 : Nat) (Option.some Jvm.ClassFile.FieldType.int)) ∈ lw_all := lw_g (lw_at lw_m4 33 rfl) rfl
theorem q799 : (Jvm.Cond.methodLink "GreenwaveModel" (151 : Nat) ({ cls := "GreenwaveModel", name := "cycleOf", desc := "(II)I" } : Jvm.MethodName)) ∈ lw_all := lw_g (lw_at lw_m4 34 rfl) rfl
theorem q800 : (Jvm.Cond.privateMethod ({ cls := "GreenwaveModel", name := "cycleOf", desc := "(II)I" } : Jvm.MethodName)) ∈ lw_tbl := lw_at lw_m4 35 rfl
theorem q801 : (Jvm.Cond.instanceMethod ({ cls := "GreenwaveModel", name := "cycleOf", desc := "(II)I" } : Jvm.MethodName)) ∈ lw_all := lw_g (lw_at lw_m4 36 rfl) rfl
theorem q802 : (Jvm.Cond.code ({ cls := "GreenwaveModel", name := "cycleOf", desc := "(II)I" } : Jvm.MethodName) prog_4_method_26_code (3 : Nat) (Option.some Jvm.ClassFile.FieldType.int)) ∈ lw_all := lw_g (lw_at lw_m4 37 rfl) rfl
theorem q804 : (Jvm.Cond.instanceMethod ({ cls := "GreenwaveModel", name := "junctions", desc := "()I" } : Jvm.MethodName)) ∈ lw_all := lw_g (lw_at lw_m4 39 rfl) rfl
theorem q805 : (Jvm.Cond.selects "GreenwaveModel" ({ cls := "GreenwaveModel", name := "junctions", desc := "()I" } : Jvm.MethodName) ({ cls := "GreenwaveModel", name := "junctions", desc := "()I" } : Jvm.MethodName)) ∈ lw_all := lw_g (lw_at lw_m4 40 rfl) rfl
theorem q806 : (Jvm.Cond.code ({ cls := "GreenwaveModel", name := "junctions", desc := "()I" } : Jvm.MethodName) prog_4_method_34_code (1 : Nat) (Option.some Jvm.ClassFile.FieldType.int)) ∈ lw_all := lw_g (lw_at lw_m4 41 rfl) rfl
theorem q808 : (Jvm.Cond.instanceMethod ({ cls := "GreenwaveModel", name := "hasPlan", desc := "(I)Z" } : Jvm.MethodName)) ∈ lw_all := lw_g (lw_at lw_m4 43 rfl) rfl
theorem q809 : (Jvm.Cond.selects "GreenwaveModel" ({ cls := "GreenwaveModel", name := "hasPlan", desc := "(I)Z" } : Jvm.MethodName) ({ cls := "GreenwaveModel", name := "hasPlan", desc := "(I)Z" } : Jvm.MethodName)) ∈ lw_all := lw_g (lw_at lw_m4 44 rfl) rfl
theorem q810 : (Jvm.Cond.code ({ cls := "GreenwaveModel", name := "hasPlan", desc := "(I)Z" } : Jvm.MethodName) prog_4_method_36_code (2 : Nat) (Option.some Jvm.ClassFile.FieldType.boolean)) ∈ lw_all := lw_g (lw_at lw_m4 45 rfl) rfl
theorem q811 : (Jvm.Cond.methodLink "GreenwaveModel" (181 : Nat) ({ cls := "GreenwaveModel", name := "isPlanned", desc := "(I)Z" } : Jvm.MethodName)) ∈ lw_all := lw_g (lw_at lw_m4 46 rfl) rfl
theorem q812 : (Jvm.Cond.privateMethod ({ cls := "GreenwaveModel", name := "isPlanned", desc := "(I)Z" } : Jvm.MethodName)) ∈ lw_tbl := lw_at lw_m4 47 rfl
theorem q813 : (Jvm.Cond.instanceMethod ({ cls := "GreenwaveModel", name := "isPlanned", desc := "(I)Z" } : Jvm.MethodName)) ∈ lw_all := lw_g (lw_at lw_m4 48 rfl) rfl
theorem q814 : (Jvm.Cond.code ({ cls := "GreenwaveModel", name := "isPlanned", desc := "(I)Z" } : Jvm.MethodName) prog_4_method_35_code (2 : Nat) (Option.some Jvm.ClassFile.FieldType.boolean)) ∈ lw_all := lw_g (lw_at lw_m4 49 rfl) rfl
theorem q816 : (Jvm.Cond.instanceMethod ({ cls := "GreenwaveModel", name := "green", desc := "(II)I" } : Jvm.MethodName)) ∈ lw_all := lw_g (lw_at lw_m4 51 rfl) rfl
theorem q817 : (Jvm.Cond.selects "GreenwaveModel" ({ cls := "GreenwaveModel", name := "green", desc := "(II)I" } : Jvm.MethodName) ({ cls := "GreenwaveModel", name := "green", desc := "(II)I" } : Jvm.MethodName)) ∈ lw_all := lw_g (lw_at lw_m4 52 rfl) rfl
theorem q818 : (Jvm.Cond.code ({ cls := "GreenwaveModel", name := "green", desc := "(II)I" } : Jvm.MethodName) prog_4_method_38_code (3 : Nat) (Option.some Jvm.ClassFile.FieldType.int)) ∈ lw_all := lw_g (lw_at lw_m4 53 rfl) rfl
theorem q819 : (Jvm.Cond.methodLink "GreenwaveModel" (184 : Nat) ({ cls := "GreenwaveModel", name := "isPhase", desc := "(II)Z" } : Jvm.MethodName)) ∈ lw_all := lw_g (lw_at lw_m4 54 rfl) rfl
theorem q820 : (Jvm.Cond.privateMethod ({ cls := "GreenwaveModel", name := "isPhase", desc := "(II)Z" } : Jvm.MethodName)) ∈ lw_tbl := lw_at lw_m4 55 rfl
theorem q821 : (Jvm.Cond.instanceMethod ({ cls := "GreenwaveModel", name := "isPhase", desc := "(II)Z" } : Jvm.MethodName)) ∈ lw_all := lw_g (lw_at lw_m4 56 rfl) rfl
theorem q822 : (Jvm.Cond.code ({ cls := "GreenwaveModel", name := "isPhase", desc := "(II)Z" } : Jvm.MethodName) prog_4_method_37_code (3 : Nat) (Option.some Jvm.ClassFile.FieldType.boolean)) ∈ lw_all := lw_g (lw_at lw_m4 57 rfl) rfl
theorem q824 : (Jvm.Cond.instanceMethod ({ cls := "GreenwaveModel", name := "clearing", desc := "(II)I" } : Jvm.MethodName)) ∈ lw_all := lw_g (lw_at lw_m4 59 rfl) rfl
theorem q825 : (Jvm.Cond.selects "GreenwaveModel" ({ cls := "GreenwaveModel", name := "clearing", desc := "(II)I" } : Jvm.MethodName) ({ cls := "GreenwaveModel", name := "clearing", desc := "(II)I" } : Jvm.MethodName)) ∈ lw_all := lw_g (lw_at lw_m4 60 rfl) rfl
theorem q826 : (Jvm.Cond.code ({ cls := "GreenwaveModel", name := "clearing", desc := "(II)I" } : Jvm.MethodName) prog_4_method_39_code (3 : Nat) (Option.some Jvm.ClassFile.FieldType.int)) ∈ lw_all := lw_g (lw_at lw_m4 61 rfl) rfl
theorem q828 : (Jvm.Cond.instanceMethod ({ cls := "GreenwaveModel", name := "offset", desc := "(I)I" } : Jvm.MethodName)) ∈ lw_all := lw_g (lw_at lw_m4 63 rfl) rfl
theorem q829 : (Jvm.Cond.selects "GreenwaveModel" ({ cls := "GreenwaveModel", name := "offset", desc := "(I)I" } : Jvm.MethodName) ({ cls := "GreenwaveModel", name := "offset", desc := "(I)I" } : Jvm.MethodName)) ∈ lw_all := lw_g (lw_at lw_m4 64 rfl) rfl
theorem q830 : (Jvm.Cond.code ({ cls := "GreenwaveModel", name := "offset", desc := "(I)I" } : Jvm.MethodName) prog_4_method_40_code (2 : Nat) (Option.some Jvm.ClassFile.FieldType.int)) ∈ lw_all := lw_g (lw_at lw_m4 65 rfl) rfl
theorem q832 : (Jvm.Cond.instanceMethod ({ cls := "GreenwaveModel", name := "isGreen", desc := "(III)Z" } : Jvm.MethodName)) ∈ lw_all := lw_g (lw_at lw_m4 67 rfl) rfl
theorem q833 : (Jvm.Cond.selects "GreenwaveModel" ({ cls := "GreenwaveModel", name := "isGreen", desc := "(III)Z" } : Jvm.MethodName) ({ cls := "GreenwaveModel", name := "isGreen", desc := "(III)Z" } : Jvm.MethodName)) ∈ lw_all := lw_g (lw_at lw_m4 68 rfl) rfl
theorem q834 : (Jvm.Cond.code ({ cls := "GreenwaveModel", name := "isGreen", desc := "(III)Z" } : Jvm.MethodName) prog_4_method_41_code (5 : Nat) (Option.some Jvm.ClassFile.FieldType.boolean)) ∈ lw_all := lw_g (lw_at lw_m4 69 rfl) rfl
theorem q835 : (Jvm.Cond.constant "GreenwaveModel" (187 : Nat) (100000 : Int32)) ∈ lw_all := lw_g (lw_at lw_m4 70 rfl) rfl
theorem q837 : (Jvm.Cond.instanceMethod ({ cls := "GreenwaveModel", name := "breaches", desc := "(I)I" } : Jvm.MethodName)) ∈ lw_all := lw_g (lw_at lw_m4 72 rfl) rfl
theorem q838 : (Jvm.Cond.selects "GreenwaveModel" ({ cls := "GreenwaveModel", name := "breaches", desc := "(I)I" } : Jvm.MethodName) ({ cls := "GreenwaveModel", name := "breaches", desc := "(I)I" } : Jvm.MethodName)) ∈ lw_all := lw_g (lw_at lw_m4 73 rfl) rfl
theorem q839 : (Jvm.Cond.code ({ cls := "GreenwaveModel", name := "breaches", desc := "(I)I" } : Jvm.MethodName) prog_4_method_43_code (4 : Nat) (Option.some Jvm.ClassFile.FieldType.int)) ∈ lw_all := lw_g (lw_at lw_m4 74 rfl) rfl
theorem q840 : (Jvm.Cond.methodLink "GreenwaveModel" (188 : Nat) ({ cls := "GreenwaveModel", name := "isBreach", desc := "(II)Z" } : Jvm.MethodName)) ∈ lw_all := lw_g (lw_at lw_m4 75 rfl) rfl
theorem q841 : (Jvm.Cond.privateMethod ({ cls := "GreenwaveModel", name := "isBreach", desc := "(II)Z" } : Jvm.MethodName)) ∈ lw_tbl := lw_at lw_m4 76 rfl
theorem q842 : (Jvm.Cond.instanceMethod ({ cls := "GreenwaveModel", name := "isBreach", desc := "(II)Z" } : Jvm.MethodName)) ∈ lw_all := lw_g (lw_at lw_m4 77 rfl) rfl
theorem q843 : (Jvm.Cond.code ({ cls := "GreenwaveModel", name := "isBreach", desc := "(II)Z" } : Jvm.MethodName) prog_4_method_42_code (6 : Nat) (Option.some Jvm.ClassFile.FieldType.boolean)) ∈ lw_all := lw_g (lw_at lw_m4 78 rfl) rfl
theorem q845 : (Jvm.Cond.instanceMethod ({ cls := "GreenwaveModel", name := "band", desc := "(Z)I" } : Jvm.MethodName)) ∈ lw_all := lw_g (lw_at lw_m4 80 rfl) rfl
theorem q846 : (Jvm.Cond.selects "GreenwaveModel" ({ cls := "GreenwaveModel", name := "band", desc := "(Z)I" } : Jvm.MethodName) ({ cls := "GreenwaveModel", name := "band", desc := "(Z)I" } : Jvm.MethodName)) ∈ lw_all := lw_g (lw_at lw_m4 81 rfl) rfl
theorem q847 : (Jvm.Cond.code ({ cls := "GreenwaveModel", name := "band", desc := "(Z)I" } : Jvm.MethodName) prog_4_method_44_code (2 : Nat) (Option.some Jvm.ClassFile.FieldType.int)) ∈ lw_all := lw_g (lw_at lw_m4 82 rfl) rfl
theorem q849 : (Jvm.Cond.instanceMethod ({ cls := "GreenwaveModel", name := "bestByAll", desc := "()I" } : Jvm.MethodName)) ∈ lw_all := lw_g (lw_at lw_m4 84 rfl) rfl
theorem q850 : (Jvm.Cond.selects "GreenwaveModel" ({ cls := "GreenwaveModel", name := "bestByAll", desc := "()I" } : Jvm.MethodName) ({ cls := "GreenwaveModel", name := "bestByAll", desc := "()I" } : Jvm.MethodName)) ∈ lw_all := lw_g (lw_at lw_m4 85 rfl) rfl
theorem q851 : (Jvm.Cond.code ({ cls := "GreenwaveModel", name := "bestByAll", desc := "()I" } : Jvm.MethodName) prog_4_method_45_code (6 : Nat) (Option.some Jvm.ClassFile.FieldType.int)) ∈ lw_all := lw_g (lw_at lw_m4 86 rfl) rfl
theorem q853 : (Jvm.Cond.instanceMethod ({ cls := "GreenwaveModel", name := "run", desc := "(I)I" } : Jvm.MethodName)) ∈ lw_all := lw_g (lw_at lw_m4 88 rfl) rfl
theorem q854 : (Jvm.Cond.selects "GreenwaveModel" ({ cls := "GreenwaveModel", name := "run", desc := "(I)I" } : Jvm.MethodName) ({ cls := "GreenwaveModel", name := "run", desc := "(I)I" } : Jvm.MethodName)) ∈ lw_all := lw_g (lw_at lw_m4 89 rfl) rfl
theorem q855 : (Jvm.Cond.code ({ cls := "GreenwaveModel", name := "run", desc := "(I)I" } : Jvm.MethodName) prog_4_method_50_code (5 : Nat) (Option.some Jvm.ClassFile.FieldType.int)) ∈ lw_all := lw_g (lw_at lw_m4 90 rfl) rfl
theorem q856 : (Jvm.Cond.methodLink "GreenwaveModel" (195 : Nat) ({ cls := "GreenwaveModel", name := "arrives", desc := "()V" } : Jvm.MethodName)) ∈ lw_all := lw_g (lw_at lw_m4 91 rfl) rfl
theorem q857 : (Jvm.Cond.privateMethod ({ cls := "GreenwaveModel", name := "arrives", desc := "()V" } : Jvm.MethodName)) ∈ lw_tbl := lw_at lw_m4 92 rfl
theorem q858 : (Jvm.Cond.instanceMethod ({ cls := "GreenwaveModel", name := "arrives", desc := "()V" } : Jvm.MethodName)) ∈ lw_all := lw_g (lw_at lw_m4 93 rfl) rfl
theorem q859 : (Jvm.Cond.code ({ cls := "GreenwaveModel", name := "arrives", desc := "()V" } : Jvm.MethodName) prog_4_method_47_code (1 : Nat) (Option.none : Option Jvm.ClassFile.FieldType)) ∈ lw_all := lw_g (lw_at lw_m4 94 rfl) rfl
theorem q860 : (Jvm.Cond.methodLink "GreenwaveModel" (198 : Nat) ({ cls := "GreenwaveModel", name := "joins", desc := "(I)V" } : Jvm.MethodName)) ∈ lw_all := lw_g (lw_at lw_m4 95 rfl) rfl
theorem q861 : (Jvm.Cond.privateMethod ({ cls := "GreenwaveModel", name := "joins", desc := "(I)V" } : Jvm.MethodName)) ∈ lw_tbl := lw_at lw_m4 96 rfl
theorem q862 : (Jvm.Cond.instanceMethod ({ cls := "GreenwaveModel", name := "joins", desc := "(I)V" } : Jvm.MethodName)) ∈ lw_all := lw_g (lw_at lw_m4 97 rfl) rfl
theorem q863 : (Jvm.Cond.code ({ cls := "GreenwaveModel", name := "joins", desc := "(I)V" } : Jvm.MethodName) prog_4_method_46_code (4 : Nat) (Option.none : Option Jvm.ClassFile.FieldType)) ∈ lw_all := lw_g (lw_at lw_m4 98 rfl) rfl
theorem q864 : (Jvm.Cond.methodLink "GreenwaveModel" (201 : Nat) ({ cls := "GreenwaveModel", name := "leaves", desc := "(I)V" } : Jvm.MethodName)) ∈ lw_all := lw_g (lw_at lw_m4 99 rfl) rfl
theorem q865 : (Jvm.Cond.privateMethod ({ cls := "GreenwaveModel", name := "leaves", desc := "(I)V" } : Jvm.MethodName)) ∈ lw_tbl := lw_at lw_m4 100 rfl
theorem q866 : (Jvm.Cond.instanceMethod ({ cls := "GreenwaveModel", name := "leaves", desc := "(I)V" } : Jvm.MethodName)) ∈ lw_all := lw_g (lw_at lw_m4 101 rfl) rfl
theorem q867 : (Jvm.Cond.code ({ cls := "GreenwaveModel", name := "leaves", desc := "(I)V" } : Jvm.MethodName) prog_4_method_49_code (4 : Nat) (Option.none : Option Jvm.ClassFile.FieldType)) ∈ lw_all := lw_g (lw_at lw_m4 102 rfl) rfl
theorem q868 : (Jvm.Cond.methodLink "GreenwaveModel" (191 : Nat) ({ cls := "GreenwaveModel", name := "heldOf", desc := "(I)I" } : Jvm.MethodName)) ∈ lw_all := lw_g (lw_at lw_m4 103 rfl) rfl
theorem q869 : (Jvm.Cond.privateMethod ({ cls := "GreenwaveModel", name := "heldOf", desc := "(I)I" } : Jvm.MethodName)) ∈ lw_tbl := lw_at lw_m4 104 rfl
theorem q870 : (Jvm.Cond.instanceMethod ({ cls := "GreenwaveModel", name := "heldOf", desc := "(I)I" } : Jvm.MethodName)) ∈ lw_all := lw_g (lw_at lw_m4 105 rfl) rfl
theorem q871 : (Jvm.Cond.code ({ cls := "GreenwaveModel", name := "heldOf", desc := "(I)I" } : Jvm.MethodName) prog_4_method_48_code (2 : Nat) (Option.some Jvm.ClassFile.FieldType.int)) ∈ lw_all := lw_g (lw_at lw_m4 106 rfl) rfl
theorem q873 : (Jvm.Cond.instanceMethod ({ cls := "GreenwaveModel", name := "callBus", desc := "(II)I" } : Jvm.MethodName)) ∈ lw_all := lw_g (lw_at lw_m4 108 rfl) rfl
theorem q874 : (Jvm.Cond.selects "GreenwaveModel" ({ cls := "GreenwaveModel", name := "callBus", desc := "(II)I" } : Jvm.MethodName) ({ cls := "GreenwaveModel", name := "callBus", desc := "(II)I" } : Jvm.MethodName)) ∈ lw_all := lw_g (lw_at lw_m4 109 rfl) rfl
theorem q875 : (Jvm.Cond.code ({ cls := "GreenwaveModel", name := "callBus", desc := "(II)I" } : Jvm.MethodName) prog_4_method_56_code (5 : Nat) (Option.some Jvm.ClassFile.FieldType.int)) ∈ lw_all := lw_g (lw_at lw_m4 110 rfl) rfl
theorem q876 : (Jvm.Cond.methodLink "GreenwaveModel" (207 : Nat) ({ cls := "GreenwaveModel", name := "errorOfCall", desc := "(II)I" } : Jvm.MethodName)) ∈ lw_all := lw_g (lw_at lw_m4 111 rfl) rfl
theorem q877 : (Jvm.Cond.privateMethod ({ cls := "GreenwaveModel", name := "errorOfCall", desc := "(II)I" } : Jvm.MethodName)) ∈ lw_tbl := lw_at lw_m4 112 rfl
theorem q878 : (Jvm.Cond.instanceMethod ({ cls := "GreenwaveModel", name := "errorOfCall", desc := "(II)I" } : Jvm.MethodName)) ∈ lw_all := lw_g (lw_at lw_m4 113 rfl) rfl
theorem q879 : (Jvm.Cond.code ({ cls := "GreenwaveModel", name := "errorOfCall", desc := "(II)I" } : Jvm.MethodName) prog_4_method_52_code (4 : Nat) (Option.some Jvm.ClassFile.FieldType.int)) ∈ lw_all := lw_g (lw_at lw_m4 114 rfl) rfl
theorem q880 : (Jvm.Cond.methodLink "GreenwaveModel" (204 : Nat) ({ cls := "GreenwaveModel", name := "phaseOf", desc := "(II)I" } : Jvm.MethodName)) ∈ lw_all := lw_g (lw_at lw_m4 115 rfl) rfl
theorem q881 : (Jvm.Cond.privateMethod ({ cls := "GreenwaveModel", name := "phaseOf", desc := "(II)I" } : Jvm.MethodName)) ∈ lw_tbl := lw_at lw_m4 116 rfl
theorem q882 : (Jvm.Cond.instanceMethod ({ cls := "GreenwaveModel", name := "phaseOf", desc := "(II)I" } : Jvm.MethodName)) ∈ lw_all := lw_g (lw_at lw_m4 117 rfl) rfl
theorem q883 : (Jvm.Cond.code ({ cls := "GreenwaveModel", name := "phaseOf", desc := "(II)I" } : Jvm.MethodName) prog_4_method_51_code (4 : Nat) (Option.some Jvm.ClassFile.FieldType.int)) ∈ lw_all := lw_g (lw_at lw_m4 118 rfl) rfl
theorem q884 : (Jvm.Cond.methodLink "GreenwaveModel" (210 : Nat) ({ cls := "GreenwaveModel", name := "above", desc := "(II)I" } : Jvm.MethodName)) ∈ lw_all := lw_g (lw_at lw_m4 119 rfl) rfl
theorem q885 : (Jvm.Cond.privateMethod ({ cls := "GreenwaveModel", name := "above", desc := "(II)I" } : Jvm.MethodName)) ∈ lw_tbl := lw_at lw_m4 120 rfl
theorem q886 : (Jvm.Cond.instanceMethod ({ cls := "GreenwaveModel", name := "above", desc := "(II)I" } : Jvm.MethodName)) ∈ lw_all := lw_g (lw_at lw_m4 121 rfl) rfl
theorem q887 : (Jvm.Cond.code ({ cls := "GreenwaveModel", name := "above", desc := "(II)I" } : Jvm.MethodName) prog_4_method_54_code (3 : Nat) (Option.some Jvm.ClassFile.FieldType.int)) ∈ lw_all := lw_g (lw_at lw_m4 122 rfl) rfl
theorem q888 : (Jvm.Cond.methodLink "GreenwaveModel" (213 : Nat) ({ cls := "GreenwaveModel", name := "least", desc := "(II)I" } : Jvm.MethodName)) ∈ lw_all := lw_g (lw_at lw_m4 123 rfl) rfl
theorem q889 : (Jvm.Cond.static ({ cls := "GreenwaveModel", name := "least", desc := "(II)I" } : Jvm.MethodName)) ∈ lw_all := lw_g (lw_at lw_m4 124 rfl) rfl
theorem q890 : (Jvm.Cond.code ({ cls := "GreenwaveModel", name := "least", desc := "(II)I" } : Jvm.MethodName) prog_4_method_53_code (2 : Nat) (Option.some Jvm.ClassFile.FieldType.int)) ∈ lw_all := lw_g (lw_at lw_m4 125 rfl) rfl
theorem q891 : (Jvm.Cond.methodLink "GreenwaveModel" (216 : Nat) ({ cls := "GreenwaveModel", name := "behind", desc := "(II)I" } : Jvm.MethodName)) ∈ lw_all := lw_g (lw_at lw_m4 126 rfl) rfl
theorem q892 : (Jvm.Cond.privateMethod ({ cls := "GreenwaveModel", name := "behind", desc := "(II)I" } : Jvm.MethodName)) ∈ lw_tbl := lw_at lw_m4 127 rfl
theorem q893 : (Jvm.Cond.instanceMethod ({ cls := "GreenwaveModel", name := "behind", desc := "(II)I" } : Jvm.MethodName)) ∈ lw_all := lw_g (lw_at lw_m4 128 rfl) rfl
theorem q894 : (Jvm.Cond.code ({ cls := "GreenwaveModel", name := "behind", desc := "(II)I" } : Jvm.MethodName) prog_4_method_55_code (4 : Nat) (Option.some Jvm.ClassFile.FieldType.int)) ∈ lw_all := lw_g (lw_at lw_m4 129 rfl) rfl
theorem q896 : (Jvm.Cond.instanceMethod ({ cls := "GreenwaveModel", name := "clock", desc := "()I" } : Jvm.MethodName)) ∈ lw_all := lw_g (lw_at lw_m4 131 rfl) rfl
theorem q897 : (Jvm.Cond.selects "GreenwaveModel" ({ cls := "GreenwaveModel", name := "clock", desc := "()I" } : Jvm.MethodName) ({ cls := "GreenwaveModel", name := "clock", desc := "()I" } : Jvm.MethodName)) ∈ lw_all := lw_g (lw_at lw_m4 132 rfl) rfl
theorem q898 : (Jvm.Cond.code ({ cls := "GreenwaveModel", name := "clock", desc := "()I" } : Jvm.MethodName) prog_4_method_57_code (1 : Nat) (Option.some Jvm.ClassFile.FieldType.int)) ∈ lw_all := lw_g (lw_at lw_m4 133 rfl) rfl
theorem q900 : (Jvm.Cond.instanceMethod ({ cls := "GreenwaveModel", name := "phaseNow", desc := "(I)I" } : Jvm.MethodName)) ∈ lw_all := lw_g (lw_at lw_m4 135 rfl) rfl
theorem q901 : (Jvm.Cond.selects "GreenwaveModel" ({ cls := "GreenwaveModel", name := "phaseNow", desc := "(I)I" } : Jvm.MethodName) ({ cls := "GreenwaveModel", name := "phaseNow", desc := "(I)I" } : Jvm.MethodName)) ∈ lw_all := lw_g (lw_at lw_m4 136 rfl) rfl
theorem q902 : (Jvm.Cond.code ({ cls := "GreenwaveModel", name := "phaseNow", desc := "(I)I" } : Jvm.MethodName) prog_4_method_58_code (2 : Nat) (Option.some Jvm.ClassFile.FieldType.int)) ∈ lw_all := lw_g (lw_at lw_m4 137 rfl) rfl
theorem q904 : (Jvm.Cond.instanceMethod ({ cls := "GreenwaveModel", name := "queue", desc := "(I)I" } : Jvm.MethodName)) ∈ lw_all := lw_g (lw_at lw_m4 139 rfl) rfl
theorem q905 : (Jvm.Cond.selects "GreenwaveModel" ({ cls := "GreenwaveModel", name := "queue", desc := "(I)I" } : Jvm.MethodName) ({ cls := "GreenwaveModel", name := "queue", desc := "(I)I" } : Jvm.MethodName)) ∈ lw_all := lw_g (lw_at lw_m4 140 rfl) rfl
theorem q906 : (Jvm.Cond.code ({ cls := "GreenwaveModel", name := "queue", desc := "(I)I" } : Jvm.MethodName) prog_4_method_59_code (2 : Nat) (Option.some Jvm.ClassFile.FieldType.int)) ∈ lw_all := lw_g (lw_at lw_m4 141 rfl) rfl
theorem q908 : (Jvm.Cond.instanceMethod ({ cls := "GreenwaveModel", name := "held", desc := "(I)I" } : Jvm.MethodName)) ∈ lw_all := lw_g (lw_at lw_m4 143 rfl) rfl
theorem q909 : (Jvm.Cond.selects "GreenwaveModel" ({ cls := "GreenwaveModel", name := "held", desc := "(I)I" } : Jvm.MethodName) ({ cls := "GreenwaveModel", name := "held", desc := "(I)I" } : Jvm.MethodName)) ∈ lw_all := lw_g (lw_at lw_m4 144 rfl) rfl
theorem q910 : (Jvm.Cond.code ({ cls := "GreenwaveModel", name := "held", desc := "(I)I" } : Jvm.MethodName) prog_4_method_60_code (2 : Nat) (Option.some Jvm.ClassFile.FieldType.int)) ∈ lw_all := lw_g (lw_at lw_m4 145 rfl) rfl
theorem q912 : (Jvm.Cond.instanceMethod ({ cls := "GreenwaveModel", name := "come", desc := "()I" } : Jvm.MethodName)) ∈ lw_all := lw_g (lw_at lw_m4 147 rfl) rfl
theorem q913 : (Jvm.Cond.selects "GreenwaveModel" ({ cls := "GreenwaveModel", name := "come", desc := "()I" } : Jvm.MethodName) ({ cls := "GreenwaveModel", name := "come", desc := "()I" } : Jvm.MethodName)) ∈ lw_all := lw_g (lw_at lw_m4 148 rfl) rfl
theorem q914 : (Jvm.Cond.code ({ cls := "GreenwaveModel", name := "come", desc := "()I" } : Jvm.MethodName) prog_4_method_61_code (1 : Nat) (Option.some Jvm.ClassFile.FieldType.int)) ∈ lw_all := lw_g (lw_at lw_m4 149 rfl) rfl
theorem q916 : (Jvm.Cond.instanceMethod ({ cls := "GreenwaveModel", name := "through", desc := "()I" } : Jvm.MethodName)) ∈ lw_all := lw_g (lw_at lw_m4 151 rfl) rfl
theorem q917 : (Jvm.Cond.selects "GreenwaveModel" ({ cls := "GreenwaveModel", name := "through", desc := "()I" } : Jvm.MethodName) ({ cls := "GreenwaveModel", name := "through", desc := "()I" } : Jvm.MethodName)) ∈ lw_all := lw_g (lw_at lw_m4 152 rfl) rfl
theorem q918 : (Jvm.Cond.code ({ cls := "GreenwaveModel", name := "through", desc := "()I" } : Jvm.MethodName) prog_4_method_62_code (1 : Nat) (Option.some Jvm.ClassFile.FieldType.int)) ∈ lw_all := lw_g (lw_at lw_m4 153 rfl) rfl
theorem in_X3 : ∀ w ∈ wsX30, w ∈ lw_all := lw_in wsX30 [628, 630, 632, 634, 636, 638, 640, 642, 644, 646, 648, 650, 652, 654, 656, 658, 660, 662, 664, 666, 668, 670, 672, 674, 676, 678, 680] (by decide +kernel) (by decide +kernel)
