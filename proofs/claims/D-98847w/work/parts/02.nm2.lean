/-! OathButtons -/
set_option maxRecDepth 100000
def RX0 : String := "OathButtons"
def TX0 : u_T := fun k => match k with
  | 0 => ("OathButtons", "regiment", "LOathButtons$Regiment;", false)
  | 1 => ("OathButtons", "now", "LOathButtons$Day;", true)
  | 2 => ("OathButtons", "then", "LOathButtons$Day;", true)
  | 3 => ("OathButtons", "tape", "[B", true)
  | 4 => ("OathButtons", "fault", "LOathButtons$Wrong;", true)
  | 5 => ("OathButtons", "taped", "I", false)
  | 6 => ("OathButtons", "time", "I", false)
  | 7 => ("OathButtons", "faultKind", "I", false)
  | 8 => ("OathButtons", "faultPlace", "I", false)
  | 9 => ("OathButtons", "acts", "Ljava/util/ArrayList;", true)
  | 10 => ("OathButtons", "undone", "Ljava/util/ArrayList;", true)
  | 11 => ("OathButtons", "laidRow", "[I", true)
  | 12 => ("OathButtons", "laid", "I", false)
  | 13 => ("OathButtons", "orders", "LOathButtons$Orders;", true)
  | 14 => ("OathButtons", "ways", "[J", true)
  | 15 => ("OathButtons", "waysThen", "[J", true)
  | 16 => ("OathButtons", "best", "LOathButtons$Best;", true)
  | 17 => ("OathButtons", "calm", "LOathButtons$Calm;", true)
  | 18 => ("OathButtons", "tugs", "Ljava/util/ArrayList;", true)
  | _ => ("OathButtons", "boxes", "[LOathButtons$Kept;", true)
def tyX0 : Nat → FieldType := fun k => match k with
  | 0 => .object "OathButtons$Regiment"
  | 1 => .object "OathButtons$Day"
  | 2 => .object "OathButtons$Day"
  | 3 => .array .byte
  | 4 => .object "OathButtons$Wrong"
  | 5 => .int
  | 6 => .int
  | 7 => .int
  | 8 => .int
  | 9 => .object "java/util/ArrayList"
  | 10 => .object "java/util/ArrayList"
  | 11 => .array .int
  | 12 => .int
  | 13 => .object "OathButtons$Orders"
  | 14 => .array .long
  | 15 => .array .long
  | 16 => .object "OathButtons$Best"
  | 17 => .object "OathButtons$Calm"
  | 18 => .object "java/util/ArrayList"
  | _ => .array (.object "OathButtons$Kept")
abbrev wsX00 : List Cond := u_ws RX0 TX0 20
set_option maxRecDepth 100000 in
theorem nmX0 : ∀ a, a < 20 → ∀ b, b < 20 → a ≠ b → (TX0 a).2.1 ≠ (TX0 b).2.1 := by decide +kernel
set_option maxRecDepth 100000 in
theorem tyX0_ok : ∀ k, k < 20 → parseFieldDescriptor (TX0 k).2.2.1 = some (tyX0 k) := by decide +kernel
abbrev cX0_init : ByteArray := prog_1_method_3_code
def yX0_init : MethodName := ⟨RX0, "<init>", "()V"⟩
def dkwX0_init_8 : List UInt8 := [183, 0, 90, 83, 181, 0, 93, 42, 182, 0, 97, 177]
abbrev dktX0_init_8 : List UInt8 := dkwX0_init_8 ++ []
def dkwX0_init_7 : List UInt8 := [89, 1, 183, 0, 90, 83, 89, 4, 187, 0, 88, 89, 1, 183, 0, 90, 83, 89, 5, 187, 0, 88, 89, 1]
abbrev dktX0_init_7 : List UInt8 := dkwX0_init_7 ++ dktX0_init_8
def dkwX0_init_6 : List UInt8 := [181, 0, 81, 42, 187, 0, 41, 89, 183, 0, 43, 181, 0, 85, 42, 6, 189, 0, 88, 89, 3, 187, 0, 88]
abbrev dktX0_init_6 : List UInt8 := dkwX0_init_6 ++ dktX0_init_7
def dkwX0_init_5 : List UInt8 := [181, 0, 68, 42, 187, 0, 71, 89, 42, 183, 0, 73, 181, 0, 74, 42, 187, 0, 78, 89, 42, 183, 0, 80]
abbrev dktX0_init_5 : List UInt8 := dkwX0_init_5 ++ dktX0_init_6
def dkwX0_init_4 : List UInt8 := [187, 0, 55, 89, 42, 183, 0, 57, 181, 0, 60, 42, 16, 100, 188, 11, 181, 0, 64, 42, 16, 100, 188, 11]
abbrev dktX0_init_4 : List UInt8 := dkwX0_init_4 ++ dktX0_init_5
def dkwX0_init_3 : List UInt8 := [181, 0, 44, 42, 187, 0, 41, 89, 183, 0, 43, 181, 0, 48, 42, 16, 10, 188, 10, 181, 0, 51, 42]
abbrev dktX0_init_3 : List UInt8 := dkwX0_init_3 ++ dktX0_init_4
def dkwX0_init_2 : List UInt8 := [187, 0, 30, 89, 183, 0, 32, 181, 0, 33, 42, 2, 181, 0, 37, 42, 187, 0, 41, 89, 183, 0, 43]
abbrev dktX0_init_2 : List UInt8 := dkwX0_init_2 ++ dktX0_init_3
def dkwX0_init_1 : List UInt8 := [181, 0, 19, 42, 187, 0, 16, 89, 183, 0, 18, 181, 0, 23, 42, 17, 6, 64, 188, 8, 181, 0, 26, 42]
abbrev dktX0_init_1 : List UInt8 := dkwX0_init_1 ++ dktX0_init_2
def dkwX0_init_0 : List UInt8 := [42, 183, 0, 1, 42, 187, 0, 7, 89, 183, 0, 9, 181, 0, 10, 42, 187, 0, 16, 89, 183, 0, 18]
abbrev dktX0_init_0 : List UInt8 := dkwX0_init_0 ++ dktX0_init_1
theorem dksX0_init_0 : cX0_init.data.toList.drop 0 = dktX0_init_0 := by decide +kernel
theorem dksX0_init_1 : cX0_init.data.toList.drop 23 = dktX0_init_1 := dk_seg dksX0_init_0 23 rfl rfl
theorem dksX0_init_2 : cX0_init.data.toList.drop 47 = dktX0_init_2 := dk_seg dksX0_init_1 24 rfl rfl
theorem dksX0_init_3 : cX0_init.data.toList.drop 70 = dktX0_init_3 := dk_seg dksX0_init_2 23 rfl rfl
theorem dksX0_init_4 : cX0_init.data.toList.drop 93 = dktX0_init_4 := dk_seg dksX0_init_3 23 rfl rfl
theorem dksX0_init_5 : cX0_init.data.toList.drop 117 = dktX0_init_5 := dk_seg dksX0_init_4 24 rfl rfl
theorem dksX0_init_6 : cX0_init.data.toList.drop 141 = dktX0_init_6 := dk_seg dksX0_init_5 24 rfl rfl
theorem dksX0_init_7 : cX0_init.data.toList.drop 165 = dktX0_init_7 := dk_seg dksX0_init_6 24 rfl rfl
theorem dksX0_init_8 : cX0_init.data.toList.drop 189 = dktX0_init_8 := dk_seg dksX0_init_7 24 rfl rfl
theorem dX0_init_0 : decode cX0_init 0 = .ok (.aload_n 0, 1) := dk_42 (dk_at dksX0_init_0 0 rfl rfl)
theorem dX0_init_1 : decode cX0_init 1 = .ok (.invokespecial 1, 3) := dk_183 0 1 (dk_at dksX0_init_0 1 rfl rfl)
theorem dX0_init_4 : decode cX0_init 4 = .ok (.aload_n 0, 1) := dk_42 (dk_at dksX0_init_0 4 rfl rfl)
theorem dX0_init_5 : decode cX0_init 5 = .ok (.new 7, 3) := dk_187 0 7 (dk_at dksX0_init_0 5 rfl rfl)
theorem dX0_init_8 : decode cX0_init 8 = .ok (.dup, 1) := dk_89 (dk_at dksX0_init_0 8 rfl rfl)
theorem dX0_init_9 : decode cX0_init 9 = .ok (.invokespecial 9, 3) := dk_183 0 9 (dk_at dksX0_init_0 9 rfl rfl)
theorem dX0_init_12 : decode cX0_init 12 = .ok (.putfield 10, 3) := dk_181 0 10 (dk_at dksX0_init_0 12 rfl rfl)
theorem dX0_init_15 : decode cX0_init 15 = .ok (.aload_n 0, 1) := dk_42 (dk_at dksX0_init_0 15 rfl rfl)
theorem dX0_init_16 : decode cX0_init 16 = .ok (.new 16, 3) := dk_187 0 16 (dk_at dksX0_init_0 16 rfl rfl)
theorem dX0_init_19 : decode cX0_init 19 = .ok (.dup, 1) := dk_89 (dk_at dksX0_init_0 19 rfl rfl)
theorem dX0_init_20 : decode cX0_init 20 = .ok (.invokespecial 18, 3) := dk_183 0 18 (dk_at dksX0_init_0 20 rfl rfl)
theorem dX0_init_23 : decode cX0_init 23 = .ok (.putfield 19, 3) := dk_181 0 19 (dk_at dksX0_init_1 0 rfl rfl)
theorem dX0_init_26 : decode cX0_init 26 = .ok (.aload_n 0, 1) := dk_42 (dk_at dksX0_init_1 3 rfl rfl)
theorem dX0_init_27 : decode cX0_init 27 = .ok (.new 16, 3) := dk_187 0 16 (dk_at dksX0_init_1 4 rfl rfl)
theorem dX0_init_30 : decode cX0_init 30 = .ok (.dup, 1) := dk_89 (dk_at dksX0_init_1 7 rfl rfl)
theorem dX0_init_31 : decode cX0_init 31 = .ok (.invokespecial 18, 3) := dk_183 0 18 (dk_at dksX0_init_1 8 rfl rfl)
theorem dX0_init_34 : decode cX0_init 34 = .ok (.putfield 23, 3) := dk_181 0 23 (dk_at dksX0_init_1 11 rfl rfl)
theorem dX0_init_37 : decode cX0_init 37 = .ok (.aload_n 0, 1) := dk_42 (dk_at dksX0_init_1 14 rfl rfl)
theorem dX0_init_38 : decode cX0_init 38 = .ok (.sipush 1600, 3) := dk_17 6 64 (dk_at dksX0_init_1 15 rfl rfl)
theorem dX0_init_41 : decode cX0_init 41 = .ok (.newarray .byte, 2) := dk_188_8 (dk_at dksX0_init_1 18 rfl rfl)
theorem dX0_init_43 : decode cX0_init 43 = .ok (.putfield 26, 3) := dk_181 0 26 (dk_at dksX0_init_1 20 rfl rfl)
theorem dX0_init_46 : decode cX0_init 46 = .ok (.aload_n 0, 1) := dk_42 (dk_at dksX0_init_1 23 rfl rfl)
theorem dX0_init_47 : decode cX0_init 47 = .ok (.new 30, 3) := dk_187 0 30 (dk_at dksX0_init_2 0 rfl rfl)
theorem dX0_init_50 : decode cX0_init 50 = .ok (.dup, 1) := dk_89 (dk_at dksX0_init_2 3 rfl rfl)
theorem dX0_init_51 : decode cX0_init 51 = .ok (.invokespecial 32, 3) := dk_183 0 32 (dk_at dksX0_init_2 4 rfl rfl)
theorem dX0_init_54 : decode cX0_init 54 = .ok (.putfield 33, 3) := dk_181 0 33 (dk_at dksX0_init_2 7 rfl rfl)
theorem dX0_init_57 : decode cX0_init 57 = .ok (.aload_n 0, 1) := dk_42 (dk_at dksX0_init_2 10 rfl rfl)
theorem dX0_init_58 : decode cX0_init 58 = .ok (.iconst (-1), 1) := dk_2 (dk_at dksX0_init_2 11 rfl rfl)
theorem dX0_init_59 : decode cX0_init 59 = .ok (.putfield 37, 3) := dk_181 0 37 (dk_at dksX0_init_2 12 rfl rfl)
theorem dX0_init_62 : decode cX0_init 62 = .ok (.aload_n 0, 1) := dk_42 (dk_at dksX0_init_2 15 rfl rfl)
theorem dX0_init_63 : decode cX0_init 63 = .ok (.new 41, 3) := dk_187 0 41 (dk_at dksX0_init_2 16 rfl rfl)
theorem dX0_init_66 : decode cX0_init 66 = .ok (.dup, 1) := dk_89 (dk_at dksX0_init_2 19 rfl rfl)
theorem dX0_init_67 : decode cX0_init 67 = .ok (.invokespecial 43, 3) := dk_183 0 43 (dk_at dksX0_init_2 20 rfl rfl)
theorem dX0_init_70 : decode cX0_init 70 = .ok (.putfield 44, 3) := dk_181 0 44 (dk_at dksX0_init_3 0 rfl rfl)
theorem dX0_init_73 : decode cX0_init 73 = .ok (.aload_n 0, 1) := dk_42 (dk_at dksX0_init_3 3 rfl rfl)
theorem dX0_init_74 : decode cX0_init 74 = .ok (.new 41, 3) := dk_187 0 41 (dk_at dksX0_init_3 4 rfl rfl)
theorem dX0_init_77 : decode cX0_init 77 = .ok (.dup, 1) := dk_89 (dk_at dksX0_init_3 7 rfl rfl)
theorem dX0_init_78 : decode cX0_init 78 = .ok (.invokespecial 43, 3) := dk_183 0 43 (dk_at dksX0_init_3 8 rfl rfl)
theorem dX0_init_81 : decode cX0_init 81 = .ok (.putfield 48, 3) := dk_181 0 48 (dk_at dksX0_init_3 11 rfl rfl)
theorem dX0_init_84 : decode cX0_init 84 = .ok (.aload_n 0, 1) := dk_42 (dk_at dksX0_init_3 14 rfl rfl)
theorem dX0_init_85 : decode cX0_init 85 = .ok (.bipush 10, 2) := dk_16 10 (dk_at dksX0_init_3 15 rfl rfl)
theorem dX0_init_87 : decode cX0_init 87 = .ok (.newarray .int, 2) := dk_188_10 (dk_at dksX0_init_3 17 rfl rfl)
theorem dX0_init_89 : decode cX0_init 89 = .ok (.putfield 51, 3) := dk_181 0 51 (dk_at dksX0_init_3 19 rfl rfl)
theorem dX0_init_92 : decode cX0_init 92 = .ok (.aload_n 0, 1) := dk_42 (dk_at dksX0_init_3 22 rfl rfl)
theorem dX0_init_93 : decode cX0_init 93 = .ok (.new 55, 3) := dk_187 0 55 (dk_at dksX0_init_4 0 rfl rfl)
theorem dX0_init_96 : decode cX0_init 96 = .ok (.dup, 1) := dk_89 (dk_at dksX0_init_4 3 rfl rfl)
theorem dX0_init_97 : decode cX0_init 97 = .ok (.aload_n 0, 1) := dk_42 (dk_at dksX0_init_4 4 rfl rfl)
theorem dX0_init_98 : decode cX0_init 98 = .ok (.invokespecial 57, 3) := dk_183 0 57 (dk_at dksX0_init_4 5 rfl rfl)
theorem dX0_init_101 : decode cX0_init 101 = .ok (.putfield 60, 3) := dk_181 0 60 (dk_at dksX0_init_4 8 rfl rfl)
theorem dX0_init_104 : decode cX0_init 104 = .ok (.aload_n 0, 1) := dk_42 (dk_at dksX0_init_4 11 rfl rfl)
theorem dX0_init_105 : decode cX0_init 105 = .ok (.bipush 100, 2) := dk_16 100 (dk_at dksX0_init_4 12 rfl rfl)
theorem dX0_init_107 : decode cX0_init 107 = .ok (.newarray .long, 2) := dk_188_11 (dk_at dksX0_init_4 14 rfl rfl)
theorem dX0_init_109 : decode cX0_init 109 = .ok (.putfield 64, 3) := dk_181 0 64 (dk_at dksX0_init_4 16 rfl rfl)
theorem dX0_init_112 : decode cX0_init 112 = .ok (.aload_n 0, 1) := dk_42 (dk_at dksX0_init_4 19 rfl rfl)
theorem dX0_init_113 : decode cX0_init 113 = .ok (.bipush 100, 2) := dk_16 100 (dk_at dksX0_init_4 20 rfl rfl)
theorem dX0_init_115 : decode cX0_init 115 = .ok (.newarray .long, 2) := dk_188_11 (dk_at dksX0_init_4 22 rfl rfl)
theorem dX0_init_117 : decode cX0_init 117 = .ok (.putfield 68, 3) := dk_181 0 68 (dk_at dksX0_init_5 0 rfl rfl)
theorem dX0_init_120 : decode cX0_init 120 = .ok (.aload_n 0, 1) := dk_42 (dk_at dksX0_init_5 3 rfl rfl)
theorem dX0_init_121 : decode cX0_init 121 = .ok (.new 71, 3) := dk_187 0 71 (dk_at dksX0_init_5 4 rfl rfl)
theorem dX0_init_124 : decode cX0_init 124 = .ok (.dup, 1) := dk_89 (dk_at dksX0_init_5 7 rfl rfl)
theorem dX0_init_125 : decode cX0_init 125 = .ok (.aload_n 0, 1) := dk_42 (dk_at dksX0_init_5 8 rfl rfl)
theorem dX0_init_126 : decode cX0_init 126 = .ok (.invokespecial 73, 3) := dk_183 0 73 (dk_at dksX0_init_5 9 rfl rfl)
theorem dX0_init_129 : decode cX0_init 129 = .ok (.putfield 74, 3) := dk_181 0 74 (dk_at dksX0_init_5 12 rfl rfl)
theorem dX0_init_132 : decode cX0_init 132 = .ok (.aload_n 0, 1) := dk_42 (dk_at dksX0_init_5 15 rfl rfl)
theorem dX0_init_133 : decode cX0_init 133 = .ok (.new 78, 3) := dk_187 0 78 (dk_at dksX0_init_5 16 rfl rfl)
theorem dX0_init_136 : decode cX0_init 136 = .ok (.dup, 1) := dk_89 (dk_at dksX0_init_5 19 rfl rfl)
theorem dX0_init_137 : decode cX0_init 137 = .ok (.aload_n 0, 1) := dk_42 (dk_at dksX0_init_5 20 rfl rfl)
theorem dX0_init_138 : decode cX0_init 138 = .ok (.invokespecial 80, 3) := dk_183 0 80 (dk_at dksX0_init_5 21 rfl rfl)
theorem dX0_init_141 : decode cX0_init 141 = .ok (.putfield 81, 3) := dk_181 0 81 (dk_at dksX0_init_6 0 rfl rfl)
theorem dX0_init_144 : decode cX0_init 144 = .ok (.aload_n 0, 1) := dk_42 (dk_at dksX0_init_6 3 rfl rfl)
theorem dX0_init_145 : decode cX0_init 145 = .ok (.new 41, 3) := dk_187 0 41 (dk_at dksX0_init_6 4 rfl rfl)
theorem dX0_init_148 : decode cX0_init 148 = .ok (.dup, 1) := dk_89 (dk_at dksX0_init_6 7 rfl rfl)
theorem dX0_init_149 : decode cX0_init 149 = .ok (.invokespecial 43, 3) := dk_183 0 43 (dk_at dksX0_init_6 8 rfl rfl)
theorem dX0_init_152 : decode cX0_init 152 = .ok (.putfield 85, 3) := dk_181 0 85 (dk_at dksX0_init_6 11 rfl rfl)
theorem dX0_init_155 : decode cX0_init 155 = .ok (.aload_n 0, 1) := dk_42 (dk_at dksX0_init_6 14 rfl rfl)
theorem dX0_init_156 : decode cX0_init 156 = .ok (.iconst 3, 1) := dk_6 (dk_at dksX0_init_6 15 rfl rfl)
theorem dX0_init_157 : decode cX0_init 157 = .ok (.anewarray 88, 3) := dk_189 0 88 (dk_at dksX0_init_6 16 rfl rfl)
theorem dX0_init_160 : decode cX0_init 160 = .ok (.dup, 1) := dk_89 (dk_at dksX0_init_6 19 rfl rfl)
theorem dX0_init_161 : decode cX0_init 161 = .ok (.iconst 0, 1) := dk_3 (dk_at dksX0_init_6 20 rfl rfl)
theorem dX0_init_162 : decode cX0_init 162 = .ok (.new 88, 3) := dk_187 0 88 (dk_at dksX0_init_6 21 rfl rfl)
theorem dX0_init_165 : decode cX0_init 165 = .ok (.dup, 1) := dk_89 (dk_at dksX0_init_7 0 rfl rfl)
theorem dX0_init_166 : decode cX0_init 166 = .ok (.aconst_null, 1) := dk_1 (dk_at dksX0_init_7 1 rfl rfl)
theorem dX0_init_167 : decode cX0_init 167 = .ok (.invokespecial 90, 3) := dk_183 0 90 (dk_at dksX0_init_7 2 rfl rfl)
theorem dX0_init_170 : decode cX0_init 170 = .ok (.aastore, 1) := dk_83 (dk_at dksX0_init_7 5 rfl rfl)
theorem dX0_init_171 : decode cX0_init 171 = .ok (.dup, 1) := dk_89 (dk_at dksX0_init_7 6 rfl rfl)
theorem dX0_init_172 : decode cX0_init 172 = .ok (.iconst 1, 1) := dk_4 (dk_at dksX0_init_7 7 rfl rfl)
theorem dX0_init_173 : decode cX0_init 173 = .ok (.new 88, 3) := dk_187 0 88 (dk_at dksX0_init_7 8 rfl rfl)
theorem dX0_init_176 : decode cX0_init 176 = .ok (.dup, 1) := dk_89 (dk_at dksX0_init_7 11 rfl rfl)
theorem dX0_init_177 : decode cX0_init 177 = .ok (.aconst_null, 1) := dk_1 (dk_at dksX0_init_7 12 rfl rfl)
theorem dX0_init_178 : decode cX0_init 178 = .ok (.invokespecial 90, 3) := dk_183 0 90 (dk_at dksX0_init_7 13 rfl rfl)
theorem dX0_init_181 : decode cX0_init 181 = .ok (.aastore, 1) := dk_83 (dk_at dksX0_init_7 16 rfl rfl)
theorem dX0_init_182 : decode cX0_init 182 = .ok (.dup, 1) := dk_89 (dk_at dksX0_init_7 17 rfl rfl)
theorem dX0_init_183 : decode cX0_init 183 = .ok (.iconst 2, 1) := dk_5 (dk_at dksX0_init_7 18 rfl rfl)
theorem dX0_init_184 : decode cX0_init 184 = .ok (.new 88, 3) := dk_187 0 88 (dk_at dksX0_init_7 19 rfl rfl)
theorem dX0_init_187 : decode cX0_init 187 = .ok (.dup, 1) := dk_89 (dk_at dksX0_init_7 22 rfl rfl)
theorem dX0_init_188 : decode cX0_init 188 = .ok (.aconst_null, 1) := dk_1 (dk_at dksX0_init_7 23 rfl rfl)
theorem dX0_init_189 : decode cX0_init 189 = .ok (.invokespecial 90, 3) := dk_183 0 90 (dk_at dksX0_init_8 0 rfl rfl)
theorem dX0_init_192 : decode cX0_init 192 = .ok (.aastore, 1) := dk_83 (dk_at dksX0_init_8 3 rfl rfl)
theorem dX0_init_193 : decode cX0_init 193 = .ok (.putfield 93, 3) := dk_181 0 93 (dk_at dksX0_init_8 4 rfl rfl)
theorem dX0_init_196 : decode cX0_init 196 = .ok (.aload_n 0, 1) := dk_42 (dk_at dksX0_init_8 7 rfl rfl)
theorem dX0_init_197 : decode cX0_init 197 = .ok (.invokevirtual 97, 3) := dk_182 0 97 (dk_at dksX0_init_8 8 rfl rfl)
theorem dX0_init_200 : decode cX0_init 200 = .ok (.return_, 1) := dk_177 (dk_at dksX0_init_8 11 rfl rfl)
abbrev cX0_start : ByteArray := prog_1_method_4_code
def yX0_start : MethodName := ⟨RX0, "start", "()V"⟩
def dkwX0_start_6 : List UInt8 := [132, 1, 1, 167, 255, 238, 177]
abbrev dktX0_start_6 : List UInt8 := dkwX0_start_6 ++ []
def dkwX0_start_5 : List UInt8 := [42, 3, 181, 0, 136, 3, 60, 27, 6, 162, 0, 19, 42, 180, 0, 93, 27, 50, 1, 181, 0, 139]
abbrev dktX0_start_5 : List UInt8 := dkwX0_start_5 ++ dktX0_start_6
def dkwX0_start_4 : List UInt8 := [181, 0, 130, 42, 180, 0, 44, 182, 0, 133, 42, 180, 0, 48, 182, 0, 133, 42, 180, 0, 85, 182, 0, 133]
abbrev dktX0_start_4 : List UInt8 := dkwX0_start_4 ++ dktX0_start_5
def dkwX0_start_3 : List UInt8 := [181, 0, 121, 42, 180, 0, 19, 42, 180, 0, 10, 180, 0, 124, 181, 0, 127, 42, 180, 0, 19, 3]
abbrev dktX0_start_3 : List UInt8 := dkwX0_start_3 ++ dktX0_start_4
def dkwX0_start_2 : List UInt8 := [192, 0, 117, 180, 0, 119, 167, 0, 4, 3, 79, 132, 1, 1, 167, 255, 199, 42, 180, 0, 19, 3]
abbrev dktX0_start_2 : List UInt8 := dkwX0_start_2 ++ dktX0_start_3
def dkwX0_start_1 : List UInt8 := [180, 0, 103, 27, 27, 42, 182, 0, 106, 162, 0, 23, 42, 180, 0, 10, 180, 0, 110, 27, 182, 0, 113]
abbrev dktX0_start_1 : List UInt8 := dkwX0_start_1 ++ dktX0_start_2
def dkwX0_start_0 : List UInt8 := [3, 60, 27, 16, 10, 162, 0, 57, 42, 180, 0, 19, 180, 0, 100, 27, 3, 79, 42, 180, 0, 19]
abbrev dktX0_start_0 : List UInt8 := dkwX0_start_0 ++ dktX0_start_1
theorem dksX0_start_0 : cX0_start.data.toList.drop 0 = dktX0_start_0 := by decide +kernel
theorem dksX0_start_1 : cX0_start.data.toList.drop 22 = dktX0_start_1 := dk_seg dksX0_start_0 22 rfl rfl
theorem dksX0_start_2 : cX0_start.data.toList.drop 45 = dktX0_start_2 := dk_seg dksX0_start_1 23 rfl rfl
theorem dksX0_start_3 : cX0_start.data.toList.drop 67 = dktX0_start_3 := dk_seg dksX0_start_2 22 rfl rfl
theorem dksX0_start_4 : cX0_start.data.toList.drop 89 = dktX0_start_4 := dk_seg dksX0_start_3 22 rfl rfl
theorem dksX0_start_5 : cX0_start.data.toList.drop 113 = dktX0_start_5 := dk_seg dksX0_start_4 24 rfl rfl
theorem dksX0_start_6 : cX0_start.data.toList.drop 135 = dktX0_start_6 := dk_seg dksX0_start_5 22 rfl rfl
theorem dX0_start_0 : decode cX0_start 0 = .ok (.iconst 0, 1) := dk_3 (dk_at dksX0_start_0 0 rfl rfl)
theorem dX0_start_1 : decode cX0_start 1 = .ok (.istore_n 1, 1) := dk_60 (dk_at dksX0_start_0 1 rfl rfl)
theorem dX0_start_2 : decode cX0_start 2 = .ok (.iload_n 1, 1) := dk_27 (dk_at dksX0_start_0 2 rfl rfl)
theorem dX0_start_3 : decode cX0_start 3 = .ok (.bipush 10, 2) := dk_16 10 (dk_at dksX0_start_0 3 rfl rfl)
theorem dX0_start_5 : decode cX0_start 5 = .ok (.if_icmp .ge 57, 3) := dk_162 0 57 (dk_at dksX0_start_0 5 rfl rfl)
theorem dX0_start_8 : decode cX0_start 8 = .ok (.aload_n 0, 1) := dk_42 (dk_at dksX0_start_0 8 rfl rfl)
theorem dX0_start_9 : decode cX0_start 9 = .ok (.getfield 19, 3) := dk_180 0 19 (dk_at dksX0_start_0 9 rfl rfl)
theorem dX0_start_12 : decode cX0_start 12 = .ok (.getfield 100, 3) := dk_180 0 100 (dk_at dksX0_start_0 12 rfl rfl)
theorem dX0_start_15 : decode cX0_start 15 = .ok (.iload_n 1, 1) := dk_27 (dk_at dksX0_start_0 15 rfl rfl)
theorem dX0_start_16 : decode cX0_start 16 = .ok (.iconst 0, 1) := dk_3 (dk_at dksX0_start_0 16 rfl rfl)
theorem dX0_start_17 : decode cX0_start 17 = .ok (.iastore, 1) := dk_79 (dk_at dksX0_start_0 17 rfl rfl)
theorem dX0_start_18 : decode cX0_start 18 = .ok (.aload_n 0, 1) := dk_42 (dk_at dksX0_start_0 18 rfl rfl)
theorem dX0_start_19 : decode cX0_start 19 = .ok (.getfield 19, 3) := dk_180 0 19 (dk_at dksX0_start_0 19 rfl rfl)
theorem dX0_start_22 : decode cX0_start 22 = .ok (.getfield 103, 3) := dk_180 0 103 (dk_at dksX0_start_1 0 rfl rfl)
theorem dX0_start_25 : decode cX0_start 25 = .ok (.iload_n 1, 1) := dk_27 (dk_at dksX0_start_1 3 rfl rfl)
theorem dX0_start_26 : decode cX0_start 26 = .ok (.iload_n 1, 1) := dk_27 (dk_at dksX0_start_1 4 rfl rfl)
theorem dX0_start_27 : decode cX0_start 27 = .ok (.aload_n 0, 1) := dk_42 (dk_at dksX0_start_1 5 rfl rfl)
theorem dX0_start_28 : decode cX0_start 28 = .ok (.invokevirtual 106, 3) := dk_182 0 106 (dk_at dksX0_start_1 6 rfl rfl)
theorem dX0_start_31 : decode cX0_start 31 = .ok (.if_icmp .ge 23, 3) := dk_162 0 23 (dk_at dksX0_start_1 9 rfl rfl)
theorem dX0_start_34 : decode cX0_start 34 = .ok (.aload_n 0, 1) := dk_42 (dk_at dksX0_start_1 12 rfl rfl)
theorem dX0_start_35 : decode cX0_start 35 = .ok (.getfield 10, 3) := dk_180 0 10 (dk_at dksX0_start_1 13 rfl rfl)
theorem dX0_start_38 : decode cX0_start 38 = .ok (.getfield 110, 3) := dk_180 0 110 (dk_at dksX0_start_1 16 rfl rfl)
theorem dX0_start_41 : decode cX0_start 41 = .ok (.iload_n 1, 1) := dk_27 (dk_at dksX0_start_1 19 rfl rfl)
theorem dX0_start_42 : decode cX0_start 42 = .ok (.invokevirtual 113, 3) := dk_182 0 113 (dk_at dksX0_start_1 20 rfl rfl)
theorem dX0_start_45 : decode cX0_start 45 = .ok (.checkcast 117, 3) := dk_192 0 117 (dk_at dksX0_start_2 0 rfl rfl)
theorem dX0_start_48 : decode cX0_start 48 = .ok (.getfield 119, 3) := dk_180 0 119 (dk_at dksX0_start_2 3 rfl rfl)
theorem dX0_start_51 : decode cX0_start 51 = .ok (.goto 4, 3) := dk_167 0 4 (dk_at dksX0_start_2 6 rfl rfl)
theorem dX0_start_54 : decode cX0_start 54 = .ok (.iconst 0, 1) := dk_3 (dk_at dksX0_start_2 9 rfl rfl)
theorem dX0_start_55 : decode cX0_start 55 = .ok (.iastore, 1) := dk_79 (dk_at dksX0_start_2 10 rfl rfl)
theorem dX0_start_56 : decode cX0_start 56 = .ok (.iinc 1 1, 3) := dk_132 1 1 (dk_at dksX0_start_2 11 rfl rfl)
theorem dX0_start_59 : decode cX0_start 59 = .ok (.goto (-57), 3) := dk_167 255 199 (dk_at dksX0_start_2 14 rfl rfl)
theorem dX0_start_62 : decode cX0_start 62 = .ok (.aload_n 0, 1) := dk_42 (dk_at dksX0_start_2 17 rfl rfl)
theorem dX0_start_63 : decode cX0_start 63 = .ok (.getfield 19, 3) := dk_180 0 19 (dk_at dksX0_start_2 18 rfl rfl)
theorem dX0_start_66 : decode cX0_start 66 = .ok (.iconst 0, 1) := dk_3 (dk_at dksX0_start_2 21 rfl rfl)
theorem dX0_start_67 : decode cX0_start 67 = .ok (.putfield 121, 3) := dk_181 0 121 (dk_at dksX0_start_3 0 rfl rfl)
theorem dX0_start_70 : decode cX0_start 70 = .ok (.aload_n 0, 1) := dk_42 (dk_at dksX0_start_3 3 rfl rfl)
theorem dX0_start_71 : decode cX0_start 71 = .ok (.getfield 19, 3) := dk_180 0 19 (dk_at dksX0_start_3 4 rfl rfl)
theorem dX0_start_74 : decode cX0_start 74 = .ok (.aload_n 0, 1) := dk_42 (dk_at dksX0_start_3 7 rfl rfl)
theorem dX0_start_75 : decode cX0_start 75 = .ok (.getfield 10, 3) := dk_180 0 10 (dk_at dksX0_start_3 8 rfl rfl)
theorem dX0_start_78 : decode cX0_start 78 = .ok (.getfield 124, 3) := dk_180 0 124 (dk_at dksX0_start_3 11 rfl rfl)
theorem dX0_start_81 : decode cX0_start 81 = .ok (.putfield 127, 3) := dk_181 0 127 (dk_at dksX0_start_3 14 rfl rfl)
theorem dX0_start_84 : decode cX0_start 84 = .ok (.aload_n 0, 1) := dk_42 (dk_at dksX0_start_3 17 rfl rfl)
theorem dX0_start_85 : decode cX0_start 85 = .ok (.getfield 19, 3) := dk_180 0 19 (dk_at dksX0_start_3 18 rfl rfl)
theorem dX0_start_88 : decode cX0_start 88 = .ok (.iconst 0, 1) := dk_3 (dk_at dksX0_start_3 21 rfl rfl)
theorem dX0_start_89 : decode cX0_start 89 = .ok (.putfield 130, 3) := dk_181 0 130 (dk_at dksX0_start_4 0 rfl rfl)
theorem dX0_start_92 : decode cX0_start 92 = .ok (.aload_n 0, 1) := dk_42 (dk_at dksX0_start_4 3 rfl rfl)
theorem dX0_start_93 : decode cX0_start 93 = .ok (.getfield 44, 3) := dk_180 0 44 (dk_at dksX0_start_4 4 rfl rfl)
theorem dX0_start_96 : decode cX0_start 96 = .ok (.invokevirtual 133, 3) := dk_182 0 133 (dk_at dksX0_start_4 7 rfl rfl)
theorem dX0_start_99 : decode cX0_start 99 = .ok (.aload_n 0, 1) := dk_42 (dk_at dksX0_start_4 10 rfl rfl)
theorem dX0_start_100 : decode cX0_start 100 = .ok (.getfield 48, 3) := dk_180 0 48 (dk_at dksX0_start_4 11 rfl rfl)
theorem dX0_start_103 : decode cX0_start 103 = .ok (.invokevirtual 133, 3) := dk_182 0 133 (dk_at dksX0_start_4 14 rfl rfl)
theorem dX0_start_106 : decode cX0_start 106 = .ok (.aload_n 0, 1) := dk_42 (dk_at dksX0_start_4 17 rfl rfl)
theorem dX0_start_107 : decode cX0_start 107 = .ok (.getfield 85, 3) := dk_180 0 85 (dk_at dksX0_start_4 18 rfl rfl)
theorem dX0_start_110 : decode cX0_start 110 = .ok (.invokevirtual 133, 3) := dk_182 0 133 (dk_at dksX0_start_4 21 rfl rfl)
theorem dX0_start_113 : decode cX0_start 113 = .ok (.aload_n 0, 1) := dk_42 (dk_at dksX0_start_5 0 rfl rfl)
theorem dX0_start_114 : decode cX0_start 114 = .ok (.iconst 0, 1) := dk_3 (dk_at dksX0_start_5 1 rfl rfl)
theorem dX0_start_115 : decode cX0_start 115 = .ok (.putfield 136, 3) := dk_181 0 136 (dk_at dksX0_start_5 2 rfl rfl)
theorem dX0_start_118 : decode cX0_start 118 = .ok (.iconst 0, 1) := dk_3 (dk_at dksX0_start_5 5 rfl rfl)
theorem dX0_start_119 : decode cX0_start 119 = .ok (.istore_n 1, 1) := dk_60 (dk_at dksX0_start_5 6 rfl rfl)
theorem dX0_start_120 : decode cX0_start 120 = .ok (.iload_n 1, 1) := dk_27 (dk_at dksX0_start_5 7 rfl rfl)
theorem dX0_start_121 : decode cX0_start 121 = .ok (.iconst 3, 1) := dk_6 (dk_at dksX0_start_5 8 rfl rfl)
theorem dX0_start_122 : decode cX0_start 122 = .ok (.if_icmp .ge 19, 3) := dk_162 0 19 (dk_at dksX0_start_5 9 rfl rfl)
theorem dX0_start_125 : decode cX0_start 125 = .ok (.aload_n 0, 1) := dk_42 (dk_at dksX0_start_5 12 rfl rfl)
theorem dX0_start_126 : decode cX0_start 126 = .ok (.getfield 93, 3) := dk_180 0 93 (dk_at dksX0_start_5 13 rfl rfl)
theorem dX0_start_129 : decode cX0_start 129 = .ok (.iload_n 1, 1) := dk_27 (dk_at dksX0_start_5 16 rfl rfl)
theorem dX0_start_130 : decode cX0_start 130 = .ok (.aaload, 1) := dk_50 (dk_at dksX0_start_5 17 rfl rfl)
theorem dX0_start_131 : decode cX0_start 131 = .ok (.aconst_null, 1) := dk_1 (dk_at dksX0_start_5 18 rfl rfl)
theorem dX0_start_132 : decode cX0_start 132 = .ok (.putfield 139, 3) := dk_181 0 139 (dk_at dksX0_start_5 19 rfl rfl)
theorem dX0_start_135 : decode cX0_start 135 = .ok (.iinc 1 1, 3) := dk_132 1 1 (dk_at dksX0_start_6 0 rfl rfl)
theorem dX0_start_138 : decode cX0_start 138 = .ok (.goto (-18), 3) := dk_167 255 238 (dk_at dksX0_start_6 3 rfl rfl)
theorem dX0_start_141 : decode cX0_start 141 = .ok (.return_, 1) := dk_177 (dk_at dksX0_start_6 6 rfl rfl)
abbrev cX0_buttons : ByteArray := prog_1_method_8_code
def yX0_buttons : MethodName := ⟨RX0, "buttons", "()I"⟩
def dkwX0_buttons_0 : List UInt8 := [42, 180, 0, 10, 180, 0, 110, 182, 0, 144, 172]
abbrev dktX0_buttons_0 : List UInt8 := dkwX0_buttons_0 ++ []
theorem dksX0_buttons_0 : cX0_buttons.data.toList.drop 0 = dktX0_buttons_0 := by decide +kernel
theorem dX0_buttons_0 : decode cX0_buttons 0 = .ok (.aload_n 0, 1) := dk_42 (dk_at dksX0_buttons_0 0 rfl rfl)
theorem dX0_buttons_1 : decode cX0_buttons 1 = .ok (.getfield 10, 3) := dk_180 0 10 (dk_at dksX0_buttons_0 1 rfl rfl)
theorem dX0_buttons_4 : decode cX0_buttons 4 = .ok (.getfield 110, 3) := dk_180 0 110 (dk_at dksX0_buttons_0 4 rfl rfl)
theorem dX0_buttons_7 : decode cX0_buttons 7 = .ok (.invokevirtual 144, 3) := dk_182 0 144 (dk_at dksX0_buttons_0 7 rfl rfl)
theorem dX0_buttons_10 : decode cX0_buttons 10 = .ok (.ireturn, 1) := dk_172 (dk_at dksX0_buttons_0 10 rfl rfl)
abbrev cX0_feed : ByteArray := prog_1_method_13_code
def yX0_feed : MethodName := ⟨RX0, "feed", "(IIIII)I"⟩
def dkwX0_feed_2 : List UInt8 := [172]
abbrev dktX0_feed_2 : List UInt8 := dkwX0_feed_2 ++ []
def dkwX0_feed_1 : List UInt8 := [182, 0, 175, 42, 29, 182, 0, 175, 42, 21, 4, 182, 0, 175, 42, 21, 5, 182, 0, 175, 42, 180, 0, 172]
abbrev dktX0_feed_1 : List UInt8 := dkwX0_feed_1 ++ dktX0_feed_2
def dkwX0_feed_0 : List UInt8 := [42, 180, 0, 172, 16, 20, 96, 17, 6, 64, 164, 0, 5, 2, 172, 42, 27, 182, 0, 175, 42, 28]
abbrev dktX0_feed_0 : List UInt8 := dkwX0_feed_0 ++ dktX0_feed_1
theorem dksX0_feed_0 : cX0_feed.data.toList.drop 0 = dktX0_feed_0 := by decide +kernel
theorem dksX0_feed_1 : cX0_feed.data.toList.drop 22 = dktX0_feed_1 := dk_seg dksX0_feed_0 22 rfl rfl
theorem dksX0_feed_2 : cX0_feed.data.toList.drop 46 = dktX0_feed_2 := dk_seg dksX0_feed_1 24 rfl rfl
theorem dX0_feed_0 : decode cX0_feed 0 = .ok (.aload_n 0, 1) := dk_42 (dk_at dksX0_feed_0 0 rfl rfl)
theorem dX0_feed_1 : decode cX0_feed 1 = .ok (.getfield 172, 3) := dk_180 0 172 (dk_at dksX0_feed_0 1 rfl rfl)
theorem dX0_feed_4 : decode cX0_feed 4 = .ok (.bipush 20, 2) := dk_16 20 (dk_at dksX0_feed_0 4 rfl rfl)
theorem dX0_feed_6 : decode cX0_feed 6 = .ok (.iadd, 1) := dk_96 (dk_at dksX0_feed_0 6 rfl rfl)
theorem dX0_feed_7 : decode cX0_feed 7 = .ok (.sipush 1600, 3) := dk_17 6 64 (dk_at dksX0_feed_0 7 rfl rfl)
theorem dX0_feed_10 : decode cX0_feed 10 = .ok (.if_icmp .le 5, 3) := dk_164 0 5 (dk_at dksX0_feed_0 10 rfl rfl)
theorem dX0_feed_13 : decode cX0_feed 13 = .ok (.iconst (-1), 1) := dk_2 (dk_at dksX0_feed_0 13 rfl rfl)
theorem dX0_feed_14 : decode cX0_feed 14 = .ok (.ireturn, 1) := dk_172 (dk_at dksX0_feed_0 14 rfl rfl)
theorem dX0_feed_15 : decode cX0_feed 15 = .ok (.aload_n 0, 1) := dk_42 (dk_at dksX0_feed_0 15 rfl rfl)
theorem dX0_feed_16 : decode cX0_feed 16 = .ok (.iload_n 1, 1) := dk_27 (dk_at dksX0_feed_0 16 rfl rfl)
theorem dX0_feed_17 : decode cX0_feed 17 = .ok (.invokevirtual 175, 3) := dk_182 0 175 (dk_at dksX0_feed_0 17 rfl rfl)
theorem dX0_feed_20 : decode cX0_feed 20 = .ok (.aload_n 0, 1) := dk_42 (dk_at dksX0_feed_0 20 rfl rfl)
theorem dX0_feed_21 : decode cX0_feed 21 = .ok (.iload_n 2, 1) := dk_28 (dk_at dksX0_feed_0 21 rfl rfl)
theorem dX0_feed_22 : decode cX0_feed 22 = .ok (.invokevirtual 175, 3) := dk_182 0 175 (dk_at dksX0_feed_1 0 rfl rfl)
theorem dX0_feed_25 : decode cX0_feed 25 = .ok (.aload_n 0, 1) := dk_42 (dk_at dksX0_feed_1 3 rfl rfl)
theorem dX0_feed_26 : decode cX0_feed 26 = .ok (.iload_n 3, 1) := dk_29 (dk_at dksX0_feed_1 4 rfl rfl)
theorem dX0_feed_27 : decode cX0_feed 27 = .ok (.invokevirtual 175, 3) := dk_182 0 175 (dk_at dksX0_feed_1 5 rfl rfl)
theorem dX0_feed_30 : decode cX0_feed 30 = .ok (.aload_n 0, 1) := dk_42 (dk_at dksX0_feed_1 8 rfl rfl)
theorem dX0_feed_31 : decode cX0_feed 31 = .ok (.iload 4, 2) := dk_21 4 (dk_at dksX0_feed_1 9 rfl rfl)
theorem dX0_feed_33 : decode cX0_feed 33 = .ok (.invokevirtual 175, 3) := dk_182 0 175 (dk_at dksX0_feed_1 11 rfl rfl)
theorem dX0_feed_36 : decode cX0_feed 36 = .ok (.aload_n 0, 1) := dk_42 (dk_at dksX0_feed_1 14 rfl rfl)
theorem dX0_feed_37 : decode cX0_feed 37 = .ok (.iload 5, 2) := dk_21 5 (dk_at dksX0_feed_1 15 rfl rfl)
theorem dX0_feed_39 : decode cX0_feed 39 = .ok (.invokevirtual 175, 3) := dk_182 0 175 (dk_at dksX0_feed_1 17 rfl rfl)
theorem dX0_feed_42 : decode cX0_feed 42 = .ok (.aload_n 0, 1) := dk_42 (dk_at dksX0_feed_1 20 rfl rfl)
theorem dX0_feed_43 : decode cX0_feed 43 = .ok (.getfield 172, 3) := dk_180 0 172 (dk_at dksX0_feed_1 21 rfl rfl)
theorem dX0_feed_46 : decode cX0_feed 46 = .ok (.ireturn, 1) := dk_172 (dk_at dksX0_feed_2 0 rfl rfl)
abbrev cX0_bytes : ByteArray := prog_1_method_14_code
def yX0_bytes : MethodName := ⟨RX0, "bytes", "(I)V"⟩
def dkwX0_bytes_1 : List UInt8 := [180, 0, 172, 4, 96, 181, 0, 172, 132, 2, 248, 167, 255, 226, 177]
abbrev dktX0_bytes_1 : List UInt8 := dkwX0_bytes_1 ++ []
def dkwX0_bytes_0 : List UInt8 := [16, 24, 61, 28, 155, 0, 32, 42, 180, 0, 26, 42, 180, 0, 172, 27, 28, 122, 145, 84, 42, 89]
abbrev dktX0_bytes_0 : List UInt8 := dkwX0_bytes_0 ++ dktX0_bytes_1
theorem dksX0_bytes_0 : cX0_bytes.data.toList.drop 0 = dktX0_bytes_0 := by decide +kernel
theorem dksX0_bytes_1 : cX0_bytes.data.toList.drop 22 = dktX0_bytes_1 := dk_seg dksX0_bytes_0 22 rfl rfl
theorem dX0_bytes_0 : decode cX0_bytes 0 = .ok (.bipush 24, 2) := dk_16 24 (dk_at dksX0_bytes_0 0 rfl rfl)
theorem dX0_bytes_2 : decode cX0_bytes 2 = .ok (.istore_n 2, 1) := dk_61 (dk_at dksX0_bytes_0 2 rfl rfl)
theorem dX0_bytes_3 : decode cX0_bytes 3 = .ok (.iload_n 2, 1) := dk_28 (dk_at dksX0_bytes_0 3 rfl rfl)
theorem dX0_bytes_4 : decode cX0_bytes 4 = .ok (.ifCond .lt 32, 3) := dk_155 0 32 (dk_at dksX0_bytes_0 4 rfl rfl)
theorem dX0_bytes_7 : decode cX0_bytes 7 = .ok (.aload_n 0, 1) := dk_42 (dk_at dksX0_bytes_0 7 rfl rfl)
theorem dX0_bytes_8 : decode cX0_bytes 8 = .ok (.getfield 26, 3) := dk_180 0 26 (dk_at dksX0_bytes_0 8 rfl rfl)
theorem dX0_bytes_11 : decode cX0_bytes 11 = .ok (.aload_n 0, 1) := dk_42 (dk_at dksX0_bytes_0 11 rfl rfl)
theorem dX0_bytes_12 : decode cX0_bytes 12 = .ok (.getfield 172, 3) := dk_180 0 172 (dk_at dksX0_bytes_0 12 rfl rfl)
theorem dX0_bytes_15 : decode cX0_bytes 15 = .ok (.iload_n 1, 1) := dk_27 (dk_at dksX0_bytes_0 15 rfl rfl)
theorem dX0_bytes_16 : decode cX0_bytes 16 = .ok (.iload_n 2, 1) := dk_28 (dk_at dksX0_bytes_0 16 rfl rfl)
theorem dX0_bytes_17 : decode cX0_bytes 17 = .ok (.ishr, 1) := dk_122 (dk_at dksX0_bytes_0 17 rfl rfl)
theorem dX0_bytes_18 : decode cX0_bytes 18 = .ok (.i2b, 1) := dk_145 (dk_at dksX0_bytes_0 18 rfl rfl)
theorem dX0_bytes_19 : decode cX0_bytes 19 = .ok (.bastore, 1) := dk_84 (dk_at dksX0_bytes_0 19 rfl rfl)
theorem dX0_bytes_20 : decode cX0_bytes 20 = .ok (.aload_n 0, 1) := dk_42 (dk_at dksX0_bytes_0 20 rfl rfl)
theorem dX0_bytes_21 : decode cX0_bytes 21 = .ok (.dup, 1) := dk_89 (dk_at dksX0_bytes_0 21 rfl rfl)
theorem dX0_bytes_22 : decode cX0_bytes 22 = .ok (.getfield 172, 3) := dk_180 0 172 (dk_at dksX0_bytes_1 0 rfl rfl)
theorem dX0_bytes_25 : decode cX0_bytes 25 = .ok (.iconst 1, 1) := dk_4 (dk_at dksX0_bytes_1 3 rfl rfl)
theorem dX0_bytes_26 : decode cX0_bytes 26 = .ok (.iadd, 1) := dk_96 (dk_at dksX0_bytes_1 4 rfl rfl)
theorem dX0_bytes_27 : decode cX0_bytes 27 = .ok (.putfield 172, 3) := dk_181 0 172 (dk_at dksX0_bytes_1 5 rfl rfl)
theorem dX0_bytes_30 : decode cX0_bytes 30 = .ok (.iinc 2 (-8), 3) := dk_132 2 248 (dk_at dksX0_bytes_1 8 rfl rfl)
theorem dX0_bytes_33 : decode cX0_bytes 33 = .ok (.goto (-30), 3) := dk_167 255 226 (dk_at dksX0_bytes_1 11 rfl rfl)
theorem dX0_bytes_36 : decode cX0_bytes 36 = .ok (.return_, 1) := dk_177 (dk_at dksX0_bytes_1 14 rfl rfl)
abbrev cX0_end : ByteArray := prog_1_method_15_code
def yX0_end : MethodName := ⟨RX0, "end", "(I)I"⟩
def dkwX0_end_0 : List UInt8 := [27, 155, 0, 11, 27, 42, 180, 0, 172, 164, 0, 5, 2, 172, 42, 27, 181, 0, 172, 27, 172]
abbrev dktX0_end_0 : List UInt8 := dkwX0_end_0 ++ []
theorem dksX0_end_0 : cX0_end.data.toList.drop 0 = dktX0_end_0 := by decide +kernel
theorem dX0_end_0 : decode cX0_end 0 = .ok (.iload_n 1, 1) := dk_27 (dk_at dksX0_end_0 0 rfl rfl)
theorem dX0_end_1 : decode cX0_end 1 = .ok (.ifCond .lt 11, 3) := dk_155 0 11 (dk_at dksX0_end_0 1 rfl rfl)
theorem dX0_end_4 : decode cX0_end 4 = .ok (.iload_n 1, 1) := dk_27 (dk_at dksX0_end_0 4 rfl rfl)
theorem dX0_end_5 : decode cX0_end 5 = .ok (.aload_n 0, 1) := dk_42 (dk_at dksX0_end_0 5 rfl rfl)
theorem dX0_end_6 : decode cX0_end 6 = .ok (.getfield 172, 3) := dk_180 0 172 (dk_at dksX0_end_0 6 rfl rfl)
theorem dX0_end_9 : decode cX0_end 9 = .ok (.if_icmp .le 5, 3) := dk_164 0 5 (dk_at dksX0_end_0 9 rfl rfl)
theorem dX0_end_12 : decode cX0_end 12 = .ok (.iconst (-1), 1) := dk_2 (dk_at dksX0_end_0 12 rfl rfl)
theorem dX0_end_13 : decode cX0_end 13 = .ok (.ireturn, 1) := dk_172 (dk_at dksX0_end_0 13 rfl rfl)
theorem dX0_end_14 : decode cX0_end 14 = .ok (.aload_n 0, 1) := dk_42 (dk_at dksX0_end_0 14 rfl rfl)
theorem dX0_end_15 : decode cX0_end 15 = .ok (.iload_n 1, 1) := dk_27 (dk_at dksX0_end_0 15 rfl rfl)
theorem dX0_end_16 : decode cX0_end 16 = .ok (.putfield 172, 3) := dk_181 0 172 (dk_at dksX0_end_0 16 rfl rfl)
theorem dX0_end_19 : decode cX0_end 19 = .ok (.iload_n 1, 1) := dk_27 (dk_at dksX0_end_0 19 rfl rfl)
theorem dX0_end_20 : decode cX0_end 20 = .ok (.ireturn, 1) := dk_172 (dk_at dksX0_end_0 20 rfl rfl)
abbrev cX0_regiment : ByteArray := prog_1_method_16_code
def yX0_regiment : MethodName := ⟨RX0, "regiment", "()I"⟩
def dkwX0_regiment_3 : List UInt8 := [182, 0, 106, 172]
abbrev dktX0_regiment_3 : List UInt8 := dkwX0_regiment_3 ++ []
def dkwX0_regiment_2 : List UInt8 := [44, 180, 0, 191, 181, 0, 179, 42, 44, 180, 0, 194, 181, 0, 37, 2, 172, 42, 182, 0, 97, 42]
abbrev dktX0_regiment_2 : List UInt8 := dkwX0_regiment_2 ++ dktX0_regiment_3
def dkwX0_regiment_1 : List UInt8 := [89, 42, 180, 0, 26, 27, 42, 180, 0, 33, 183, 0, 184, 182, 0, 187, 181, 0, 10, 167, 0, 22, 77, 42]
abbrev dktX0_regiment_1 : List UInt8 := dkwX0_regiment_1 ++ dktX0_regiment_2
def dkwX0_regiment_0 : List UInt8 := [42, 180, 0, 172, 60, 42, 3, 181, 0, 172, 42, 3, 181, 0, 179, 42, 2, 181, 0, 37, 42, 187, 0, 182]
abbrev dktX0_regiment_0 : List UInt8 := dkwX0_regiment_0 ++ dktX0_regiment_1
theorem dksX0_regiment_0 : cX0_regiment.data.toList.drop 0 = dktX0_regiment_0 := by decide +kernel
theorem dksX0_regiment_1 : cX0_regiment.data.toList.drop 24 = dktX0_regiment_1 := dk_seg dksX0_regiment_0 24 rfl rfl
theorem dksX0_regiment_2 : cX0_regiment.data.toList.drop 48 = dktX0_regiment_2 := dk_seg dksX0_regiment_1 24 rfl rfl
theorem dksX0_regiment_3 : cX0_regiment.data.toList.drop 70 = dktX0_regiment_3 := dk_seg dksX0_regiment_2 22 rfl rfl
theorem dX0_regiment_0 : decode cX0_regiment 0 = .ok (.aload_n 0, 1) := dk_42 (dk_at dksX0_regiment_0 0 rfl rfl)
theorem dX0_regiment_1 : decode cX0_regiment 1 = .ok (.getfield 172, 3) := dk_180 0 172 (dk_at dksX0_regiment_0 1 rfl rfl)
theorem dX0_regiment_4 : decode cX0_regiment 4 = .ok (.istore_n 1, 1) := dk_60 (dk_at dksX0_regiment_0 4 rfl rfl)
theorem dX0_regiment_5 : decode cX0_regiment 5 = .ok (.aload_n 0, 1) := dk_42 (dk_at dksX0_regiment_0 5 rfl rfl)
theorem dX0_regiment_6 : decode cX0_regiment 6 = .ok (.iconst 0, 1) := dk_3 (dk_at dksX0_regiment_0 6 rfl rfl)
theorem dX0_regiment_7 : decode cX0_regiment 7 = .ok (.putfield 172, 3) := dk_181 0 172 (dk_at dksX0_regiment_0 7 rfl rfl)
theorem dX0_regiment_10 : decode cX0_regiment 10 = .ok (.aload_n 0, 1) := dk_42 (dk_at dksX0_regiment_0 10 rfl rfl)
theorem dX0_regiment_11 : decode cX0_regiment 11 = .ok (.iconst 0, 1) := dk_3 (dk_at dksX0_regiment_0 11 rfl rfl)
theorem dX0_regiment_12 : decode cX0_regiment 12 = .ok (.putfield 179, 3) := dk_181 0 179 (dk_at dksX0_regiment_0 12 rfl rfl)
theorem dX0_regiment_15 : decode cX0_regiment 15 = .ok (.aload_n 0, 1) := dk_42 (dk_at dksX0_regiment_0 15 rfl rfl)
theorem dX0_regiment_16 : decode cX0_regiment 16 = .ok (.iconst (-1), 1) := dk_2 (dk_at dksX0_regiment_0 16 rfl rfl)
theorem dX0_regiment_17 : decode cX0_regiment 17 = .ok (.putfield 37, 3) := dk_181 0 37 (dk_at dksX0_regiment_0 17 rfl rfl)
theorem dX0_regiment_20 : decode cX0_regiment 20 = .ok (.aload_n 0, 1) := dk_42 (dk_at dksX0_regiment_0 20 rfl rfl)
theorem dX0_regiment_21 : decode cX0_regiment 21 = .ok (.new 182, 3) := dk_187 0 182 (dk_at dksX0_regiment_0 21 rfl rfl)
theorem dX0_regiment_24 : decode cX0_regiment 24 = .ok (.dup, 1) := dk_89 (dk_at dksX0_regiment_1 0 rfl rfl)
theorem dX0_regiment_25 : decode cX0_regiment 25 = .ok (.aload_n 0, 1) := dk_42 (dk_at dksX0_regiment_1 1 rfl rfl)
theorem dX0_regiment_26 : decode cX0_regiment 26 = .ok (.getfield 26, 3) := dk_180 0 26 (dk_at dksX0_regiment_1 2 rfl rfl)
theorem dX0_regiment_29 : decode cX0_regiment 29 = .ok (.iload_n 1, 1) := dk_27 (dk_at dksX0_regiment_1 5 rfl rfl)
theorem dX0_regiment_30 : decode cX0_regiment 30 = .ok (.aload_n 0, 1) := dk_42 (dk_at dksX0_regiment_1 6 rfl rfl)
theorem dX0_regiment_31 : decode cX0_regiment 31 = .ok (.getfield 33, 3) := dk_180 0 33 (dk_at dksX0_regiment_1 7 rfl rfl)
theorem dX0_regiment_34 : decode cX0_regiment 34 = .ok (.invokespecial 184, 3) := dk_183 0 184 (dk_at dksX0_regiment_1 10 rfl rfl)
theorem dX0_regiment_37 : decode cX0_regiment 37 = .ok (.invokevirtual 187, 3) := dk_182 0 187 (dk_at dksX0_regiment_1 13 rfl rfl)
theorem dX0_regiment_40 : decode cX0_regiment 40 = .ok (.putfield 10, 3) := dk_181 0 10 (dk_at dksX0_regiment_1 16 rfl rfl)
theorem dX0_regiment_43 : decode cX0_regiment 43 = .ok (.goto 22, 3) := dk_167 0 22 (dk_at dksX0_regiment_1 19 rfl rfl)
theorem dX0_regiment_46 : decode cX0_regiment 46 = .ok (.astore_n 2, 1) := dk_77 (dk_at dksX0_regiment_1 22 rfl rfl)
theorem dX0_regiment_47 : decode cX0_regiment 47 = .ok (.aload_n 0, 1) := dk_42 (dk_at dksX0_regiment_1 23 rfl rfl)
theorem dX0_regiment_48 : decode cX0_regiment 48 = .ok (.aload_n 2, 1) := dk_44 (dk_at dksX0_regiment_2 0 rfl rfl)
theorem dX0_regiment_49 : decode cX0_regiment 49 = .ok (.getfield 191, 3) := dk_180 0 191 (dk_at dksX0_regiment_2 1 rfl rfl)
theorem dX0_regiment_52 : decode cX0_regiment 52 = .ok (.putfield 179, 3) := dk_181 0 179 (dk_at dksX0_regiment_2 4 rfl rfl)
theorem dX0_regiment_55 : decode cX0_regiment 55 = .ok (.aload_n 0, 1) := dk_42 (dk_at dksX0_regiment_2 7 rfl rfl)
theorem dX0_regiment_56 : decode cX0_regiment 56 = .ok (.aload_n 2, 1) := dk_44 (dk_at dksX0_regiment_2 8 rfl rfl)
theorem dX0_regiment_57 : decode cX0_regiment 57 = .ok (.getfield 194, 3) := dk_180 0 194 (dk_at dksX0_regiment_2 9 rfl rfl)
theorem dX0_regiment_60 : decode cX0_regiment 60 = .ok (.putfield 37, 3) := dk_181 0 37 (dk_at dksX0_regiment_2 12 rfl rfl)
theorem dX0_regiment_63 : decode cX0_regiment 63 = .ok (.iconst (-1), 1) := dk_2 (dk_at dksX0_regiment_2 15 rfl rfl)
theorem dX0_regiment_64 : decode cX0_regiment 64 = .ok (.ireturn, 1) := dk_172 (dk_at dksX0_regiment_2 16 rfl rfl)
theorem dX0_regiment_65 : decode cX0_regiment 65 = .ok (.aload_n 0, 1) := dk_42 (dk_at dksX0_regiment_2 17 rfl rfl)
theorem dX0_regiment_66 : decode cX0_regiment 66 = .ok (.invokevirtual 97, 3) := dk_182 0 97 (dk_at dksX0_regiment_2 18 rfl rfl)
theorem dX0_regiment_69 : decode cX0_regiment 69 = .ok (.aload_n 0, 1) := dk_42 (dk_at dksX0_regiment_2 21 rfl rfl)
theorem dX0_regiment_70 : decode cX0_regiment 70 = .ok (.invokevirtual 106, 3) := dk_182 0 106 (dk_at dksX0_regiment_3 0 rfl rfl)
theorem dX0_regiment_73 : decode cX0_regiment 73 = .ok (.ireturn, 1) := dk_172 (dk_at dksX0_regiment_3 3 rfl rfl)
abbrev cX0_fault : ByteArray := prog_1_method_17_code
def yX0_fault : MethodName := ⟨RX0, "fault", "(I)I"⟩
def dkwX0_fault_1 : List UInt8 := [172]
abbrev dktX0_fault_1 : List UInt8 := dkwX0_fault_1 ++ []
def dkwX0_fault_0 : List UInt8 := [27, 154, 0, 10, 42, 180, 0, 179, 167, 0, 16, 27, 4, 160, 0, 10, 42, 180, 0, 37, 167, 0, 4, 2]
abbrev dktX0_fault_0 : List UInt8 := dkwX0_fault_0 ++ dktX0_fault_1
theorem dksX0_fault_0 : cX0_fault.data.toList.drop 0 = dktX0_fault_0 := by decide +kernel
theorem dksX0_fault_1 : cX0_fault.data.toList.drop 24 = dktX0_fault_1 := dk_seg dksX0_fault_0 24 rfl rfl
theorem dX0_fault_0 : decode cX0_fault 0 = .ok (.iload_n 1, 1) := dk_27 (dk_at dksX0_fault_0 0 rfl rfl)
theorem dX0_fault_1 : decode cX0_fault 1 = .ok (.ifCond .ne 10, 3) := dk_154 0 10 (dk_at dksX0_fault_0 1 rfl rfl)
theorem dX0_fault_4 : decode cX0_fault 4 = .ok (.aload_n 0, 1) := dk_42 (dk_at dksX0_fault_0 4 rfl rfl)
theorem dX0_fault_5 : decode cX0_fault 5 = .ok (.getfield 179, 3) := dk_180 0 179 (dk_at dksX0_fault_0 5 rfl rfl)
theorem dX0_fault_8 : decode cX0_fault 8 = .ok (.goto 16, 3) := dk_167 0 16 (dk_at dksX0_fault_0 8 rfl rfl)
theorem dX0_fault_11 : decode cX0_fault 11 = .ok (.iload_n 1, 1) := dk_27 (dk_at dksX0_fault_0 11 rfl rfl)
theorem dX0_fault_12 : decode cX0_fault 12 = .ok (.iconst 1, 1) := dk_4 (dk_at dksX0_fault_0 12 rfl rfl)
theorem dX0_fault_13 : decode cX0_fault 13 = .ok (.if_icmp .ne 10, 3) := dk_160 0 10 (dk_at dksX0_fault_0 13 rfl rfl)
theorem dX0_fault_16 : decode cX0_fault 16 = .ok (.aload_n 0, 1) := dk_42 (dk_at dksX0_fault_0 16 rfl rfl)
theorem dX0_fault_17 : decode cX0_fault 17 = .ok (.getfield 37, 3) := dk_180 0 37 (dk_at dksX0_fault_0 17 rfl rfl)
theorem dX0_fault_20 : decode cX0_fault 20 = .ok (.goto 4, 3) := dk_167 0 4 (dk_at dksX0_fault_0 20 rfl rfl)
theorem dX0_fault_23 : decode cX0_fault 23 = .ok (.iconst (-1), 1) := dk_2 (dk_at dksX0_fault_0 23 rfl rfl)
theorem dX0_fault_24 : decode cX0_fault 24 = .ok (.ireturn, 1) := dk_172 (dk_at dksX0_fault_1 0 rfl rfl)
abbrev cX0_button : ByteArray := prog_1_method_18_code
def yX0_button : MethodName := ⟨RX0, "button", "(II)I"⟩
def dkwX0_button_5 : List UInt8 := [45, 180, 0, 210, 172, 45, 180, 0, 213, 172, 16, 254, 172]
abbrev dktX0_button_5 : List UInt8 := dkwX0_button_5 ++ []
def dkwX0_button_4 : List UInt8 := [172, 45, 180, 0, 200, 172, 45, 180, 0, 203, 172, 45, 182, 0, 206, 153, 0, 7, 4, 167, 0, 4, 3, 172]
abbrev dktX0_button_4 : List UInt8 := dkwX0_button_4 ++ dktX0_button_5
def dkwX0_button_3 : List UInt8 := [42, 180, 0, 19, 180, 0, 100, 27, 46, 172, 42, 180, 0, 19, 180, 0, 103, 27, 46, 172, 45, 180, 0, 197]
abbrev dktX0_button_3 : List UInt8 := dkwX0_button_3 ++ dktX0_button_4
def dkwX0_button_2 : List UInt8 := [170, 0, 0, 0, 103, 0, 0, 0, 0, 0, 0, 0, 7, 0, 0, 0, 45, 0, 0, 0, 55, 0, 0, 0, 65, 0, 0, 0, 70, 0, 0, 0, 75, 0, 0, 0, 80, 0, 0, 0, 93, 0, 0, 0, 98]
abbrev dktX0_button_2 : List UInt8 := dkwX0_button_2 ++ dktX0_button_3
def dkwX0_button_1 : List UInt8 := [192, 0, 117, 78, 28]
abbrev dktX0_button_1 : List UInt8 := dkwX0_button_1 ++ dktX0_button_2
def dkwX0_button_0 : List UInt8 := [42, 27, 182, 0, 168, 154, 0, 6, 16, 254, 172, 42, 180, 0, 10, 180, 0, 110, 27, 182, 0, 113]
abbrev dktX0_button_0 : List UInt8 := dkwX0_button_0 ++ dktX0_button_1
theorem dksX0_button_0 : cX0_button.data.toList.drop 0 = dktX0_button_0 := by decide +kernel
theorem dksX0_button_1 : cX0_button.data.toList.drop 22 = dktX0_button_1 := dk_seg dksX0_button_0 22 rfl rfl
theorem dksX0_button_2 : cX0_button.data.toList.drop 27 = dktX0_button_2 := dk_seg dksX0_button_1 5 rfl rfl
theorem dksX0_button_3 : cX0_button.data.toList.drop 72 = dktX0_button_3 := dk_seg dksX0_button_2 45 rfl rfl
theorem dksX0_button_4 : cX0_button.data.toList.drop 96 = dktX0_button_4 := dk_seg dksX0_button_3 24 rfl rfl
theorem dksX0_button_5 : cX0_button.data.toList.drop 120 = dktX0_button_5 := dk_seg dksX0_button_4 24 rfl rfl
theorem dX0_button_0 : decode cX0_button 0 = .ok (.aload_n 0, 1) := dk_42 (dk_at dksX0_button_0 0 rfl rfl)
theorem dX0_button_1 : decode cX0_button 1 = .ok (.iload_n 1, 1) := dk_27 (dk_at dksX0_button_0 1 rfl rfl)
theorem dX0_button_2 : decode cX0_button 2 = .ok (.invokevirtual 168, 3) := dk_182 0 168 (dk_at dksX0_button_0 2 rfl rfl)
theorem dX0_button_5 : decode cX0_button 5 = .ok (.ifCond .ne 6, 3) := dk_154 0 6 (dk_at dksX0_button_0 5 rfl rfl)
theorem dX0_button_8 : decode cX0_button 8 = .ok (.bipush (-2), 2) := dk_16 254 (dk_at dksX0_button_0 8 rfl rfl)
theorem dX0_button_10 : decode cX0_button 10 = .ok (.ireturn, 1) := dk_172 (dk_at dksX0_button_0 10 rfl rfl)
theorem dX0_button_11 : decode cX0_button 11 = .ok (.aload_n 0, 1) := dk_42 (dk_at dksX0_button_0 11 rfl rfl)
theorem dX0_button_12 : decode cX0_button 12 = .ok (.getfield 10, 3) := dk_180 0 10 (dk_at dksX0_button_0 12 rfl rfl)
theorem dX0_button_15 : decode cX0_button 15 = .ok (.getfield 110, 3) := dk_180 0 110 (dk_at dksX0_button_0 15 rfl rfl)
theorem dX0_button_18 : decode cX0_button 18 = .ok (.iload_n 1, 1) := dk_27 (dk_at dksX0_button_0 18 rfl rfl)
theorem dX0_button_19 : decode cX0_button 19 = .ok (.invokevirtual 113, 3) := dk_182 0 113 (dk_at dksX0_button_0 19 rfl rfl)
theorem dX0_button_22 : decode cX0_button 22 = .ok (.checkcast 117, 3) := dk_192 0 117 (dk_at dksX0_button_1 0 rfl rfl)
theorem dX0_button_25 : decode cX0_button 25 = .ok (.astore_n 3, 1) := dk_78 (dk_at dksX0_button_1 3 rfl rfl)
theorem dX0_button_26 : decode cX0_button 26 = .ok (.iload_n 2, 1) := dk_28 (dk_at dksX0_button_1 4 rfl rfl)
theorem dX0_button_27 : decode cX0_button 27 = .ok (.tableswitch 103 0 7 #[45, 55, 65, 70, 75, 80, 93, 98], 45) := by decide +kernel
theorem dX0_button_72 : decode cX0_button 72 = .ok (.aload_n 0, 1) := dk_42 (dk_at dksX0_button_3 0 rfl rfl)
theorem dX0_button_73 : decode cX0_button 73 = .ok (.getfield 19, 3) := dk_180 0 19 (dk_at dksX0_button_3 1 rfl rfl)
theorem dX0_button_76 : decode cX0_button 76 = .ok (.getfield 100, 3) := dk_180 0 100 (dk_at dksX0_button_3 4 rfl rfl)
theorem dX0_button_79 : decode cX0_button 79 = .ok (.iload_n 1, 1) := dk_27 (dk_at dksX0_button_3 7 rfl rfl)
theorem dX0_button_80 : decode cX0_button 80 = .ok (.iaload, 1) := dk_46 (dk_at dksX0_button_3 8 rfl rfl)
theorem dX0_button_81 : decode cX0_button 81 = .ok (.ireturn, 1) := dk_172 (dk_at dksX0_button_3 9 rfl rfl)
theorem dX0_button_82 : decode cX0_button 82 = .ok (.aload_n 0, 1) := dk_42 (dk_at dksX0_button_3 10 rfl rfl)
theorem dX0_button_83 : decode cX0_button 83 = .ok (.getfield 19, 3) := dk_180 0 19 (dk_at dksX0_button_3 11 rfl rfl)
theorem dX0_button_86 : decode cX0_button 86 = .ok (.getfield 103, 3) := dk_180 0 103 (dk_at dksX0_button_3 14 rfl rfl)
theorem dX0_button_89 : decode cX0_button 89 = .ok (.iload_n 1, 1) := dk_27 (dk_at dksX0_button_3 17 rfl rfl)
theorem dX0_button_90 : decode cX0_button 90 = .ok (.iaload, 1) := dk_46 (dk_at dksX0_button_3 18 rfl rfl)
theorem dX0_button_91 : decode cX0_button 91 = .ok (.ireturn, 1) := dk_172 (dk_at dksX0_button_3 19 rfl rfl)
theorem dX0_button_92 : decode cX0_button 92 = .ok (.aload_n 3, 1) := dk_45 (dk_at dksX0_button_3 20 rfl rfl)
theorem dX0_button_93 : decode cX0_button 93 = .ok (.getfield 197, 3) := dk_180 0 197 (dk_at dksX0_button_3 21 rfl rfl)
theorem dX0_button_96 : decode cX0_button 96 = .ok (.ireturn, 1) := dk_172 (dk_at dksX0_button_4 0 rfl rfl)
theorem dX0_button_97 : decode cX0_button 97 = .ok (.aload_n 3, 1) := dk_45 (dk_at dksX0_button_4 1 rfl rfl)
theorem dX0_button_98 : decode cX0_button 98 = .ok (.getfield 200, 3) := dk_180 0 200 (dk_at dksX0_button_4 2 rfl rfl)
theorem dX0_button_101 : decode cX0_button 101 = .ok (.ireturn, 1) := dk_172 (dk_at dksX0_button_4 5 rfl rfl)
theorem dX0_button_102 : decode cX0_button 102 = .ok (.aload_n 3, 1) := dk_45 (dk_at dksX0_button_4 6 rfl rfl)
theorem dX0_button_103 : decode cX0_button 103 = .ok (.getfield 203, 3) := dk_180 0 203 (dk_at dksX0_button_4 7 rfl rfl)
theorem dX0_button_106 : decode cX0_button 106 = .ok (.ireturn, 1) := dk_172 (dk_at dksX0_button_4 10 rfl rfl)
theorem dX0_button_107 : decode cX0_button 107 = .ok (.aload_n 3, 1) := dk_45 (dk_at dksX0_button_4 11 rfl rfl)
theorem dX0_button_108 : decode cX0_button 108 = .ok (.invokevirtual 206, 3) := dk_182 0 206 (dk_at dksX0_button_4 12 rfl rfl)
theorem dX0_button_111 : decode cX0_button 111 = .ok (.ifCond .eq 7, 3) := dk_153 0 7 (dk_at dksX0_button_4 15 rfl rfl)
theorem dX0_button_114 : decode cX0_button 114 = .ok (.iconst 1, 1) := dk_4 (dk_at dksX0_button_4 18 rfl rfl)
theorem dX0_button_115 : decode cX0_button 115 = .ok (.goto 4, 3) := dk_167 0 4 (dk_at dksX0_button_4 19 rfl rfl)
theorem dX0_button_118 : decode cX0_button 118 = .ok (.iconst 0, 1) := dk_3 (dk_at dksX0_button_4 22 rfl rfl)
theorem dX0_button_119 : decode cX0_button 119 = .ok (.ireturn, 1) := dk_172 (dk_at dksX0_button_4 23 rfl rfl)
theorem dX0_button_120 : decode cX0_button 120 = .ok (.aload_n 3, 1) := dk_45 (dk_at dksX0_button_5 0 rfl rfl)
theorem dX0_button_121 : decode cX0_button 121 = .ok (.getfield 210, 3) := dk_180 0 210 (dk_at dksX0_button_5 1 rfl rfl)
theorem dX0_button_124 : decode cX0_button 124 = .ok (.ireturn, 1) := dk_172 (dk_at dksX0_button_5 4 rfl rfl)
theorem dX0_button_125 : decode cX0_button 125 = .ok (.aload_n 3, 1) := dk_45 (dk_at dksX0_button_5 5 rfl rfl)
theorem dX0_button_126 : decode cX0_button 126 = .ok (.getfield 213, 3) := dk_180 0 213 (dk_at dksX0_button_5 6 rfl rfl)
theorem dX0_button_129 : decode cX0_button 129 = .ok (.ireturn, 1) := dk_172 (dk_at dksX0_button_5 9 rfl rfl)
theorem dX0_button_130 : decode cX0_button 130 = .ok (.bipush (-2), 2) := dk_16 254 (dk_at dksX0_button_5 10 rfl rfl)
theorem dX0_button_132 : decode cX0_button 132 = .ok (.ireturn, 1) := dk_172 (dk_at dksX0_button_5 12 rfl rfl)
abbrev cX0_isButton : ByteArray := prog_1_method_9_code
def yX0_isButton : MethodName := ⟨RX0, "isButton", "(I)Z"⟩
def dkwX0_isButton_0 : List UInt8 := [27, 3, 42, 182, 0, 106, 4, 100, 184, 0, 158, 172]
abbrev dktX0_isButton_0 : List UInt8 := dkwX0_isButton_0 ++ []
theorem dksX0_isButton_0 : cX0_isButton.data.toList.drop 0 = dktX0_isButton_0 := by decide +kernel
theorem dX0_isButton_0 : decode cX0_isButton 0 = .ok (.iload_n 1, 1) := dk_27 (dk_at dksX0_isButton_0 0 rfl rfl)
theorem dX0_isButton_1 : decode cX0_isButton 1 = .ok (.iconst 0, 1) := dk_3 (dk_at dksX0_isButton_0 1 rfl rfl)
theorem dX0_isButton_2 : decode cX0_isButton 2 = .ok (.aload_n 0, 1) := dk_42 (dk_at dksX0_isButton_0 2 rfl rfl)
theorem dX0_isButton_3 : decode cX0_isButton 3 = .ok (.invokevirtual 106, 3) := dk_182 0 106 (dk_at dksX0_isButton_0 3 rfl rfl)
theorem dX0_isButton_6 : decode cX0_isButton 6 = .ok (.iconst 1, 1) := dk_4 (dk_at dksX0_isButton_0 6 rfl rfl)
theorem dX0_isButton_7 : decode cX0_isButton 7 = .ok (.isub, 1) := dk_100 (dk_at dksX0_isButton_0 7 rfl rfl)
theorem dX0_isButton_8 : decode cX0_isButton 8 = .ok (.invokestatic 158, 3) := dk_184 0 158 (dk_at dksX0_isButton_0 8 rfl rfl)
theorem dX0_isButton_11 : decode cX0_isButton 11 = .ok (.ireturn, 1) := dk_172 (dk_at dksX0_isButton_0 11 rfl rfl)
abbrev cX0_isIn : ByteArray := prog_1_method_1_code
def yX0_isIn : MethodName := ⟨RX0, "isIn", "(III)Z"⟩
def dkwX0_isIn_0 : List UInt8 := [26, 27, 161, 0, 12, 26, 28, 163, 0, 7, 4, 167, 0, 4, 3, 172]
abbrev dktX0_isIn_0 : List UInt8 := dkwX0_isIn_0 ++ []
theorem dksX0_isIn_0 : cX0_isIn.data.toList.drop 0 = dktX0_isIn_0 := by decide +kernel
theorem dX0_isIn_0 : decode cX0_isIn 0 = .ok (.iload_n 0, 1) := dk_26 (dk_at dksX0_isIn_0 0 rfl rfl)
theorem dX0_isIn_1 : decode cX0_isIn 1 = .ok (.iload_n 1, 1) := dk_27 (dk_at dksX0_isIn_0 1 rfl rfl)
theorem dX0_isIn_2 : decode cX0_isIn 2 = .ok (.if_icmp .lt 12, 3) := dk_161 0 12 (dk_at dksX0_isIn_0 2 rfl rfl)
theorem dX0_isIn_5 : decode cX0_isIn 5 = .ok (.iload_n 0, 1) := dk_26 (dk_at dksX0_isIn_0 5 rfl rfl)
theorem dX0_isIn_6 : decode cX0_isIn 6 = .ok (.iload_n 2, 1) := dk_28 (dk_at dksX0_isIn_0 6 rfl rfl)
theorem dX0_isIn_7 : decode cX0_isIn 7 = .ok (.if_icmp .gt 7, 3) := dk_163 0 7 (dk_at dksX0_isIn_0 7 rfl rfl)
theorem dX0_isIn_10 : decode cX0_isIn 10 = .ok (.iconst 1, 1) := dk_4 (dk_at dksX0_isIn_0 10 rfl rfl)
theorem dX0_isIn_11 : decode cX0_isIn 11 = .ok (.goto 4, 3) := dk_167 0 4 (dk_at dksX0_isIn_0 11 rfl rfl)
theorem dX0_isIn_14 : decode cX0_isIn 14 = .ok (.iconst 0, 1) := dk_3 (dk_at dksX0_isIn_0 14 rfl rfl)
theorem dX0_isIn_15 : decode cX0_isIn 15 = .ok (.ireturn, 1) := dk_172 (dk_at dksX0_isIn_0 15 rfl rfl)
abbrev cX0_coat : ByteArray := prog_1_method_19_code
def yX0_coat : MethodName := ⟨RX0, "coat", "(II)I"⟩
def dkwX0_coat_5 : List UInt8 := [160, 0, 12, 21, 4, 4, 21, 5, 120, 128, 54, 4, 132, 5, 1, 167, 255, 169, 21, 4, 172]
abbrev dktX0_coat_5 : List UInt8 := dkwX0_coat_5 ++ []
def dkwX0_coat_4 : List UInt8 := [180, 0, 197, 54, 6, 21, 6, 27, 160, 0, 26, 42, 180, 0, 19, 180, 0, 100, 21, 5, 46, 29]
abbrev dktX0_coat_4 : List UInt8 := dkwX0_coat_4 ++ dktX0_coat_5
def dkwX0_coat_3 : List UInt8 := [192, 0, 117, 180, 0, 200, 167, 0, 21, 42, 180, 0, 10, 180, 0, 110, 21, 5, 182, 0, 113, 192, 0, 117]
abbrev dktX0_coat_3 : List UInt8 := dkwX0_coat_3 ++ dktX0_coat_4
def dkwX0_coat_2 : List UInt8 := [182, 0, 106, 162, 0, 84, 28, 4, 160, 0, 24, 42, 180, 0, 10, 180, 0, 110, 21, 5, 182, 0, 113]
abbrev dktX0_coat_2 : List UInt8 := dkwX0_coat_2 ++ dktX0_coat_3
def dkwX0_coat_1 : List UInt8 := [3, 167, 0, 13, 28, 5, 160, 0, 7, 6, 167, 0, 4, 7, 62, 3, 54, 4, 3, 54, 5, 21, 5, 42]
abbrev dktX0_coat_1 : List UInt8 := dkwX0_coat_1 ++ dktX0_coat_2
def dkwX0_coat_0 : List UInt8 := [42, 27, 182, 0, 216, 153, 0, 12, 28, 3, 6, 184, 0, 158, 154, 0, 5, 2, 172, 28, 5, 162, 0, 7]
abbrev dktX0_coat_0 : List UInt8 := dkwX0_coat_0 ++ dktX0_coat_1
theorem dksX0_coat_0 : cX0_coat.data.toList.drop 0 = dktX0_coat_0 := by decide +kernel
theorem dksX0_coat_1 : cX0_coat.data.toList.drop 24 = dktX0_coat_1 := dk_seg dksX0_coat_0 24 rfl rfl
theorem dksX0_coat_2 : cX0_coat.data.toList.drop 48 = dktX0_coat_2 := dk_seg dksX0_coat_1 24 rfl rfl
theorem dksX0_coat_3 : cX0_coat.data.toList.drop 71 = dktX0_coat_3 := dk_seg dksX0_coat_2 23 rfl rfl
theorem dksX0_coat_4 : cX0_coat.data.toList.drop 95 = dktX0_coat_4 := dk_seg dksX0_coat_3 24 rfl rfl
theorem dksX0_coat_5 : cX0_coat.data.toList.drop 117 = dktX0_coat_5 := dk_seg dksX0_coat_4 22 rfl rfl
theorem dX0_coat_0 : decode cX0_coat 0 = .ok (.aload_n 0, 1) := dk_42 (dk_at dksX0_coat_0 0 rfl rfl)
theorem dX0_coat_1 : decode cX0_coat 1 = .ok (.iload_n 1, 1) := dk_27 (dk_at dksX0_coat_0 1 rfl rfl)
theorem dX0_coat_2 : decode cX0_coat 2 = .ok (.invokevirtual 216, 3) := dk_182 0 216 (dk_at dksX0_coat_0 2 rfl rfl)
theorem dX0_coat_5 : decode cX0_coat 5 = .ok (.ifCond .eq 12, 3) := dk_153 0 12 (dk_at dksX0_coat_0 5 rfl rfl)
theorem dX0_coat_8 : decode cX0_coat 8 = .ok (.iload_n 2, 1) := dk_28 (dk_at dksX0_coat_0 8 rfl rfl)
theorem dX0_coat_9 : decode cX0_coat 9 = .ok (.iconst 0, 1) := dk_3 (dk_at dksX0_coat_0 9 rfl rfl)
theorem dX0_coat_10 : decode cX0_coat 10 = .ok (.iconst 3, 1) := dk_6 (dk_at dksX0_coat_0 10 rfl rfl)
theorem dX0_coat_11 : decode cX0_coat 11 = .ok (.invokestatic 158, 3) := dk_184 0 158 (dk_at dksX0_coat_0 11 rfl rfl)
theorem dX0_coat_14 : decode cX0_coat 14 = .ok (.ifCond .ne 5, 3) := dk_154 0 5 (dk_at dksX0_coat_0 14 rfl rfl)
theorem dX0_coat_17 : decode cX0_coat 17 = .ok (.iconst (-1), 1) := dk_2 (dk_at dksX0_coat_0 17 rfl rfl)
theorem dX0_coat_18 : decode cX0_coat 18 = .ok (.ireturn, 1) := dk_172 (dk_at dksX0_coat_0 18 rfl rfl)
theorem dX0_coat_19 : decode cX0_coat 19 = .ok (.iload_n 2, 1) := dk_28 (dk_at dksX0_coat_0 19 rfl rfl)
theorem dX0_coat_20 : decode cX0_coat 20 = .ok (.iconst 2, 1) := dk_5 (dk_at dksX0_coat_0 20 rfl rfl)
theorem dX0_coat_21 : decode cX0_coat 21 = .ok (.if_icmp .ge 7, 3) := dk_162 0 7 (dk_at dksX0_coat_0 21 rfl rfl)
theorem dX0_coat_24 : decode cX0_coat 24 = .ok (.iconst 0, 1) := dk_3 (dk_at dksX0_coat_1 0 rfl rfl)
theorem dX0_coat_25 : decode cX0_coat 25 = .ok (.goto 13, 3) := dk_167 0 13 (dk_at dksX0_coat_1 1 rfl rfl)
theorem dX0_coat_28 : decode cX0_coat 28 = .ok (.iload_n 2, 1) := dk_28 (dk_at dksX0_coat_1 4 rfl rfl)
theorem dX0_coat_29 : decode cX0_coat 29 = .ok (.iconst 2, 1) := dk_5 (dk_at dksX0_coat_1 5 rfl rfl)
theorem dX0_coat_30 : decode cX0_coat 30 = .ok (.if_icmp .ne 7, 3) := dk_160 0 7 (dk_at dksX0_coat_1 6 rfl rfl)
theorem dX0_coat_33 : decode cX0_coat 33 = .ok (.iconst 3, 1) := dk_6 (dk_at dksX0_coat_1 9 rfl rfl)
theorem dX0_coat_34 : decode cX0_coat 34 = .ok (.goto 4, 3) := dk_167 0 4 (dk_at dksX0_coat_1 10 rfl rfl)
theorem dX0_coat_37 : decode cX0_coat 37 = .ok (.iconst 4, 1) := dk_7 (dk_at dksX0_coat_1 13 rfl rfl)
theorem dX0_coat_38 : decode cX0_coat 38 = .ok (.istore_n 3, 1) := dk_62 (dk_at dksX0_coat_1 14 rfl rfl)
theorem dX0_coat_39 : decode cX0_coat 39 = .ok (.iconst 0, 1) := dk_3 (dk_at dksX0_coat_1 15 rfl rfl)
theorem dX0_coat_40 : decode cX0_coat 40 = .ok (.istore 4, 2) := dk_54 4 (dk_at dksX0_coat_1 16 rfl rfl)
theorem dX0_coat_42 : decode cX0_coat 42 = .ok (.iconst 0, 1) := dk_3 (dk_at dksX0_coat_1 18 rfl rfl)
theorem dX0_coat_43 : decode cX0_coat 43 = .ok (.istore 5, 2) := dk_54 5 (dk_at dksX0_coat_1 19 rfl rfl)
theorem dX0_coat_45 : decode cX0_coat 45 = .ok (.iload 5, 2) := dk_21 5 (dk_at dksX0_coat_1 21 rfl rfl)
theorem dX0_coat_47 : decode cX0_coat 47 = .ok (.aload_n 0, 1) := dk_42 (dk_at dksX0_coat_1 23 rfl rfl)
theorem dX0_coat_48 : decode cX0_coat 48 = .ok (.invokevirtual 106, 3) := dk_182 0 106 (dk_at dksX0_coat_2 0 rfl rfl)
theorem dX0_coat_51 : decode cX0_coat 51 = .ok (.if_icmp .ge 84, 3) := dk_162 0 84 (dk_at dksX0_coat_2 3 rfl rfl)
theorem dX0_coat_54 : decode cX0_coat 54 = .ok (.iload_n 2, 1) := dk_28 (dk_at dksX0_coat_2 6 rfl rfl)
theorem dX0_coat_55 : decode cX0_coat 55 = .ok (.iconst 1, 1) := dk_4 (dk_at dksX0_coat_2 7 rfl rfl)
theorem dX0_coat_56 : decode cX0_coat 56 = .ok (.if_icmp .ne 24, 3) := dk_160 0 24 (dk_at dksX0_coat_2 8 rfl rfl)
theorem dX0_coat_59 : decode cX0_coat 59 = .ok (.aload_n 0, 1) := dk_42 (dk_at dksX0_coat_2 11 rfl rfl)
theorem dX0_coat_60 : decode cX0_coat 60 = .ok (.getfield 10, 3) := dk_180 0 10 (dk_at dksX0_coat_2 12 rfl rfl)
theorem dX0_coat_63 : decode cX0_coat 63 = .ok (.getfield 110, 3) := dk_180 0 110 (dk_at dksX0_coat_2 15 rfl rfl)
theorem dX0_coat_66 : decode cX0_coat 66 = .ok (.iload 5, 2) := dk_21 5 (dk_at dksX0_coat_2 18 rfl rfl)
theorem dX0_coat_68 : decode cX0_coat 68 = .ok (.invokevirtual 113, 3) := dk_182 0 113 (dk_at dksX0_coat_2 20 rfl rfl)
theorem dX0_coat_71 : decode cX0_coat 71 = .ok (.checkcast 117, 3) := dk_192 0 117 (dk_at dksX0_coat_3 0 rfl rfl)
theorem dX0_coat_74 : decode cX0_coat 74 = .ok (.getfield 200, 3) := dk_180 0 200 (dk_at dksX0_coat_3 3 rfl rfl)
theorem dX0_coat_77 : decode cX0_coat 77 = .ok (.goto 21, 3) := dk_167 0 21 (dk_at dksX0_coat_3 6 rfl rfl)
theorem dX0_coat_80 : decode cX0_coat 80 = .ok (.aload_n 0, 1) := dk_42 (dk_at dksX0_coat_3 9 rfl rfl)
theorem dX0_coat_81 : decode cX0_coat 81 = .ok (.getfield 10, 3) := dk_180 0 10 (dk_at dksX0_coat_3 10 rfl rfl)
theorem dX0_coat_84 : decode cX0_coat 84 = .ok (.getfield 110, 3) := dk_180 0 110 (dk_at dksX0_coat_3 13 rfl rfl)
theorem dX0_coat_87 : decode cX0_coat 87 = .ok (.iload 5, 2) := dk_21 5 (dk_at dksX0_coat_3 16 rfl rfl)
theorem dX0_coat_89 : decode cX0_coat 89 = .ok (.invokevirtual 113, 3) := dk_182 0 113 (dk_at dksX0_coat_3 18 rfl rfl)
theorem dX0_coat_92 : decode cX0_coat 92 = .ok (.checkcast 117, 3) := dk_192 0 117 (dk_at dksX0_coat_3 21 rfl rfl)
theorem dX0_coat_95 : decode cX0_coat 95 = .ok (.getfield 197, 3) := dk_180 0 197 (dk_at dksX0_coat_4 0 rfl rfl)
theorem dX0_coat_98 : decode cX0_coat 98 = .ok (.istore 6, 2) := dk_54 6 (dk_at dksX0_coat_4 3 rfl rfl)
theorem dX0_coat_100 : decode cX0_coat 100 = .ok (.iload 6, 2) := dk_21 6 (dk_at dksX0_coat_4 5 rfl rfl)
theorem dX0_coat_102 : decode cX0_coat 102 = .ok (.iload_n 1, 1) := dk_27 (dk_at dksX0_coat_4 7 rfl rfl)
theorem dX0_coat_103 : decode cX0_coat 103 = .ok (.if_icmp .ne 26, 3) := dk_160 0 26 (dk_at dksX0_coat_4 8 rfl rfl)
theorem dX0_coat_106 : decode cX0_coat 106 = .ok (.aload_n 0, 1) := dk_42 (dk_at dksX0_coat_4 11 rfl rfl)
theorem dX0_coat_107 : decode cX0_coat 107 = .ok (.getfield 19, 3) := dk_180 0 19 (dk_at dksX0_coat_4 12 rfl rfl)
theorem dX0_coat_110 : decode cX0_coat 110 = .ok (.getfield 100, 3) := dk_180 0 100 (dk_at dksX0_coat_4 15 rfl rfl)
theorem dX0_coat_113 : decode cX0_coat 113 = .ok (.iload 5, 2) := dk_21 5 (dk_at dksX0_coat_4 18 rfl rfl)
theorem dX0_coat_115 : decode cX0_coat 115 = .ok (.iaload, 1) := dk_46 (dk_at dksX0_coat_4 20 rfl rfl)
theorem dX0_coat_116 : decode cX0_coat 116 = .ok (.iload_n 3, 1) := dk_29 (dk_at dksX0_coat_4 21 rfl rfl)
theorem dX0_coat_117 : decode cX0_coat 117 = .ok (.if_icmp .ne 12, 3) := dk_160 0 12 (dk_at dksX0_coat_5 0 rfl rfl)
theorem dX0_coat_120 : decode cX0_coat 120 = .ok (.iload 4, 2) := dk_21 4 (dk_at dksX0_coat_5 3 rfl rfl)
theorem dX0_coat_122 : decode cX0_coat 122 = .ok (.iconst 1, 1) := dk_4 (dk_at dksX0_coat_5 5 rfl rfl)
theorem dX0_coat_123 : decode cX0_coat 123 = .ok (.iload 5, 2) := dk_21 5 (dk_at dksX0_coat_5 6 rfl rfl)
theorem dX0_coat_125 : decode cX0_coat 125 = .ok (.ishl, 1) := dk_120 (dk_at dksX0_coat_5 8 rfl rfl)
theorem dX0_coat_126 : decode cX0_coat 126 = .ok (.ior, 1) := dk_128 (dk_at dksX0_coat_5 9 rfl rfl)
theorem dX0_coat_127 : decode cX0_coat 127 = .ok (.istore 4, 2) := dk_54 4 (dk_at dksX0_coat_5 10 rfl rfl)
theorem dX0_coat_129 : decode cX0_coat 129 = .ok (.iinc 5 1, 3) := dk_132 5 1 (dk_at dksX0_coat_5 12 rfl rfl)
theorem dX0_coat_132 : decode cX0_coat 132 = .ok (.goto (-87), 3) := dk_167 255 169 (dk_at dksX0_coat_5 15 rfl rfl)
theorem dX0_coat_135 : decode cX0_coat 135 = .ok (.iload 4, 2) := dk_21 4 (dk_at dksX0_coat_5 18 rfl rfl)
theorem dX0_coat_137 : decode cX0_coat 137 = .ok (.ireturn, 1) := dk_172 (dk_at dksX0_coat_5 20 rfl rfl)
abbrev cX0_isMan : ByteArray := prog_1_method_10_code
def yX0_isMan : MethodName := ⟨RX0, "isMan", "(I)Z"⟩
def dkwX0_isMan_0 : List UInt8 := [27, 3, 42, 180, 0, 10, 180, 0, 162, 182, 0, 144, 4, 100, 184, 0, 158, 172]
abbrev dktX0_isMan_0 : List UInt8 := dkwX0_isMan_0 ++ []
theorem dksX0_isMan_0 : cX0_isMan.data.toList.drop 0 = dktX0_isMan_0 := by decide +kernel
theorem dX0_isMan_0 : decode cX0_isMan 0 = .ok (.iload_n 1, 1) := dk_27 (dk_at dksX0_isMan_0 0 rfl rfl)
theorem dX0_isMan_1 : decode cX0_isMan 1 = .ok (.iconst 0, 1) := dk_3 (dk_at dksX0_isMan_0 1 rfl rfl)
theorem dX0_isMan_2 : decode cX0_isMan 2 = .ok (.aload_n 0, 1) := dk_42 (dk_at dksX0_isMan_0 2 rfl rfl)
theorem dX0_isMan_3 : decode cX0_isMan 3 = .ok (.getfield 10, 3) := dk_180 0 10 (dk_at dksX0_isMan_0 3 rfl rfl)
theorem dX0_isMan_6 : decode cX0_isMan 6 = .ok (.getfield 162, 3) := dk_180 0 162 (dk_at dksX0_isMan_0 6 rfl rfl)
theorem dX0_isMan_9 : decode cX0_isMan 9 = .ok (.invokevirtual 144, 3) := dk_182 0 144 (dk_at dksX0_isMan_0 9 rfl rfl)
theorem dX0_isMan_12 : decode cX0_isMan 12 = .ok (.iconst 1, 1) := dk_4 (dk_at dksX0_isMan_0 12 rfl rfl)
theorem dX0_isMan_13 : decode cX0_isMan 13 = .ok (.isub, 1) := dk_100 (dk_at dksX0_isMan_0 13 rfl rfl)
theorem dX0_isMan_14 : decode cX0_isMan 14 = .ok (.invokestatic 158, 3) := dk_184 0 158 (dk_at dksX0_isMan_0 14 rfl rfl)
theorem dX0_isMan_17 : decode cX0_isMan 17 = .ok (.ireturn, 1) := dk_172 (dk_at dksX0_isMan_0 17 rfl rfl)
abbrev cX0_free : ByteArray := prog_1_method_20_code
def yX0_free : MethodName := ⟨RX0, "free", "()I"⟩
def dkwX0_free_2 : List UInt8 := [192, 0, 117, 180, 0, 197, 120, 2, 130, 126, 60, 132, 2, 1, 167, 255, 213, 27, 172]
abbrev dktX0_free_2 : List UInt8 := dkwX0_free_2 ++ []
def dkwX0_free_1 : List UInt8 := [162, 0, 41, 42, 28, 182, 0, 219, 153, 0, 27, 27, 4, 42, 180, 0, 10, 180, 0, 110, 28, 182, 0, 113]
abbrev dktX0_free_1 : List UInt8 := dkwX0_free_1 ++ dktX0_free_2
def dkwX0_free_0 : List UInt8 := [4, 42, 180, 0, 10, 180, 0, 162, 182, 0, 144, 120, 4, 100, 60, 3, 61, 28, 42, 182, 0, 106]
abbrev dktX0_free_0 : List UInt8 := dkwX0_free_0 ++ dktX0_free_1
theorem dksX0_free_0 : cX0_free.data.toList.drop 0 = dktX0_free_0 := by decide +kernel
theorem dksX0_free_1 : cX0_free.data.toList.drop 22 = dktX0_free_1 := dk_seg dksX0_free_0 22 rfl rfl
theorem dksX0_free_2 : cX0_free.data.toList.drop 46 = dktX0_free_2 := dk_seg dksX0_free_1 24 rfl rfl
theorem dX0_free_0 : decode cX0_free 0 = .ok (.iconst 1, 1) := dk_4 (dk_at dksX0_free_0 0 rfl rfl)
theorem dX0_free_1 : decode cX0_free 1 = .ok (.aload_n 0, 1) := dk_42 (dk_at dksX0_free_0 1 rfl rfl)
theorem dX0_free_2 : decode cX0_free 2 = .ok (.getfield 10, 3) := dk_180 0 10 (dk_at dksX0_free_0 2 rfl rfl)
theorem dX0_free_5 : decode cX0_free 5 = .ok (.getfield 162, 3) := dk_180 0 162 (dk_at dksX0_free_0 5 rfl rfl)
theorem dX0_free_8 : decode cX0_free 8 = .ok (.invokevirtual 144, 3) := dk_182 0 144 (dk_at dksX0_free_0 8 rfl rfl)
theorem dX0_free_11 : decode cX0_free 11 = .ok (.ishl, 1) := dk_120 (dk_at dksX0_free_0 11 rfl rfl)
theorem dX0_free_12 : decode cX0_free 12 = .ok (.iconst 1, 1) := dk_4 (dk_at dksX0_free_0 12 rfl rfl)
theorem dX0_free_13 : decode cX0_free 13 = .ok (.isub, 1) := dk_100 (dk_at dksX0_free_0 13 rfl rfl)
theorem dX0_free_14 : decode cX0_free 14 = .ok (.istore_n 1, 1) := dk_60 (dk_at dksX0_free_0 14 rfl rfl)
theorem dX0_free_15 : decode cX0_free 15 = .ok (.iconst 0, 1) := dk_3 (dk_at dksX0_free_0 15 rfl rfl)
theorem dX0_free_16 : decode cX0_free 16 = .ok (.istore_n 2, 1) := dk_61 (dk_at dksX0_free_0 16 rfl rfl)
theorem dX0_free_17 : decode cX0_free 17 = .ok (.iload_n 2, 1) := dk_28 (dk_at dksX0_free_0 17 rfl rfl)
theorem dX0_free_18 : decode cX0_free 18 = .ok (.aload_n 0, 1) := dk_42 (dk_at dksX0_free_0 18 rfl rfl)
theorem dX0_free_19 : decode cX0_free 19 = .ok (.invokevirtual 106, 3) := dk_182 0 106 (dk_at dksX0_free_0 19 rfl rfl)
theorem dX0_free_22 : decode cX0_free 22 = .ok (.if_icmp .ge 41, 3) := dk_162 0 41 (dk_at dksX0_free_1 0 rfl rfl)
theorem dX0_free_25 : decode cX0_free 25 = .ok (.aload_n 0, 1) := dk_42 (dk_at dksX0_free_1 3 rfl rfl)
theorem dX0_free_26 : decode cX0_free 26 = .ok (.iload_n 2, 1) := dk_28 (dk_at dksX0_free_1 4 rfl rfl)
theorem dX0_free_27 : decode cX0_free 27 = .ok (.invokevirtual 219, 3) := dk_182 0 219 (dk_at dksX0_free_1 5 rfl rfl)
theorem dX0_free_30 : decode cX0_free 30 = .ok (.ifCond .eq 27, 3) := dk_153 0 27 (dk_at dksX0_free_1 8 rfl rfl)
theorem dX0_free_33 : decode cX0_free 33 = .ok (.iload_n 1, 1) := dk_27 (dk_at dksX0_free_1 11 rfl rfl)
theorem dX0_free_34 : decode cX0_free 34 = .ok (.iconst 1, 1) := dk_4 (dk_at dksX0_free_1 12 rfl rfl)
theorem dX0_free_35 : decode cX0_free 35 = .ok (.aload_n 0, 1) := dk_42 (dk_at dksX0_free_1 13 rfl rfl)
theorem dX0_free_36 : decode cX0_free 36 = .ok (.getfield 10, 3) := dk_180 0 10 (dk_at dksX0_free_1 14 rfl rfl)
theorem dX0_free_39 : decode cX0_free 39 = .ok (.getfield 110, 3) := dk_180 0 110 (dk_at dksX0_free_1 17 rfl rfl)
theorem dX0_free_42 : decode cX0_free 42 = .ok (.iload_n 2, 1) := dk_28 (dk_at dksX0_free_1 20 rfl rfl)
theorem dX0_free_43 : decode cX0_free 43 = .ok (.invokevirtual 113, 3) := dk_182 0 113 (dk_at dksX0_free_1 21 rfl rfl)
theorem dX0_free_46 : decode cX0_free 46 = .ok (.checkcast 117, 3) := dk_192 0 117 (dk_at dksX0_free_2 0 rfl rfl)
theorem dX0_free_49 : decode cX0_free 49 = .ok (.getfield 197, 3) := dk_180 0 197 (dk_at dksX0_free_2 3 rfl rfl)
theorem dX0_free_52 : decode cX0_free 52 = .ok (.ishl, 1) := dk_120 (dk_at dksX0_free_2 6 rfl rfl)
theorem dX0_free_53 : decode cX0_free 53 = .ok (.iconst (-1), 1) := dk_2 (dk_at dksX0_free_2 7 rfl rfl)
theorem dX0_free_54 : decode cX0_free 54 = .ok (.ixor, 1) := dk_130 (dk_at dksX0_free_2 8 rfl rfl)
theorem dX0_free_55 : decode cX0_free 55 = .ok (.iand, 1) := dk_126 (dk_at dksX0_free_2 9 rfl rfl)
theorem dX0_free_56 : decode cX0_free 56 = .ok (.istore_n 1, 1) := dk_60 (dk_at dksX0_free_2 10 rfl rfl)
theorem dX0_free_57 : decode cX0_free 57 = .ok (.iinc 2 1, 3) := dk_132 2 1 (dk_at dksX0_free_2 11 rfl rfl)
theorem dX0_free_60 : decode cX0_free 60 = .ok (.goto (-43), 3) := dk_167 255 213 (dk_at dksX0_free_2 14 rfl rfl)
theorem dX0_free_63 : decode cX0_free 63 = .ok (.iload_n 1, 1) := dk_27 (dk_at dksX0_free_2 17 rfl rfl)
theorem dX0_free_64 : decode cX0_free 64 = .ok (.ireturn, 1) := dk_172 (dk_at dksX0_free_2 18 rfl rfl)
abbrev cX0_isOn : ByteArray := prog_1_method_12_code
def yX0_isOn : MethodName := ⟨RX0, "isOn", "(I)Z"⟩
def dkwX0_isOn_1 : List UInt8 := [3, 172]
abbrev dktX0_isOn_1 : List UInt8 := dkwX0_isOn_1 ++ []
def dkwX0_isOn_0 : List UInt8 := [42, 27, 182, 0, 168, 153, 0, 19, 42, 180, 0, 19, 180, 0, 100, 27, 46, 154, 0, 7, 4, 167, 0, 4]
abbrev dktX0_isOn_0 : List UInt8 := dkwX0_isOn_0 ++ dktX0_isOn_1
theorem dksX0_isOn_0 : cX0_isOn.data.toList.drop 0 = dktX0_isOn_0 := by decide +kernel
theorem dksX0_isOn_1 : cX0_isOn.data.toList.drop 24 = dktX0_isOn_1 := dk_seg dksX0_isOn_0 24 rfl rfl
theorem dX0_isOn_0 : decode cX0_isOn 0 = .ok (.aload_n 0, 1) := dk_42 (dk_at dksX0_isOn_0 0 rfl rfl)
theorem dX0_isOn_1 : decode cX0_isOn 1 = .ok (.iload_n 1, 1) := dk_27 (dk_at dksX0_isOn_0 1 rfl rfl)
theorem dX0_isOn_2 : decode cX0_isOn 2 = .ok (.invokevirtual 168, 3) := dk_182 0 168 (dk_at dksX0_isOn_0 2 rfl rfl)
theorem dX0_isOn_5 : decode cX0_isOn 5 = .ok (.ifCond .eq 19, 3) := dk_153 0 19 (dk_at dksX0_isOn_0 5 rfl rfl)
theorem dX0_isOn_8 : decode cX0_isOn 8 = .ok (.aload_n 0, 1) := dk_42 (dk_at dksX0_isOn_0 8 rfl rfl)
theorem dX0_isOn_9 : decode cX0_isOn 9 = .ok (.getfield 19, 3) := dk_180 0 19 (dk_at dksX0_isOn_0 9 rfl rfl)
theorem dX0_isOn_12 : decode cX0_isOn 12 = .ok (.getfield 100, 3) := dk_180 0 100 (dk_at dksX0_isOn_0 12 rfl rfl)
theorem dX0_isOn_15 : decode cX0_isOn 15 = .ok (.iload_n 1, 1) := dk_27 (dk_at dksX0_isOn_0 15 rfl rfl)
theorem dX0_isOn_16 : decode cX0_isOn 16 = .ok (.iaload, 1) := dk_46 (dk_at dksX0_isOn_0 16 rfl rfl)
theorem dX0_isOn_17 : decode cX0_isOn 17 = .ok (.ifCond .ne 7, 3) := dk_154 0 7 (dk_at dksX0_isOn_0 17 rfl rfl)
theorem dX0_isOn_20 : decode cX0_isOn 20 = .ok (.iconst 1, 1) := dk_4 (dk_at dksX0_isOn_0 20 rfl rfl)
theorem dX0_isOn_21 : decode cX0_isOn 21 = .ok (.goto 4, 3) := dk_167 0 4 (dk_at dksX0_isOn_0 21 rfl rfl)
theorem dX0_isOn_24 : decode cX0_isOn 24 = .ok (.iconst 0, 1) := dk_3 (dk_at dksX0_isOn_1 0 rfl rfl)
theorem dX0_isOn_25 : decode cX0_isOn 25 = .ok (.ireturn, 1) := dk_172 (dk_at dksX0_isOn_1 1 rfl rfl)
abbrev cX0_sworn : ByteArray := prog_1_method_21_code
def yX0_sworn : MethodName := ⟨RX0, "sworn", "(II)I"⟩
def dkwX0_sworn_4 : List UInt8 := [62, 132, 4, 1, 167, 255, 182, 29, 172]
abbrev dktX0_sworn_4 : List UInt8 := dkwX0_sworn_4 ++ []
def dkwX0_sworn_3 : List UInt8 := [182, 0, 206, 28, 154, 0, 7, 4, 167, 0, 4, 3, 160, 0, 13, 29, 4, 25, 5, 180, 0, 197, 120, 128]
abbrev dktX0_sworn_3 : List UInt8 := dkwX0_sworn_3 ++ dktX0_sworn_4
def dkwX0_sworn_2 : List UInt8 := [58, 5, 42, 21, 4, 182, 0, 219, 153, 0, 39, 25, 5, 180, 0, 203, 27, 160, 0, 30, 25, 5]
abbrev dktX0_sworn_2 : List UInt8 := dkwX0_sworn_2 ++ dktX0_sworn_3
def dkwX0_sworn_1 : List UInt8 := [21, 4, 42, 182, 0, 106, 162, 0, 71, 42, 180, 0, 10, 180, 0, 110, 21, 4, 182, 0, 113, 192, 0, 117]
abbrev dktX0_sworn_1 : List UInt8 := dkwX0_sworn_1 ++ dktX0_sworn_2
def dkwX0_sworn_0 : List UInt8 := [42, 27, 182, 0, 222, 153, 0, 12, 28, 3, 4, 184, 0, 158, 154, 0, 5, 2, 172, 3, 62, 3, 54, 4]
abbrev dktX0_sworn_0 : List UInt8 := dkwX0_sworn_0 ++ dktX0_sworn_1
theorem dksX0_sworn_0 : cX0_sworn.data.toList.drop 0 = dktX0_sworn_0 := by decide +kernel
theorem dksX0_sworn_1 : cX0_sworn.data.toList.drop 24 = dktX0_sworn_1 := dk_seg dksX0_sworn_0 24 rfl rfl
theorem dksX0_sworn_2 : cX0_sworn.data.toList.drop 48 = dktX0_sworn_2 := dk_seg dksX0_sworn_1 24 rfl rfl
theorem dksX0_sworn_3 : cX0_sworn.data.toList.drop 70 = dktX0_sworn_3 := dk_seg dksX0_sworn_2 22 rfl rfl
theorem dksX0_sworn_4 : cX0_sworn.data.toList.drop 94 = dktX0_sworn_4 := dk_seg dksX0_sworn_3 24 rfl rfl
theorem dX0_sworn_0 : decode cX0_sworn 0 = .ok (.aload_n 0, 1) := dk_42 (dk_at dksX0_sworn_0 0 rfl rfl)
theorem dX0_sworn_1 : decode cX0_sworn 1 = .ok (.iload_n 1, 1) := dk_27 (dk_at dksX0_sworn_0 1 rfl rfl)
theorem dX0_sworn_2 : decode cX0_sworn 2 = .ok (.invokevirtual 222, 3) := dk_182 0 222 (dk_at dksX0_sworn_0 2 rfl rfl)
theorem dX0_sworn_5 : decode cX0_sworn 5 = .ok (.ifCond .eq 12, 3) := dk_153 0 12 (dk_at dksX0_sworn_0 5 rfl rfl)
theorem dX0_sworn_8 : decode cX0_sworn 8 = .ok (.iload_n 2, 1) := dk_28 (dk_at dksX0_sworn_0 8 rfl rfl)
theorem dX0_sworn_9 : decode cX0_sworn 9 = .ok (.iconst 0, 1) := dk_3 (dk_at dksX0_sworn_0 9 rfl rfl)
theorem dX0_sworn_10 : decode cX0_sworn 10 = .ok (.iconst 1, 1) := dk_4 (dk_at dksX0_sworn_0 10 rfl rfl)
theorem dX0_sworn_11 : decode cX0_sworn 11 = .ok (.invokestatic 158, 3) := dk_184 0 158 (dk_at dksX0_sworn_0 11 rfl rfl)
theorem dX0_sworn_14 : decode cX0_sworn 14 = .ok (.ifCond .ne 5, 3) := dk_154 0 5 (dk_at dksX0_sworn_0 14 rfl rfl)
theorem dX0_sworn_17 : decode cX0_sworn 17 = .ok (.iconst (-1), 1) := dk_2 (dk_at dksX0_sworn_0 17 rfl rfl)
theorem dX0_sworn_18 : decode cX0_sworn 18 = .ok (.ireturn, 1) := dk_172 (dk_at dksX0_sworn_0 18 rfl rfl)
theorem dX0_sworn_19 : decode cX0_sworn 19 = .ok (.iconst 0, 1) := dk_3 (dk_at dksX0_sworn_0 19 rfl rfl)
theorem dX0_sworn_20 : decode cX0_sworn 20 = .ok (.istore_n 3, 1) := dk_62 (dk_at dksX0_sworn_0 20 rfl rfl)
theorem dX0_sworn_21 : decode cX0_sworn 21 = .ok (.iconst 0, 1) := dk_3 (dk_at dksX0_sworn_0 21 rfl rfl)
theorem dX0_sworn_22 : decode cX0_sworn 22 = .ok (.istore 4, 2) := dk_54 4 (dk_at dksX0_sworn_0 22 rfl rfl)
theorem dX0_sworn_24 : decode cX0_sworn 24 = .ok (.iload 4, 2) := dk_21 4 (dk_at dksX0_sworn_1 0 rfl rfl)
theorem dX0_sworn_26 : decode cX0_sworn 26 = .ok (.aload_n 0, 1) := dk_42 (dk_at dksX0_sworn_1 2 rfl rfl)
theorem dX0_sworn_27 : decode cX0_sworn 27 = .ok (.invokevirtual 106, 3) := dk_182 0 106 (dk_at dksX0_sworn_1 3 rfl rfl)
theorem dX0_sworn_30 : decode cX0_sworn 30 = .ok (.if_icmp .ge 71, 3) := dk_162 0 71 (dk_at dksX0_sworn_1 6 rfl rfl)
theorem dX0_sworn_33 : decode cX0_sworn 33 = .ok (.aload_n 0, 1) := dk_42 (dk_at dksX0_sworn_1 9 rfl rfl)
theorem dX0_sworn_34 : decode cX0_sworn 34 = .ok (.getfield 10, 3) := dk_180 0 10 (dk_at dksX0_sworn_1 10 rfl rfl)
theorem dX0_sworn_37 : decode cX0_sworn 37 = .ok (.getfield 110, 3) := dk_180 0 110 (dk_at dksX0_sworn_1 13 rfl rfl)
theorem dX0_sworn_40 : decode cX0_sworn 40 = .ok (.iload 4, 2) := dk_21 4 (dk_at dksX0_sworn_1 16 rfl rfl)
theorem dX0_sworn_42 : decode cX0_sworn 42 = .ok (.invokevirtual 113, 3) := dk_182 0 113 (dk_at dksX0_sworn_1 18 rfl rfl)
theorem dX0_sworn_45 : decode cX0_sworn 45 = .ok (.checkcast 117, 3) := dk_192 0 117 (dk_at dksX0_sworn_1 21 rfl rfl)
theorem dX0_sworn_48 : decode cX0_sworn 48 = .ok (.astore 5, 2) := dk_58 5 (dk_at dksX0_sworn_2 0 rfl rfl)
theorem dX0_sworn_50 : decode cX0_sworn 50 = .ok (.aload_n 0, 1) := dk_42 (dk_at dksX0_sworn_2 2 rfl rfl)
theorem dX0_sworn_51 : decode cX0_sworn 51 = .ok (.iload 4, 2) := dk_21 4 (dk_at dksX0_sworn_2 3 rfl rfl)
theorem dX0_sworn_53 : decode cX0_sworn 53 = .ok (.invokevirtual 219, 3) := dk_182 0 219 (dk_at dksX0_sworn_2 5 rfl rfl)
theorem dX0_sworn_56 : decode cX0_sworn 56 = .ok (.ifCond .eq 39, 3) := dk_153 0 39 (dk_at dksX0_sworn_2 8 rfl rfl)
theorem dX0_sworn_59 : decode cX0_sworn 59 = .ok (.aload 5, 2) := dk_25 5 (dk_at dksX0_sworn_2 11 rfl rfl)
theorem dX0_sworn_61 : decode cX0_sworn 61 = .ok (.getfield 203, 3) := dk_180 0 203 (dk_at dksX0_sworn_2 13 rfl rfl)
theorem dX0_sworn_64 : decode cX0_sworn 64 = .ok (.iload_n 1, 1) := dk_27 (dk_at dksX0_sworn_2 16 rfl rfl)
theorem dX0_sworn_65 : decode cX0_sworn 65 = .ok (.if_icmp .ne 30, 3) := dk_160 0 30 (dk_at dksX0_sworn_2 17 rfl rfl)
theorem dX0_sworn_68 : decode cX0_sworn 68 = .ok (.aload 5, 2) := dk_25 5 (dk_at dksX0_sworn_2 20 rfl rfl)
theorem dX0_sworn_70 : decode cX0_sworn 70 = .ok (.invokevirtual 206, 3) := dk_182 0 206 (dk_at dksX0_sworn_3 0 rfl rfl)
theorem dX0_sworn_73 : decode cX0_sworn 73 = .ok (.iload_n 2, 1) := dk_28 (dk_at dksX0_sworn_3 3 rfl rfl)
theorem dX0_sworn_74 : decode cX0_sworn 74 = .ok (.ifCond .ne 7, 3) := dk_154 0 7 (dk_at dksX0_sworn_3 4 rfl rfl)
theorem dX0_sworn_77 : decode cX0_sworn 77 = .ok (.iconst 1, 1) := dk_4 (dk_at dksX0_sworn_3 7 rfl rfl)
theorem dX0_sworn_78 : decode cX0_sworn 78 = .ok (.goto 4, 3) := dk_167 0 4 (dk_at dksX0_sworn_3 8 rfl rfl)
theorem dX0_sworn_81 : decode cX0_sworn 81 = .ok (.iconst 0, 1) := dk_3 (dk_at dksX0_sworn_3 11 rfl rfl)
theorem dX0_sworn_82 : decode cX0_sworn 82 = .ok (.if_icmp .ne 13, 3) := dk_160 0 13 (dk_at dksX0_sworn_3 12 rfl rfl)
theorem dX0_sworn_85 : decode cX0_sworn 85 = .ok (.iload_n 3, 1) := dk_29 (dk_at dksX0_sworn_3 15 rfl rfl)
theorem dX0_sworn_86 : decode cX0_sworn 86 = .ok (.iconst 1, 1) := dk_4 (dk_at dksX0_sworn_3 16 rfl rfl)
theorem dX0_sworn_87 : decode cX0_sworn 87 = .ok (.aload 5, 2) := dk_25 5 (dk_at dksX0_sworn_3 17 rfl rfl)
theorem dX0_sworn_89 : decode cX0_sworn 89 = .ok (.getfield 197, 3) := dk_180 0 197 (dk_at dksX0_sworn_3 19 rfl rfl)
theorem dX0_sworn_92 : decode cX0_sworn 92 = .ok (.ishl, 1) := dk_120 (dk_at dksX0_sworn_3 22 rfl rfl)
theorem dX0_sworn_93 : decode cX0_sworn 93 = .ok (.ior, 1) := dk_128 (dk_at dksX0_sworn_3 23 rfl rfl)
theorem dX0_sworn_94 : decode cX0_sworn 94 = .ok (.istore_n 3, 1) := dk_62 (dk_at dksX0_sworn_4 0 rfl rfl)
theorem dX0_sworn_95 : decode cX0_sworn 95 = .ok (.iinc 4 1, 3) := dk_132 4 1 (dk_at dksX0_sworn_4 1 rfl rfl)
theorem dX0_sworn_98 : decode cX0_sworn 98 = .ok (.goto (-74), 3) := dk_167 255 182 (dk_at dksX0_sworn_4 4 rfl rfl)
theorem dX0_sworn_101 : decode cX0_sworn 101 = .ok (.iload_n 3, 1) := dk_29 (dk_at dksX0_sworn_4 7 rfl rfl)
theorem dX0_sworn_102 : decode cX0_sworn 102 = .ok (.ireturn, 1) := dk_172 (dk_at dksX0_sworn_4 8 rfl rfl)
abbrev cX0_isDeed : ByteArray := prog_1_method_11_code
def yX0_isDeed : MethodName := ⟨RX0, "isDeed", "(I)Z"⟩
def dkwX0_isDeed_0 : List UInt8 := [27, 3, 42, 180, 0, 10, 180, 0, 165, 182, 0, 144, 4, 100, 184, 0, 158, 172]
abbrev dktX0_isDeed_0 : List UInt8 := dkwX0_isDeed_0 ++ []
theorem dksX0_isDeed_0 : cX0_isDeed.data.toList.drop 0 = dktX0_isDeed_0 := by decide +kernel
theorem dX0_isDeed_0 : decode cX0_isDeed 0 = .ok (.iload_n 1, 1) := dk_27 (dk_at dksX0_isDeed_0 0 rfl rfl)
theorem dX0_isDeed_1 : decode cX0_isDeed 1 = .ok (.iconst 0, 1) := dk_3 (dk_at dksX0_isDeed_0 1 rfl rfl)
theorem dX0_isDeed_2 : decode cX0_isDeed 2 = .ok (.aload_n 0, 1) := dk_42 (dk_at dksX0_isDeed_0 2 rfl rfl)
theorem dX0_isDeed_3 : decode cX0_isDeed 3 = .ok (.getfield 10, 3) := dk_180 0 10 (dk_at dksX0_isDeed_0 3 rfl rfl)
theorem dX0_isDeed_6 : decode cX0_isDeed 6 = .ok (.getfield 165, 3) := dk_180 0 165 (dk_at dksX0_isDeed_0 6 rfl rfl)
theorem dX0_isDeed_9 : decode cX0_isDeed 9 = .ok (.invokevirtual 144, 3) := dk_182 0 144 (dk_at dksX0_isDeed_0 9 rfl rfl)
theorem dX0_isDeed_12 : decode cX0_isDeed 12 = .ok (.iconst 1, 1) := dk_4 (dk_at dksX0_isDeed_0 12 rfl rfl)
theorem dX0_isDeed_13 : decode cX0_isDeed 13 = .ok (.isub, 1) := dk_100 (dk_at dksX0_isDeed_0 13 rfl rfl)
theorem dX0_isDeed_14 : decode cX0_isDeed 14 = .ok (.invokestatic 158, 3) := dk_184 0 158 (dk_at dksX0_isDeed_0 14 rfl rfl)
theorem dX0_isDeed_17 : decode cX0_isDeed 17 = .ok (.ireturn, 1) := dk_172 (dk_at dksX0_isDeed_0 17 rfl rfl)
abbrev cX0_many : ByteArray := prog_1_method_22_code
def yX0_many : MethodName := ⟨RX0, "many", "(I)I"⟩
def dkwX0_many_2 : List UInt8 := [167, 255, 224, 28, 172]
abbrev dktX0_many_2 : List UInt8 := dkwX0_many_2 ++ []
def dkwX0_many_1 : List UInt8 := [42, 180, 0, 19, 180, 0, 100, 29, 46, 27, 160, 0, 7, 4, 167, 0, 4, 3, 96, 61, 132, 3, 1]
abbrev dktX0_many_1 : List UInt8 := dkwX0_many_1 ++ dktX0_many_2
def dkwX0_many_0 : List UInt8 := [27, 3, 7, 184, 0, 158, 154, 0, 5, 2, 172, 3, 61, 3, 62, 29, 42, 182, 0, 106, 162, 0, 30, 28]
abbrev dktX0_many_0 : List UInt8 := dkwX0_many_0 ++ dktX0_many_1
theorem dksX0_many_0 : cX0_many.data.toList.drop 0 = dktX0_many_0 := by decide +kernel
theorem dksX0_many_1 : cX0_many.data.toList.drop 24 = dktX0_many_1 := dk_seg dksX0_many_0 24 rfl rfl
theorem dksX0_many_2 : cX0_many.data.toList.drop 47 = dktX0_many_2 := dk_seg dksX0_many_1 23 rfl rfl
theorem dX0_many_0 : decode cX0_many 0 = .ok (.iload_n 1, 1) := dk_27 (dk_at dksX0_many_0 0 rfl rfl)
theorem dX0_many_1 : decode cX0_many 1 = .ok (.iconst 0, 1) := dk_3 (dk_at dksX0_many_0 1 rfl rfl)
theorem dX0_many_2 : decode cX0_many 2 = .ok (.iconst 4, 1) := dk_7 (dk_at dksX0_many_0 2 rfl rfl)
theorem dX0_many_3 : decode cX0_many 3 = .ok (.invokestatic 158, 3) := dk_184 0 158 (dk_at dksX0_many_0 3 rfl rfl)
theorem dX0_many_6 : decode cX0_many 6 = .ok (.ifCond .ne 5, 3) := dk_154 0 5 (dk_at dksX0_many_0 6 rfl rfl)
theorem dX0_many_9 : decode cX0_many 9 = .ok (.iconst (-1), 1) := dk_2 (dk_at dksX0_many_0 9 rfl rfl)
theorem dX0_many_10 : decode cX0_many 10 = .ok (.ireturn, 1) := dk_172 (dk_at dksX0_many_0 10 rfl rfl)
theorem dX0_many_11 : decode cX0_many 11 = .ok (.iconst 0, 1) := dk_3 (dk_at dksX0_many_0 11 rfl rfl)
theorem dX0_many_12 : decode cX0_many 12 = .ok (.istore_n 2, 1) := dk_61 (dk_at dksX0_many_0 12 rfl rfl)
theorem dX0_many_13 : decode cX0_many 13 = .ok (.iconst 0, 1) := dk_3 (dk_at dksX0_many_0 13 rfl rfl)
theorem dX0_many_14 : decode cX0_many 14 = .ok (.istore_n 3, 1) := dk_62 (dk_at dksX0_many_0 14 rfl rfl)
theorem dX0_many_15 : decode cX0_many 15 = .ok (.iload_n 3, 1) := dk_29 (dk_at dksX0_many_0 15 rfl rfl)
theorem dX0_many_16 : decode cX0_many 16 = .ok (.aload_n 0, 1) := dk_42 (dk_at dksX0_many_0 16 rfl rfl)
theorem dX0_many_17 : decode cX0_many 17 = .ok (.invokevirtual 106, 3) := dk_182 0 106 (dk_at dksX0_many_0 17 rfl rfl)
theorem dX0_many_20 : decode cX0_many 20 = .ok (.if_icmp .ge 30, 3) := dk_162 0 30 (dk_at dksX0_many_0 20 rfl rfl)
theorem dX0_many_23 : decode cX0_many 23 = .ok (.iload_n 2, 1) := dk_28 (dk_at dksX0_many_0 23 rfl rfl)
theorem dX0_many_24 : decode cX0_many 24 = .ok (.aload_n 0, 1) := dk_42 (dk_at dksX0_many_1 0 rfl rfl)
theorem dX0_many_25 : decode cX0_many 25 = .ok (.getfield 19, 3) := dk_180 0 19 (dk_at dksX0_many_1 1 rfl rfl)
theorem dX0_many_28 : decode cX0_many 28 = .ok (.getfield 100, 3) := dk_180 0 100 (dk_at dksX0_many_1 4 rfl rfl)
theorem dX0_many_31 : decode cX0_many 31 = .ok (.iload_n 3, 1) := dk_29 (dk_at dksX0_many_1 7 rfl rfl)
theorem dX0_many_32 : decode cX0_many 32 = .ok (.iaload, 1) := dk_46 (dk_at dksX0_many_1 8 rfl rfl)
theorem dX0_many_33 : decode cX0_many 33 = .ok (.iload_n 1, 1) := dk_27 (dk_at dksX0_many_1 9 rfl rfl)
theorem dX0_many_34 : decode cX0_many 34 = .ok (.if_icmp .ne 7, 3) := dk_160 0 7 (dk_at dksX0_many_1 10 rfl rfl)
theorem dX0_many_37 : decode cX0_many 37 = .ok (.iconst 1, 1) := dk_4 (dk_at dksX0_many_1 13 rfl rfl)
theorem dX0_many_38 : decode cX0_many 38 = .ok (.goto 4, 3) := dk_167 0 4 (dk_at dksX0_many_1 14 rfl rfl)
theorem dX0_many_41 : decode cX0_many 41 = .ok (.iconst 0, 1) := dk_3 (dk_at dksX0_many_1 17 rfl rfl)
theorem dX0_many_42 : decode cX0_many 42 = .ok (.iadd, 1) := dk_96 (dk_at dksX0_many_1 18 rfl rfl)
theorem dX0_many_43 : decode cX0_many 43 = .ok (.istore_n 2, 1) := dk_61 (dk_at dksX0_many_1 19 rfl rfl)
theorem dX0_many_44 : decode cX0_many 44 = .ok (.iinc 3 1, 3) := dk_132 3 1 (dk_at dksX0_many_1 20 rfl rfl)
theorem dX0_many_47 : decode cX0_many 47 = .ok (.goto (-32), 3) := dk_167 255 224 (dk_at dksX0_many_2 0 rfl rfl)
theorem dX0_many_50 : decode cX0_many 50 = .ok (.iload_n 2, 1) := dk_28 (dk_at dksX0_many_2 3 rfl rfl)
theorem dX0_many_51 : decode cX0_many 51 = .ok (.ireturn, 1) := dk_172 (dk_at dksX0_many_2 4 rfl rfl)
abbrev cX0_does : ByteArray := prog_1_method_23_code
def yX0_does : MethodName := ⟨RX0, "does", "(II)I"⟩
def dkwX0_does_5 : List UInt8 := [132, 4, 1, 167, 255, 161, 29, 172]
abbrev dktX0_does_5 : List UInt8 := dkwX0_does_5 ++ []
def dkwX0_does_4 : List UInt8 := [25, 5, 182, 0, 228, 79, 29, 25, 5, 182, 0, 206, 153, 0, 8, 16, 100, 167, 0, 4, 4, 96, 62]
abbrev dktX0_does_4 : List UInt8 := dkwX0_does_4 ++ dktX0_does_5
def dkwX0_does_3 : List UInt8 := [160, 0, 47, 25, 5, 180, 0, 203, 28, 159, 0, 6, 167, 0, 35, 42, 180, 0, 19, 180, 0, 100, 21, 4]
abbrev dktX0_does_3 : List UInt8 := dkwX0_does_3 ++ dktX0_does_4
def dkwX0_does_2 : List UInt8 := [192, 0, 117, 58, 5, 42, 180, 0, 19, 180, 0, 100, 21, 4, 46, 154, 0, 56, 25, 5, 180, 0, 197, 27]
abbrev dktX0_does_2 : List UInt8 := dkwX0_does_2 ++ dktX0_does_3
def dkwX0_does_1 : List UInt8 := [3, 54, 4, 21, 4, 42, 182, 0, 106, 162, 0, 92, 42, 180, 0, 10, 180, 0, 110, 21, 4, 182, 0, 113]
abbrev dktX0_does_1 : List UInt8 := dkwX0_does_1 ++ dktX0_does_2
def dkwX0_does_0 : List UInt8 := [42, 27, 182, 0, 216, 153, 0, 11, 42, 28, 182, 0, 222, 154, 0, 5, 2, 172, 42, 182, 0, 225, 3, 62]
abbrev dktX0_does_0 : List UInt8 := dkwX0_does_0 ++ dktX0_does_1
theorem dksX0_does_0 : cX0_does.data.toList.drop 0 = dktX0_does_0 := by decide +kernel
theorem dksX0_does_1 : cX0_does.data.toList.drop 24 = dktX0_does_1 := dk_seg dksX0_does_0 24 rfl rfl
theorem dksX0_does_2 : cX0_does.data.toList.drop 48 = dktX0_does_2 := dk_seg dksX0_does_1 24 rfl rfl
theorem dksX0_does_3 : cX0_does.data.toList.drop 72 = dktX0_does_3 := dk_seg dksX0_does_2 24 rfl rfl
theorem dksX0_does_4 : cX0_does.data.toList.drop 96 = dktX0_does_4 := dk_seg dksX0_does_3 24 rfl rfl
theorem dksX0_does_5 : cX0_does.data.toList.drop 119 = dktX0_does_5 := dk_seg dksX0_does_4 23 rfl rfl
theorem dX0_does_0 : decode cX0_does 0 = .ok (.aload_n 0, 1) := dk_42 (dk_at dksX0_does_0 0 rfl rfl)
theorem dX0_does_1 : decode cX0_does 1 = .ok (.iload_n 1, 1) := dk_27 (dk_at dksX0_does_0 1 rfl rfl)
theorem dX0_does_2 : decode cX0_does 2 = .ok (.invokevirtual 216, 3) := dk_182 0 216 (dk_at dksX0_does_0 2 rfl rfl)
theorem dX0_does_5 : decode cX0_does 5 = .ok (.ifCond .eq 11, 3) := dk_153 0 11 (dk_at dksX0_does_0 5 rfl rfl)
theorem dX0_does_8 : decode cX0_does 8 = .ok (.aload_n 0, 1) := dk_42 (dk_at dksX0_does_0 8 rfl rfl)
theorem dX0_does_9 : decode cX0_does 9 = .ok (.iload_n 2, 1) := dk_28 (dk_at dksX0_does_0 9 rfl rfl)
theorem dX0_does_10 : decode cX0_does 10 = .ok (.invokevirtual 222, 3) := dk_182 0 222 (dk_at dksX0_does_0 10 rfl rfl)
theorem dX0_does_13 : decode cX0_does 13 = .ok (.ifCond .ne 5, 3) := dk_154 0 5 (dk_at dksX0_does_0 13 rfl rfl)
theorem dX0_does_16 : decode cX0_does 16 = .ok (.iconst (-1), 1) := dk_2 (dk_at dksX0_does_0 16 rfl rfl)
theorem dX0_does_17 : decode cX0_does 17 = .ok (.ireturn, 1) := dk_172 (dk_at dksX0_does_0 17 rfl rfl)
theorem dX0_does_18 : decode cX0_does 18 = .ok (.aload_n 0, 1) := dk_42 (dk_at dksX0_does_0 18 rfl rfl)
theorem dX0_does_19 : decode cX0_does 19 = .ok (.invokevirtual 225, 3) := dk_182 0 225 (dk_at dksX0_does_0 19 rfl rfl)
theorem dX0_does_22 : decode cX0_does 22 = .ok (.iconst 0, 1) := dk_3 (dk_at dksX0_does_0 22 rfl rfl)
theorem dX0_does_23 : decode cX0_does 23 = .ok (.istore_n 3, 1) := dk_62 (dk_at dksX0_does_0 23 rfl rfl)
theorem dX0_does_24 : decode cX0_does 24 = .ok (.iconst 0, 1) := dk_3 (dk_at dksX0_does_1 0 rfl rfl)
theorem dX0_does_25 : decode cX0_does 25 = .ok (.istore 4, 2) := dk_54 4 (dk_at dksX0_does_1 1 rfl rfl)
theorem dX0_does_27 : decode cX0_does 27 = .ok (.iload 4, 2) := dk_21 4 (dk_at dksX0_does_1 3 rfl rfl)
theorem dX0_does_29 : decode cX0_does 29 = .ok (.aload_n 0, 1) := dk_42 (dk_at dksX0_does_1 5 rfl rfl)
theorem dX0_does_30 : decode cX0_does 30 = .ok (.invokevirtual 106, 3) := dk_182 0 106 (dk_at dksX0_does_1 6 rfl rfl)
theorem dX0_does_33 : decode cX0_does 33 = .ok (.if_icmp .ge 92, 3) := dk_162 0 92 (dk_at dksX0_does_1 9 rfl rfl)
theorem dX0_does_36 : decode cX0_does 36 = .ok (.aload_n 0, 1) := dk_42 (dk_at dksX0_does_1 12 rfl rfl)
theorem dX0_does_37 : decode cX0_does 37 = .ok (.getfield 10, 3) := dk_180 0 10 (dk_at dksX0_does_1 13 rfl rfl)
theorem dX0_does_40 : decode cX0_does 40 = .ok (.getfield 110, 3) := dk_180 0 110 (dk_at dksX0_does_1 16 rfl rfl)
theorem dX0_does_43 : decode cX0_does 43 = .ok (.iload 4, 2) := dk_21 4 (dk_at dksX0_does_1 19 rfl rfl)
theorem dX0_does_45 : decode cX0_does 45 = .ok (.invokevirtual 113, 3) := dk_182 0 113 (dk_at dksX0_does_1 21 rfl rfl)
theorem dX0_does_48 : decode cX0_does 48 = .ok (.checkcast 117, 3) := dk_192 0 117 (dk_at dksX0_does_2 0 rfl rfl)
theorem dX0_does_51 : decode cX0_does 51 = .ok (.astore 5, 2) := dk_58 5 (dk_at dksX0_does_2 3 rfl rfl)
theorem dX0_does_53 : decode cX0_does 53 = .ok (.aload_n 0, 1) := dk_42 (dk_at dksX0_does_2 5 rfl rfl)
theorem dX0_does_54 : decode cX0_does 54 = .ok (.getfield 19, 3) := dk_180 0 19 (dk_at dksX0_does_2 6 rfl rfl)
theorem dX0_does_57 : decode cX0_does 57 = .ok (.getfield 100, 3) := dk_180 0 100 (dk_at dksX0_does_2 9 rfl rfl)
theorem dX0_does_60 : decode cX0_does 60 = .ok (.iload 4, 2) := dk_21 4 (dk_at dksX0_does_2 12 rfl rfl)
theorem dX0_does_62 : decode cX0_does 62 = .ok (.iaload, 1) := dk_46 (dk_at dksX0_does_2 14 rfl rfl)
theorem dX0_does_63 : decode cX0_does 63 = .ok (.ifCond .ne 56, 3) := dk_154 0 56 (dk_at dksX0_does_2 15 rfl rfl)
theorem dX0_does_66 : decode cX0_does 66 = .ok (.aload 5, 2) := dk_25 5 (dk_at dksX0_does_2 18 rfl rfl)
theorem dX0_does_68 : decode cX0_does 68 = .ok (.getfield 197, 3) := dk_180 0 197 (dk_at dksX0_does_2 20 rfl rfl)
theorem dX0_does_71 : decode cX0_does 71 = .ok (.iload_n 1, 1) := dk_27 (dk_at dksX0_does_2 23 rfl rfl)
theorem dX0_does_72 : decode cX0_does 72 = .ok (.if_icmp .ne 47, 3) := dk_160 0 47 (dk_at dksX0_does_3 0 rfl rfl)
theorem dX0_does_75 : decode cX0_does 75 = .ok (.aload 5, 2) := dk_25 5 (dk_at dksX0_does_3 3 rfl rfl)
theorem dX0_does_77 : decode cX0_does 77 = .ok (.getfield 203, 3) := dk_180 0 203 (dk_at dksX0_does_3 5 rfl rfl)
theorem dX0_does_80 : decode cX0_does 80 = .ok (.iload_n 2, 1) := dk_28 (dk_at dksX0_does_3 8 rfl rfl)
theorem dX0_does_81 : decode cX0_does 81 = .ok (.if_icmp .eq 6, 3) := dk_159 0 6 (dk_at dksX0_does_3 9 rfl rfl)
theorem dX0_does_84 : decode cX0_does 84 = .ok (.goto 35, 3) := dk_167 0 35 (dk_at dksX0_does_3 12 rfl rfl)
theorem dX0_does_87 : decode cX0_does 87 = .ok (.aload_n 0, 1) := dk_42 (dk_at dksX0_does_3 15 rfl rfl)
theorem dX0_does_88 : decode cX0_does 88 = .ok (.getfield 19, 3) := dk_180 0 19 (dk_at dksX0_does_3 16 rfl rfl)
theorem dX0_does_91 : decode cX0_does 91 = .ok (.getfield 100, 3) := dk_180 0 100 (dk_at dksX0_does_3 19 rfl rfl)
theorem dX0_does_94 : decode cX0_does 94 = .ok (.iload 4, 2) := dk_21 4 (dk_at dksX0_does_3 22 rfl rfl)
theorem dX0_does_96 : decode cX0_does 96 = .ok (.aload 5, 2) := dk_25 5 (dk_at dksX0_does_4 0 rfl rfl)
theorem dX0_does_98 : decode cX0_does 98 = .ok (.invokevirtual 228, 3) := dk_182 0 228 (dk_at dksX0_does_4 2 rfl rfl)
theorem dX0_does_101 : decode cX0_does 101 = .ok (.iastore, 1) := dk_79 (dk_at dksX0_does_4 5 rfl rfl)
theorem dX0_does_102 : decode cX0_does 102 = .ok (.iload_n 3, 1) := dk_29 (dk_at dksX0_does_4 6 rfl rfl)
theorem dX0_does_103 : decode cX0_does 103 = .ok (.aload 5, 2) := dk_25 5 (dk_at dksX0_does_4 7 rfl rfl)
theorem dX0_does_105 : decode cX0_does 105 = .ok (.invokevirtual 206, 3) := dk_182 0 206 (dk_at dksX0_does_4 9 rfl rfl)
theorem dX0_does_108 : decode cX0_does 108 = .ok (.ifCond .eq 8, 3) := dk_153 0 8 (dk_at dksX0_does_4 12 rfl rfl)
theorem dX0_does_111 : decode cX0_does 111 = .ok (.bipush 100, 2) := dk_16 100 (dk_at dksX0_does_4 15 rfl rfl)
theorem dX0_does_113 : decode cX0_does 113 = .ok (.goto 4, 3) := dk_167 0 4 (dk_at dksX0_does_4 17 rfl rfl)
theorem dX0_does_116 : decode cX0_does 116 = .ok (.iconst 1, 1) := dk_4 (dk_at dksX0_does_4 20 rfl rfl)
theorem dX0_does_117 : decode cX0_does 117 = .ok (.iadd, 1) := dk_96 (dk_at dksX0_does_4 21 rfl rfl)
theorem dX0_does_118 : decode cX0_does 118 = .ok (.istore_n 3, 1) := dk_62 (dk_at dksX0_does_4 22 rfl rfl)
theorem dX0_does_119 : decode cX0_does 119 = .ok (.iinc 4 1, 3) := dk_132 4 1 (dk_at dksX0_does_5 0 rfl rfl)
theorem dX0_does_122 : decode cX0_does 122 = .ok (.goto (-95), 3) := dk_167 255 161 (dk_at dksX0_does_5 3 rfl rfl)
theorem dX0_does_125 : decode cX0_does 125 = .ok (.iload_n 3, 1) := dk_29 (dk_at dksX0_does_5 6 rfl rfl)
theorem dX0_does_126 : decode cX0_does 126 = .ok (.ireturn, 1) := dk_172 (dk_at dksX0_does_5 7 rfl rfl)
abbrev cX0_keepAct : ByteArray := prog_1_method_6_code
def yX0_keepAct : MethodName := ⟨RX0, "keepAct", "()V"⟩
def dkwX0_keepAct_2 : List UInt8 := [180, 0, 48, 182, 0, 133, 177]
abbrev dktX0_keepAct_2 : List UInt8 := dkwX0_keepAct_2 ++ []
def dkwX0_keepAct_1 : List UInt8 := [180, 0, 44, 187, 0, 88, 89, 42, 180, 0, 19, 184, 0, 150, 183, 0, 90, 182, 0, 154, 87, 42]
abbrev dktX0_keepAct_1 : List UInt8 := dkwX0_keepAct_1 ++ dktX0_keepAct_2
def dkwX0_keepAct_0 : List UInt8 := [42, 180, 0, 44, 182, 0, 144, 16, 40, 160, 0, 12, 42, 180, 0, 44, 3, 182, 0, 147, 87, 42]
abbrev dktX0_keepAct_0 : List UInt8 := dkwX0_keepAct_0 ++ dktX0_keepAct_1
theorem dksX0_keepAct_0 : cX0_keepAct.data.toList.drop 0 = dktX0_keepAct_0 := by decide +kernel
theorem dksX0_keepAct_1 : cX0_keepAct.data.toList.drop 22 = dktX0_keepAct_1 := dk_seg dksX0_keepAct_0 22 rfl rfl
theorem dksX0_keepAct_2 : cX0_keepAct.data.toList.drop 44 = dktX0_keepAct_2 := dk_seg dksX0_keepAct_1 22 rfl rfl
theorem dX0_keepAct_0 : decode cX0_keepAct 0 = .ok (.aload_n 0, 1) := dk_42 (dk_at dksX0_keepAct_0 0 rfl rfl)
theorem dX0_keepAct_1 : decode cX0_keepAct 1 = .ok (.getfield 44, 3) := dk_180 0 44 (dk_at dksX0_keepAct_0 1 rfl rfl)
theorem dX0_keepAct_4 : decode cX0_keepAct 4 = .ok (.invokevirtual 144, 3) := dk_182 0 144 (dk_at dksX0_keepAct_0 4 rfl rfl)
theorem dX0_keepAct_7 : decode cX0_keepAct 7 = .ok (.bipush 40, 2) := dk_16 40 (dk_at dksX0_keepAct_0 7 rfl rfl)
theorem dX0_keepAct_9 : decode cX0_keepAct 9 = .ok (.if_icmp .ne 12, 3) := dk_160 0 12 (dk_at dksX0_keepAct_0 9 rfl rfl)
theorem dX0_keepAct_12 : decode cX0_keepAct 12 = .ok (.aload_n 0, 1) := dk_42 (dk_at dksX0_keepAct_0 12 rfl rfl)
theorem dX0_keepAct_13 : decode cX0_keepAct 13 = .ok (.getfield 44, 3) := dk_180 0 44 (dk_at dksX0_keepAct_0 13 rfl rfl)
theorem dX0_keepAct_16 : decode cX0_keepAct 16 = .ok (.iconst 0, 1) := dk_3 (dk_at dksX0_keepAct_0 16 rfl rfl)
theorem dX0_keepAct_17 : decode cX0_keepAct 17 = .ok (.invokevirtual 147, 3) := dk_182 0 147 (dk_at dksX0_keepAct_0 17 rfl rfl)
theorem dX0_keepAct_20 : decode cX0_keepAct 20 = .ok (.pop, 1) := dk_87 (dk_at dksX0_keepAct_0 20 rfl rfl)
theorem dX0_keepAct_21 : decode cX0_keepAct 21 = .ok (.aload_n 0, 1) := dk_42 (dk_at dksX0_keepAct_0 21 rfl rfl)
theorem dX0_keepAct_22 : decode cX0_keepAct 22 = .ok (.getfield 44, 3) := dk_180 0 44 (dk_at dksX0_keepAct_1 0 rfl rfl)
theorem dX0_keepAct_25 : decode cX0_keepAct 25 = .ok (.new 88, 3) := dk_187 0 88 (dk_at dksX0_keepAct_1 3 rfl rfl)
theorem dX0_keepAct_28 : decode cX0_keepAct 28 = .ok (.dup, 1) := dk_89 (dk_at dksX0_keepAct_1 6 rfl rfl)
theorem dX0_keepAct_29 : decode cX0_keepAct 29 = .ok (.aload_n 0, 1) := dk_42 (dk_at dksX0_keepAct_1 7 rfl rfl)
theorem dX0_keepAct_30 : decode cX0_keepAct 30 = .ok (.getfield 19, 3) := dk_180 0 19 (dk_at dksX0_keepAct_1 8 rfl rfl)
theorem dX0_keepAct_33 : decode cX0_keepAct 33 = .ok (.invokestatic 150, 3) := dk_184 0 150 (dk_at dksX0_keepAct_1 11 rfl rfl)
theorem dX0_keepAct_36 : decode cX0_keepAct 36 = .ok (.invokespecial 90, 3) := dk_183 0 90 (dk_at dksX0_keepAct_1 14 rfl rfl)
theorem dX0_keepAct_39 : decode cX0_keepAct 39 = .ok (.invokevirtual 154, 3) := dk_182 0 154 (dk_at dksX0_keepAct_1 17 rfl rfl)
theorem dX0_keepAct_42 : decode cX0_keepAct 42 = .ok (.pop, 1) := dk_87 (dk_at dksX0_keepAct_1 20 rfl rfl)
theorem dX0_keepAct_43 : decode cX0_keepAct 43 = .ok (.aload_n 0, 1) := dk_42 (dk_at dksX0_keepAct_1 21 rfl rfl)
theorem dX0_keepAct_44 : decode cX0_keepAct 44 = .ok (.getfield 48, 3) := dk_180 0 48 (dk_at dksX0_keepAct_2 0 rfl rfl)
theorem dX0_keepAct_47 : decode cX0_keepAct 47 = .ok (.invokevirtual 133, 3) := dk_182 0 133 (dk_at dksX0_keepAct_2 3 rfl rfl)
theorem dX0_keepAct_50 : decode cX0_keepAct 50 = .ok (.return_, 1) := dk_177 (dk_at dksX0_keepAct_2 6 rfl rfl)
abbrev cX0_copy : ByteArray := prog_1_method_5_code
def yX0_copy : MethodName := ⟨RX0, "copy", "(LOathButtons$Day;)LOathButtons$Day;"⟩
def dkwX0_copy_0 : List UInt8 := [187, 0, 16, 89, 183, 0, 18, 76, 43, 42, 182, 0, 141, 43, 176]
abbrev dktX0_copy_0 : List UInt8 := dkwX0_copy_0 ++ []
theorem dksX0_copy_0 : cX0_copy.data.toList.drop 0 = dktX0_copy_0 := by decide +kernel
theorem dX0_copy_0 : decode cX0_copy 0 = .ok (.new 16, 3) := dk_187 0 16 (dk_at dksX0_copy_0 0 rfl rfl)
theorem dX0_copy_3 : decode cX0_copy 3 = .ok (.dup, 1) := dk_89 (dk_at dksX0_copy_0 3 rfl rfl)
theorem dX0_copy_4 : decode cX0_copy 4 = .ok (.invokespecial 18, 3) := dk_183 0 18 (dk_at dksX0_copy_0 4 rfl rfl)
theorem dX0_copy_7 : decode cX0_copy 7 = .ok (.astore_n 1, 1) := dk_76 (dk_at dksX0_copy_0 7 rfl rfl)
theorem dX0_copy_8 : decode cX0_copy 8 = .ok (.aload_n 1, 1) := dk_43 (dk_at dksX0_copy_0 8 rfl rfl)
theorem dX0_copy_9 : decode cX0_copy 9 = .ok (.aload_n 0, 1) := dk_42 (dk_at dksX0_copy_0 9 rfl rfl)
theorem dX0_copy_10 : decode cX0_copy 10 = .ok (.invokevirtual 141, 3) := dk_182 0 141 (dk_at dksX0_copy_0 10 rfl rfl)
theorem dX0_copy_13 : decode cX0_copy 13 = .ok (.aload_n 1, 1) := dk_43 (dk_at dksX0_copy_0 13 rfl rfl)
theorem dX0_copy_14 : decode cX0_copy 14 = .ok (.areturn, 1) := dk_176 (dk_at dksX0_copy_0 14 rfl rfl)
abbrev cX0_undoes : ByteArray := prog_1_method_24_code
def yX0_undoes : MethodName := ⟨RX0, "undoes", "(I)Z"⟩
def dkwX0_undoes_2 : List UInt8 := [79, 4, 172]
abbrev dktX0_undoes_2 : List UInt8 := dkwX0_undoes_2 ++ []
def dkwX0_undoes_1 : List UInt8 := [180, 0, 213, 182, 0, 219, 153, 0, 5, 3, 172, 42, 182, 0, 225, 42, 180, 0, 19, 180, 0, 100, 27, 5]
abbrev dktX0_undoes_1 : List UInt8 := dkwX0_undoes_1 ++ dktX0_undoes_2
def dkwX0_undoes_0 : List UInt8 := [42, 27, 182, 0, 219, 153, 0, 27, 42, 42, 180, 0, 10, 180, 0, 110, 27, 182, 0, 113, 192, 0, 117]
abbrev dktX0_undoes_0 : List UInt8 := dkwX0_undoes_0 ++ dktX0_undoes_1
theorem dksX0_undoes_0 : cX0_undoes.data.toList.drop 0 = dktX0_undoes_0 := by decide +kernel
theorem dksX0_undoes_1 : cX0_undoes.data.toList.drop 23 = dktX0_undoes_1 := dk_seg dksX0_undoes_0 23 rfl rfl
theorem dksX0_undoes_2 : cX0_undoes.data.toList.drop 47 = dktX0_undoes_2 := dk_seg dksX0_undoes_1 24 rfl rfl
theorem dX0_undoes_0 : decode cX0_undoes 0 = .ok (.aload_n 0, 1) := dk_42 (dk_at dksX0_undoes_0 0 rfl rfl)
theorem dX0_undoes_1 : decode cX0_undoes 1 = .ok (.iload_n 1, 1) := dk_27 (dk_at dksX0_undoes_0 1 rfl rfl)
theorem dX0_undoes_2 : decode cX0_undoes 2 = .ok (.invokevirtual 219, 3) := dk_182 0 219 (dk_at dksX0_undoes_0 2 rfl rfl)
theorem dX0_undoes_5 : decode cX0_undoes 5 = .ok (.ifCond .eq 27, 3) := dk_153 0 27 (dk_at dksX0_undoes_0 5 rfl rfl)
theorem dX0_undoes_8 : decode cX0_undoes 8 = .ok (.aload_n 0, 1) := dk_42 (dk_at dksX0_undoes_0 8 rfl rfl)
theorem dX0_undoes_9 : decode cX0_undoes 9 = .ok (.aload_n 0, 1) := dk_42 (dk_at dksX0_undoes_0 9 rfl rfl)
theorem dX0_undoes_10 : decode cX0_undoes 10 = .ok (.getfield 10, 3) := dk_180 0 10 (dk_at dksX0_undoes_0 10 rfl rfl)
theorem dX0_undoes_13 : decode cX0_undoes 13 = .ok (.getfield 110, 3) := dk_180 0 110 (dk_at dksX0_undoes_0 13 rfl rfl)
theorem dX0_undoes_16 : decode cX0_undoes 16 = .ok (.iload_n 1, 1) := dk_27 (dk_at dksX0_undoes_0 16 rfl rfl)
theorem dX0_undoes_17 : decode cX0_undoes 17 = .ok (.invokevirtual 113, 3) := dk_182 0 113 (dk_at dksX0_undoes_0 17 rfl rfl)
theorem dX0_undoes_20 : decode cX0_undoes 20 = .ok (.checkcast 117, 3) := dk_192 0 117 (dk_at dksX0_undoes_0 20 rfl rfl)
theorem dX0_undoes_23 : decode cX0_undoes 23 = .ok (.getfield 213, 3) := dk_180 0 213 (dk_at dksX0_undoes_1 0 rfl rfl)
theorem dX0_undoes_26 : decode cX0_undoes 26 = .ok (.invokevirtual 219, 3) := dk_182 0 219 (dk_at dksX0_undoes_1 3 rfl rfl)
theorem dX0_undoes_29 : decode cX0_undoes 29 = .ok (.ifCond .eq 5, 3) := dk_153 0 5 (dk_at dksX0_undoes_1 6 rfl rfl)
theorem dX0_undoes_32 : decode cX0_undoes 32 = .ok (.iconst 0, 1) := dk_3 (dk_at dksX0_undoes_1 9 rfl rfl)
theorem dX0_undoes_33 : decode cX0_undoes 33 = .ok (.ireturn, 1) := dk_172 (dk_at dksX0_undoes_1 10 rfl rfl)
theorem dX0_undoes_34 : decode cX0_undoes 34 = .ok (.aload_n 0, 1) := dk_42 (dk_at dksX0_undoes_1 11 rfl rfl)
theorem dX0_undoes_35 : decode cX0_undoes 35 = .ok (.invokevirtual 225, 3) := dk_182 0 225 (dk_at dksX0_undoes_1 12 rfl rfl)
theorem dX0_undoes_38 : decode cX0_undoes 38 = .ok (.aload_n 0, 1) := dk_42 (dk_at dksX0_undoes_1 15 rfl rfl)
theorem dX0_undoes_39 : decode cX0_undoes 39 = .ok (.getfield 19, 3) := dk_180 0 19 (dk_at dksX0_undoes_1 16 rfl rfl)
theorem dX0_undoes_42 : decode cX0_undoes 42 = .ok (.getfield 100, 3) := dk_180 0 100 (dk_at dksX0_undoes_1 19 rfl rfl)
theorem dX0_undoes_45 : decode cX0_undoes 45 = .ok (.iload_n 1, 1) := dk_27 (dk_at dksX0_undoes_1 22 rfl rfl)
theorem dX0_undoes_46 : decode cX0_undoes 46 = .ok (.iconst 2, 1) := dk_5 (dk_at dksX0_undoes_1 23 rfl rfl)
theorem dX0_undoes_47 : decode cX0_undoes 47 = .ok (.iastore, 1) := dk_79 (dk_at dksX0_undoes_2 0 rfl rfl)
theorem dX0_undoes_48 : decode cX0_undoes 48 = .ok (.iconst 1, 1) := dk_4 (dk_at dksX0_undoes_2 1 rfl rfl)
theorem dX0_undoes_49 : decode cX0_undoes 49 = .ok (.ireturn, 1) := dk_172 (dk_at dksX0_undoes_2 2 rfl rfl)
abbrev cX0_cut : ByteArray := prog_1_method_25_code
def yX0_cut : MethodName := ⟨RX0, "cut", "(I)I"⟩
def dkwX0_cut_2 : List UInt8 := [181, 0, 130, 42, 180, 0, 19, 180, 0, 130, 172]
abbrev dktX0_cut_2 : List UInt8 := dkwX0_cut_2 ++ []
def dkwX0_cut_1 : List UInt8 := [182, 0, 225, 42, 180, 0, 19, 180, 0, 100, 27, 5, 79, 42, 180, 0, 19, 89, 180, 0, 130, 4, 96]
abbrev dktX0_cut_1 : List UInt8 := dkwX0_cut_1 ++ dktX0_cut_2
def dkwX0_cut_0 : List UInt8 := [42, 27, 182, 0, 219, 153, 0, 14, 42, 180, 0, 19, 180, 0, 130, 6, 160, 0, 5, 2, 172, 42]
abbrev dktX0_cut_0 : List UInt8 := dkwX0_cut_0 ++ dktX0_cut_1
theorem dksX0_cut_0 : cX0_cut.data.toList.drop 0 = dktX0_cut_0 := by decide +kernel
theorem dksX0_cut_1 : cX0_cut.data.toList.drop 22 = dktX0_cut_1 := dk_seg dksX0_cut_0 22 rfl rfl
theorem dksX0_cut_2 : cX0_cut.data.toList.drop 45 = dktX0_cut_2 := dk_seg dksX0_cut_1 23 rfl rfl
theorem dX0_cut_0 : decode cX0_cut 0 = .ok (.aload_n 0, 1) := dk_42 (dk_at dksX0_cut_0 0 rfl rfl)
theorem dX0_cut_1 : decode cX0_cut 1 = .ok (.iload_n 1, 1) := dk_27 (dk_at dksX0_cut_0 1 rfl rfl)
theorem dX0_cut_2 : decode cX0_cut 2 = .ok (.invokevirtual 219, 3) := dk_182 0 219 (dk_at dksX0_cut_0 2 rfl rfl)
theorem dX0_cut_5 : decode cX0_cut 5 = .ok (.ifCond .eq 14, 3) := dk_153 0 14 (dk_at dksX0_cut_0 5 rfl rfl)
theorem dX0_cut_8 : decode cX0_cut 8 = .ok (.aload_n 0, 1) := dk_42 (dk_at dksX0_cut_0 8 rfl rfl)
theorem dX0_cut_9 : decode cX0_cut 9 = .ok (.getfield 19, 3) := dk_180 0 19 (dk_at dksX0_cut_0 9 rfl rfl)
theorem dX0_cut_12 : decode cX0_cut 12 = .ok (.getfield 130, 3) := dk_180 0 130 (dk_at dksX0_cut_0 12 rfl rfl)
theorem dX0_cut_15 : decode cX0_cut 15 = .ok (.iconst 3, 1) := dk_6 (dk_at dksX0_cut_0 15 rfl rfl)
theorem dX0_cut_16 : decode cX0_cut 16 = .ok (.if_icmp .ne 5, 3) := dk_160 0 5 (dk_at dksX0_cut_0 16 rfl rfl)
theorem dX0_cut_19 : decode cX0_cut 19 = .ok (.iconst (-1), 1) := dk_2 (dk_at dksX0_cut_0 19 rfl rfl)
theorem dX0_cut_20 : decode cX0_cut 20 = .ok (.ireturn, 1) := dk_172 (dk_at dksX0_cut_0 20 rfl rfl)
theorem dX0_cut_21 : decode cX0_cut 21 = .ok (.aload_n 0, 1) := dk_42 (dk_at dksX0_cut_0 21 rfl rfl)
theorem dX0_cut_22 : decode cX0_cut 22 = .ok (.invokevirtual 225, 3) := dk_182 0 225 (dk_at dksX0_cut_1 0 rfl rfl)
theorem dX0_cut_25 : decode cX0_cut 25 = .ok (.aload_n 0, 1) := dk_42 (dk_at dksX0_cut_1 3 rfl rfl)
theorem dX0_cut_26 : decode cX0_cut 26 = .ok (.getfield 19, 3) := dk_180 0 19 (dk_at dksX0_cut_1 4 rfl rfl)
theorem dX0_cut_29 : decode cX0_cut 29 = .ok (.getfield 100, 3) := dk_180 0 100 (dk_at dksX0_cut_1 7 rfl rfl)
theorem dX0_cut_32 : decode cX0_cut 32 = .ok (.iload_n 1, 1) := dk_27 (dk_at dksX0_cut_1 10 rfl rfl)
theorem dX0_cut_33 : decode cX0_cut 33 = .ok (.iconst 2, 1) := dk_5 (dk_at dksX0_cut_1 11 rfl rfl)
theorem dX0_cut_34 : decode cX0_cut 34 = .ok (.iastore, 1) := dk_79 (dk_at dksX0_cut_1 12 rfl rfl)
theorem dX0_cut_35 : decode cX0_cut 35 = .ok (.aload_n 0, 1) := dk_42 (dk_at dksX0_cut_1 13 rfl rfl)
theorem dX0_cut_36 : decode cX0_cut 36 = .ok (.getfield 19, 3) := dk_180 0 19 (dk_at dksX0_cut_1 14 rfl rfl)
theorem dX0_cut_39 : decode cX0_cut 39 = .ok (.dup, 1) := dk_89 (dk_at dksX0_cut_1 17 rfl rfl)
theorem dX0_cut_40 : decode cX0_cut 40 = .ok (.getfield 130, 3) := dk_180 0 130 (dk_at dksX0_cut_1 18 rfl rfl)
theorem dX0_cut_43 : decode cX0_cut 43 = .ok (.iconst 1, 1) := dk_4 (dk_at dksX0_cut_1 21 rfl rfl)
theorem dX0_cut_44 : decode cX0_cut 44 = .ok (.iadd, 1) := dk_96 (dk_at dksX0_cut_1 22 rfl rfl)
theorem dX0_cut_45 : decode cX0_cut 45 = .ok (.putfield 130, 3) := dk_181 0 130 (dk_at dksX0_cut_2 0 rfl rfl)
theorem dX0_cut_48 : decode cX0_cut 48 = .ok (.aload_n 0, 1) := dk_42 (dk_at dksX0_cut_2 3 rfl rfl)
theorem dX0_cut_49 : decode cX0_cut 49 = .ok (.getfield 19, 3) := dk_180 0 19 (dk_at dksX0_cut_2 4 rfl rfl)
theorem dX0_cut_52 : decode cX0_cut 52 = .ok (.getfield 130, 3) := dk_180 0 130 (dk_at dksX0_cut_2 7 rfl rfl)
theorem dX0_cut_55 : decode cX0_cut 55 = .ok (.ireturn, 1) := dk_172 (dk_at dksX0_cut_2 10 rfl rfl)
abbrev cX0_sew : ByteArray := prog_1_method_26_code
def yX0_sew : MethodName := ⟨RX0, "sew", "(I)I"⟩
def dkwX0_sew_3 : List UInt8 := [180, 0, 110, 27, 182, 0, 113, 192, 0, 117, 180, 0, 119, 79, 28, 172]
abbrev dktX0_sew_3 : List UInt8 := dkwX0_sew_3 ++ []
def dkwX0_sew_2 : List UInt8 := [61, 42, 180, 0, 19, 180, 0, 100, 27, 3, 79, 42, 180, 0, 19, 180, 0, 103, 27, 42, 180, 0, 10]
abbrev dktX0_sew_2 : List UInt8 := dkwX0_sew_2 ++ dktX0_sew_3
def dkwX0_sew_1 : List UInt8 := [180, 0, 100, 27, 46, 7, 159, 0, 5, 2, 172, 42, 182, 0, 225, 42, 180, 0, 19, 180, 0, 103, 27, 46]
abbrev dktX0_sew_1 : List UInt8 := dkwX0_sew_1 ++ dktX0_sew_2
def dkwX0_sew_0 : List UInt8 := [42, 27, 182, 0, 168, 153, 0, 28, 42, 180, 0, 19, 180, 0, 100, 27, 46, 153, 0, 18, 42, 180, 0, 19]
abbrev dktX0_sew_0 : List UInt8 := dkwX0_sew_0 ++ dktX0_sew_1
theorem dksX0_sew_0 : cX0_sew.data.toList.drop 0 = dktX0_sew_0 := by decide +kernel
theorem dksX0_sew_1 : cX0_sew.data.toList.drop 24 = dktX0_sew_1 := dk_seg dksX0_sew_0 24 rfl rfl
theorem dksX0_sew_2 : cX0_sew.data.toList.drop 48 = dktX0_sew_2 := dk_seg dksX0_sew_1 24 rfl rfl
theorem dksX0_sew_3 : cX0_sew.data.toList.drop 71 = dktX0_sew_3 := dk_seg dksX0_sew_2 23 rfl rfl
theorem dX0_sew_0 : decode cX0_sew 0 = .ok (.aload_n 0, 1) := dk_42 (dk_at dksX0_sew_0 0 rfl rfl)
theorem dX0_sew_1 : decode cX0_sew 1 = .ok (.iload_n 1, 1) := dk_27 (dk_at dksX0_sew_0 1 rfl rfl)
theorem dX0_sew_2 : decode cX0_sew 2 = .ok (.invokevirtual 168, 3) := dk_182 0 168 (dk_at dksX0_sew_0 2 rfl rfl)
theorem dX0_sew_5 : decode cX0_sew 5 = .ok (.ifCond .eq 28, 3) := dk_153 0 28 (dk_at dksX0_sew_0 5 rfl rfl)
theorem dX0_sew_8 : decode cX0_sew 8 = .ok (.aload_n 0, 1) := dk_42 (dk_at dksX0_sew_0 8 rfl rfl)
theorem dX0_sew_9 : decode cX0_sew 9 = .ok (.getfield 19, 3) := dk_180 0 19 (dk_at dksX0_sew_0 9 rfl rfl)
theorem dX0_sew_12 : decode cX0_sew 12 = .ok (.getfield 100, 3) := dk_180 0 100 (dk_at dksX0_sew_0 12 rfl rfl)
theorem dX0_sew_15 : decode cX0_sew 15 = .ok (.iload_n 1, 1) := dk_27 (dk_at dksX0_sew_0 15 rfl rfl)
theorem dX0_sew_16 : decode cX0_sew 16 = .ok (.iaload, 1) := dk_46 (dk_at dksX0_sew_0 16 rfl rfl)
theorem dX0_sew_17 : decode cX0_sew 17 = .ok (.ifCond .eq 18, 3) := dk_153 0 18 (dk_at dksX0_sew_0 17 rfl rfl)
theorem dX0_sew_20 : decode cX0_sew 20 = .ok (.aload_n 0, 1) := dk_42 (dk_at dksX0_sew_0 20 rfl rfl)
theorem dX0_sew_21 : decode cX0_sew 21 = .ok (.getfield 19, 3) := dk_180 0 19 (dk_at dksX0_sew_0 21 rfl rfl)
theorem dX0_sew_24 : decode cX0_sew 24 = .ok (.getfield 100, 3) := dk_180 0 100 (dk_at dksX0_sew_1 0 rfl rfl)
theorem dX0_sew_27 : decode cX0_sew 27 = .ok (.iload_n 1, 1) := dk_27 (dk_at dksX0_sew_1 3 rfl rfl)
theorem dX0_sew_28 : decode cX0_sew 28 = .ok (.iaload, 1) := dk_46 (dk_at dksX0_sew_1 4 rfl rfl)
theorem dX0_sew_29 : decode cX0_sew 29 = .ok (.iconst 4, 1) := dk_7 (dk_at dksX0_sew_1 5 rfl rfl)
theorem dX0_sew_30 : decode cX0_sew 30 = .ok (.if_icmp .eq 5, 3) := dk_159 0 5 (dk_at dksX0_sew_1 6 rfl rfl)
theorem dX0_sew_33 : decode cX0_sew 33 = .ok (.iconst (-1), 1) := dk_2 (dk_at dksX0_sew_1 9 rfl rfl)
theorem dX0_sew_34 : decode cX0_sew 34 = .ok (.ireturn, 1) := dk_172 (dk_at dksX0_sew_1 10 rfl rfl)
theorem dX0_sew_35 : decode cX0_sew 35 = .ok (.aload_n 0, 1) := dk_42 (dk_at dksX0_sew_1 11 rfl rfl)
theorem dX0_sew_36 : decode cX0_sew 36 = .ok (.invokevirtual 225, 3) := dk_182 0 225 (dk_at dksX0_sew_1 12 rfl rfl)
theorem dX0_sew_39 : decode cX0_sew 39 = .ok (.aload_n 0, 1) := dk_42 (dk_at dksX0_sew_1 15 rfl rfl)
theorem dX0_sew_40 : decode cX0_sew 40 = .ok (.getfield 19, 3) := dk_180 0 19 (dk_at dksX0_sew_1 16 rfl rfl)
theorem dX0_sew_43 : decode cX0_sew 43 = .ok (.getfield 103, 3) := dk_180 0 103 (dk_at dksX0_sew_1 19 rfl rfl)
theorem dX0_sew_46 : decode cX0_sew 46 = .ok (.iload_n 1, 1) := dk_27 (dk_at dksX0_sew_1 22 rfl rfl)
theorem dX0_sew_47 : decode cX0_sew 47 = .ok (.iaload, 1) := dk_46 (dk_at dksX0_sew_1 23 rfl rfl)
theorem dX0_sew_48 : decode cX0_sew 48 = .ok (.istore_n 2, 1) := dk_61 (dk_at dksX0_sew_2 0 rfl rfl)
theorem dX0_sew_49 : decode cX0_sew 49 = .ok (.aload_n 0, 1) := dk_42 (dk_at dksX0_sew_2 1 rfl rfl)
theorem dX0_sew_50 : decode cX0_sew 50 = .ok (.getfield 19, 3) := dk_180 0 19 (dk_at dksX0_sew_2 2 rfl rfl)
theorem dX0_sew_53 : decode cX0_sew 53 = .ok (.getfield 100, 3) := dk_180 0 100 (dk_at dksX0_sew_2 5 rfl rfl)
theorem dX0_sew_56 : decode cX0_sew 56 = .ok (.iload_n 1, 1) := dk_27 (dk_at dksX0_sew_2 8 rfl rfl)
theorem dX0_sew_57 : decode cX0_sew 57 = .ok (.iconst 0, 1) := dk_3 (dk_at dksX0_sew_2 9 rfl rfl)
theorem dX0_sew_58 : decode cX0_sew 58 = .ok (.iastore, 1) := dk_79 (dk_at dksX0_sew_2 10 rfl rfl)
theorem dX0_sew_59 : decode cX0_sew 59 = .ok (.aload_n 0, 1) := dk_42 (dk_at dksX0_sew_2 11 rfl rfl)
theorem dX0_sew_60 : decode cX0_sew 60 = .ok (.getfield 19, 3) := dk_180 0 19 (dk_at dksX0_sew_2 12 rfl rfl)
theorem dX0_sew_63 : decode cX0_sew 63 = .ok (.getfield 103, 3) := dk_180 0 103 (dk_at dksX0_sew_2 15 rfl rfl)
theorem dX0_sew_66 : decode cX0_sew 66 = .ok (.iload_n 1, 1) := dk_27 (dk_at dksX0_sew_2 18 rfl rfl)
theorem dX0_sew_67 : decode cX0_sew 67 = .ok (.aload_n 0, 1) := dk_42 (dk_at dksX0_sew_2 19 rfl rfl)
theorem dX0_sew_68 : decode cX0_sew 68 = .ok (.getfield 10, 3) := dk_180 0 10 (dk_at dksX0_sew_2 20 rfl rfl)
theorem dX0_sew_71 : decode cX0_sew 71 = .ok (.getfield 110, 3) := dk_180 0 110 (dk_at dksX0_sew_3 0 rfl rfl)
theorem dX0_sew_74 : decode cX0_sew 74 = .ok (.iload_n 1, 1) := dk_27 (dk_at dksX0_sew_3 3 rfl rfl)
theorem dX0_sew_75 : decode cX0_sew 75 = .ok (.invokevirtual 113, 3) := dk_182 0 113 (dk_at dksX0_sew_3 4 rfl rfl)
theorem dX0_sew_78 : decode cX0_sew 78 = .ok (.checkcast 117, 3) := dk_192 0 117 (dk_at dksX0_sew_3 7 rfl rfl)
theorem dX0_sew_81 : decode cX0_sew 81 = .ok (.getfield 119, 3) := dk_180 0 119 (dk_at dksX0_sew_3 10 rfl rfl)
theorem dX0_sew_84 : decode cX0_sew 84 = .ok (.iastore, 1) := dk_79 (dk_at dksX0_sew_3 13 rfl rfl)
theorem dX0_sew_85 : decode cX0_sew 85 = .ok (.iload_n 2, 1) := dk_28 (dk_at dksX0_sew_3 14 rfl rfl)
theorem dX0_sew_86 : decode cX0_sew 86 = .ok (.ireturn, 1) := dk_172 (dk_at dksX0_sew_3 15 rfl rfl)
abbrev cX0_day : ByteArray := prog_1_method_27_code
def yX0_day : MethodName := ⟨RX0, "day", "()I"⟩
def dkwX0_day_1 : List UInt8 := [180, 0, 10, 182, 0, 231, 172]
abbrev dktX0_day_1 : List UInt8 := dkwX0_day_1 ++ []
def dkwX0_day_0 : List UInt8 := [42, 180, 0, 19, 180, 0, 121, 16, 99, 160, 0, 5, 2, 172, 42, 182, 0, 225, 42, 180, 0, 19, 42]
abbrev dktX0_day_0 : List UInt8 := dkwX0_day_0 ++ dktX0_day_1
theorem dksX0_day_0 : cX0_day.data.toList.drop 0 = dktX0_day_0 := by decide +kernel
theorem dksX0_day_1 : cX0_day.data.toList.drop 23 = dktX0_day_1 := dk_seg dksX0_day_0 23 rfl rfl
theorem dX0_day_0 : decode cX0_day 0 = .ok (.aload_n 0, 1) := dk_42 (dk_at dksX0_day_0 0 rfl rfl)
theorem dX0_day_1 : decode cX0_day 1 = .ok (.getfield 19, 3) := dk_180 0 19 (dk_at dksX0_day_0 1 rfl rfl)
theorem dX0_day_4 : decode cX0_day 4 = .ok (.getfield 121, 3) := dk_180 0 121 (dk_at dksX0_day_0 4 rfl rfl)
theorem dX0_day_7 : decode cX0_day 7 = .ok (.bipush 99, 2) := dk_16 99 (dk_at dksX0_day_0 7 rfl rfl)
theorem dX0_day_9 : decode cX0_day 9 = .ok (.if_icmp .ne 5, 3) := dk_160 0 5 (dk_at dksX0_day_0 9 rfl rfl)
theorem dX0_day_12 : decode cX0_day 12 = .ok (.iconst (-1), 1) := dk_2 (dk_at dksX0_day_0 12 rfl rfl)
theorem dX0_day_13 : decode cX0_day 13 = .ok (.ireturn, 1) := dk_172 (dk_at dksX0_day_0 13 rfl rfl)
theorem dX0_day_14 : decode cX0_day 14 = .ok (.aload_n 0, 1) := dk_42 (dk_at dksX0_day_0 14 rfl rfl)
theorem dX0_day_15 : decode cX0_day 15 = .ok (.invokevirtual 225, 3) := dk_182 0 225 (dk_at dksX0_day_0 15 rfl rfl)
theorem dX0_day_18 : decode cX0_day 18 = .ok (.aload_n 0, 1) := dk_42 (dk_at dksX0_day_0 18 rfl rfl)
theorem dX0_day_19 : decode cX0_day 19 = .ok (.getfield 19, 3) := dk_180 0 19 (dk_at dksX0_day_0 19 rfl rfl)
theorem dX0_day_22 : decode cX0_day 22 = .ok (.aload_n 0, 1) := dk_42 (dk_at dksX0_day_0 22 rfl rfl)
theorem dX0_day_23 : decode cX0_day 23 = .ok (.getfield 10, 3) := dk_180 0 10 (dk_at dksX0_day_1 0 rfl rfl)
theorem dX0_day_26 : decode cX0_day 26 = .ok (.invokevirtual 231, 3) := dk_182 0 231 (dk_at dksX0_day_1 3 rfl rfl)
theorem dX0_day_29 : decode cX0_day 29 = .ok (.ireturn, 1) := dk_172 (dk_at dksX0_day_1 6 rfl rfl)
abbrev cX0_undo : ByteArray := prog_1_method_28_code
def yX0_undo : MethodName := ⟨RX0, "undo", "()Z"⟩
def dkwX0_undo_1 : List UInt8 := [180, 0, 44, 182, 0, 144, 4, 100, 182, 0, 147, 192, 0, 88, 182, 0, 238, 182, 0, 154, 87, 4, 172]
abbrev dktX0_undo_1 : List UInt8 := dkwX0_undo_1 ++ []
def dkwX0_undo_0 : List UInt8 := [42, 180, 0, 44, 182, 0, 235, 153, 0, 5, 3, 172, 42, 180, 0, 48, 42, 42, 180, 0, 44, 42]
abbrev dktX0_undo_0 : List UInt8 := dkwX0_undo_0 ++ dktX0_undo_1
theorem dksX0_undo_0 : cX0_undo.data.toList.drop 0 = dktX0_undo_0 := by decide +kernel
theorem dksX0_undo_1 : cX0_undo.data.toList.drop 22 = dktX0_undo_1 := dk_seg dksX0_undo_0 22 rfl rfl
theorem dX0_undo_0 : decode cX0_undo 0 = .ok (.aload_n 0, 1) := dk_42 (dk_at dksX0_undo_0 0 rfl rfl)
theorem dX0_undo_1 : decode cX0_undo 1 = .ok (.getfield 44, 3) := dk_180 0 44 (dk_at dksX0_undo_0 1 rfl rfl)
theorem dX0_undo_4 : decode cX0_undo 4 = .ok (.invokevirtual 235, 3) := dk_182 0 235 (dk_at dksX0_undo_0 4 rfl rfl)
theorem dX0_undo_7 : decode cX0_undo 7 = .ok (.ifCond .eq 5, 3) := dk_153 0 5 (dk_at dksX0_undo_0 7 rfl rfl)
theorem dX0_undo_10 : decode cX0_undo 10 = .ok (.iconst 0, 1) := dk_3 (dk_at dksX0_undo_0 10 rfl rfl)
theorem dX0_undo_11 : decode cX0_undo 11 = .ok (.ireturn, 1) := dk_172 (dk_at dksX0_undo_0 11 rfl rfl)
theorem dX0_undo_12 : decode cX0_undo 12 = .ok (.aload_n 0, 1) := dk_42 (dk_at dksX0_undo_0 12 rfl rfl)
theorem dX0_undo_13 : decode cX0_undo 13 = .ok (.getfield 48, 3) := dk_180 0 48 (dk_at dksX0_undo_0 13 rfl rfl)
theorem dX0_undo_16 : decode cX0_undo 16 = .ok (.aload_n 0, 1) := dk_42 (dk_at dksX0_undo_0 16 rfl rfl)
theorem dX0_undo_17 : decode cX0_undo 17 = .ok (.aload_n 0, 1) := dk_42 (dk_at dksX0_undo_0 17 rfl rfl)
theorem dX0_undo_18 : decode cX0_undo 18 = .ok (.getfield 44, 3) := dk_180 0 44 (dk_at dksX0_undo_0 18 rfl rfl)
theorem dX0_undo_21 : decode cX0_undo 21 = .ok (.aload_n 0, 1) := dk_42 (dk_at dksX0_undo_0 21 rfl rfl)
theorem dX0_undo_22 : decode cX0_undo 22 = .ok (.getfield 44, 3) := dk_180 0 44 (dk_at dksX0_undo_1 0 rfl rfl)
theorem dX0_undo_25 : decode cX0_undo 25 = .ok (.invokevirtual 144, 3) := dk_182 0 144 (dk_at dksX0_undo_1 3 rfl rfl)
theorem dX0_undo_28 : decode cX0_undo 28 = .ok (.iconst 1, 1) := dk_4 (dk_at dksX0_undo_1 6 rfl rfl)
theorem dX0_undo_29 : decode cX0_undo 29 = .ok (.isub, 1) := dk_100 (dk_at dksX0_undo_1 7 rfl rfl)
theorem dX0_undo_30 : decode cX0_undo 30 = .ok (.invokevirtual 147, 3) := dk_182 0 147 (dk_at dksX0_undo_1 8 rfl rfl)
theorem dX0_undo_33 : decode cX0_undo 33 = .ok (.checkcast 88, 3) := dk_192 0 88 (dk_at dksX0_undo_1 11 rfl rfl)
theorem dX0_undo_36 : decode cX0_undo 36 = .ok (.invokevirtual 238, 3) := dk_182 0 238 (dk_at dksX0_undo_1 14 rfl rfl)
theorem dX0_undo_39 : decode cX0_undo 39 = .ok (.invokevirtual 154, 3) := dk_182 0 154 (dk_at dksX0_undo_1 17 rfl rfl)
theorem dX0_undo_42 : decode cX0_undo 42 = .ok (.pop, 1) := dk_87 (dk_at dksX0_undo_1 20 rfl rfl)
theorem dX0_undo_43 : decode cX0_undo 43 = .ok (.iconst 1, 1) := dk_4 (dk_at dksX0_undo_1 21 rfl rfl)
theorem dX0_undo_44 : decode cX0_undo 44 = .ok (.ireturn, 1) := dk_172 (dk_at dksX0_undo_1 22 rfl rfl)
abbrev cX0_turned : ByteArray := prog_1_method_7_code
def yX0_turned : MethodName := ⟨RX0, "turned", "(LOathButtons$Kept;)LOathButtons$Kept;"⟩
def dkwX0_turned_1 : List UInt8 := [43, 176]
abbrev dktX0_turned_1 : List UInt8 := dkwX0_turned_1 ++ []
def dkwX0_turned_0 : List UInt8 := [42, 180, 0, 19, 184, 0, 150, 77, 42, 180, 0, 19, 43, 180, 0, 139, 182, 0, 141, 43, 44, 181, 0, 139]
abbrev dktX0_turned_0 : List UInt8 := dkwX0_turned_0 ++ dktX0_turned_1
theorem dksX0_turned_0 : cX0_turned.data.toList.drop 0 = dktX0_turned_0 := by decide +kernel
theorem dksX0_turned_1 : cX0_turned.data.toList.drop 24 = dktX0_turned_1 := dk_seg dksX0_turned_0 24 rfl rfl
theorem dX0_turned_0 : decode cX0_turned 0 = .ok (.aload_n 0, 1) := dk_42 (dk_at dksX0_turned_0 0 rfl rfl)
theorem dX0_turned_1 : decode cX0_turned 1 = .ok (.getfield 19, 3) := dk_180 0 19 (dk_at dksX0_turned_0 1 rfl rfl)
theorem dX0_turned_4 : decode cX0_turned 4 = .ok (.invokestatic 150, 3) := dk_184 0 150 (dk_at dksX0_turned_0 4 rfl rfl)
theorem dX0_turned_7 : decode cX0_turned 7 = .ok (.astore_n 2, 1) := dk_77 (dk_at dksX0_turned_0 7 rfl rfl)
theorem dX0_turned_8 : decode cX0_turned 8 = .ok (.aload_n 0, 1) := dk_42 (dk_at dksX0_turned_0 8 rfl rfl)
theorem dX0_turned_9 : decode cX0_turned 9 = .ok (.getfield 19, 3) := dk_180 0 19 (dk_at dksX0_turned_0 9 rfl rfl)
theorem dX0_turned_12 : decode cX0_turned 12 = .ok (.aload_n 1, 1) := dk_43 (dk_at dksX0_turned_0 12 rfl rfl)
theorem dX0_turned_13 : decode cX0_turned 13 = .ok (.getfield 139, 3) := dk_180 0 139 (dk_at dksX0_turned_0 13 rfl rfl)
theorem dX0_turned_16 : decode cX0_turned 16 = .ok (.invokevirtual 141, 3) := dk_182 0 141 (dk_at dksX0_turned_0 16 rfl rfl)
theorem dX0_turned_19 : decode cX0_turned 19 = .ok (.aload_n 1, 1) := dk_43 (dk_at dksX0_turned_0 19 rfl rfl)
theorem dX0_turned_20 : decode cX0_turned 20 = .ok (.aload_n 2, 1) := dk_44 (dk_at dksX0_turned_0 20 rfl rfl)
theorem dX0_turned_21 : decode cX0_turned 21 = .ok (.putfield 139, 3) := dk_181 0 139 (dk_at dksX0_turned_0 21 rfl rfl)
theorem dX0_turned_24 : decode cX0_turned 24 = .ok (.aload_n 1, 1) := dk_43 (dk_at dksX0_turned_1 0 rfl rfl)
theorem dX0_turned_25 : decode cX0_turned 25 = .ok (.areturn, 1) := dk_176 (dk_at dksX0_turned_1 1 rfl rfl)
abbrev cX0_redo : ByteArray := prog_1_method_29_code
def yX0_redo : MethodName := ⟨RX0, "redo", "()Z"⟩
def dkwX0_redo_1 : List UInt8 := [180, 0, 48, 182, 0, 144, 4, 100, 182, 0, 147, 192, 0, 88, 182, 0, 238, 182, 0, 154, 87, 4, 172]
abbrev dktX0_redo_1 : List UInt8 := dkwX0_redo_1 ++ []
def dkwX0_redo_0 : List UInt8 := [42, 180, 0, 48, 182, 0, 235, 153, 0, 5, 3, 172, 42, 180, 0, 44, 42, 42, 180, 0, 48, 42]
abbrev dktX0_redo_0 : List UInt8 := dkwX0_redo_0 ++ dktX0_redo_1
theorem dksX0_redo_0 : cX0_redo.data.toList.drop 0 = dktX0_redo_0 := by decide +kernel
theorem dksX0_redo_1 : cX0_redo.data.toList.drop 22 = dktX0_redo_1 := dk_seg dksX0_redo_0 22 rfl rfl
theorem dX0_redo_0 : decode cX0_redo 0 = .ok (.aload_n 0, 1) := dk_42 (dk_at dksX0_redo_0 0 rfl rfl)
theorem dX0_redo_1 : decode cX0_redo 1 = .ok (.getfield 48, 3) := dk_180 0 48 (dk_at dksX0_redo_0 1 rfl rfl)
theorem dX0_redo_4 : decode cX0_redo 4 = .ok (.invokevirtual 235, 3) := dk_182 0 235 (dk_at dksX0_redo_0 4 rfl rfl)
theorem dX0_redo_7 : decode cX0_redo 7 = .ok (.ifCond .eq 5, 3) := dk_153 0 5 (dk_at dksX0_redo_0 7 rfl rfl)
theorem dX0_redo_10 : decode cX0_redo 10 = .ok (.iconst 0, 1) := dk_3 (dk_at dksX0_redo_0 10 rfl rfl)
theorem dX0_redo_11 : decode cX0_redo 11 = .ok (.ireturn, 1) := dk_172 (dk_at dksX0_redo_0 11 rfl rfl)
theorem dX0_redo_12 : decode cX0_redo 12 = .ok (.aload_n 0, 1) := dk_42 (dk_at dksX0_redo_0 12 rfl rfl)
theorem dX0_redo_13 : decode cX0_redo 13 = .ok (.getfield 44, 3) := dk_180 0 44 (dk_at dksX0_redo_0 13 rfl rfl)
theorem dX0_redo_16 : decode cX0_redo 16 = .ok (.aload_n 0, 1) := dk_42 (dk_at dksX0_redo_0 16 rfl rfl)
theorem dX0_redo_17 : decode cX0_redo 17 = .ok (.aload_n 0, 1) := dk_42 (dk_at dksX0_redo_0 17 rfl rfl)
theorem dX0_redo_18 : decode cX0_redo 18 = .ok (.getfield 48, 3) := dk_180 0 48 (dk_at dksX0_redo_0 18 rfl rfl)
theorem dX0_redo_21 : decode cX0_redo 21 = .ok (.aload_n 0, 1) := dk_42 (dk_at dksX0_redo_0 21 rfl rfl)
theorem dX0_redo_22 : decode cX0_redo 22 = .ok (.getfield 48, 3) := dk_180 0 48 (dk_at dksX0_redo_1 0 rfl rfl)
theorem dX0_redo_25 : decode cX0_redo 25 = .ok (.invokevirtual 144, 3) := dk_182 0 144 (dk_at dksX0_redo_1 3 rfl rfl)
theorem dX0_redo_28 : decode cX0_redo 28 = .ok (.iconst 1, 1) := dk_4 (dk_at dksX0_redo_1 6 rfl rfl)
theorem dX0_redo_29 : decode cX0_redo 29 = .ok (.isub, 1) := dk_100 (dk_at dksX0_redo_1 7 rfl rfl)
theorem dX0_redo_30 : decode cX0_redo 30 = .ok (.invokevirtual 147, 3) := dk_182 0 147 (dk_at dksX0_redo_1 8 rfl rfl)
theorem dX0_redo_33 : decode cX0_redo 33 = .ok (.checkcast 88, 3) := dk_192 0 88 (dk_at dksX0_redo_1 11 rfl rfl)
theorem dX0_redo_36 : decode cX0_redo 36 = .ok (.invokevirtual 238, 3) := dk_182 0 238 (dk_at dksX0_redo_1 14 rfl rfl)
theorem dX0_redo_39 : decode cX0_redo 39 = .ok (.invokevirtual 154, 3) := dk_182 0 154 (dk_at dksX0_redo_1 17 rfl rfl)
theorem dX0_redo_42 : decode cX0_redo 42 = .ok (.pop, 1) := dk_87 (dk_at dksX0_redo_1 20 rfl rfl)
theorem dX0_redo_43 : decode cX0_redo 43 = .ok (.iconst 1, 1) := dk_4 (dk_at dksX0_redo_1 21 rfl rfl)
theorem dX0_redo_44 : decode cX0_redo 44 = .ok (.ireturn, 1) := dk_172 (dk_at dksX0_redo_1 22 rfl rfl)
abbrev cX0_lies : ByteArray := prog_1_method_30_code
def yX0_lies : MethodName := ⟨RX0, "lies", "(I)I"⟩
def dkwX0_lies_1 : List UInt8 := [16, 254, 172]
abbrev dktX0_lies_1 : List UInt8 := dkwX0_lies_1 ++ []
def dkwX0_lies_0 : List UInt8 := [27, 3, 42, 180, 0, 136, 4, 100, 184, 0, 158, 153, 0, 12, 42, 180, 0, 51, 27, 46, 167, 0, 5]
abbrev dktX0_lies_0 : List UInt8 := dkwX0_lies_0 ++ dktX0_lies_1
theorem dksX0_lies_0 : cX0_lies.data.toList.drop 0 = dktX0_lies_0 := by decide +kernel
theorem dksX0_lies_1 : cX0_lies.data.toList.drop 23 = dktX0_lies_1 := dk_seg dksX0_lies_0 23 rfl rfl
theorem dX0_lies_0 : decode cX0_lies 0 = .ok (.iload_n 1, 1) := dk_27 (dk_at dksX0_lies_0 0 rfl rfl)
theorem dX0_lies_1 : decode cX0_lies 1 = .ok (.iconst 0, 1) := dk_3 (dk_at dksX0_lies_0 1 rfl rfl)
theorem dX0_lies_2 : decode cX0_lies 2 = .ok (.aload_n 0, 1) := dk_42 (dk_at dksX0_lies_0 2 rfl rfl)
theorem dX0_lies_3 : decode cX0_lies 3 = .ok (.getfield 136, 3) := dk_180 0 136 (dk_at dksX0_lies_0 3 rfl rfl)
theorem dX0_lies_6 : decode cX0_lies 6 = .ok (.iconst 1, 1) := dk_4 (dk_at dksX0_lies_0 6 rfl rfl)
theorem dX0_lies_7 : decode cX0_lies 7 = .ok (.isub, 1) := dk_100 (dk_at dksX0_lies_0 7 rfl rfl)
theorem dX0_lies_8 : decode cX0_lies 8 = .ok (.invokestatic 158, 3) := dk_184 0 158 (dk_at dksX0_lies_0 8 rfl rfl)
theorem dX0_lies_11 : decode cX0_lies 11 = .ok (.ifCond .eq 12, 3) := dk_153 0 12 (dk_at dksX0_lies_0 11 rfl rfl)
theorem dX0_lies_14 : decode cX0_lies 14 = .ok (.aload_n 0, 1) := dk_42 (dk_at dksX0_lies_0 14 rfl rfl)
theorem dX0_lies_15 : decode cX0_lies 15 = .ok (.getfield 51, 3) := dk_180 0 51 (dk_at dksX0_lies_0 15 rfl rfl)
theorem dX0_lies_18 : decode cX0_lies 18 = .ok (.iload_n 1, 1) := dk_27 (dk_at dksX0_lies_0 18 rfl rfl)
theorem dX0_lies_19 : decode cX0_lies 19 = .ok (.iaload, 1) := dk_46 (dk_at dksX0_lies_0 19 rfl rfl)
theorem dX0_lies_20 : decode cX0_lies 20 = .ok (.goto 5, 3) := dk_167 0 5 (dk_at dksX0_lies_0 20 rfl rfl)
theorem dX0_lies_23 : decode cX0_lies 23 = .ok (.bipush (-2), 2) := dk_16 254 (dk_at dksX0_lies_1 0 rfl rfl)
theorem dX0_lies_25 : decode cX0_lies 25 = .ok (.ireturn, 1) := dk_172 (dk_at dksX0_lies_1 2 rfl rfl)
abbrev cX0_keep : ByteArray := prog_1_method_32_code
def yX0_keep : MethodName := ⟨RX0, "keep", "(II)I"⟩
def dkwX0_keep_3 : List UInt8 := [180, 0, 60, 180, 1, 8, 167, 0, 10, 42, 180, 0, 60, 180, 1, 11, 172]
abbrev dktX0_keep_3 : List UInt8 := dkwX0_keep_3 ++ []
def dkwX0_keep_2 : List UInt8 := [182, 1, 2, 28, 154, 0, 13, 42, 180, 0, 60, 180, 1, 6, 167, 0, 25, 28, 4, 160, 0, 13, 42]
abbrev dktX0_keep_2 : List UInt8 := dkwX0_keep_2 ++ dktX0_keep_3
def dkwX0_keep_1 : List UInt8 := [42, 180, 0, 60, 27, 3, 182, 0, 248, 42, 42, 180, 0, 60, 180, 0, 252, 42, 180, 0, 60, 180, 0, 255]
abbrev dktX0_keep_1 : List UInt8 := dkwX0_keep_1 ++ dktX0_keep_2
def dkwX0_keep_0 : List UInt8 := [42, 3, 181, 0, 136, 42, 27, 182, 0, 216, 153, 0, 12, 28, 3, 5, 184, 0, 158, 154, 0, 5, 2, 172]
abbrev dktX0_keep_0 : List UInt8 := dkwX0_keep_0 ++ dktX0_keep_1
theorem dksX0_keep_0 : cX0_keep.data.toList.drop 0 = dktX0_keep_0 := by decide +kernel
theorem dksX0_keep_1 : cX0_keep.data.toList.drop 24 = dktX0_keep_1 := dk_seg dksX0_keep_0 24 rfl rfl
theorem dksX0_keep_2 : cX0_keep.data.toList.drop 48 = dktX0_keep_2 := dk_seg dksX0_keep_1 24 rfl rfl
theorem dksX0_keep_3 : cX0_keep.data.toList.drop 71 = dktX0_keep_3 := dk_seg dksX0_keep_2 23 rfl rfl
theorem dX0_keep_0 : decode cX0_keep 0 = .ok (.aload_n 0, 1) := dk_42 (dk_at dksX0_keep_0 0 rfl rfl)
theorem dX0_keep_1 : decode cX0_keep 1 = .ok (.iconst 0, 1) := dk_3 (dk_at dksX0_keep_0 1 rfl rfl)
theorem dX0_keep_2 : decode cX0_keep 2 = .ok (.putfield 136, 3) := dk_181 0 136 (dk_at dksX0_keep_0 2 rfl rfl)
theorem dX0_keep_5 : decode cX0_keep 5 = .ok (.aload_n 0, 1) := dk_42 (dk_at dksX0_keep_0 5 rfl rfl)
theorem dX0_keep_6 : decode cX0_keep 6 = .ok (.iload_n 1, 1) := dk_27 (dk_at dksX0_keep_0 6 rfl rfl)
theorem dX0_keep_7 : decode cX0_keep 7 = .ok (.invokevirtual 216, 3) := dk_182 0 216 (dk_at dksX0_keep_0 7 rfl rfl)
theorem dX0_keep_10 : decode cX0_keep 10 = .ok (.ifCond .eq 12, 3) := dk_153 0 12 (dk_at dksX0_keep_0 10 rfl rfl)
theorem dX0_keep_13 : decode cX0_keep 13 = .ok (.iload_n 2, 1) := dk_28 (dk_at dksX0_keep_0 13 rfl rfl)
theorem dX0_keep_14 : decode cX0_keep 14 = .ok (.iconst 0, 1) := dk_3 (dk_at dksX0_keep_0 14 rfl rfl)
theorem dX0_keep_15 : decode cX0_keep 15 = .ok (.iconst 2, 1) := dk_5 (dk_at dksX0_keep_0 15 rfl rfl)
theorem dX0_keep_16 : decode cX0_keep 16 = .ok (.invokestatic 158, 3) := dk_184 0 158 (dk_at dksX0_keep_0 16 rfl rfl)
theorem dX0_keep_19 : decode cX0_keep 19 = .ok (.ifCond .ne 5, 3) := dk_154 0 5 (dk_at dksX0_keep_0 19 rfl rfl)
theorem dX0_keep_22 : decode cX0_keep 22 = .ok (.iconst (-1), 1) := dk_2 (dk_at dksX0_keep_0 22 rfl rfl)
theorem dX0_keep_23 : decode cX0_keep 23 = .ok (.ireturn, 1) := dk_172 (dk_at dksX0_keep_0 23 rfl rfl)
theorem dX0_keep_24 : decode cX0_keep 24 = .ok (.aload_n 0, 1) := dk_42 (dk_at dksX0_keep_1 0 rfl rfl)
theorem dX0_keep_25 : decode cX0_keep 25 = .ok (.getfield 60, 3) := dk_180 0 60 (dk_at dksX0_keep_1 1 rfl rfl)
theorem dX0_keep_28 : decode cX0_keep 28 = .ok (.iload_n 1, 1) := dk_27 (dk_at dksX0_keep_1 4 rfl rfl)
theorem dX0_keep_29 : decode cX0_keep 29 = .ok (.iconst 0, 1) := dk_3 (dk_at dksX0_keep_1 5 rfl rfl)
theorem dX0_keep_30 : decode cX0_keep 30 = .ok (.invokevirtual 248, 3) := dk_182 0 248 (dk_at dksX0_keep_1 6 rfl rfl)
theorem dX0_keep_33 : decode cX0_keep 33 = .ok (.aload_n 0, 1) := dk_42 (dk_at dksX0_keep_1 9 rfl rfl)
theorem dX0_keep_34 : decode cX0_keep 34 = .ok (.aload_n 0, 1) := dk_42 (dk_at dksX0_keep_1 10 rfl rfl)
theorem dX0_keep_35 : decode cX0_keep 35 = .ok (.getfield 60, 3) := dk_180 0 60 (dk_at dksX0_keep_1 11 rfl rfl)
theorem dX0_keep_38 : decode cX0_keep 38 = .ok (.getfield 252, 3) := dk_180 0 252 (dk_at dksX0_keep_1 14 rfl rfl)
theorem dX0_keep_41 : decode cX0_keep 41 = .ok (.aload_n 0, 1) := dk_42 (dk_at dksX0_keep_1 17 rfl rfl)
theorem dX0_keep_42 : decode cX0_keep 42 = .ok (.getfield 60, 3) := dk_180 0 60 (dk_at dksX0_keep_1 18 rfl rfl)
theorem dX0_keep_45 : decode cX0_keep 45 = .ok (.getfield 255, 3) := dk_180 0 255 (dk_at dksX0_keep_1 21 rfl rfl)
theorem dX0_keep_48 : decode cX0_keep 48 = .ok (.invokevirtual 258, 3) := dk_182 1 2 (dk_at dksX0_keep_2 0 rfl rfl)
theorem dX0_keep_51 : decode cX0_keep 51 = .ok (.iload_n 2, 1) := dk_28 (dk_at dksX0_keep_2 3 rfl rfl)
theorem dX0_keep_52 : decode cX0_keep 52 = .ok (.ifCond .ne 13, 3) := dk_154 0 13 (dk_at dksX0_keep_2 4 rfl rfl)
theorem dX0_keep_55 : decode cX0_keep 55 = .ok (.aload_n 0, 1) := dk_42 (dk_at dksX0_keep_2 7 rfl rfl)
theorem dX0_keep_56 : decode cX0_keep 56 = .ok (.getfield 60, 3) := dk_180 0 60 (dk_at dksX0_keep_2 8 rfl rfl)
theorem dX0_keep_59 : decode cX0_keep 59 = .ok (.getfield 262, 3) := dk_180 1 6 (dk_at dksX0_keep_2 11 rfl rfl)
theorem dX0_keep_62 : decode cX0_keep 62 = .ok (.goto 25, 3) := dk_167 0 25 (dk_at dksX0_keep_2 14 rfl rfl)
theorem dX0_keep_65 : decode cX0_keep 65 = .ok (.iload_n 2, 1) := dk_28 (dk_at dksX0_keep_2 17 rfl rfl)
theorem dX0_keep_66 : decode cX0_keep 66 = .ok (.iconst 1, 1) := dk_4 (dk_at dksX0_keep_2 18 rfl rfl)
theorem dX0_keep_67 : decode cX0_keep 67 = .ok (.if_icmp .ne 13, 3) := dk_160 0 13 (dk_at dksX0_keep_2 19 rfl rfl)
theorem dX0_keep_70 : decode cX0_keep 70 = .ok (.aload_n 0, 1) := dk_42 (dk_at dksX0_keep_2 22 rfl rfl)
theorem dX0_keep_71 : decode cX0_keep 71 = .ok (.getfield 60, 3) := dk_180 0 60 (dk_at dksX0_keep_3 0 rfl rfl)
theorem dX0_keep_74 : decode cX0_keep 74 = .ok (.getfield 264, 3) := dk_180 1 8 (dk_at dksX0_keep_3 3 rfl rfl)
theorem dX0_keep_77 : decode cX0_keep 77 = .ok (.goto 10, 3) := dk_167 0 10 (dk_at dksX0_keep_3 6 rfl rfl)
theorem dX0_keep_80 : decode cX0_keep 80 = .ok (.aload_n 0, 1) := dk_42 (dk_at dksX0_keep_3 9 rfl rfl)
theorem dX0_keep_81 : decode cX0_keep 81 = .ok (.getfield 60, 3) := dk_180 0 60 (dk_at dksX0_keep_3 10 rfl rfl)
theorem dX0_keep_84 : decode cX0_keep 84 = .ok (.getfield 267, 3) := dk_180 1 11 (dk_at dksX0_keep_3 13 rfl rfl)
theorem dX0_keep_87 : decode cX0_keep 87 = .ok (.ireturn, 1) := dk_172 (dk_at dksX0_keep_3 16 rfl rfl)
abbrev cX0_has : ByteArray := prog_1_method_2_code
def yX0_has : MethodName := ⟨RX0, "has", "(II)Z"⟩
def dkwX0_has_0 : List UInt8 := [26, 27, 122, 4, 126, 4, 160, 0, 7, 4, 167, 0, 4, 3, 172]
abbrev dktX0_has_0 : List UInt8 := dkwX0_has_0 ++ []
theorem dksX0_has_0 : cX0_has.data.toList.drop 0 = dktX0_has_0 := by decide +kernel
theorem dX0_has_0 : decode cX0_has 0 = .ok (.iload_n 0, 1) := dk_26 (dk_at dksX0_has_0 0 rfl rfl)
theorem dX0_has_1 : decode cX0_has 1 = .ok (.iload_n 1, 1) := dk_27 (dk_at dksX0_has_0 1 rfl rfl)
theorem dX0_has_2 : decode cX0_has 2 = .ok (.ishr, 1) := dk_122 (dk_at dksX0_has_0 2 rfl rfl)
theorem dX0_has_3 : decode cX0_has 3 = .ok (.iconst 1, 1) := dk_4 (dk_at dksX0_has_0 3 rfl rfl)
theorem dX0_has_4 : decode cX0_has 4 = .ok (.iand, 1) := dk_126 (dk_at dksX0_has_0 4 rfl rfl)
theorem dX0_has_5 : decode cX0_has 5 = .ok (.iconst 1, 1) := dk_4 (dk_at dksX0_has_0 5 rfl rfl)
theorem dX0_has_6 : decode cX0_has 6 = .ok (.if_icmp .ne 7, 3) := dk_160 0 7 (dk_at dksX0_has_0 6 rfl rfl)
theorem dX0_has_9 : decode cX0_has 9 = .ok (.iconst 1, 1) := dk_4 (dk_at dksX0_has_0 9 rfl rfl)
theorem dX0_has_10 : decode cX0_has 10 = .ok (.goto 4, 3) := dk_167 0 4 (dk_at dksX0_has_0 10 rfl rfl)
theorem dX0_has_13 : decode cX0_has 13 = .ok (.iconst 0, 1) := dk_3 (dk_at dksX0_has_0 13 rfl rfl)
theorem dX0_has_14 : decode cX0_has 14 = .ok (.ireturn, 1) := dk_172 (dk_at dksX0_has_0 14 rfl rfl)
abbrev cX0_show : ByteArray := prog_1_method_31_code
def yX0_show : MethodName := ⟨RX0, "show", "([II)V"⟩
def dkwX0_show_0 : List UInt8 := [43, 3, 42, 180, 0, 51, 3, 28, 184, 0, 242, 42, 28, 181, 0, 136, 177]
abbrev dktX0_show_0 : List UInt8 := dkwX0_show_0 ++ []
theorem dksX0_show_0 : cX0_show.data.toList.drop 0 = dktX0_show_0 := by decide +kernel
theorem dX0_show_0 : decode cX0_show 0 = .ok (.aload_n 1, 1) := dk_43 (dk_at dksX0_show_0 0 rfl rfl)
theorem dX0_show_1 : decode cX0_show 1 = .ok (.iconst 0, 1) := dk_3 (dk_at dksX0_show_0 1 rfl rfl)
theorem dX0_show_2 : decode cX0_show 2 = .ok (.aload_n 0, 1) := dk_42 (dk_at dksX0_show_0 2 rfl rfl)
theorem dX0_show_3 : decode cX0_show 3 = .ok (.getfield 51, 3) := dk_180 0 51 (dk_at dksX0_show_0 3 rfl rfl)
theorem dX0_show_6 : decode cX0_show 6 = .ok (.iconst 0, 1) := dk_3 (dk_at dksX0_show_0 6 rfl rfl)
theorem dX0_show_7 : decode cX0_show 7 = .ok (.iload_n 2, 1) := dk_28 (dk_at dksX0_show_0 7 rfl rfl)
theorem dX0_show_8 : decode cX0_show 8 = .ok (.invokestatic 242, 3) := dk_184 0 242 (dk_at dksX0_show_0 8 rfl rfl)
theorem dX0_show_11 : decode cX0_show 11 = .ok (.aload_n 0, 1) := dk_42 (dk_at dksX0_show_0 11 rfl rfl)
theorem dX0_show_12 : decode cX0_show 12 = .ok (.iload_n 2, 1) := dk_28 (dk_at dksX0_show_0 12 rfl rfl)
theorem dX0_show_13 : decode cX0_show 13 = .ok (.putfield 136, 3) := dk_181 0 136 (dk_at dksX0_show_0 13 rfl rfl)
theorem dX0_show_16 : decode cX0_show 16 = .ok (.return_, 1) := dk_177 (dk_at dksX0_show_0 16 rfl rfl)
abbrev cX0_rest : ByteArray := prog_1_method_33_code
def yX0_rest : MethodName := ⟨RX0, "rest", "(I)I"⟩
def dkwX0_rest_2 : List UInt8 := [180, 1, 6, 28, 161, 0, 5, 29, 172, 132, 3, 255, 167, 255, 227, 3, 172]
abbrev dktX0_rest_2 : List UInt8 := dkwX0_rest_2 ++ []
def dkwX0_rest_1 : List UInt8 := [180, 1, 6, 61, 16, 60, 62, 29, 158, 0, 31, 42, 180, 0, 60, 27, 29, 182, 0, 248, 42, 180, 0, 60]
abbrev dktX0_rest_1 : List UInt8 := dkwX0_rest_1 ++ dktX0_rest_2
def dkwX0_rest_0 : List UInt8 := [42, 27, 182, 0, 216, 154, 0, 5, 2, 172, 42, 180, 0, 60, 27, 3, 182, 0, 248, 42, 180, 0, 60]
abbrev dktX0_rest_0 : List UInt8 := dkwX0_rest_0 ++ dktX0_rest_1
theorem dksX0_rest_0 : cX0_rest.data.toList.drop 0 = dktX0_rest_0 := by decide +kernel
theorem dksX0_rest_1 : cX0_rest.data.toList.drop 23 = dktX0_rest_1 := dk_seg dksX0_rest_0 23 rfl rfl
theorem dksX0_rest_2 : cX0_rest.data.toList.drop 47 = dktX0_rest_2 := dk_seg dksX0_rest_1 24 rfl rfl
theorem dX0_rest_0 : decode cX0_rest 0 = .ok (.aload_n 0, 1) := dk_42 (dk_at dksX0_rest_0 0 rfl rfl)
theorem dX0_rest_1 : decode cX0_rest 1 = .ok (.iload_n 1, 1) := dk_27 (dk_at dksX0_rest_0 1 rfl rfl)
theorem dX0_rest_2 : decode cX0_rest 2 = .ok (.invokevirtual 216, 3) := dk_182 0 216 (dk_at dksX0_rest_0 2 rfl rfl)
theorem dX0_rest_5 : decode cX0_rest 5 = .ok (.ifCond .ne 5, 3) := dk_154 0 5 (dk_at dksX0_rest_0 5 rfl rfl)
theorem dX0_rest_8 : decode cX0_rest 8 = .ok (.iconst (-1), 1) := dk_2 (dk_at dksX0_rest_0 8 rfl rfl)
theorem dX0_rest_9 : decode cX0_rest 9 = .ok (.ireturn, 1) := dk_172 (dk_at dksX0_rest_0 9 rfl rfl)
theorem dX0_rest_10 : decode cX0_rest 10 = .ok (.aload_n 0, 1) := dk_42 (dk_at dksX0_rest_0 10 rfl rfl)
theorem dX0_rest_11 : decode cX0_rest 11 = .ok (.getfield 60, 3) := dk_180 0 60 (dk_at dksX0_rest_0 11 rfl rfl)
theorem dX0_rest_14 : decode cX0_rest 14 = .ok (.iload_n 1, 1) := dk_27 (dk_at dksX0_rest_0 14 rfl rfl)
theorem dX0_rest_15 : decode cX0_rest 15 = .ok (.iconst 0, 1) := dk_3 (dk_at dksX0_rest_0 15 rfl rfl)
theorem dX0_rest_16 : decode cX0_rest 16 = .ok (.invokevirtual 248, 3) := dk_182 0 248 (dk_at dksX0_rest_0 16 rfl rfl)
theorem dX0_rest_19 : decode cX0_rest 19 = .ok (.aload_n 0, 1) := dk_42 (dk_at dksX0_rest_0 19 rfl rfl)
theorem dX0_rest_20 : decode cX0_rest 20 = .ok (.getfield 60, 3) := dk_180 0 60 (dk_at dksX0_rest_0 20 rfl rfl)
theorem dX0_rest_23 : decode cX0_rest 23 = .ok (.getfield 262, 3) := dk_180 1 6 (dk_at dksX0_rest_1 0 rfl rfl)
theorem dX0_rest_26 : decode cX0_rest 26 = .ok (.istore_n 2, 1) := dk_61 (dk_at dksX0_rest_1 3 rfl rfl)
theorem dX0_rest_27 : decode cX0_rest 27 = .ok (.bipush 60, 2) := dk_16 60 (dk_at dksX0_rest_1 4 rfl rfl)
theorem dX0_rest_29 : decode cX0_rest 29 = .ok (.istore_n 3, 1) := dk_62 (dk_at dksX0_rest_1 6 rfl rfl)
theorem dX0_rest_30 : decode cX0_rest 30 = .ok (.iload_n 3, 1) := dk_29 (dk_at dksX0_rest_1 7 rfl rfl)
theorem dX0_rest_31 : decode cX0_rest 31 = .ok (.ifCond .le 31, 3) := dk_158 0 31 (dk_at dksX0_rest_1 8 rfl rfl)
theorem dX0_rest_34 : decode cX0_rest 34 = .ok (.aload_n 0, 1) := dk_42 (dk_at dksX0_rest_1 11 rfl rfl)
theorem dX0_rest_35 : decode cX0_rest 35 = .ok (.getfield 60, 3) := dk_180 0 60 (dk_at dksX0_rest_1 12 rfl rfl)
theorem dX0_rest_38 : decode cX0_rest 38 = .ok (.iload_n 1, 1) := dk_27 (dk_at dksX0_rest_1 15 rfl rfl)
theorem dX0_rest_39 : decode cX0_rest 39 = .ok (.iload_n 3, 1) := dk_29 (dk_at dksX0_rest_1 16 rfl rfl)
theorem dX0_rest_40 : decode cX0_rest 40 = .ok (.invokevirtual 248, 3) := dk_182 0 248 (dk_at dksX0_rest_1 17 rfl rfl)
theorem dX0_rest_43 : decode cX0_rest 43 = .ok (.aload_n 0, 1) := dk_42 (dk_at dksX0_rest_1 20 rfl rfl)
theorem dX0_rest_44 : decode cX0_rest 44 = .ok (.getfield 60, 3) := dk_180 0 60 (dk_at dksX0_rest_1 21 rfl rfl)
theorem dX0_rest_47 : decode cX0_rest 47 = .ok (.getfield 262, 3) := dk_180 1 6 (dk_at dksX0_rest_2 0 rfl rfl)
theorem dX0_rest_50 : decode cX0_rest 50 = .ok (.iload_n 2, 1) := dk_28 (dk_at dksX0_rest_2 3 rfl rfl)
theorem dX0_rest_51 : decode cX0_rest 51 = .ok (.if_icmp .lt 5, 3) := dk_161 0 5 (dk_at dksX0_rest_2 4 rfl rfl)
theorem dX0_rest_54 : decode cX0_rest 54 = .ok (.iload_n 3, 1) := dk_29 (dk_at dksX0_rest_2 7 rfl rfl)
theorem dX0_rest_55 : decode cX0_rest 55 = .ok (.ireturn, 1) := dk_172 (dk_at dksX0_rest_2 8 rfl rfl)
theorem dX0_rest_56 : decode cX0_rest 56 = .ok (.iinc 3 (-1), 3) := dk_132 3 255 (dk_at dksX0_rest_2 9 rfl rfl)
theorem dX0_rest_59 : decode cX0_rest 59 = .ok (.goto (-29), 3) := dk_167 255 227 (dk_at dksX0_rest_2 12 rfl rfl)
theorem dX0_rest_62 : decode cX0_rest 62 = .ok (.iconst 0, 1) := dk_3 (dk_at dksX0_rest_2 15 rfl rfl)
theorem dX0_rest_63 : decode cX0_rest 63 = .ok (.ireturn, 1) := dk_172 (dk_at dksX0_rest_2 16 rfl rfl)
abbrev cX0_ties : ByteArray := prog_1_method_34_code
def yX0_ties : MethodName := ⟨RX0, "ties", "(II)I"⟩
def dkwX0_ties_4 : List UInt8 := [21, 4, 120, 128, 62, 132, 4, 1, 167, 255, 184, 29, 172]
abbrev dktX0_ties_4 : List UInt8 := dkwX0_ties_4 ++ []
def dkwX0_ties_3 : List UInt8 := [180, 0, 10, 180, 0, 110, 21, 4, 182, 0, 113, 192, 0, 117, 180, 0, 200, 28, 160, 0, 10, 29, 4]
abbrev dktX0_ties_3 : List UInt8 := dkwX0_ties_3 ++ dktX0_ties_4
def dkwX0_ties_2 : List UInt8 := [180, 0, 10, 180, 0, 110, 21, 4, 182, 0, 113, 192, 0, 117, 180, 0, 197, 27, 160, 0, 32, 42]
abbrev dktX0_ties_2 : List UInt8 := dkwX0_ties_2 ++ dktX0_ties_3
def dkwX0_ties_1 : List UInt8 := [62, 3, 54, 4, 21, 4, 42, 182, 0, 106, 162, 0, 69, 42, 21, 4, 182, 0, 219, 153, 0, 54, 42]
abbrev dktX0_ties_1 : List UInt8 := dkwX0_ties_1 ++ dktX0_ties_2
def dkwX0_ties_0 : List UInt8 := [42, 27, 182, 0, 216, 153, 0, 16, 42, 28, 182, 0, 216, 153, 0, 8, 27, 28, 160, 0, 5, 2, 172, 3]
abbrev dktX0_ties_0 : List UInt8 := dkwX0_ties_0 ++ dktX0_ties_1
theorem dksX0_ties_0 : cX0_ties.data.toList.drop 0 = dktX0_ties_0 := by decide +kernel
theorem dksX0_ties_1 : cX0_ties.data.toList.drop 24 = dktX0_ties_1 := dk_seg dksX0_ties_0 24 rfl rfl
theorem dksX0_ties_2 : cX0_ties.data.toList.drop 47 = dktX0_ties_2 := dk_seg dksX0_ties_1 23 rfl rfl
theorem dksX0_ties_3 : cX0_ties.data.toList.drop 69 = dktX0_ties_3 := dk_seg dksX0_ties_2 22 rfl rfl
theorem dksX0_ties_4 : cX0_ties.data.toList.drop 92 = dktX0_ties_4 := dk_seg dksX0_ties_3 23 rfl rfl
theorem dX0_ties_0 : decode cX0_ties 0 = .ok (.aload_n 0, 1) := dk_42 (dk_at dksX0_ties_0 0 rfl rfl)
theorem dX0_ties_1 : decode cX0_ties 1 = .ok (.iload_n 1, 1) := dk_27 (dk_at dksX0_ties_0 1 rfl rfl)
theorem dX0_ties_2 : decode cX0_ties 2 = .ok (.invokevirtual 216, 3) := dk_182 0 216 (dk_at dksX0_ties_0 2 rfl rfl)
theorem dX0_ties_5 : decode cX0_ties 5 = .ok (.ifCond .eq 16, 3) := dk_153 0 16 (dk_at dksX0_ties_0 5 rfl rfl)
theorem dX0_ties_8 : decode cX0_ties 8 = .ok (.aload_n 0, 1) := dk_42 (dk_at dksX0_ties_0 8 rfl rfl)
theorem dX0_ties_9 : decode cX0_ties 9 = .ok (.iload_n 2, 1) := dk_28 (dk_at dksX0_ties_0 9 rfl rfl)
theorem dX0_ties_10 : decode cX0_ties 10 = .ok (.invokevirtual 216, 3) := dk_182 0 216 (dk_at dksX0_ties_0 10 rfl rfl)
theorem dX0_ties_13 : decode cX0_ties 13 = .ok (.ifCond .eq 8, 3) := dk_153 0 8 (dk_at dksX0_ties_0 13 rfl rfl)
theorem dX0_ties_16 : decode cX0_ties 16 = .ok (.iload_n 1, 1) := dk_27 (dk_at dksX0_ties_0 16 rfl rfl)
theorem dX0_ties_17 : decode cX0_ties 17 = .ok (.iload_n 2, 1) := dk_28 (dk_at dksX0_ties_0 17 rfl rfl)
theorem dX0_ties_18 : decode cX0_ties 18 = .ok (.if_icmp .ne 5, 3) := dk_160 0 5 (dk_at dksX0_ties_0 18 rfl rfl)
theorem dX0_ties_21 : decode cX0_ties 21 = .ok (.iconst (-1), 1) := dk_2 (dk_at dksX0_ties_0 21 rfl rfl)
theorem dX0_ties_22 : decode cX0_ties 22 = .ok (.ireturn, 1) := dk_172 (dk_at dksX0_ties_0 22 rfl rfl)
theorem dX0_ties_23 : decode cX0_ties 23 = .ok (.iconst 0, 1) := dk_3 (dk_at dksX0_ties_0 23 rfl rfl)
theorem dX0_ties_24 : decode cX0_ties 24 = .ok (.istore_n 3, 1) := dk_62 (dk_at dksX0_ties_1 0 rfl rfl)
theorem dX0_ties_25 : decode cX0_ties 25 = .ok (.iconst 0, 1) := dk_3 (dk_at dksX0_ties_1 1 rfl rfl)
theorem dX0_ties_26 : decode cX0_ties 26 = .ok (.istore 4, 2) := dk_54 4 (dk_at dksX0_ties_1 2 rfl rfl)
theorem dX0_ties_28 : decode cX0_ties 28 = .ok (.iload 4, 2) := dk_21 4 (dk_at dksX0_ties_1 4 rfl rfl)
theorem dX0_ties_30 : decode cX0_ties 30 = .ok (.aload_n 0, 1) := dk_42 (dk_at dksX0_ties_1 6 rfl rfl)
theorem dX0_ties_31 : decode cX0_ties 31 = .ok (.invokevirtual 106, 3) := dk_182 0 106 (dk_at dksX0_ties_1 7 rfl rfl)
theorem dX0_ties_34 : decode cX0_ties 34 = .ok (.if_icmp .ge 69, 3) := dk_162 0 69 (dk_at dksX0_ties_1 10 rfl rfl)
theorem dX0_ties_37 : decode cX0_ties 37 = .ok (.aload_n 0, 1) := dk_42 (dk_at dksX0_ties_1 13 rfl rfl)
theorem dX0_ties_38 : decode cX0_ties 38 = .ok (.iload 4, 2) := dk_21 4 (dk_at dksX0_ties_1 14 rfl rfl)
theorem dX0_ties_40 : decode cX0_ties 40 = .ok (.invokevirtual 219, 3) := dk_182 0 219 (dk_at dksX0_ties_1 16 rfl rfl)
theorem dX0_ties_43 : decode cX0_ties 43 = .ok (.ifCond .eq 54, 3) := dk_153 0 54 (dk_at dksX0_ties_1 19 rfl rfl)
theorem dX0_ties_46 : decode cX0_ties 46 = .ok (.aload_n 0, 1) := dk_42 (dk_at dksX0_ties_1 22 rfl rfl)
theorem dX0_ties_47 : decode cX0_ties 47 = .ok (.getfield 10, 3) := dk_180 0 10 (dk_at dksX0_ties_2 0 rfl rfl)
theorem dX0_ties_50 : decode cX0_ties 50 = .ok (.getfield 110, 3) := dk_180 0 110 (dk_at dksX0_ties_2 3 rfl rfl)
theorem dX0_ties_53 : decode cX0_ties 53 = .ok (.iload 4, 2) := dk_21 4 (dk_at dksX0_ties_2 6 rfl rfl)
theorem dX0_ties_55 : decode cX0_ties 55 = .ok (.invokevirtual 113, 3) := dk_182 0 113 (dk_at dksX0_ties_2 8 rfl rfl)
theorem dX0_ties_58 : decode cX0_ties 58 = .ok (.checkcast 117, 3) := dk_192 0 117 (dk_at dksX0_ties_2 11 rfl rfl)
theorem dX0_ties_61 : decode cX0_ties 61 = .ok (.getfield 197, 3) := dk_180 0 197 (dk_at dksX0_ties_2 14 rfl rfl)
theorem dX0_ties_64 : decode cX0_ties 64 = .ok (.iload_n 1, 1) := dk_27 (dk_at dksX0_ties_2 17 rfl rfl)
theorem dX0_ties_65 : decode cX0_ties 65 = .ok (.if_icmp .ne 32, 3) := dk_160 0 32 (dk_at dksX0_ties_2 18 rfl rfl)
theorem dX0_ties_68 : decode cX0_ties 68 = .ok (.aload_n 0, 1) := dk_42 (dk_at dksX0_ties_2 21 rfl rfl)
theorem dX0_ties_69 : decode cX0_ties 69 = .ok (.getfield 10, 3) := dk_180 0 10 (dk_at dksX0_ties_3 0 rfl rfl)
theorem dX0_ties_72 : decode cX0_ties 72 = .ok (.getfield 110, 3) := dk_180 0 110 (dk_at dksX0_ties_3 3 rfl rfl)
theorem dX0_ties_75 : decode cX0_ties 75 = .ok (.iload 4, 2) := dk_21 4 (dk_at dksX0_ties_3 6 rfl rfl)
theorem dX0_ties_77 : decode cX0_ties 77 = .ok (.invokevirtual 113, 3) := dk_182 0 113 (dk_at dksX0_ties_3 8 rfl rfl)
theorem dX0_ties_80 : decode cX0_ties 80 = .ok (.checkcast 117, 3) := dk_192 0 117 (dk_at dksX0_ties_3 11 rfl rfl)
theorem dX0_ties_83 : decode cX0_ties 83 = .ok (.getfield 200, 3) := dk_180 0 200 (dk_at dksX0_ties_3 14 rfl rfl)
theorem dX0_ties_86 : decode cX0_ties 86 = .ok (.iload_n 2, 1) := dk_28 (dk_at dksX0_ties_3 17 rfl rfl)
theorem dX0_ties_87 : decode cX0_ties 87 = .ok (.if_icmp .ne 10, 3) := dk_160 0 10 (dk_at dksX0_ties_3 18 rfl rfl)
theorem dX0_ties_90 : decode cX0_ties 90 = .ok (.iload_n 3, 1) := dk_29 (dk_at dksX0_ties_3 21 rfl rfl)
theorem dX0_ties_91 : decode cX0_ties 91 = .ok (.iconst 1, 1) := dk_4 (dk_at dksX0_ties_3 22 rfl rfl)
theorem dX0_ties_92 : decode cX0_ties 92 = .ok (.iload 4, 2) := dk_21 4 (dk_at dksX0_ties_4 0 rfl rfl)
theorem dX0_ties_94 : decode cX0_ties 94 = .ok (.ishl, 1) := dk_120 (dk_at dksX0_ties_4 2 rfl rfl)
theorem dX0_ties_95 : decode cX0_ties 95 = .ok (.ior, 1) := dk_128 (dk_at dksX0_ties_4 3 rfl rfl)
theorem dX0_ties_96 : decode cX0_ties 96 = .ok (.istore_n 3, 1) := dk_62 (dk_at dksX0_ties_4 4 rfl rfl)
theorem dX0_ties_97 : decode cX0_ties 97 = .ok (.iinc 4 1, 3) := dk_132 4 1 (dk_at dksX0_ties_4 5 rfl rfl)
theorem dX0_ties_100 : decode cX0_ties 100 = .ok (.goto (-72), 3) := dk_167 255 184 (dk_at dksX0_ties_4 8 rfl rfl)
theorem dX0_ties_103 : decode cX0_ties 103 = .ok (.iload_n 3, 1) := dk_29 (dk_at dksX0_ties_4 11 rfl rfl)
theorem dX0_ties_104 : decode cX0_ties 104 = .ok (.ireturn, 1) := dk_172 (dk_at dksX0_ties_4 12 rfl rfl)
abbrev cX0_clash : ByteArray := prog_1_method_36_code
def yX0_clash : MethodName := ⟨RX0, "clash", "(II)I"⟩
def dkwX0_clash_5 : List UInt8 := [184, 1, 18, 167, 0, 5, 21, 4, 172]
abbrev dktX0_clash_5 : List UInt8 := dkwX0_clash_5 ++ []
def dkwX0_clash_4 : List UInt8 := [54, 4, 132, 5, 1, 167, 255, 196, 21, 4, 156, 0, 7, 2, 167, 0, 17, 28, 154, 0, 11, 21, 4]
abbrev dktX0_clash_4 : List UInt8 := dkwX0_clash_4 ++ dktX0_clash_5
def dkwX0_clash_3 : List UInt8 := [184, 1, 18, 162, 0, 22, 42, 180, 0, 60, 21, 5, 182, 1, 23, 153, 0, 6, 167, 0, 7, 21, 5]
abbrev dktX0_clash_3 : List UInt8 := dkwX0_clash_3 ++ dktX0_clash_4
def dkwX0_clash_2 : List UInt8 := [162, 0, 55, 21, 5, 29, 2, 130, 126, 154, 0, 40, 21, 4, 155, 0, 16, 21, 5, 184, 1, 18, 21, 4]
abbrev dktX0_clash_2 : List UInt8 := dkwX0_clash_2 ++ dktX0_clash_3
def dkwX0_clash_1 : List UInt8 := [3, 182, 0, 248, 42, 27, 182, 1, 14, 62, 2, 54, 4, 4, 54, 5, 21, 5, 4, 42, 182, 0, 106, 120]
abbrev dktX0_clash_1 : List UInt8 := dkwX0_clash_1 ++ dktX0_clash_2
def dkwX0_clash_0 : List UInt8 := [42, 27, 182, 0, 216, 153, 0, 12, 28, 3, 4, 184, 0, 158, 154, 0, 5, 2, 172, 42, 180, 0, 60, 27]
abbrev dktX0_clash_0 : List UInt8 := dkwX0_clash_0 ++ dktX0_clash_1
theorem dksX0_clash_0 : cX0_clash.data.toList.drop 0 = dktX0_clash_0 := by decide +kernel
theorem dksX0_clash_1 : cX0_clash.data.toList.drop 24 = dktX0_clash_1 := dk_seg dksX0_clash_0 24 rfl rfl
theorem dksX0_clash_2 : cX0_clash.data.toList.drop 48 = dktX0_clash_2 := dk_seg dksX0_clash_1 24 rfl rfl
theorem dksX0_clash_3 : cX0_clash.data.toList.drop 72 = dktX0_clash_3 := dk_seg dksX0_clash_2 24 rfl rfl
theorem dksX0_clash_4 : cX0_clash.data.toList.drop 95 = dktX0_clash_4 := dk_seg dksX0_clash_3 23 rfl rfl
theorem dksX0_clash_5 : cX0_clash.data.toList.drop 118 = dktX0_clash_5 := dk_seg dksX0_clash_4 23 rfl rfl
theorem dX0_clash_0 : decode cX0_clash 0 = .ok (.aload_n 0, 1) := dk_42 (dk_at dksX0_clash_0 0 rfl rfl)
theorem dX0_clash_1 : decode cX0_clash 1 = .ok (.iload_n 1, 1) := dk_27 (dk_at dksX0_clash_0 1 rfl rfl)
theorem dX0_clash_2 : decode cX0_clash 2 = .ok (.invokevirtual 216, 3) := dk_182 0 216 (dk_at dksX0_clash_0 2 rfl rfl)
theorem dX0_clash_5 : decode cX0_clash 5 = .ok (.ifCond .eq 12, 3) := dk_153 0 12 (dk_at dksX0_clash_0 5 rfl rfl)
theorem dX0_clash_8 : decode cX0_clash 8 = .ok (.iload_n 2, 1) := dk_28 (dk_at dksX0_clash_0 8 rfl rfl)
theorem dX0_clash_9 : decode cX0_clash 9 = .ok (.iconst 0, 1) := dk_3 (dk_at dksX0_clash_0 9 rfl rfl)
theorem dX0_clash_10 : decode cX0_clash 10 = .ok (.iconst 1, 1) := dk_4 (dk_at dksX0_clash_0 10 rfl rfl)
theorem dX0_clash_11 : decode cX0_clash 11 = .ok (.invokestatic 158, 3) := dk_184 0 158 (dk_at dksX0_clash_0 11 rfl rfl)
theorem dX0_clash_14 : decode cX0_clash 14 = .ok (.ifCond .ne 5, 3) := dk_154 0 5 (dk_at dksX0_clash_0 14 rfl rfl)
theorem dX0_clash_17 : decode cX0_clash 17 = .ok (.iconst (-1), 1) := dk_2 (dk_at dksX0_clash_0 17 rfl rfl)
theorem dX0_clash_18 : decode cX0_clash 18 = .ok (.ireturn, 1) := dk_172 (dk_at dksX0_clash_0 18 rfl rfl)
theorem dX0_clash_19 : decode cX0_clash 19 = .ok (.aload_n 0, 1) := dk_42 (dk_at dksX0_clash_0 19 rfl rfl)
theorem dX0_clash_20 : decode cX0_clash 20 = .ok (.getfield 60, 3) := dk_180 0 60 (dk_at dksX0_clash_0 20 rfl rfl)
theorem dX0_clash_23 : decode cX0_clash 23 = .ok (.iload_n 1, 1) := dk_27 (dk_at dksX0_clash_0 23 rfl rfl)
theorem dX0_clash_24 : decode cX0_clash 24 = .ok (.iconst 0, 1) := dk_3 (dk_at dksX0_clash_1 0 rfl rfl)
theorem dX0_clash_25 : decode cX0_clash 25 = .ok (.invokevirtual 248, 3) := dk_182 0 248 (dk_at dksX0_clash_1 1 rfl rfl)
theorem dX0_clash_28 : decode cX0_clash 28 = .ok (.aload_n 0, 1) := dk_42 (dk_at dksX0_clash_1 4 rfl rfl)
theorem dX0_clash_29 : decode cX0_clash 29 = .ok (.iload_n 1, 1) := dk_27 (dk_at dksX0_clash_1 5 rfl rfl)
theorem dX0_clash_30 : decode cX0_clash 30 = .ok (.invokevirtual 270, 3) := dk_182 1 14 (dk_at dksX0_clash_1 6 rfl rfl)
theorem dX0_clash_33 : decode cX0_clash 33 = .ok (.istore_n 3, 1) := dk_62 (dk_at dksX0_clash_1 9 rfl rfl)
theorem dX0_clash_34 : decode cX0_clash 34 = .ok (.iconst (-1), 1) := dk_2 (dk_at dksX0_clash_1 10 rfl rfl)
theorem dX0_clash_35 : decode cX0_clash 35 = .ok (.istore 4, 2) := dk_54 4 (dk_at dksX0_clash_1 11 rfl rfl)
theorem dX0_clash_37 : decode cX0_clash 37 = .ok (.iconst 1, 1) := dk_4 (dk_at dksX0_clash_1 13 rfl rfl)
theorem dX0_clash_38 : decode cX0_clash 38 = .ok (.istore 5, 2) := dk_54 5 (dk_at dksX0_clash_1 14 rfl rfl)
theorem dX0_clash_40 : decode cX0_clash 40 = .ok (.iload 5, 2) := dk_21 5 (dk_at dksX0_clash_1 16 rfl rfl)
theorem dX0_clash_42 : decode cX0_clash 42 = .ok (.iconst 1, 1) := dk_4 (dk_at dksX0_clash_1 18 rfl rfl)
theorem dX0_clash_43 : decode cX0_clash 43 = .ok (.aload_n 0, 1) := dk_42 (dk_at dksX0_clash_1 19 rfl rfl)
theorem dX0_clash_44 : decode cX0_clash 44 = .ok (.invokevirtual 106, 3) := dk_182 0 106 (dk_at dksX0_clash_1 20 rfl rfl)
theorem dX0_clash_47 : decode cX0_clash 47 = .ok (.ishl, 1) := dk_120 (dk_at dksX0_clash_1 23 rfl rfl)
theorem dX0_clash_48 : decode cX0_clash 48 = .ok (.if_icmp .ge 55, 3) := dk_162 0 55 (dk_at dksX0_clash_2 0 rfl rfl)
theorem dX0_clash_51 : decode cX0_clash 51 = .ok (.iload 5, 2) := dk_21 5 (dk_at dksX0_clash_2 3 rfl rfl)
theorem dX0_clash_53 : decode cX0_clash 53 = .ok (.iload_n 3, 1) := dk_29 (dk_at dksX0_clash_2 5 rfl rfl)
theorem dX0_clash_54 : decode cX0_clash 54 = .ok (.iconst (-1), 1) := dk_2 (dk_at dksX0_clash_2 6 rfl rfl)
theorem dX0_clash_55 : decode cX0_clash 55 = .ok (.ixor, 1) := dk_130 (dk_at dksX0_clash_2 7 rfl rfl)
theorem dX0_clash_56 : decode cX0_clash 56 = .ok (.iand, 1) := dk_126 (dk_at dksX0_clash_2 8 rfl rfl)
theorem dX0_clash_57 : decode cX0_clash 57 = .ok (.ifCond .ne 40, 3) := dk_154 0 40 (dk_at dksX0_clash_2 9 rfl rfl)
theorem dX0_clash_60 : decode cX0_clash 60 = .ok (.iload 4, 2) := dk_21 4 (dk_at dksX0_clash_2 12 rfl rfl)
theorem dX0_clash_62 : decode cX0_clash 62 = .ok (.ifCond .lt 16, 3) := dk_155 0 16 (dk_at dksX0_clash_2 14 rfl rfl)
theorem dX0_clash_65 : decode cX0_clash 65 = .ok (.iload 5, 2) := dk_21 5 (dk_at dksX0_clash_2 17 rfl rfl)
theorem dX0_clash_67 : decode cX0_clash 67 = .ok (.invokestatic 274, 3) := dk_184 1 18 (dk_at dksX0_clash_2 19 rfl rfl)
theorem dX0_clash_70 : decode cX0_clash 70 = .ok (.iload 4, 2) := dk_21 4 (dk_at dksX0_clash_2 22 rfl rfl)
theorem dX0_clash_72 : decode cX0_clash 72 = .ok (.invokestatic 274, 3) := dk_184 1 18 (dk_at dksX0_clash_3 0 rfl rfl)
theorem dX0_clash_75 : decode cX0_clash 75 = .ok (.if_icmp .ge 22, 3) := dk_162 0 22 (dk_at dksX0_clash_3 3 rfl rfl)
theorem dX0_clash_78 : decode cX0_clash 78 = .ok (.aload_n 0, 1) := dk_42 (dk_at dksX0_clash_3 6 rfl rfl)
theorem dX0_clash_79 : decode cX0_clash 79 = .ok (.getfield 60, 3) := dk_180 0 60 (dk_at dksX0_clash_3 7 rfl rfl)
theorem dX0_clash_82 : decode cX0_clash 82 = .ok (.iload 5, 2) := dk_21 5 (dk_at dksX0_clash_3 10 rfl rfl)
theorem dX0_clash_84 : decode cX0_clash 84 = .ok (.invokevirtual 279, 3) := dk_182 1 23 (dk_at dksX0_clash_3 12 rfl rfl)
theorem dX0_clash_87 : decode cX0_clash 87 = .ok (.ifCond .eq 6, 3) := dk_153 0 6 (dk_at dksX0_clash_3 15 rfl rfl)
theorem dX0_clash_90 : decode cX0_clash 90 = .ok (.goto 7, 3) := dk_167 0 7 (dk_at dksX0_clash_3 18 rfl rfl)
theorem dX0_clash_93 : decode cX0_clash 93 = .ok (.iload 5, 2) := dk_21 5 (dk_at dksX0_clash_3 21 rfl rfl)
theorem dX0_clash_95 : decode cX0_clash 95 = .ok (.istore 4, 2) := dk_54 4 (dk_at dksX0_clash_4 0 rfl rfl)
theorem dX0_clash_97 : decode cX0_clash 97 = .ok (.iinc 5 1, 3) := dk_132 5 1 (dk_at dksX0_clash_4 2 rfl rfl)
theorem dX0_clash_100 : decode cX0_clash 100 = .ok (.goto (-60), 3) := dk_167 255 196 (dk_at dksX0_clash_4 5 rfl rfl)
theorem dX0_clash_103 : decode cX0_clash 103 = .ok (.iload 4, 2) := dk_21 4 (dk_at dksX0_clash_4 8 rfl rfl)
theorem dX0_clash_105 : decode cX0_clash 105 = .ok (.ifCond .ge 7, 3) := dk_156 0 7 (dk_at dksX0_clash_4 10 rfl rfl)
theorem dX0_clash_108 : decode cX0_clash 108 = .ok (.iconst (-1), 1) := dk_2 (dk_at dksX0_clash_4 13 rfl rfl)
theorem dX0_clash_109 : decode cX0_clash 109 = .ok (.goto 17, 3) := dk_167 0 17 (dk_at dksX0_clash_4 14 rfl rfl)
theorem dX0_clash_112 : decode cX0_clash 112 = .ok (.iload_n 2, 1) := dk_28 (dk_at dksX0_clash_4 17 rfl rfl)
theorem dX0_clash_113 : decode cX0_clash 113 = .ok (.ifCond .ne 11, 3) := dk_154 0 11 (dk_at dksX0_clash_4 18 rfl rfl)
theorem dX0_clash_116 : decode cX0_clash 116 = .ok (.iload 4, 2) := dk_21 4 (dk_at dksX0_clash_4 21 rfl rfl)
theorem dX0_clash_118 : decode cX0_clash 118 = .ok (.invokestatic 274, 3) := dk_184 1 18 (dk_at dksX0_clash_5 0 rfl rfl)
theorem dX0_clash_121 : decode cX0_clash 121 = .ok (.goto 5, 3) := dk_167 0 5 (dk_at dksX0_clash_5 3 rfl rfl)
theorem dX0_clash_124 : decode cX0_clash 124 = .ok (.iload 4, 2) := dk_21 4 (dk_at dksX0_clash_5 6 rfl rfl)
theorem dX0_clash_126 : decode cX0_clash 126 = .ok (.ireturn, 1) := dk_172 (dk_at dksX0_clash_5 8 rfl rfl)
abbrev cX0_promisesOf : ByteArray := prog_1_method_35_code
def yX0_promisesOf : MethodName := ⟨RX0, "promisesOf", "(I)I"⟩
def dkwX0_promisesOf_3 : List UInt8 := [167, 255, 190, 28, 172]
abbrev dktX0_promisesOf_3 : List UInt8 := dkwX0_promisesOf_3 ++ []
def dkwX0_promisesOf_2 : List UInt8 := [29, 182, 0, 113, 192, 0, 117, 182, 0, 206, 153, 0, 9, 28, 4, 29, 120, 128, 61, 132, 3, 1]
abbrev dktX0_promisesOf_2 : List UInt8 := dkwX0_promisesOf_2 ++ dktX0_promisesOf_3
def dkwX0_promisesOf_1 : List UInt8 := [180, 0, 110, 29, 182, 0, 113, 192, 0, 117, 180, 0, 197, 27, 160, 0, 29, 42, 180, 0, 10, 180, 0, 110]
abbrev dktX0_promisesOf_1 : List UInt8 := dkwX0_promisesOf_1 ++ dktX0_promisesOf_2
def dkwX0_promisesOf_0 : List UInt8 := [3, 61, 3, 62, 29, 42, 182, 0, 106, 162, 0, 64, 42, 29, 182, 0, 219, 153, 0, 50, 42, 180, 0, 10]
abbrev dktX0_promisesOf_0 : List UInt8 := dkwX0_promisesOf_0 ++ dktX0_promisesOf_1
theorem dksX0_promisesOf_0 : cX0_promisesOf.data.toList.drop 0 = dktX0_promisesOf_0 := by decide +kernel
theorem dksX0_promisesOf_1 : cX0_promisesOf.data.toList.drop 24 = dktX0_promisesOf_1 := dk_seg dksX0_promisesOf_0 24 rfl rfl
theorem dksX0_promisesOf_2 : cX0_promisesOf.data.toList.drop 48 = dktX0_promisesOf_2 := dk_seg dksX0_promisesOf_1 24 rfl rfl
theorem dksX0_promisesOf_3 : cX0_promisesOf.data.toList.drop 70 = dktX0_promisesOf_3 := dk_seg dksX0_promisesOf_2 22 rfl rfl
theorem dX0_promisesOf_0 : decode cX0_promisesOf 0 = .ok (.iconst 0, 1) := dk_3 (dk_at dksX0_promisesOf_0 0 rfl rfl)
theorem dX0_promisesOf_1 : decode cX0_promisesOf 1 = .ok (.istore_n 2, 1) := dk_61 (dk_at dksX0_promisesOf_0 1 rfl rfl)
theorem dX0_promisesOf_2 : decode cX0_promisesOf 2 = .ok (.iconst 0, 1) := dk_3 (dk_at dksX0_promisesOf_0 2 rfl rfl)
theorem dX0_promisesOf_3 : decode cX0_promisesOf 3 = .ok (.istore_n 3, 1) := dk_62 (dk_at dksX0_promisesOf_0 3 rfl rfl)
theorem dX0_promisesOf_4 : decode cX0_promisesOf 4 = .ok (.iload_n 3, 1) := dk_29 (dk_at dksX0_promisesOf_0 4 rfl rfl)
theorem dX0_promisesOf_5 : decode cX0_promisesOf 5 = .ok (.aload_n 0, 1) := dk_42 (dk_at dksX0_promisesOf_0 5 rfl rfl)
theorem dX0_promisesOf_6 : decode cX0_promisesOf 6 = .ok (.invokevirtual 106, 3) := dk_182 0 106 (dk_at dksX0_promisesOf_0 6 rfl rfl)
theorem dX0_promisesOf_9 : decode cX0_promisesOf 9 = .ok (.if_icmp .ge 64, 3) := dk_162 0 64 (dk_at dksX0_promisesOf_0 9 rfl rfl)
theorem dX0_promisesOf_12 : decode cX0_promisesOf 12 = .ok (.aload_n 0, 1) := dk_42 (dk_at dksX0_promisesOf_0 12 rfl rfl)
theorem dX0_promisesOf_13 : decode cX0_promisesOf 13 = .ok (.iload_n 3, 1) := dk_29 (dk_at dksX0_promisesOf_0 13 rfl rfl)
theorem dX0_promisesOf_14 : decode cX0_promisesOf 14 = .ok (.invokevirtual 219, 3) := dk_182 0 219 (dk_at dksX0_promisesOf_0 14 rfl rfl)
theorem dX0_promisesOf_17 : decode cX0_promisesOf 17 = .ok (.ifCond .eq 50, 3) := dk_153 0 50 (dk_at dksX0_promisesOf_0 17 rfl rfl)
theorem dX0_promisesOf_20 : decode cX0_promisesOf 20 = .ok (.aload_n 0, 1) := dk_42 (dk_at dksX0_promisesOf_0 20 rfl rfl)
theorem dX0_promisesOf_21 : decode cX0_promisesOf 21 = .ok (.getfield 10, 3) := dk_180 0 10 (dk_at dksX0_promisesOf_0 21 rfl rfl)
theorem dX0_promisesOf_24 : decode cX0_promisesOf 24 = .ok (.getfield 110, 3) := dk_180 0 110 (dk_at dksX0_promisesOf_1 0 rfl rfl)
theorem dX0_promisesOf_27 : decode cX0_promisesOf 27 = .ok (.iload_n 3, 1) := dk_29 (dk_at dksX0_promisesOf_1 3 rfl rfl)
theorem dX0_promisesOf_28 : decode cX0_promisesOf 28 = .ok (.invokevirtual 113, 3) := dk_182 0 113 (dk_at dksX0_promisesOf_1 4 rfl rfl)
theorem dX0_promisesOf_31 : decode cX0_promisesOf 31 = .ok (.checkcast 117, 3) := dk_192 0 117 (dk_at dksX0_promisesOf_1 7 rfl rfl)
theorem dX0_promisesOf_34 : decode cX0_promisesOf 34 = .ok (.getfield 197, 3) := dk_180 0 197 (dk_at dksX0_promisesOf_1 10 rfl rfl)
theorem dX0_promisesOf_37 : decode cX0_promisesOf 37 = .ok (.iload_n 1, 1) := dk_27 (dk_at dksX0_promisesOf_1 13 rfl rfl)
theorem dX0_promisesOf_38 : decode cX0_promisesOf 38 = .ok (.if_icmp .ne 29, 3) := dk_160 0 29 (dk_at dksX0_promisesOf_1 14 rfl rfl)
theorem dX0_promisesOf_41 : decode cX0_promisesOf 41 = .ok (.aload_n 0, 1) := dk_42 (dk_at dksX0_promisesOf_1 17 rfl rfl)
theorem dX0_promisesOf_42 : decode cX0_promisesOf 42 = .ok (.getfield 10, 3) := dk_180 0 10 (dk_at dksX0_promisesOf_1 18 rfl rfl)
theorem dX0_promisesOf_45 : decode cX0_promisesOf 45 = .ok (.getfield 110, 3) := dk_180 0 110 (dk_at dksX0_promisesOf_1 21 rfl rfl)
theorem dX0_promisesOf_48 : decode cX0_promisesOf 48 = .ok (.iload_n 3, 1) := dk_29 (dk_at dksX0_promisesOf_2 0 rfl rfl)
theorem dX0_promisesOf_49 : decode cX0_promisesOf 49 = .ok (.invokevirtual 113, 3) := dk_182 0 113 (dk_at dksX0_promisesOf_2 1 rfl rfl)
theorem dX0_promisesOf_52 : decode cX0_promisesOf 52 = .ok (.checkcast 117, 3) := dk_192 0 117 (dk_at dksX0_promisesOf_2 4 rfl rfl)
theorem dX0_promisesOf_55 : decode cX0_promisesOf 55 = .ok (.invokevirtual 206, 3) := dk_182 0 206 (dk_at dksX0_promisesOf_2 7 rfl rfl)
theorem dX0_promisesOf_58 : decode cX0_promisesOf 58 = .ok (.ifCond .eq 9, 3) := dk_153 0 9 (dk_at dksX0_promisesOf_2 10 rfl rfl)
theorem dX0_promisesOf_61 : decode cX0_promisesOf 61 = .ok (.iload_n 2, 1) := dk_28 (dk_at dksX0_promisesOf_2 13 rfl rfl)
theorem dX0_promisesOf_62 : decode cX0_promisesOf 62 = .ok (.iconst 1, 1) := dk_4 (dk_at dksX0_promisesOf_2 14 rfl rfl)
theorem dX0_promisesOf_63 : decode cX0_promisesOf 63 = .ok (.iload_n 3, 1) := dk_29 (dk_at dksX0_promisesOf_2 15 rfl rfl)
theorem dX0_promisesOf_64 : decode cX0_promisesOf 64 = .ok (.ishl, 1) := dk_120 (dk_at dksX0_promisesOf_2 16 rfl rfl)
theorem dX0_promisesOf_65 : decode cX0_promisesOf 65 = .ok (.ior, 1) := dk_128 (dk_at dksX0_promisesOf_2 17 rfl rfl)
theorem dX0_promisesOf_66 : decode cX0_promisesOf 66 = .ok (.istore_n 2, 1) := dk_61 (dk_at dksX0_promisesOf_2 18 rfl rfl)
theorem dX0_promisesOf_67 : decode cX0_promisesOf 67 = .ok (.iinc 3 1, 3) := dk_132 3 1 (dk_at dksX0_promisesOf_2 19 rfl rfl)
theorem dX0_promisesOf_70 : decode cX0_promisesOf 70 = .ok (.goto (-66), 3) := dk_167 255 190 (dk_at dksX0_promisesOf_3 0 rfl rfl)
theorem dX0_promisesOf_73 : decode cX0_promisesOf 73 = .ok (.iload_n 2, 1) := dk_28 (dk_at dksX0_promisesOf_3 3 rfl rfl)
theorem dX0_promisesOf_74 : decode cX0_promisesOf 74 = .ok (.ireturn, 1) := dk_172 (dk_at dksX0_promisesOf_3 4 rfl rfl)
abbrev cX0_leave : ByteArray := prog_1_method_38_code
def yX0_leave : MethodName := ⟨RX0, "leave", "(II)I"⟩
def dkwX0_leave_3 : List UInt8 := [181, 0, 136, 132, 4, 1, 167, 255, 211, 42, 180, 0, 136, 172]
abbrev dktX0_leave_3 : List UInt8 := dkwX0_leave_3 ++ []
def dkwX0_leave_2 : List UInt8 := [154, 0, 6, 167, 0, 24, 42, 180, 0, 51, 42, 180, 0, 136, 21, 4, 79, 42, 89, 180, 0, 136, 4, 96]
abbrev dktX0_leave_2 : List UInt8 := dkwX0_leave_2 ++ dktX0_leave_3
def dkwX0_leave_1 : List UInt8 := [27, 28, 182, 1, 30, 62, 3, 54, 4, 21, 4, 42, 182, 0, 106, 162, 0, 42, 29, 21, 4, 184, 1, 26]
abbrev dktX0_leave_1 : List UInt8 := dkwX0_leave_1 ++ dktX0_leave_2
def dkwX0_leave_0 : List UInt8 := [42, 3, 181, 0, 136, 42, 27, 182, 0, 216, 153, 0, 11, 42, 28, 182, 0, 222, 154, 0, 5, 2, 172, 42]
abbrev dktX0_leave_0 : List UInt8 := dkwX0_leave_0 ++ dktX0_leave_1
theorem dksX0_leave_0 : cX0_leave.data.toList.drop 0 = dktX0_leave_0 := by decide +kernel
theorem dksX0_leave_1 : cX0_leave.data.toList.drop 24 = dktX0_leave_1 := dk_seg dksX0_leave_0 24 rfl rfl
theorem dksX0_leave_2 : cX0_leave.data.toList.drop 48 = dktX0_leave_2 := dk_seg dksX0_leave_1 24 rfl rfl
theorem dksX0_leave_3 : cX0_leave.data.toList.drop 72 = dktX0_leave_3 := dk_seg dksX0_leave_2 24 rfl rfl
theorem dX0_leave_0 : decode cX0_leave 0 = .ok (.aload_n 0, 1) := dk_42 (dk_at dksX0_leave_0 0 rfl rfl)
theorem dX0_leave_1 : decode cX0_leave 1 = .ok (.iconst 0, 1) := dk_3 (dk_at dksX0_leave_0 1 rfl rfl)
theorem dX0_leave_2 : decode cX0_leave 2 = .ok (.putfield 136, 3) := dk_181 0 136 (dk_at dksX0_leave_0 2 rfl rfl)
theorem dX0_leave_5 : decode cX0_leave 5 = .ok (.aload_n 0, 1) := dk_42 (dk_at dksX0_leave_0 5 rfl rfl)
theorem dX0_leave_6 : decode cX0_leave 6 = .ok (.iload_n 1, 1) := dk_27 (dk_at dksX0_leave_0 6 rfl rfl)
theorem dX0_leave_7 : decode cX0_leave 7 = .ok (.invokevirtual 216, 3) := dk_182 0 216 (dk_at dksX0_leave_0 7 rfl rfl)
theorem dX0_leave_10 : decode cX0_leave 10 = .ok (.ifCond .eq 11, 3) := dk_153 0 11 (dk_at dksX0_leave_0 10 rfl rfl)
theorem dX0_leave_13 : decode cX0_leave 13 = .ok (.aload_n 0, 1) := dk_42 (dk_at dksX0_leave_0 13 rfl rfl)
theorem dX0_leave_14 : decode cX0_leave 14 = .ok (.iload_n 2, 1) := dk_28 (dk_at dksX0_leave_0 14 rfl rfl)
theorem dX0_leave_15 : decode cX0_leave 15 = .ok (.invokevirtual 222, 3) := dk_182 0 222 (dk_at dksX0_leave_0 15 rfl rfl)
theorem dX0_leave_18 : decode cX0_leave 18 = .ok (.ifCond .ne 5, 3) := dk_154 0 5 (dk_at dksX0_leave_0 18 rfl rfl)
theorem dX0_leave_21 : decode cX0_leave 21 = .ok (.iconst (-1), 1) := dk_2 (dk_at dksX0_leave_0 21 rfl rfl)
theorem dX0_leave_22 : decode cX0_leave 22 = .ok (.ireturn, 1) := dk_172 (dk_at dksX0_leave_0 22 rfl rfl)
theorem dX0_leave_23 : decode cX0_leave 23 = .ok (.aload_n 0, 1) := dk_42 (dk_at dksX0_leave_0 23 rfl rfl)
theorem dX0_leave_24 : decode cX0_leave 24 = .ok (.iload_n 1, 1) := dk_27 (dk_at dksX0_leave_1 0 rfl rfl)
theorem dX0_leave_25 : decode cX0_leave 25 = .ok (.iload_n 2, 1) := dk_28 (dk_at dksX0_leave_1 1 rfl rfl)
theorem dX0_leave_26 : decode cX0_leave 26 = .ok (.invokevirtual 286, 3) := dk_182 1 30 (dk_at dksX0_leave_1 2 rfl rfl)
theorem dX0_leave_29 : decode cX0_leave 29 = .ok (.istore_n 3, 1) := dk_62 (dk_at dksX0_leave_1 5 rfl rfl)
theorem dX0_leave_30 : decode cX0_leave 30 = .ok (.iconst 0, 1) := dk_3 (dk_at dksX0_leave_1 6 rfl rfl)
theorem dX0_leave_31 : decode cX0_leave 31 = .ok (.istore 4, 2) := dk_54 4 (dk_at dksX0_leave_1 7 rfl rfl)
theorem dX0_leave_33 : decode cX0_leave 33 = .ok (.iload 4, 2) := dk_21 4 (dk_at dksX0_leave_1 9 rfl rfl)
theorem dX0_leave_35 : decode cX0_leave 35 = .ok (.aload_n 0, 1) := dk_42 (dk_at dksX0_leave_1 11 rfl rfl)
theorem dX0_leave_36 : decode cX0_leave 36 = .ok (.invokevirtual 106, 3) := dk_182 0 106 (dk_at dksX0_leave_1 12 rfl rfl)
theorem dX0_leave_39 : decode cX0_leave 39 = .ok (.if_icmp .ge 42, 3) := dk_162 0 42 (dk_at dksX0_leave_1 15 rfl rfl)
theorem dX0_leave_42 : decode cX0_leave 42 = .ok (.iload_n 3, 1) := dk_29 (dk_at dksX0_leave_1 18 rfl rfl)
theorem dX0_leave_43 : decode cX0_leave 43 = .ok (.iload 4, 2) := dk_21 4 (dk_at dksX0_leave_1 19 rfl rfl)
theorem dX0_leave_45 : decode cX0_leave 45 = .ok (.invokestatic 282, 3) := dk_184 1 26 (dk_at dksX0_leave_1 21 rfl rfl)
theorem dX0_leave_48 : decode cX0_leave 48 = .ok (.ifCond .ne 6, 3) := dk_154 0 6 (dk_at dksX0_leave_2 0 rfl rfl)
theorem dX0_leave_51 : decode cX0_leave 51 = .ok (.goto 24, 3) := dk_167 0 24 (dk_at dksX0_leave_2 3 rfl rfl)
theorem dX0_leave_54 : decode cX0_leave 54 = .ok (.aload_n 0, 1) := dk_42 (dk_at dksX0_leave_2 6 rfl rfl)
theorem dX0_leave_55 : decode cX0_leave 55 = .ok (.getfield 51, 3) := dk_180 0 51 (dk_at dksX0_leave_2 7 rfl rfl)
theorem dX0_leave_58 : decode cX0_leave 58 = .ok (.aload_n 0, 1) := dk_42 (dk_at dksX0_leave_2 10 rfl rfl)
theorem dX0_leave_59 : decode cX0_leave 59 = .ok (.getfield 136, 3) := dk_180 0 136 (dk_at dksX0_leave_2 11 rfl rfl)
theorem dX0_leave_62 : decode cX0_leave 62 = .ok (.iload 4, 2) := dk_21 4 (dk_at dksX0_leave_2 14 rfl rfl)
theorem dX0_leave_64 : decode cX0_leave 64 = .ok (.iastore, 1) := dk_79 (dk_at dksX0_leave_2 16 rfl rfl)
theorem dX0_leave_65 : decode cX0_leave 65 = .ok (.aload_n 0, 1) := dk_42 (dk_at dksX0_leave_2 17 rfl rfl)
theorem dX0_leave_66 : decode cX0_leave 66 = .ok (.dup, 1) := dk_89 (dk_at dksX0_leave_2 18 rfl rfl)
theorem dX0_leave_67 : decode cX0_leave 67 = .ok (.getfield 136, 3) := dk_180 0 136 (dk_at dksX0_leave_2 19 rfl rfl)
theorem dX0_leave_70 : decode cX0_leave 70 = .ok (.iconst 1, 1) := dk_4 (dk_at dksX0_leave_2 22 rfl rfl)
theorem dX0_leave_71 : decode cX0_leave 71 = .ok (.iadd, 1) := dk_96 (dk_at dksX0_leave_2 23 rfl rfl)
theorem dX0_leave_72 : decode cX0_leave 72 = .ok (.putfield 136, 3) := dk_181 0 136 (dk_at dksX0_leave_3 0 rfl rfl)
theorem dX0_leave_75 : decode cX0_leave 75 = .ok (.iinc 4 1, 3) := dk_132 4 1 (dk_at dksX0_leave_3 3 rfl rfl)
theorem dX0_leave_78 : decode cX0_leave 78 = .ok (.goto (-45), 3) := dk_167 255 211 (dk_at dksX0_leave_3 6 rfl rfl)
theorem dX0_leave_81 : decode cX0_leave 81 = .ok (.aload_n 0, 1) := dk_42 (dk_at dksX0_leave_3 9 rfl rfl)
theorem dX0_leave_82 : decode cX0_leave 82 = .ok (.getfield 136, 3) := dk_180 0 136 (dk_at dksX0_leave_3 10 rfl rfl)
theorem dX0_leave_85 : decode cX0_leave 85 = .ok (.ireturn, 1) := dk_172 (dk_at dksX0_leave_3 13 rfl rfl)
abbrev cX0_leaveSet : ByteArray := prog_1_method_37_code
def yX0_leaveSet : MethodName := ⟨RX0, "leaveSet", "(II)I"⟩
def dkwX0_leaveSet_7 : List UInt8 := [180, 0, 213, 120, 128, 62, 132, 4, 255, 167, 255, 191, 29, 172]
abbrev dktX0_leaveSet_7 : List UInt8 := dkwX0_leaveSet_7 ++ []
def dkwX0_leaveSet_6 : List UInt8 := [182, 0, 219, 153, 0, 26, 29, 4, 42, 180, 0, 10, 180, 0, 110, 21, 4, 182, 0, 113, 192, 0, 117]
abbrev dktX0_leaveSet_6 : List UInt8 := dkwX0_leaveSet_6 ++ dktX0_leaveSet_7
def dkwX0_leaveSet_5 : List UInt8 := [153, 0, 51, 42, 42, 180, 0, 10, 180, 0, 110, 21, 4, 182, 0, 113, 192, 0, 117, 180, 0, 213]
abbrev dktX0_leaveSet_5 : List UInt8 := dkwX0_leaveSet_5 ++ dktX0_leaveSet_6
def dkwX0_leaveSet_4 : List UInt8 := [167, 255, 170, 42, 182, 0, 106, 4, 100, 54, 4, 21, 4, 155, 0, 66, 29, 21, 4, 184, 1, 26]
abbrev dktX0_leaveSet_4 : List UInt8 := dkwX0_leaveSet_4 ++ dktX0_leaveSet_5
def dkwX0_leaveSet_3 : List UInt8 := [180, 0, 210, 42, 180, 0, 19, 180, 0, 121, 161, 0, 10, 29, 4, 21, 4, 120, 128, 62, 132, 4, 1]
abbrev dktX0_leaveSet_3 : List UInt8 := dkwX0_leaveSet_3 ++ dktX0_leaveSet_4
def dkwX0_leaveSet_2 : List UInt8 := [160, 0, 42, 25, 5, 180, 0, 203, 28, 160, 0, 33, 25, 5, 182, 0, 206, 154, 0, 25, 25, 5]
abbrev dktX0_leaveSet_2 : List UInt8 := dkwX0_leaveSet_2 ++ dktX0_leaveSet_3
def dkwX0_leaveSet_1 : List UInt8 := [182, 0, 113, 192, 0, 117, 58, 5, 42, 21, 4, 182, 0, 219, 153, 0, 51, 25, 5, 180, 0, 197, 27]
abbrev dktX0_leaveSet_1 : List UInt8 := dkwX0_leaveSet_1 ++ dktX0_leaveSet_2
def dkwX0_leaveSet_0 : List UInt8 := [3, 62, 3, 54, 4, 21, 4, 42, 182, 0, 106, 162, 0, 83, 42, 180, 0, 10, 180, 0, 110, 21, 4]
abbrev dktX0_leaveSet_0 : List UInt8 := dkwX0_leaveSet_0 ++ dktX0_leaveSet_1
theorem dksX0_leaveSet_0 : cX0_leaveSet.data.toList.drop 0 = dktX0_leaveSet_0 := by decide +kernel
theorem dksX0_leaveSet_1 : cX0_leaveSet.data.toList.drop 23 = dktX0_leaveSet_1 := dk_seg dksX0_leaveSet_0 23 rfl rfl
theorem dksX0_leaveSet_2 : cX0_leaveSet.data.toList.drop 46 = dktX0_leaveSet_2 := dk_seg dksX0_leaveSet_1 23 rfl rfl
theorem dksX0_leaveSet_3 : cX0_leaveSet.data.toList.drop 68 = dktX0_leaveSet_3 := dk_seg dksX0_leaveSet_2 22 rfl rfl
theorem dksX0_leaveSet_4 : cX0_leaveSet.data.toList.drop 91 = dktX0_leaveSet_4 := dk_seg dksX0_leaveSet_3 23 rfl rfl
theorem dksX0_leaveSet_5 : cX0_leaveSet.data.toList.drop 113 = dktX0_leaveSet_5 := dk_seg dksX0_leaveSet_4 22 rfl rfl
theorem dksX0_leaveSet_6 : cX0_leaveSet.data.toList.drop 135 = dktX0_leaveSet_6 := dk_seg dksX0_leaveSet_5 22 rfl rfl
theorem dksX0_leaveSet_7 : cX0_leaveSet.data.toList.drop 158 = dktX0_leaveSet_7 := dk_seg dksX0_leaveSet_6 23 rfl rfl
theorem dX0_leaveSet_0 : decode cX0_leaveSet 0 = .ok (.iconst 0, 1) := dk_3 (dk_at dksX0_leaveSet_0 0 rfl rfl)
theorem dX0_leaveSet_1 : decode cX0_leaveSet 1 = .ok (.istore_n 3, 1) := dk_62 (dk_at dksX0_leaveSet_0 1 rfl rfl)
theorem dX0_leaveSet_2 : decode cX0_leaveSet 2 = .ok (.iconst 0, 1) := dk_3 (dk_at dksX0_leaveSet_0 2 rfl rfl)
theorem dX0_leaveSet_3 : decode cX0_leaveSet 3 = .ok (.istore 4, 2) := dk_54 4 (dk_at dksX0_leaveSet_0 3 rfl rfl)
theorem dX0_leaveSet_5 : decode cX0_leaveSet 5 = .ok (.iload 4, 2) := dk_21 4 (dk_at dksX0_leaveSet_0 5 rfl rfl)
theorem dX0_leaveSet_7 : decode cX0_leaveSet 7 = .ok (.aload_n 0, 1) := dk_42 (dk_at dksX0_leaveSet_0 7 rfl rfl)
theorem dX0_leaveSet_8 : decode cX0_leaveSet 8 = .ok (.invokevirtual 106, 3) := dk_182 0 106 (dk_at dksX0_leaveSet_0 8 rfl rfl)
theorem dX0_leaveSet_11 : decode cX0_leaveSet 11 = .ok (.if_icmp .ge 83, 3) := dk_162 0 83 (dk_at dksX0_leaveSet_0 11 rfl rfl)
theorem dX0_leaveSet_14 : decode cX0_leaveSet 14 = .ok (.aload_n 0, 1) := dk_42 (dk_at dksX0_leaveSet_0 14 rfl rfl)
theorem dX0_leaveSet_15 : decode cX0_leaveSet 15 = .ok (.getfield 10, 3) := dk_180 0 10 (dk_at dksX0_leaveSet_0 15 rfl rfl)
theorem dX0_leaveSet_18 : decode cX0_leaveSet 18 = .ok (.getfield 110, 3) := dk_180 0 110 (dk_at dksX0_leaveSet_0 18 rfl rfl)
theorem dX0_leaveSet_21 : decode cX0_leaveSet 21 = .ok (.iload 4, 2) := dk_21 4 (dk_at dksX0_leaveSet_0 21 rfl rfl)
theorem dX0_leaveSet_23 : decode cX0_leaveSet 23 = .ok (.invokevirtual 113, 3) := dk_182 0 113 (dk_at dksX0_leaveSet_1 0 rfl rfl)
theorem dX0_leaveSet_26 : decode cX0_leaveSet 26 = .ok (.checkcast 117, 3) := dk_192 0 117 (dk_at dksX0_leaveSet_1 3 rfl rfl)
theorem dX0_leaveSet_29 : decode cX0_leaveSet 29 = .ok (.astore 5, 2) := dk_58 5 (dk_at dksX0_leaveSet_1 6 rfl rfl)
theorem dX0_leaveSet_31 : decode cX0_leaveSet 31 = .ok (.aload_n 0, 1) := dk_42 (dk_at dksX0_leaveSet_1 8 rfl rfl)
theorem dX0_leaveSet_32 : decode cX0_leaveSet 32 = .ok (.iload 4, 2) := dk_21 4 (dk_at dksX0_leaveSet_1 9 rfl rfl)
theorem dX0_leaveSet_34 : decode cX0_leaveSet 34 = .ok (.invokevirtual 219, 3) := dk_182 0 219 (dk_at dksX0_leaveSet_1 11 rfl rfl)
theorem dX0_leaveSet_37 : decode cX0_leaveSet 37 = .ok (.ifCond .eq 51, 3) := dk_153 0 51 (dk_at dksX0_leaveSet_1 14 rfl rfl)
theorem dX0_leaveSet_40 : decode cX0_leaveSet 40 = .ok (.aload 5, 2) := dk_25 5 (dk_at dksX0_leaveSet_1 17 rfl rfl)
theorem dX0_leaveSet_42 : decode cX0_leaveSet 42 = .ok (.getfield 197, 3) := dk_180 0 197 (dk_at dksX0_leaveSet_1 19 rfl rfl)
theorem dX0_leaveSet_45 : decode cX0_leaveSet 45 = .ok (.iload_n 1, 1) := dk_27 (dk_at dksX0_leaveSet_1 22 rfl rfl)
theorem dX0_leaveSet_46 : decode cX0_leaveSet 46 = .ok (.if_icmp .ne 42, 3) := dk_160 0 42 (dk_at dksX0_leaveSet_2 0 rfl rfl)
theorem dX0_leaveSet_49 : decode cX0_leaveSet 49 = .ok (.aload 5, 2) := dk_25 5 (dk_at dksX0_leaveSet_2 3 rfl rfl)
theorem dX0_leaveSet_51 : decode cX0_leaveSet 51 = .ok (.getfield 203, 3) := dk_180 0 203 (dk_at dksX0_leaveSet_2 5 rfl rfl)
theorem dX0_leaveSet_54 : decode cX0_leaveSet 54 = .ok (.iload_n 2, 1) := dk_28 (dk_at dksX0_leaveSet_2 8 rfl rfl)
theorem dX0_leaveSet_55 : decode cX0_leaveSet 55 = .ok (.if_icmp .ne 33, 3) := dk_160 0 33 (dk_at dksX0_leaveSet_2 9 rfl rfl)
theorem dX0_leaveSet_58 : decode cX0_leaveSet 58 = .ok (.aload 5, 2) := dk_25 5 (dk_at dksX0_leaveSet_2 12 rfl rfl)
theorem dX0_leaveSet_60 : decode cX0_leaveSet 60 = .ok (.invokevirtual 206, 3) := dk_182 0 206 (dk_at dksX0_leaveSet_2 14 rfl rfl)
theorem dX0_leaveSet_63 : decode cX0_leaveSet 63 = .ok (.ifCond .ne 25, 3) := dk_154 0 25 (dk_at dksX0_leaveSet_2 17 rfl rfl)
theorem dX0_leaveSet_66 : decode cX0_leaveSet 66 = .ok (.aload 5, 2) := dk_25 5 (dk_at dksX0_leaveSet_2 20 rfl rfl)
theorem dX0_leaveSet_68 : decode cX0_leaveSet 68 = .ok (.getfield 210, 3) := dk_180 0 210 (dk_at dksX0_leaveSet_3 0 rfl rfl)
theorem dX0_leaveSet_71 : decode cX0_leaveSet 71 = .ok (.aload_n 0, 1) := dk_42 (dk_at dksX0_leaveSet_3 3 rfl rfl)
theorem dX0_leaveSet_72 : decode cX0_leaveSet 72 = .ok (.getfield 19, 3) := dk_180 0 19 (dk_at dksX0_leaveSet_3 4 rfl rfl)
theorem dX0_leaveSet_75 : decode cX0_leaveSet 75 = .ok (.getfield 121, 3) := dk_180 0 121 (dk_at dksX0_leaveSet_3 7 rfl rfl)
theorem dX0_leaveSet_78 : decode cX0_leaveSet 78 = .ok (.if_icmp .lt 10, 3) := dk_161 0 10 (dk_at dksX0_leaveSet_3 10 rfl rfl)
theorem dX0_leaveSet_81 : decode cX0_leaveSet 81 = .ok (.iload_n 3, 1) := dk_29 (dk_at dksX0_leaveSet_3 13 rfl rfl)
theorem dX0_leaveSet_82 : decode cX0_leaveSet 82 = .ok (.iconst 1, 1) := dk_4 (dk_at dksX0_leaveSet_3 14 rfl rfl)
theorem dX0_leaveSet_83 : decode cX0_leaveSet 83 = .ok (.iload 4, 2) := dk_21 4 (dk_at dksX0_leaveSet_3 15 rfl rfl)
theorem dX0_leaveSet_85 : decode cX0_leaveSet 85 = .ok (.ishl, 1) := dk_120 (dk_at dksX0_leaveSet_3 17 rfl rfl)
theorem dX0_leaveSet_86 : decode cX0_leaveSet 86 = .ok (.ior, 1) := dk_128 (dk_at dksX0_leaveSet_3 18 rfl rfl)
theorem dX0_leaveSet_87 : decode cX0_leaveSet 87 = .ok (.istore_n 3, 1) := dk_62 (dk_at dksX0_leaveSet_3 19 rfl rfl)
theorem dX0_leaveSet_88 : decode cX0_leaveSet 88 = .ok (.iinc 4 1, 3) := dk_132 4 1 (dk_at dksX0_leaveSet_3 20 rfl rfl)
theorem dX0_leaveSet_91 : decode cX0_leaveSet 91 = .ok (.goto (-86), 3) := dk_167 255 170 (dk_at dksX0_leaveSet_4 0 rfl rfl)
theorem dX0_leaveSet_94 : decode cX0_leaveSet 94 = .ok (.aload_n 0, 1) := dk_42 (dk_at dksX0_leaveSet_4 3 rfl rfl)
theorem dX0_leaveSet_95 : decode cX0_leaveSet 95 = .ok (.invokevirtual 106, 3) := dk_182 0 106 (dk_at dksX0_leaveSet_4 4 rfl rfl)
theorem dX0_leaveSet_98 : decode cX0_leaveSet 98 = .ok (.iconst 1, 1) := dk_4 (dk_at dksX0_leaveSet_4 7 rfl rfl)
theorem dX0_leaveSet_99 : decode cX0_leaveSet 99 = .ok (.isub, 1) := dk_100 (dk_at dksX0_leaveSet_4 8 rfl rfl)
theorem dX0_leaveSet_100 : decode cX0_leaveSet 100 = .ok (.istore 4, 2) := dk_54 4 (dk_at dksX0_leaveSet_4 9 rfl rfl)
theorem dX0_leaveSet_102 : decode cX0_leaveSet 102 = .ok (.iload 4, 2) := dk_21 4 (dk_at dksX0_leaveSet_4 11 rfl rfl)
theorem dX0_leaveSet_104 : decode cX0_leaveSet 104 = .ok (.ifCond .lt 66, 3) := dk_155 0 66 (dk_at dksX0_leaveSet_4 13 rfl rfl)
theorem dX0_leaveSet_107 : decode cX0_leaveSet 107 = .ok (.iload_n 3, 1) := dk_29 (dk_at dksX0_leaveSet_4 16 rfl rfl)
theorem dX0_leaveSet_108 : decode cX0_leaveSet 108 = .ok (.iload 4, 2) := dk_21 4 (dk_at dksX0_leaveSet_4 17 rfl rfl)
theorem dX0_leaveSet_110 : decode cX0_leaveSet 110 = .ok (.invokestatic 282, 3) := dk_184 1 26 (dk_at dksX0_leaveSet_4 19 rfl rfl)
theorem dX0_leaveSet_113 : decode cX0_leaveSet 113 = .ok (.ifCond .eq 51, 3) := dk_153 0 51 (dk_at dksX0_leaveSet_5 0 rfl rfl)
theorem dX0_leaveSet_116 : decode cX0_leaveSet 116 = .ok (.aload_n 0, 1) := dk_42 (dk_at dksX0_leaveSet_5 3 rfl rfl)
theorem dX0_leaveSet_117 : decode cX0_leaveSet 117 = .ok (.aload_n 0, 1) := dk_42 (dk_at dksX0_leaveSet_5 4 rfl rfl)
theorem dX0_leaveSet_118 : decode cX0_leaveSet 118 = .ok (.getfield 10, 3) := dk_180 0 10 (dk_at dksX0_leaveSet_5 5 rfl rfl)
theorem dX0_leaveSet_121 : decode cX0_leaveSet 121 = .ok (.getfield 110, 3) := dk_180 0 110 (dk_at dksX0_leaveSet_5 8 rfl rfl)
theorem dX0_leaveSet_124 : decode cX0_leaveSet 124 = .ok (.iload 4, 2) := dk_21 4 (dk_at dksX0_leaveSet_5 11 rfl rfl)
theorem dX0_leaveSet_126 : decode cX0_leaveSet 126 = .ok (.invokevirtual 113, 3) := dk_182 0 113 (dk_at dksX0_leaveSet_5 13 rfl rfl)
theorem dX0_leaveSet_129 : decode cX0_leaveSet 129 = .ok (.checkcast 117, 3) := dk_192 0 117 (dk_at dksX0_leaveSet_5 16 rfl rfl)
theorem dX0_leaveSet_132 : decode cX0_leaveSet 132 = .ok (.getfield 213, 3) := dk_180 0 213 (dk_at dksX0_leaveSet_5 19 rfl rfl)
theorem dX0_leaveSet_135 : decode cX0_leaveSet 135 = .ok (.invokevirtual 219, 3) := dk_182 0 219 (dk_at dksX0_leaveSet_6 0 rfl rfl)
theorem dX0_leaveSet_138 : decode cX0_leaveSet 138 = .ok (.ifCond .eq 26, 3) := dk_153 0 26 (dk_at dksX0_leaveSet_6 3 rfl rfl)
theorem dX0_leaveSet_141 : decode cX0_leaveSet 141 = .ok (.iload_n 3, 1) := dk_29 (dk_at dksX0_leaveSet_6 6 rfl rfl)
theorem dX0_leaveSet_142 : decode cX0_leaveSet 142 = .ok (.iconst 1, 1) := dk_4 (dk_at dksX0_leaveSet_6 7 rfl rfl)
theorem dX0_leaveSet_143 : decode cX0_leaveSet 143 = .ok (.aload_n 0, 1) := dk_42 (dk_at dksX0_leaveSet_6 8 rfl rfl)
theorem dX0_leaveSet_144 : decode cX0_leaveSet 144 = .ok (.getfield 10, 3) := dk_180 0 10 (dk_at dksX0_leaveSet_6 9 rfl rfl)
theorem dX0_leaveSet_147 : decode cX0_leaveSet 147 = .ok (.getfield 110, 3) := dk_180 0 110 (dk_at dksX0_leaveSet_6 12 rfl rfl)
theorem dX0_leaveSet_150 : decode cX0_leaveSet 150 = .ok (.iload 4, 2) := dk_21 4 (dk_at dksX0_leaveSet_6 15 rfl rfl)
theorem dX0_leaveSet_152 : decode cX0_leaveSet 152 = .ok (.invokevirtual 113, 3) := dk_182 0 113 (dk_at dksX0_leaveSet_6 17 rfl rfl)
theorem dX0_leaveSet_155 : decode cX0_leaveSet 155 = .ok (.checkcast 117, 3) := dk_192 0 117 (dk_at dksX0_leaveSet_6 20 rfl rfl)
theorem dX0_leaveSet_158 : decode cX0_leaveSet 158 = .ok (.getfield 213, 3) := dk_180 0 213 (dk_at dksX0_leaveSet_7 0 rfl rfl)
theorem dX0_leaveSet_161 : decode cX0_leaveSet 161 = .ok (.ishl, 1) := dk_120 (dk_at dksX0_leaveSet_7 3 rfl rfl)
theorem dX0_leaveSet_162 : decode cX0_leaveSet 162 = .ok (.ior, 1) := dk_128 (dk_at dksX0_leaveSet_7 4 rfl rfl)
theorem dX0_leaveSet_163 : decode cX0_leaveSet 163 = .ok (.istore_n 3, 1) := dk_62 (dk_at dksX0_leaveSet_7 5 rfl rfl)
theorem dX0_leaveSet_164 : decode cX0_leaveSet 164 = .ok (.iinc 4 (-1), 3) := dk_132 4 255 (dk_at dksX0_leaveSet_7 6 rfl rfl)
theorem dX0_leaveSet_167 : decode cX0_leaveSet 167 = .ok (.goto (-65), 3) := dk_167 255 191 (dk_at dksX0_leaveSet_7 9 rfl rfl)
theorem dX0_leaveSet_170 : decode cX0_leaveSet 170 = .ok (.iload_n 3, 1) := dk_29 (dk_at dksX0_leaveSet_7 12 rfl rfl)
theorem dX0_leaveSet_171 : decode cX0_leaveSet 171 = .ok (.ireturn, 1) := dk_172 (dk_at dksX0_leaveSet_7 13 rfl rfl)
abbrev cX0_asked : ByteArray := prog_1_method_39_code
def yX0_asked : MethodName := ⟨RX0, "asked", "(II)I"⟩
def dkwX0_asked_3 : List UInt8 := [120, 128, 54, 4, 132, 5, 1, 167, 255, 210, 21, 4, 172]
abbrev dktX0_asked_3 : List UInt8 := dkwX0_asked_3 ++ []
def dkwX0_asked_2 : List UInt8 := [153, 0, 28, 21, 4, 4, 42, 180, 0, 10, 180, 0, 110, 21, 5, 182, 0, 113, 192, 0, 117, 180, 0, 200]
abbrev dktX0_asked_2 : List UInt8 := dkwX0_asked_2 ++ dktX0_asked_3
def dkwX0_asked_1 : List UInt8 := [62, 3, 54, 4, 3, 54, 5, 21, 5, 42, 182, 0, 106, 162, 0, 43, 29, 21, 5, 184, 1, 26]
abbrev dktX0_asked_1 : List UInt8 := dkwX0_asked_1 ++ dktX0_asked_2
def dkwX0_asked_0 : List UInt8 := [42, 27, 182, 0, 216, 153, 0, 11, 42, 28, 182, 0, 222, 154, 0, 5, 2, 172, 42, 27, 28, 182, 1, 30]
abbrev dktX0_asked_0 : List UInt8 := dkwX0_asked_0 ++ dktX0_asked_1
theorem dksX0_asked_0 : cX0_asked.data.toList.drop 0 = dktX0_asked_0 := by decide +kernel
theorem dksX0_asked_1 : cX0_asked.data.toList.drop 24 = dktX0_asked_1 := dk_seg dksX0_asked_0 24 rfl rfl
theorem dksX0_asked_2 : cX0_asked.data.toList.drop 46 = dktX0_asked_2 := dk_seg dksX0_asked_1 22 rfl rfl
theorem dksX0_asked_3 : cX0_asked.data.toList.drop 70 = dktX0_asked_3 := dk_seg dksX0_asked_2 24 rfl rfl
theorem dX0_asked_0 : decode cX0_asked 0 = .ok (.aload_n 0, 1) := dk_42 (dk_at dksX0_asked_0 0 rfl rfl)
theorem dX0_asked_1 : decode cX0_asked 1 = .ok (.iload_n 1, 1) := dk_27 (dk_at dksX0_asked_0 1 rfl rfl)
theorem dX0_asked_2 : decode cX0_asked 2 = .ok (.invokevirtual 216, 3) := dk_182 0 216 (dk_at dksX0_asked_0 2 rfl rfl)
theorem dX0_asked_5 : decode cX0_asked 5 = .ok (.ifCond .eq 11, 3) := dk_153 0 11 (dk_at dksX0_asked_0 5 rfl rfl)
theorem dX0_asked_8 : decode cX0_asked 8 = .ok (.aload_n 0, 1) := dk_42 (dk_at dksX0_asked_0 8 rfl rfl)
theorem dX0_asked_9 : decode cX0_asked 9 = .ok (.iload_n 2, 1) := dk_28 (dk_at dksX0_asked_0 9 rfl rfl)
theorem dX0_asked_10 : decode cX0_asked 10 = .ok (.invokevirtual 222, 3) := dk_182 0 222 (dk_at dksX0_asked_0 10 rfl rfl)
theorem dX0_asked_13 : decode cX0_asked 13 = .ok (.ifCond .ne 5, 3) := dk_154 0 5 (dk_at dksX0_asked_0 13 rfl rfl)
theorem dX0_asked_16 : decode cX0_asked 16 = .ok (.iconst (-1), 1) := dk_2 (dk_at dksX0_asked_0 16 rfl rfl)
theorem dX0_asked_17 : decode cX0_asked 17 = .ok (.ireturn, 1) := dk_172 (dk_at dksX0_asked_0 17 rfl rfl)
theorem dX0_asked_18 : decode cX0_asked 18 = .ok (.aload_n 0, 1) := dk_42 (dk_at dksX0_asked_0 18 rfl rfl)
theorem dX0_asked_19 : decode cX0_asked 19 = .ok (.iload_n 1, 1) := dk_27 (dk_at dksX0_asked_0 19 rfl rfl)
theorem dX0_asked_20 : decode cX0_asked 20 = .ok (.iload_n 2, 1) := dk_28 (dk_at dksX0_asked_0 20 rfl rfl)
theorem dX0_asked_21 : decode cX0_asked 21 = .ok (.invokevirtual 286, 3) := dk_182 1 30 (dk_at dksX0_asked_0 21 rfl rfl)
theorem dX0_asked_24 : decode cX0_asked 24 = .ok (.istore_n 3, 1) := dk_62 (dk_at dksX0_asked_1 0 rfl rfl)
theorem dX0_asked_25 : decode cX0_asked 25 = .ok (.iconst 0, 1) := dk_3 (dk_at dksX0_asked_1 1 rfl rfl)
theorem dX0_asked_26 : decode cX0_asked 26 = .ok (.istore 4, 2) := dk_54 4 (dk_at dksX0_asked_1 2 rfl rfl)
theorem dX0_asked_28 : decode cX0_asked 28 = .ok (.iconst 0, 1) := dk_3 (dk_at dksX0_asked_1 4 rfl rfl)
theorem dX0_asked_29 : decode cX0_asked 29 = .ok (.istore 5, 2) := dk_54 5 (dk_at dksX0_asked_1 5 rfl rfl)
theorem dX0_asked_31 : decode cX0_asked 31 = .ok (.iload 5, 2) := dk_21 5 (dk_at dksX0_asked_1 7 rfl rfl)
theorem dX0_asked_33 : decode cX0_asked 33 = .ok (.aload_n 0, 1) := dk_42 (dk_at dksX0_asked_1 9 rfl rfl)
theorem dX0_asked_34 : decode cX0_asked 34 = .ok (.invokevirtual 106, 3) := dk_182 0 106 (dk_at dksX0_asked_1 10 rfl rfl)
theorem dX0_asked_37 : decode cX0_asked 37 = .ok (.if_icmp .ge 43, 3) := dk_162 0 43 (dk_at dksX0_asked_1 13 rfl rfl)
theorem dX0_asked_40 : decode cX0_asked 40 = .ok (.iload_n 3, 1) := dk_29 (dk_at dksX0_asked_1 16 rfl rfl)
theorem dX0_asked_41 : decode cX0_asked 41 = .ok (.iload 5, 2) := dk_21 5 (dk_at dksX0_asked_1 17 rfl rfl)
theorem dX0_asked_43 : decode cX0_asked 43 = .ok (.invokestatic 282, 3) := dk_184 1 26 (dk_at dksX0_asked_1 19 rfl rfl)
theorem dX0_asked_46 : decode cX0_asked 46 = .ok (.ifCond .eq 28, 3) := dk_153 0 28 (dk_at dksX0_asked_2 0 rfl rfl)
theorem dX0_asked_49 : decode cX0_asked 49 = .ok (.iload 4, 2) := dk_21 4 (dk_at dksX0_asked_2 3 rfl rfl)
theorem dX0_asked_51 : decode cX0_asked 51 = .ok (.iconst 1, 1) := dk_4 (dk_at dksX0_asked_2 5 rfl rfl)
theorem dX0_asked_52 : decode cX0_asked 52 = .ok (.aload_n 0, 1) := dk_42 (dk_at dksX0_asked_2 6 rfl rfl)
theorem dX0_asked_53 : decode cX0_asked 53 = .ok (.getfield 10, 3) := dk_180 0 10 (dk_at dksX0_asked_2 7 rfl rfl)
theorem dX0_asked_56 : decode cX0_asked 56 = .ok (.getfield 110, 3) := dk_180 0 110 (dk_at dksX0_asked_2 10 rfl rfl)
theorem dX0_asked_59 : decode cX0_asked 59 = .ok (.iload 5, 2) := dk_21 5 (dk_at dksX0_asked_2 13 rfl rfl)
theorem dX0_asked_61 : decode cX0_asked 61 = .ok (.invokevirtual 113, 3) := dk_182 0 113 (dk_at dksX0_asked_2 15 rfl rfl)
theorem dX0_asked_64 : decode cX0_asked 64 = .ok (.checkcast 117, 3) := dk_192 0 117 (dk_at dksX0_asked_2 18 rfl rfl)
theorem dX0_asked_67 : decode cX0_asked 67 = .ok (.getfield 200, 3) := dk_180 0 200 (dk_at dksX0_asked_2 21 rfl rfl)
theorem dX0_asked_70 : decode cX0_asked 70 = .ok (.ishl, 1) := dk_120 (dk_at dksX0_asked_3 0 rfl rfl)
theorem dX0_asked_71 : decode cX0_asked 71 = .ok (.ior, 1) := dk_128 (dk_at dksX0_asked_3 1 rfl rfl)
theorem dX0_asked_72 : decode cX0_asked 72 = .ok (.istore 4, 2) := dk_54 4 (dk_at dksX0_asked_3 2 rfl rfl)
theorem dX0_asked_74 : decode cX0_asked 74 = .ok (.iinc 5 1, 3) := dk_132 5 1 (dk_at dksX0_asked_3 4 rfl rfl)
theorem dX0_asked_77 : decode cX0_asked 77 = .ok (.goto (-46), 3) := dk_167 255 210 (dk_at dksX0_asked_3 7 rfl rfl)
theorem dX0_asked_80 : decode cX0_asked 80 = .ok (.iload 4, 2) := dk_21 4 (dk_at dksX0_asked_3 10 rfl rfl)
theorem dX0_asked_82 : decode cX0_asked 82 = .ok (.ireturn, 1) := dk_172 (dk_at dksX0_asked_3 12 rfl rfl)
abbrev cX0_holds : ByteArray := prog_1_method_40_code
def yX0_holds : MethodName := ⟨RX0, "holds", "(III)I"⟩
def dkwX0_holds_3 : List UInt8 := [182, 1, 34, 100, 54, 4, 132, 5, 1, 167, 255, 221, 21, 4, 172]
abbrev dktX0_holds_3 : List UInt8 := dkwX0_holds_3 ++ []
def dkwX0_holds_2 : List UInt8 := [162, 0, 35, 21, 4, 42, 180, 0, 10, 27, 21, 4, 29, 42, 180, 0, 19, 180, 0, 121, 21, 5, 96]
abbrev dktX0_holds_2 : List UInt8 := dkwX0_holds_2 ++ dktX0_holds_3
def dkwX0_holds_1 : List UInt8 := [154, 0, 5, 2, 172, 42, 180, 0, 19, 180, 0, 103, 27, 46, 54, 4, 3, 54, 5, 21, 5, 28]
abbrev dktX0_holds_1 : List UInt8 := dkwX0_holds_1 ++ dktX0_holds_2
def dkwX0_holds_0 : List UInt8 := [42, 27, 182, 0, 219, 153, 0, 22, 28, 3, 16, 60, 184, 0, 158, 153, 0, 12, 29, 3, 4, 184, 0, 158]
abbrev dktX0_holds_0 : List UInt8 := dkwX0_holds_0 ++ dktX0_holds_1
theorem dksX0_holds_0 : cX0_holds.data.toList.drop 0 = dktX0_holds_0 := by decide +kernel
theorem dksX0_holds_1 : cX0_holds.data.toList.drop 24 = dktX0_holds_1 := dk_seg dksX0_holds_0 24 rfl rfl
theorem dksX0_holds_2 : cX0_holds.data.toList.drop 46 = dktX0_holds_2 := dk_seg dksX0_holds_1 22 rfl rfl
theorem dksX0_holds_3 : cX0_holds.data.toList.drop 69 = dktX0_holds_3 := dk_seg dksX0_holds_2 23 rfl rfl
theorem dX0_holds_0 : decode cX0_holds 0 = .ok (.aload_n 0, 1) := dk_42 (dk_at dksX0_holds_0 0 rfl rfl)
theorem dX0_holds_1 : decode cX0_holds 1 = .ok (.iload_n 1, 1) := dk_27 (dk_at dksX0_holds_0 1 rfl rfl)
theorem dX0_holds_2 : decode cX0_holds 2 = .ok (.invokevirtual 219, 3) := dk_182 0 219 (dk_at dksX0_holds_0 2 rfl rfl)
theorem dX0_holds_5 : decode cX0_holds 5 = .ok (.ifCond .eq 22, 3) := dk_153 0 22 (dk_at dksX0_holds_0 5 rfl rfl)
theorem dX0_holds_8 : decode cX0_holds 8 = .ok (.iload_n 2, 1) := dk_28 (dk_at dksX0_holds_0 8 rfl rfl)
theorem dX0_holds_9 : decode cX0_holds 9 = .ok (.iconst 0, 1) := dk_3 (dk_at dksX0_holds_0 9 rfl rfl)
theorem dX0_holds_10 : decode cX0_holds 10 = .ok (.bipush 60, 2) := dk_16 60 (dk_at dksX0_holds_0 10 rfl rfl)
theorem dX0_holds_12 : decode cX0_holds 12 = .ok (.invokestatic 158, 3) := dk_184 0 158 (dk_at dksX0_holds_0 12 rfl rfl)
theorem dX0_holds_15 : decode cX0_holds 15 = .ok (.ifCond .eq 12, 3) := dk_153 0 12 (dk_at dksX0_holds_0 15 rfl rfl)
theorem dX0_holds_18 : decode cX0_holds 18 = .ok (.iload_n 3, 1) := dk_29 (dk_at dksX0_holds_0 18 rfl rfl)
theorem dX0_holds_19 : decode cX0_holds 19 = .ok (.iconst 0, 1) := dk_3 (dk_at dksX0_holds_0 19 rfl rfl)
theorem dX0_holds_20 : decode cX0_holds 20 = .ok (.iconst 1, 1) := dk_4 (dk_at dksX0_holds_0 20 rfl rfl)
theorem dX0_holds_21 : decode cX0_holds 21 = .ok (.invokestatic 158, 3) := dk_184 0 158 (dk_at dksX0_holds_0 21 rfl rfl)
theorem dX0_holds_24 : decode cX0_holds 24 = .ok (.ifCond .ne 5, 3) := dk_154 0 5 (dk_at dksX0_holds_1 0 rfl rfl)
theorem dX0_holds_27 : decode cX0_holds 27 = .ok (.iconst (-1), 1) := dk_2 (dk_at dksX0_holds_1 3 rfl rfl)
theorem dX0_holds_28 : decode cX0_holds 28 = .ok (.ireturn, 1) := dk_172 (dk_at dksX0_holds_1 4 rfl rfl)
theorem dX0_holds_29 : decode cX0_holds 29 = .ok (.aload_n 0, 1) := dk_42 (dk_at dksX0_holds_1 5 rfl rfl)
theorem dX0_holds_30 : decode cX0_holds 30 = .ok (.getfield 19, 3) := dk_180 0 19 (dk_at dksX0_holds_1 6 rfl rfl)
theorem dX0_holds_33 : decode cX0_holds 33 = .ok (.getfield 103, 3) := dk_180 0 103 (dk_at dksX0_holds_1 9 rfl rfl)
theorem dX0_holds_36 : decode cX0_holds 36 = .ok (.iload_n 1, 1) := dk_27 (dk_at dksX0_holds_1 12 rfl rfl)
theorem dX0_holds_37 : decode cX0_holds 37 = .ok (.iaload, 1) := dk_46 (dk_at dksX0_holds_1 13 rfl rfl)
theorem dX0_holds_38 : decode cX0_holds 38 = .ok (.istore 4, 2) := dk_54 4 (dk_at dksX0_holds_1 14 rfl rfl)
theorem dX0_holds_40 : decode cX0_holds 40 = .ok (.iconst 0, 1) := dk_3 (dk_at dksX0_holds_1 16 rfl rfl)
theorem dX0_holds_41 : decode cX0_holds 41 = .ok (.istore 5, 2) := dk_54 5 (dk_at dksX0_holds_1 17 rfl rfl)
theorem dX0_holds_43 : decode cX0_holds 43 = .ok (.iload 5, 2) := dk_21 5 (dk_at dksX0_holds_1 19 rfl rfl)
theorem dX0_holds_45 : decode cX0_holds 45 = .ok (.iload_n 2, 1) := dk_28 (dk_at dksX0_holds_1 21 rfl rfl)
theorem dX0_holds_46 : decode cX0_holds 46 = .ok (.if_icmp .ge 35, 3) := dk_162 0 35 (dk_at dksX0_holds_2 0 rfl rfl)
theorem dX0_holds_49 : decode cX0_holds 49 = .ok (.iload 4, 2) := dk_21 4 (dk_at dksX0_holds_2 3 rfl rfl)
theorem dX0_holds_51 : decode cX0_holds 51 = .ok (.aload_n 0, 1) := dk_42 (dk_at dksX0_holds_2 5 rfl rfl)
theorem dX0_holds_52 : decode cX0_holds 52 = .ok (.getfield 10, 3) := dk_180 0 10 (dk_at dksX0_holds_2 6 rfl rfl)
theorem dX0_holds_55 : decode cX0_holds 55 = .ok (.iload_n 1, 1) := dk_27 (dk_at dksX0_holds_2 9 rfl rfl)
theorem dX0_holds_56 : decode cX0_holds 56 = .ok (.iload 4, 2) := dk_21 4 (dk_at dksX0_holds_2 10 rfl rfl)
theorem dX0_holds_58 : decode cX0_holds 58 = .ok (.iload_n 3, 1) := dk_29 (dk_at dksX0_holds_2 12 rfl rfl)
theorem dX0_holds_59 : decode cX0_holds 59 = .ok (.aload_n 0, 1) := dk_42 (dk_at dksX0_holds_2 13 rfl rfl)
theorem dX0_holds_60 : decode cX0_holds 60 = .ok (.getfield 19, 3) := dk_180 0 19 (dk_at dksX0_holds_2 14 rfl rfl)
theorem dX0_holds_63 : decode cX0_holds 63 = .ok (.getfield 121, 3) := dk_180 0 121 (dk_at dksX0_holds_2 17 rfl rfl)
theorem dX0_holds_66 : decode cX0_holds 66 = .ok (.iload 5, 2) := dk_21 5 (dk_at dksX0_holds_2 20 rfl rfl)
theorem dX0_holds_68 : decode cX0_holds 68 = .ok (.iadd, 1) := dk_96 (dk_at dksX0_holds_2 22 rfl rfl)
theorem dX0_holds_69 : decode cX0_holds 69 = .ok (.invokevirtual 290, 3) := dk_182 1 34 (dk_at dksX0_holds_3 0 rfl rfl)
theorem dX0_holds_72 : decode cX0_holds 72 = .ok (.isub, 1) := dk_100 (dk_at dksX0_holds_3 3 rfl rfl)
theorem dX0_holds_73 : decode cX0_holds 73 = .ok (.istore 4, 2) := dk_54 4 (dk_at dksX0_holds_3 4 rfl rfl)
theorem dX0_holds_75 : decode cX0_holds 75 = .ok (.iinc 5 1, 3) := dk_132 5 1 (dk_at dksX0_holds_3 6 rfl rfl)
theorem dX0_holds_78 : decode cX0_holds 78 = .ok (.goto (-35), 3) := dk_167 255 221 (dk_at dksX0_holds_3 9 rfl rfl)
theorem dX0_holds_81 : decode cX0_holds 81 = .ok (.iload 4, 2) := dk_21 4 (dk_at dksX0_holds_3 12 rfl rfl)
theorem dX0_holds_83 : decode cX0_holds 83 = .ok (.ireturn, 1) := dk_172 (dk_at dksX0_holds_3 14 rfl rfl)
abbrev cX0_odds : ByteArray := prog_1_method_42_code
def yX0_odds : MethodName := ⟨RX0, "odds", "(III)J"⟩
def dkwX0_odds_13 : List UInt8 := [22, 4, 22, 4, 22, 6, 184, 1, 38, 109, 173]
abbrev dktX0_odds_13 : List UInt8 := dkwX0_odds_13 ++ []
def dkwX0_odds_12 : List UInt8 := [180, 0, 64, 21, 8, 47, 97, 55, 6, 132, 8, 1, 167, 255, 234, 29, 154, 0, 8, 22, 6, 167, 0, 5]
abbrev dktX0_odds_12 : List UInt8 := dkwX0_odds_12 ++ dktX0_odds_13
def dkwX0_odds_11 : List UInt8 := [132, 6, 1, 167, 255, 70, 9, 55, 6, 4, 54, 8, 21, 8, 16, 99, 163, 0, 21, 22, 6, 42]
abbrev dktX0_odds_11 : List UInt8 := dkwX0_odds_11 ++ dktX0_odds_12
def dkwX0_odds_10 : List UInt8 := [180, 0, 68, 3, 42, 180, 0, 64, 3, 16, 100, 184, 0, 242, 22, 4, 20, 1, 47, 105, 55, 4]
abbrev dktX0_odds_10 : List UInt8 := dkwX0_odds_10 ++ dktX0_odds_11
def dkwX0_odds_9 : List UInt8 := [21, 7, 47, 16, 100, 42, 180, 0, 10, 180, 1, 44, 100, 133, 105, 97, 80, 132, 7, 1, 167, 255, 132, 42]
abbrev dktX0_odds_9 : List UInt8 := dkwX0_odds_9 ++ dktX0_odds_10
def dkwX0_odds_8 : List UInt8 := [27, 21, 7, 3, 42, 180, 0, 19, 180, 0, 121, 21, 6, 96, 182, 1, 34, 100, 92, 47, 42, 180, 0, 64]
abbrev dktX0_odds_8 : List UInt8 := dkwX0_odds_8 ++ dktX0_odds_9
def dkwX0_odds_7 : List UInt8 := [21, 7, 47, 42, 180, 0, 10, 180, 1, 44, 133, 105, 97, 80, 42, 180, 0, 68, 21, 7, 42, 180, 0, 10]
abbrev dktX0_odds_7 : List UInt8 := dkwX0_odds_7 ++ dktX0_odds_8
def dkwX0_odds_6 : List UInt8 := [27, 21, 7, 4, 42, 180, 0, 19, 180, 0, 121, 21, 6, 96, 182, 1, 34, 100, 92, 47, 42, 180, 0, 64]
abbrev dktX0_odds_6 : List UInt8 := dkwX0_odds_6 ++ dktX0_odds_7
def dkwX0_odds_5 : List UInt8 := [180, 0, 64, 21, 7, 47, 9, 148, 154, 0, 6, 167, 0, 102, 42, 180, 0, 68, 21, 7, 42, 180, 0, 10]
abbrev dktX0_odds_5 : List UInt8 := dkwX0_odds_5 ++ dktX0_odds_6
def dkwX0_odds_4 : List UInt8 := [180, 0, 68, 21, 7, 9, 80, 132, 7, 1, 167, 255, 238, 4, 54, 7, 21, 7, 16, 99, 163, 0, 123, 42]
abbrev dktX0_odds_4 : List UInt8 := dkwX0_odds_4 ++ dktX0_odds_5
def dkwX0_odds_3 : List UInt8 := [55, 4, 3, 54, 6, 21, 6, 28, 162, 0, 186, 3, 54, 7, 21, 7, 16, 99, 163, 0, 17, 42]
abbrev dktX0_odds_3 : List UInt8 := dkwX0_odds_3 ++ dktX0_odds_4
def dkwX0_odds_2 : List UInt8 := [80, 132, 4, 1, 167, 255, 238, 42, 180, 0, 64, 42, 180, 0, 19, 180, 0, 103, 27, 46, 10, 80, 10]
abbrev dktX0_odds_2 : List UInt8 := dkwX0_odds_2 ++ dktX0_odds_3
def dkwX0_odds_1 : List UInt8 := [154, 0, 7, 20, 1, 42, 173, 3, 54, 4, 21, 4, 16, 99, 163, 0, 17, 42, 180, 0, 64, 21, 4, 9]
abbrev dktX0_odds_1 : List UInt8 := dkwX0_odds_1 ++ dktX0_odds_2
def dkwX0_odds_0 : List UInt8 := [42, 27, 182, 0, 219, 153, 0, 22, 28, 3, 16, 6, 184, 0, 158, 153, 0, 12, 29, 3, 4, 184, 0, 158]
abbrev dktX0_odds_0 : List UInt8 := dkwX0_odds_0 ++ dktX0_odds_1
theorem dksX0_odds_0 : cX0_odds.data.toList.drop 0 = dktX0_odds_0 := by decide +kernel
theorem dksX0_odds_1 : cX0_odds.data.toList.drop 24 = dktX0_odds_1 := dk_seg dksX0_odds_0 24 rfl rfl
theorem dksX0_odds_2 : cX0_odds.data.toList.drop 48 = dktX0_odds_2 := dk_seg dksX0_odds_1 24 rfl rfl
theorem dksX0_odds_3 : cX0_odds.data.toList.drop 71 = dktX0_odds_3 := dk_seg dksX0_odds_2 23 rfl rfl
theorem dksX0_odds_4 : cX0_odds.data.toList.drop 93 = dktX0_odds_4 := dk_seg dksX0_odds_3 22 rfl rfl
theorem dksX0_odds_5 : cX0_odds.data.toList.drop 117 = dktX0_odds_5 := dk_seg dksX0_odds_4 24 rfl rfl
theorem dksX0_odds_6 : cX0_odds.data.toList.drop 141 = dktX0_odds_6 := dk_seg dksX0_odds_5 24 rfl rfl
theorem dksX0_odds_7 : cX0_odds.data.toList.drop 165 = dktX0_odds_7 := dk_seg dksX0_odds_6 24 rfl rfl
theorem dksX0_odds_8 : cX0_odds.data.toList.drop 189 = dktX0_odds_8 := dk_seg dksX0_odds_7 24 rfl rfl
theorem dksX0_odds_9 : cX0_odds.data.toList.drop 213 = dktX0_odds_9 := dk_seg dksX0_odds_8 24 rfl rfl
theorem dksX0_odds_10 : cX0_odds.data.toList.drop 237 = dktX0_odds_10 := dk_seg dksX0_odds_9 24 rfl rfl
theorem dksX0_odds_11 : cX0_odds.data.toList.drop 259 = dktX0_odds_11 := dk_seg dksX0_odds_10 22 rfl rfl
theorem dksX0_odds_12 : cX0_odds.data.toList.drop 281 = dktX0_odds_12 := dk_seg dksX0_odds_11 22 rfl rfl
theorem dksX0_odds_13 : cX0_odds.data.toList.drop 305 = dktX0_odds_13 := dk_seg dksX0_odds_12 24 rfl rfl
theorem dX0_odds_0 : decode cX0_odds 0 = .ok (.aload_n 0, 1) := dk_42 (dk_at dksX0_odds_0 0 rfl rfl)
theorem dX0_odds_1 : decode cX0_odds 1 = .ok (.iload_n 1, 1) := dk_27 (dk_at dksX0_odds_0 1 rfl rfl)
theorem dX0_odds_2 : decode cX0_odds 2 = .ok (.invokevirtual 219, 3) := dk_182 0 219 (dk_at dksX0_odds_0 2 rfl rfl)
theorem dX0_odds_5 : decode cX0_odds 5 = .ok (.ifCond .eq 22, 3) := dk_153 0 22 (dk_at dksX0_odds_0 5 rfl rfl)
theorem dX0_odds_8 : decode cX0_odds 8 = .ok (.iload_n 2, 1) := dk_28 (dk_at dksX0_odds_0 8 rfl rfl)
theorem dX0_odds_9 : decode cX0_odds 9 = .ok (.iconst 0, 1) := dk_3 (dk_at dksX0_odds_0 9 rfl rfl)
theorem dX0_odds_10 : decode cX0_odds 10 = .ok (.bipush 6, 2) := dk_16 6 (dk_at dksX0_odds_0 10 rfl rfl)
theorem dX0_odds_12 : decode cX0_odds 12 = .ok (.invokestatic 158, 3) := dk_184 0 158 (dk_at dksX0_odds_0 12 rfl rfl)
theorem dX0_odds_15 : decode cX0_odds 15 = .ok (.ifCond .eq 12, 3) := dk_153 0 12 (dk_at dksX0_odds_0 15 rfl rfl)
theorem dX0_odds_18 : decode cX0_odds 18 = .ok (.iload_n 3, 1) := dk_29 (dk_at dksX0_odds_0 18 rfl rfl)
theorem dX0_odds_19 : decode cX0_odds 19 = .ok (.iconst 0, 1) := dk_3 (dk_at dksX0_odds_0 19 rfl rfl)
theorem dX0_odds_20 : decode cX0_odds 20 = .ok (.iconst 1, 1) := dk_4 (dk_at dksX0_odds_0 20 rfl rfl)
theorem dX0_odds_21 : decode cX0_odds 21 = .ok (.invokestatic 158, 3) := dk_184 0 158 (dk_at dksX0_odds_0 21 rfl rfl)
theorem dX0_odds_24 : decode cX0_odds 24 = .ok (.ifCond .ne 7, 3) := dk_154 0 7 (dk_at dksX0_odds_1 0 rfl rfl)
theorem dX0_odds_27 : decode cX0_odds 27 = .ok (.ldc2_w 298, 3) := dk_20 1 42 (dk_at dksX0_odds_1 3 rfl rfl)
theorem dX0_odds_30 : decode cX0_odds 30 = .ok (.lreturn, 1) := dk_173 (dk_at dksX0_odds_1 6 rfl rfl)
theorem dX0_odds_31 : decode cX0_odds 31 = .ok (.iconst 0, 1) := dk_3 (dk_at dksX0_odds_1 7 rfl rfl)
theorem dX0_odds_32 : decode cX0_odds 32 = .ok (.istore 4, 2) := dk_54 4 (dk_at dksX0_odds_1 8 rfl rfl)
theorem dX0_odds_34 : decode cX0_odds 34 = .ok (.iload 4, 2) := dk_21 4 (dk_at dksX0_odds_1 10 rfl rfl)
theorem dX0_odds_36 : decode cX0_odds 36 = .ok (.bipush 99, 2) := dk_16 99 (dk_at dksX0_odds_1 12 rfl rfl)
theorem dX0_odds_38 : decode cX0_odds 38 = .ok (.if_icmp .gt 17, 3) := dk_163 0 17 (dk_at dksX0_odds_1 14 rfl rfl)
theorem dX0_odds_41 : decode cX0_odds 41 = .ok (.aload_n 0, 1) := dk_42 (dk_at dksX0_odds_1 17 rfl rfl)
theorem dX0_odds_42 : decode cX0_odds 42 = .ok (.getfield 64, 3) := dk_180 0 64 (dk_at dksX0_odds_1 18 rfl rfl)
theorem dX0_odds_45 : decode cX0_odds 45 = .ok (.iload 4, 2) := dk_21 4 (dk_at dksX0_odds_1 21 rfl rfl)
theorem dX0_odds_47 : decode cX0_odds 47 = .ok (.lconst 0, 1) := dk_9 (dk_at dksX0_odds_1 23 rfl rfl)
theorem dX0_odds_48 : decode cX0_odds 48 = .ok (.lastore, 1) := dk_80 (dk_at dksX0_odds_2 0 rfl rfl)
theorem dX0_odds_49 : decode cX0_odds 49 = .ok (.iinc 4 1, 3) := dk_132 4 1 (dk_at dksX0_odds_2 1 rfl rfl)
theorem dX0_odds_52 : decode cX0_odds 52 = .ok (.goto (-18), 3) := dk_167 255 238 (dk_at dksX0_odds_2 4 rfl rfl)
theorem dX0_odds_55 : decode cX0_odds 55 = .ok (.aload_n 0, 1) := dk_42 (dk_at dksX0_odds_2 7 rfl rfl)
theorem dX0_odds_56 : decode cX0_odds 56 = .ok (.getfield 64, 3) := dk_180 0 64 (dk_at dksX0_odds_2 8 rfl rfl)
theorem dX0_odds_59 : decode cX0_odds 59 = .ok (.aload_n 0, 1) := dk_42 (dk_at dksX0_odds_2 11 rfl rfl)
theorem dX0_odds_60 : decode cX0_odds 60 = .ok (.getfield 19, 3) := dk_180 0 19 (dk_at dksX0_odds_2 12 rfl rfl)
theorem dX0_odds_63 : decode cX0_odds 63 = .ok (.getfield 103, 3) := dk_180 0 103 (dk_at dksX0_odds_2 15 rfl rfl)
theorem dX0_odds_66 : decode cX0_odds 66 = .ok (.iload_n 1, 1) := dk_27 (dk_at dksX0_odds_2 18 rfl rfl)
theorem dX0_odds_67 : decode cX0_odds 67 = .ok (.iaload, 1) := dk_46 (dk_at dksX0_odds_2 19 rfl rfl)
theorem dX0_odds_68 : decode cX0_odds 68 = .ok (.lconst 1, 1) := dk_10 (dk_at dksX0_odds_2 20 rfl rfl)
theorem dX0_odds_69 : decode cX0_odds 69 = .ok (.lastore, 1) := dk_80 (dk_at dksX0_odds_2 21 rfl rfl)
theorem dX0_odds_70 : decode cX0_odds 70 = .ok (.lconst 1, 1) := dk_10 (dk_at dksX0_odds_2 22 rfl rfl)
theorem dX0_odds_71 : decode cX0_odds 71 = .ok (.lstore 4, 2) := dk_55 4 (dk_at dksX0_odds_3 0 rfl rfl)
theorem dX0_odds_73 : decode cX0_odds 73 = .ok (.iconst 0, 1) := dk_3 (dk_at dksX0_odds_3 2 rfl rfl)
theorem dX0_odds_74 : decode cX0_odds 74 = .ok (.istore 6, 2) := dk_54 6 (dk_at dksX0_odds_3 3 rfl rfl)
theorem dX0_odds_76 : decode cX0_odds 76 = .ok (.iload 6, 2) := dk_21 6 (dk_at dksX0_odds_3 5 rfl rfl)
theorem dX0_odds_78 : decode cX0_odds 78 = .ok (.iload_n 2, 1) := dk_28 (dk_at dksX0_odds_3 7 rfl rfl)
theorem dX0_odds_79 : decode cX0_odds 79 = .ok (.if_icmp .ge 186, 3) := dk_162 0 186 (dk_at dksX0_odds_3 8 rfl rfl)
theorem dX0_odds_82 : decode cX0_odds 82 = .ok (.iconst 0, 1) := dk_3 (dk_at dksX0_odds_3 11 rfl rfl)
theorem dX0_odds_83 : decode cX0_odds 83 = .ok (.istore 7, 2) := dk_54 7 (dk_at dksX0_odds_3 12 rfl rfl)
theorem dX0_odds_85 : decode cX0_odds 85 = .ok (.iload 7, 2) := dk_21 7 (dk_at dksX0_odds_3 14 rfl rfl)
theorem dX0_odds_87 : decode cX0_odds 87 = .ok (.bipush 99, 2) := dk_16 99 (dk_at dksX0_odds_3 16 rfl rfl)
theorem dX0_odds_89 : decode cX0_odds 89 = .ok (.if_icmp .gt 17, 3) := dk_163 0 17 (dk_at dksX0_odds_3 18 rfl rfl)
theorem dX0_odds_92 : decode cX0_odds 92 = .ok (.aload_n 0, 1) := dk_42 (dk_at dksX0_odds_3 21 rfl rfl)
theorem dX0_odds_93 : decode cX0_odds 93 = .ok (.getfield 68, 3) := dk_180 0 68 (dk_at dksX0_odds_4 0 rfl rfl)
theorem dX0_odds_96 : decode cX0_odds 96 = .ok (.iload 7, 2) := dk_21 7 (dk_at dksX0_odds_4 3 rfl rfl)
theorem dX0_odds_98 : decode cX0_odds 98 = .ok (.lconst 0, 1) := dk_9 (dk_at dksX0_odds_4 5 rfl rfl)
theorem dX0_odds_99 : decode cX0_odds 99 = .ok (.lastore, 1) := dk_80 (dk_at dksX0_odds_4 6 rfl rfl)
theorem dX0_odds_100 : decode cX0_odds 100 = .ok (.iinc 7 1, 3) := dk_132 7 1 (dk_at dksX0_odds_4 7 rfl rfl)
theorem dX0_odds_103 : decode cX0_odds 103 = .ok (.goto (-18), 3) := dk_167 255 238 (dk_at dksX0_odds_4 10 rfl rfl)
theorem dX0_odds_106 : decode cX0_odds 106 = .ok (.iconst 1, 1) := dk_4 (dk_at dksX0_odds_4 13 rfl rfl)
theorem dX0_odds_107 : decode cX0_odds 107 = .ok (.istore 7, 2) := dk_54 7 (dk_at dksX0_odds_4 14 rfl rfl)
theorem dX0_odds_109 : decode cX0_odds 109 = .ok (.iload 7, 2) := dk_21 7 (dk_at dksX0_odds_4 16 rfl rfl)
theorem dX0_odds_111 : decode cX0_odds 111 = .ok (.bipush 99, 2) := dk_16 99 (dk_at dksX0_odds_4 18 rfl rfl)
theorem dX0_odds_113 : decode cX0_odds 113 = .ok (.if_icmp .gt 123, 3) := dk_163 0 123 (dk_at dksX0_odds_4 20 rfl rfl)
theorem dX0_odds_116 : decode cX0_odds 116 = .ok (.aload_n 0, 1) := dk_42 (dk_at dksX0_odds_4 23 rfl rfl)
theorem dX0_odds_117 : decode cX0_odds 117 = .ok (.getfield 64, 3) := dk_180 0 64 (dk_at dksX0_odds_5 0 rfl rfl)
theorem dX0_odds_120 : decode cX0_odds 120 = .ok (.iload 7, 2) := dk_21 7 (dk_at dksX0_odds_5 3 rfl rfl)
theorem dX0_odds_122 : decode cX0_odds 122 = .ok (.laload, 1) := dk_47 (dk_at dksX0_odds_5 5 rfl rfl)
theorem dX0_odds_123 : decode cX0_odds 123 = .ok (.lconst 0, 1) := dk_9 (dk_at dksX0_odds_5 6 rfl rfl)
theorem dX0_odds_124 : decode cX0_odds 124 = .ok (.lcmp, 1) := dk_148 (dk_at dksX0_odds_5 7 rfl rfl)
theorem dX0_odds_125 : decode cX0_odds 125 = .ok (.ifCond .ne 6, 3) := dk_154 0 6 (dk_at dksX0_odds_5 8 rfl rfl)
theorem dX0_odds_128 : decode cX0_odds 128 = .ok (.goto 102, 3) := dk_167 0 102 (dk_at dksX0_odds_5 11 rfl rfl)
theorem dX0_odds_131 : decode cX0_odds 131 = .ok (.aload_n 0, 1) := dk_42 (dk_at dksX0_odds_5 14 rfl rfl)
theorem dX0_odds_132 : decode cX0_odds 132 = .ok (.getfield 68, 3) := dk_180 0 68 (dk_at dksX0_odds_5 15 rfl rfl)
theorem dX0_odds_135 : decode cX0_odds 135 = .ok (.iload 7, 2) := dk_21 7 (dk_at dksX0_odds_5 18 rfl rfl)
theorem dX0_odds_137 : decode cX0_odds 137 = .ok (.aload_n 0, 1) := dk_42 (dk_at dksX0_odds_5 20 rfl rfl)
theorem dX0_odds_138 : decode cX0_odds 138 = .ok (.getfield 10, 3) := dk_180 0 10 (dk_at dksX0_odds_5 21 rfl rfl)
theorem dX0_odds_141 : decode cX0_odds 141 = .ok (.iload_n 1, 1) := dk_27 (dk_at dksX0_odds_6 0 rfl rfl)
theorem dX0_odds_142 : decode cX0_odds 142 = .ok (.iload 7, 2) := dk_21 7 (dk_at dksX0_odds_6 1 rfl rfl)
theorem dX0_odds_144 : decode cX0_odds 144 = .ok (.iconst 1, 1) := dk_4 (dk_at dksX0_odds_6 3 rfl rfl)
theorem dX0_odds_145 : decode cX0_odds 145 = .ok (.aload_n 0, 1) := dk_42 (dk_at dksX0_odds_6 4 rfl rfl)
theorem dX0_odds_146 : decode cX0_odds 146 = .ok (.getfield 19, 3) := dk_180 0 19 (dk_at dksX0_odds_6 5 rfl rfl)
theorem dX0_odds_149 : decode cX0_odds 149 = .ok (.getfield 121, 3) := dk_180 0 121 (dk_at dksX0_odds_6 8 rfl rfl)
theorem dX0_odds_152 : decode cX0_odds 152 = .ok (.iload 6, 2) := dk_21 6 (dk_at dksX0_odds_6 11 rfl rfl)
theorem dX0_odds_154 : decode cX0_odds 154 = .ok (.iadd, 1) := dk_96 (dk_at dksX0_odds_6 13 rfl rfl)
theorem dX0_odds_155 : decode cX0_odds 155 = .ok (.invokevirtual 290, 3) := dk_182 1 34 (dk_at dksX0_odds_6 14 rfl rfl)
theorem dX0_odds_158 : decode cX0_odds 158 = .ok (.isub, 1) := dk_100 (dk_at dksX0_odds_6 17 rfl rfl)
theorem dX0_odds_159 : decode cX0_odds 159 = .ok (.dup2, 1) := dk_92 (dk_at dksX0_odds_6 18 rfl rfl)
theorem dX0_odds_160 : decode cX0_odds 160 = .ok (.laload, 1) := dk_47 (dk_at dksX0_odds_6 19 rfl rfl)
theorem dX0_odds_161 : decode cX0_odds 161 = .ok (.aload_n 0, 1) := dk_42 (dk_at dksX0_odds_6 20 rfl rfl)
theorem dX0_odds_162 : decode cX0_odds 162 = .ok (.getfield 64, 3) := dk_180 0 64 (dk_at dksX0_odds_6 21 rfl rfl)
theorem dX0_odds_165 : decode cX0_odds 165 = .ok (.iload 7, 2) := dk_21 7 (dk_at dksX0_odds_7 0 rfl rfl)
theorem dX0_odds_167 : decode cX0_odds 167 = .ok (.laload, 1) := dk_47 (dk_at dksX0_odds_7 2 rfl rfl)
theorem dX0_odds_168 : decode cX0_odds 168 = .ok (.aload_n 0, 1) := dk_42 (dk_at dksX0_odds_7 3 rfl rfl)
theorem dX0_odds_169 : decode cX0_odds 169 = .ok (.getfield 10, 3) := dk_180 0 10 (dk_at dksX0_odds_7 4 rfl rfl)
theorem dX0_odds_172 : decode cX0_odds 172 = .ok (.getfield 300, 3) := dk_180 1 44 (dk_at dksX0_odds_7 7 rfl rfl)
theorem dX0_odds_175 : decode cX0_odds 175 = .ok (.i2l, 1) := dk_133 (dk_at dksX0_odds_7 10 rfl rfl)
theorem dX0_odds_176 : decode cX0_odds 176 = .ok (.lmul, 1) := dk_105 (dk_at dksX0_odds_7 11 rfl rfl)
theorem dX0_odds_177 : decode cX0_odds 177 = .ok (.ladd, 1) := dk_97 (dk_at dksX0_odds_7 12 rfl rfl)
theorem dX0_odds_178 : decode cX0_odds 178 = .ok (.lastore, 1) := dk_80 (dk_at dksX0_odds_7 13 rfl rfl)
theorem dX0_odds_179 : decode cX0_odds 179 = .ok (.aload_n 0, 1) := dk_42 (dk_at dksX0_odds_7 14 rfl rfl)
theorem dX0_odds_180 : decode cX0_odds 180 = .ok (.getfield 68, 3) := dk_180 0 68 (dk_at dksX0_odds_7 15 rfl rfl)
theorem dX0_odds_183 : decode cX0_odds 183 = .ok (.iload 7, 2) := dk_21 7 (dk_at dksX0_odds_7 18 rfl rfl)
theorem dX0_odds_185 : decode cX0_odds 185 = .ok (.aload_n 0, 1) := dk_42 (dk_at dksX0_odds_7 20 rfl rfl)
theorem dX0_odds_186 : decode cX0_odds 186 = .ok (.getfield 10, 3) := dk_180 0 10 (dk_at dksX0_odds_7 21 rfl rfl)
theorem dX0_odds_189 : decode cX0_odds 189 = .ok (.iload_n 1, 1) := dk_27 (dk_at dksX0_odds_8 0 rfl rfl)
theorem dX0_odds_190 : decode cX0_odds 190 = .ok (.iload 7, 2) := dk_21 7 (dk_at dksX0_odds_8 1 rfl rfl)
theorem dX0_odds_192 : decode cX0_odds 192 = .ok (.iconst 0, 1) := dk_3 (dk_at dksX0_odds_8 3 rfl rfl)
theorem dX0_odds_193 : decode cX0_odds 193 = .ok (.aload_n 0, 1) := dk_42 (dk_at dksX0_odds_8 4 rfl rfl)
theorem dX0_odds_194 : decode cX0_odds 194 = .ok (.getfield 19, 3) := dk_180 0 19 (dk_at dksX0_odds_8 5 rfl rfl)
theorem dX0_odds_197 : decode cX0_odds 197 = .ok (.getfield 121, 3) := dk_180 0 121 (dk_at dksX0_odds_8 8 rfl rfl)
theorem dX0_odds_200 : decode cX0_odds 200 = .ok (.iload 6, 2) := dk_21 6 (dk_at dksX0_odds_8 11 rfl rfl)
theorem dX0_odds_202 : decode cX0_odds 202 = .ok (.iadd, 1) := dk_96 (dk_at dksX0_odds_8 13 rfl rfl)
theorem dX0_odds_203 : decode cX0_odds 203 = .ok (.invokevirtual 290, 3) := dk_182 1 34 (dk_at dksX0_odds_8 14 rfl rfl)
theorem dX0_odds_206 : decode cX0_odds 206 = .ok (.isub, 1) := dk_100 (dk_at dksX0_odds_8 17 rfl rfl)
theorem dX0_odds_207 : decode cX0_odds 207 = .ok (.dup2, 1) := dk_92 (dk_at dksX0_odds_8 18 rfl rfl)
theorem dX0_odds_208 : decode cX0_odds 208 = .ok (.laload, 1) := dk_47 (dk_at dksX0_odds_8 19 rfl rfl)
theorem dX0_odds_209 : decode cX0_odds 209 = .ok (.aload_n 0, 1) := dk_42 (dk_at dksX0_odds_8 20 rfl rfl)
theorem dX0_odds_210 : decode cX0_odds 210 = .ok (.getfield 64, 3) := dk_180 0 64 (dk_at dksX0_odds_8 21 rfl rfl)
theorem dX0_odds_213 : decode cX0_odds 213 = .ok (.iload 7, 2) := dk_21 7 (dk_at dksX0_odds_9 0 rfl rfl)
theorem dX0_odds_215 : decode cX0_odds 215 = .ok (.laload, 1) := dk_47 (dk_at dksX0_odds_9 2 rfl rfl)
theorem dX0_odds_216 : decode cX0_odds 216 = .ok (.bipush 100, 2) := dk_16 100 (dk_at dksX0_odds_9 3 rfl rfl)
theorem dX0_odds_218 : decode cX0_odds 218 = .ok (.aload_n 0, 1) := dk_42 (dk_at dksX0_odds_9 5 rfl rfl)
theorem dX0_odds_219 : decode cX0_odds 219 = .ok (.getfield 10, 3) := dk_180 0 10 (dk_at dksX0_odds_9 6 rfl rfl)
theorem dX0_odds_222 : decode cX0_odds 222 = .ok (.getfield 300, 3) := dk_180 1 44 (dk_at dksX0_odds_9 9 rfl rfl)
theorem dX0_odds_225 : decode cX0_odds 225 = .ok (.isub, 1) := dk_100 (dk_at dksX0_odds_9 12 rfl rfl)
theorem dX0_odds_226 : decode cX0_odds 226 = .ok (.i2l, 1) := dk_133 (dk_at dksX0_odds_9 13 rfl rfl)
theorem dX0_odds_227 : decode cX0_odds 227 = .ok (.lmul, 1) := dk_105 (dk_at dksX0_odds_9 14 rfl rfl)
theorem dX0_odds_228 : decode cX0_odds 228 = .ok (.ladd, 1) := dk_97 (dk_at dksX0_odds_9 15 rfl rfl)
theorem dX0_odds_229 : decode cX0_odds 229 = .ok (.lastore, 1) := dk_80 (dk_at dksX0_odds_9 16 rfl rfl)
theorem dX0_odds_230 : decode cX0_odds 230 = .ok (.iinc 7 1, 3) := dk_132 7 1 (dk_at dksX0_odds_9 17 rfl rfl)
theorem dX0_odds_233 : decode cX0_odds 233 = .ok (.goto (-124), 3) := dk_167 255 132 (dk_at dksX0_odds_9 20 rfl rfl)
theorem dX0_odds_236 : decode cX0_odds 236 = .ok (.aload_n 0, 1) := dk_42 (dk_at dksX0_odds_9 23 rfl rfl)
theorem dX0_odds_237 : decode cX0_odds 237 = .ok (.getfield 68, 3) := dk_180 0 68 (dk_at dksX0_odds_10 0 rfl rfl)
theorem dX0_odds_240 : decode cX0_odds 240 = .ok (.iconst 0, 1) := dk_3 (dk_at dksX0_odds_10 3 rfl rfl)
theorem dX0_odds_241 : decode cX0_odds 241 = .ok (.aload_n 0, 1) := dk_42 (dk_at dksX0_odds_10 4 rfl rfl)
theorem dX0_odds_242 : decode cX0_odds 242 = .ok (.getfield 64, 3) := dk_180 0 64 (dk_at dksX0_odds_10 5 rfl rfl)
theorem dX0_odds_245 : decode cX0_odds 245 = .ok (.iconst 0, 1) := dk_3 (dk_at dksX0_odds_10 8 rfl rfl)
theorem dX0_odds_246 : decode cX0_odds 246 = .ok (.bipush 100, 2) := dk_16 100 (dk_at dksX0_odds_10 9 rfl rfl)
theorem dX0_odds_248 : decode cX0_odds 248 = .ok (.invokestatic 242, 3) := dk_184 0 242 (dk_at dksX0_odds_10 11 rfl rfl)
theorem dX0_odds_251 : decode cX0_odds 251 = .ok (.lload 4, 2) := dk_22 4 (dk_at dksX0_odds_10 14 rfl rfl)
theorem dX0_odds_253 : decode cX0_odds 253 = .ok (.ldc2_w 303, 3) := dk_20 1 47 (dk_at dksX0_odds_10 16 rfl rfl)
theorem dX0_odds_256 : decode cX0_odds 256 = .ok (.lmul, 1) := dk_105 (dk_at dksX0_odds_10 19 rfl rfl)
theorem dX0_odds_257 : decode cX0_odds 257 = .ok (.lstore 4, 2) := dk_55 4 (dk_at dksX0_odds_10 20 rfl rfl)
theorem dX0_odds_259 : decode cX0_odds 259 = .ok (.iinc 6 1, 3) := dk_132 6 1 (dk_at dksX0_odds_11 0 rfl rfl)
theorem dX0_odds_262 : decode cX0_odds 262 = .ok (.goto (-186), 3) := dk_167 255 70 (dk_at dksX0_odds_11 3 rfl rfl)
theorem dX0_odds_265 : decode cX0_odds 265 = .ok (.lconst 0, 1) := dk_9 (dk_at dksX0_odds_11 6 rfl rfl)
theorem dX0_odds_266 : decode cX0_odds 266 = .ok (.lstore 6, 2) := dk_55 6 (dk_at dksX0_odds_11 7 rfl rfl)
theorem dX0_odds_268 : decode cX0_odds 268 = .ok (.iconst 1, 1) := dk_4 (dk_at dksX0_odds_11 9 rfl rfl)
theorem dX0_odds_269 : decode cX0_odds 269 = .ok (.istore 8, 2) := dk_54 8 (dk_at dksX0_odds_11 10 rfl rfl)
theorem dX0_odds_271 : decode cX0_odds 271 = .ok (.iload 8, 2) := dk_21 8 (dk_at dksX0_odds_11 12 rfl rfl)
theorem dX0_odds_273 : decode cX0_odds 273 = .ok (.bipush 99, 2) := dk_16 99 (dk_at dksX0_odds_11 14 rfl rfl)
theorem dX0_odds_275 : decode cX0_odds 275 = .ok (.if_icmp .gt 21, 3) := dk_163 0 21 (dk_at dksX0_odds_11 16 rfl rfl)
theorem dX0_odds_278 : decode cX0_odds 278 = .ok (.lload 6, 2) := dk_22 6 (dk_at dksX0_odds_11 19 rfl rfl)
theorem dX0_odds_280 : decode cX0_odds 280 = .ok (.aload_n 0, 1) := dk_42 (dk_at dksX0_odds_11 21 rfl rfl)
theorem dX0_odds_281 : decode cX0_odds 281 = .ok (.getfield 64, 3) := dk_180 0 64 (dk_at dksX0_odds_12 0 rfl rfl)
theorem dX0_odds_284 : decode cX0_odds 284 = .ok (.iload 8, 2) := dk_21 8 (dk_at dksX0_odds_12 3 rfl rfl)
theorem dX0_odds_286 : decode cX0_odds 286 = .ok (.laload, 1) := dk_47 (dk_at dksX0_odds_12 5 rfl rfl)
theorem dX0_odds_287 : decode cX0_odds 287 = .ok (.ladd, 1) := dk_97 (dk_at dksX0_odds_12 6 rfl rfl)
theorem dX0_odds_288 : decode cX0_odds 288 = .ok (.lstore 6, 2) := dk_55 6 (dk_at dksX0_odds_12 7 rfl rfl)
theorem dX0_odds_290 : decode cX0_odds 290 = .ok (.iinc 8 1, 3) := dk_132 8 1 (dk_at dksX0_odds_12 9 rfl rfl)
theorem dX0_odds_293 : decode cX0_odds 293 = .ok (.goto (-22), 3) := dk_167 255 234 (dk_at dksX0_odds_12 12 rfl rfl)
theorem dX0_odds_296 : decode cX0_odds 296 = .ok (.iload_n 3, 1) := dk_29 (dk_at dksX0_odds_12 15 rfl rfl)
theorem dX0_odds_297 : decode cX0_odds 297 = .ok (.ifCond .ne 8, 3) := dk_154 0 8 (dk_at dksX0_odds_12 16 rfl rfl)
theorem dX0_odds_300 : decode cX0_odds 300 = .ok (.lload 6, 2) := dk_22 6 (dk_at dksX0_odds_12 19 rfl rfl)
theorem dX0_odds_302 : decode cX0_odds 302 = .ok (.goto 5, 3) := dk_167 0 5 (dk_at dksX0_odds_12 21 rfl rfl)
theorem dX0_odds_305 : decode cX0_odds 305 = .ok (.lload 4, 2) := dk_22 4 (dk_at dksX0_odds_13 0 rfl rfl)
theorem dX0_odds_307 : decode cX0_odds 307 = .ok (.lload 4, 2) := dk_22 4 (dk_at dksX0_odds_13 2 rfl rfl)
theorem dX0_odds_309 : decode cX0_odds 309 = .ok (.lload 6, 2) := dk_22 6 (dk_at dksX0_odds_13 4 rfl rfl)
theorem dX0_odds_311 : decode cX0_odds 311 = .ok (.invokestatic 294, 3) := dk_184 1 38 (dk_at dksX0_odds_13 6 rfl rfl)
theorem dX0_odds_314 : decode cX0_odds 314 = .ok (.ldiv, 1) := dk_109 (dk_at dksX0_odds_13 9 rfl rfl)
theorem dX0_odds_315 : decode cX0_odds 315 = .ok (.lreturn, 1) := dk_173 (dk_at dksX0_odds_13 10 rfl rfl)
abbrev cX0_common : ByteArray := prog_1_method_41_code
def yX0_common : MethodName := ⟨RX0, "common", "(JJ)J"⟩
def dkwX0_common_0 : List UInt8 := [32, 9, 148, 154, 0, 7, 30, 167, 0, 10, 32, 30, 32, 113, 184, 1, 38, 173]
abbrev dktX0_common_0 : List UInt8 := dkwX0_common_0 ++ []
theorem dksX0_common_0 : cX0_common.data.toList.drop 0 = dktX0_common_0 := by decide +kernel
theorem dX0_common_0 : decode cX0_common 0 = .ok (.lload_n 2, 1) := dk_32 (dk_at dksX0_common_0 0 rfl rfl)
theorem dX0_common_1 : decode cX0_common 1 = .ok (.lconst 0, 1) := dk_9 (dk_at dksX0_common_0 1 rfl rfl)
theorem dX0_common_2 : decode cX0_common 2 = .ok (.lcmp, 1) := dk_148 (dk_at dksX0_common_0 2 rfl rfl)
theorem dX0_common_3 : decode cX0_common 3 = .ok (.ifCond .ne 7, 3) := dk_154 0 7 (dk_at dksX0_common_0 3 rfl rfl)
theorem dX0_common_6 : decode cX0_common 6 = .ok (.lload_n 0, 1) := dk_30 (dk_at dksX0_common_0 6 rfl rfl)
theorem dX0_common_7 : decode cX0_common 7 = .ok (.goto 10, 3) := dk_167 0 10 (dk_at dksX0_common_0 7 rfl rfl)
theorem dX0_common_10 : decode cX0_common 10 = .ok (.lload_n 2, 1) := dk_32 (dk_at dksX0_common_0 10 rfl rfl)
theorem dX0_common_11 : decode cX0_common 11 = .ok (.lload_n 0, 1) := dk_30 (dk_at dksX0_common_0 11 rfl rfl)
theorem dX0_common_12 : decode cX0_common 12 = .ok (.lload_n 2, 1) := dk_32 (dk_at dksX0_common_0 12 rfl rfl)
theorem dX0_common_13 : decode cX0_common 13 = .ok (.lrem, 1) := dk_113 (dk_at dksX0_common_0 13 rfl rfl)
theorem dX0_common_14 : decode cX0_common 14 = .ok (.invokestatic 294, 3) := dk_184 1 38 (dk_at dksX0_common_0 14 rfl rfl)
theorem dX0_common_17 : decode cX0_common 17 = .ok (.lreturn, 1) := dk_173 (dk_at dksX0_common_0 17 rfl rfl)
abbrev cX0_first : ByteArray := prog_1_method_43_code
def yX0_first : MethodName := ⟨RX0, "first", "(I)I"⟩
def dkwX0_first_2 : List UInt8 := [27, 154, 0, 7, 29, 167, 0, 4, 28, 172, 132, 3, 1, 167, 255, 217, 132, 2, 1, 167, 255, 203, 2, 172]
abbrev dktX0_first_2 : List UInt8 := dkwX0_first_2 ++ []
def dkwX0_first_1 : List UInt8 := [182, 0, 106, 162, 0, 37, 42, 29, 182, 0, 219, 153, 0, 23, 42, 29, 28, 3, 182, 1, 49, 154, 0, 13]
abbrev dktX0_first_1 : List UInt8 := dkwX0_first_1 ++ dktX0_first_2
def dkwX0_first_0 : List UInt8 := [27, 3, 4, 184, 0, 158, 154, 0, 5, 2, 172, 4, 61, 28, 16, 60, 163, 0, 53, 3, 62, 29, 42]
abbrev dktX0_first_0 : List UInt8 := dkwX0_first_0 ++ dktX0_first_1
theorem dksX0_first_0 : cX0_first.data.toList.drop 0 = dktX0_first_0 := by decide +kernel
theorem dksX0_first_1 : cX0_first.data.toList.drop 23 = dktX0_first_1 := dk_seg dksX0_first_0 23 rfl rfl
theorem dksX0_first_2 : cX0_first.data.toList.drop 47 = dktX0_first_2 := dk_seg dksX0_first_1 24 rfl rfl
theorem dX0_first_0 : decode cX0_first 0 = .ok (.iload_n 1, 1) := dk_27 (dk_at dksX0_first_0 0 rfl rfl)
theorem dX0_first_1 : decode cX0_first 1 = .ok (.iconst 0, 1) := dk_3 (dk_at dksX0_first_0 1 rfl rfl)
theorem dX0_first_2 : decode cX0_first 2 = .ok (.iconst 1, 1) := dk_4 (dk_at dksX0_first_0 2 rfl rfl)
theorem dX0_first_3 : decode cX0_first 3 = .ok (.invokestatic 158, 3) := dk_184 0 158 (dk_at dksX0_first_0 3 rfl rfl)
theorem dX0_first_6 : decode cX0_first 6 = .ok (.ifCond .ne 5, 3) := dk_154 0 5 (dk_at dksX0_first_0 6 rfl rfl)
theorem dX0_first_9 : decode cX0_first 9 = .ok (.iconst (-1), 1) := dk_2 (dk_at dksX0_first_0 9 rfl rfl)
theorem dX0_first_10 : decode cX0_first 10 = .ok (.ireturn, 1) := dk_172 (dk_at dksX0_first_0 10 rfl rfl)
theorem dX0_first_11 : decode cX0_first 11 = .ok (.iconst 1, 1) := dk_4 (dk_at dksX0_first_0 11 rfl rfl)
theorem dX0_first_12 : decode cX0_first 12 = .ok (.istore_n 2, 1) := dk_61 (dk_at dksX0_first_0 12 rfl rfl)
theorem dX0_first_13 : decode cX0_first 13 = .ok (.iload_n 2, 1) := dk_28 (dk_at dksX0_first_0 13 rfl rfl)
theorem dX0_first_14 : decode cX0_first 14 = .ok (.bipush 60, 2) := dk_16 60 (dk_at dksX0_first_0 14 rfl rfl)
theorem dX0_first_16 : decode cX0_first 16 = .ok (.if_icmp .gt 53, 3) := dk_163 0 53 (dk_at dksX0_first_0 16 rfl rfl)
theorem dX0_first_19 : decode cX0_first 19 = .ok (.iconst 0, 1) := dk_3 (dk_at dksX0_first_0 19 rfl rfl)
theorem dX0_first_20 : decode cX0_first 20 = .ok (.istore_n 3, 1) := dk_62 (dk_at dksX0_first_0 20 rfl rfl)
theorem dX0_first_21 : decode cX0_first 21 = .ok (.iload_n 3, 1) := dk_29 (dk_at dksX0_first_0 21 rfl rfl)
theorem dX0_first_22 : decode cX0_first 22 = .ok (.aload_n 0, 1) := dk_42 (dk_at dksX0_first_0 22 rfl rfl)
theorem dX0_first_23 : decode cX0_first 23 = .ok (.invokevirtual 106, 3) := dk_182 0 106 (dk_at dksX0_first_1 0 rfl rfl)
theorem dX0_first_26 : decode cX0_first 26 = .ok (.if_icmp .ge 37, 3) := dk_162 0 37 (dk_at dksX0_first_1 3 rfl rfl)
theorem dX0_first_29 : decode cX0_first 29 = .ok (.aload_n 0, 1) := dk_42 (dk_at dksX0_first_1 6 rfl rfl)
theorem dX0_first_30 : decode cX0_first 30 = .ok (.iload_n 3, 1) := dk_29 (dk_at dksX0_first_1 7 rfl rfl)
theorem dX0_first_31 : decode cX0_first 31 = .ok (.invokevirtual 219, 3) := dk_182 0 219 (dk_at dksX0_first_1 8 rfl rfl)
theorem dX0_first_34 : decode cX0_first 34 = .ok (.ifCond .eq 23, 3) := dk_153 0 23 (dk_at dksX0_first_1 11 rfl rfl)
theorem dX0_first_37 : decode cX0_first 37 = .ok (.aload_n 0, 1) := dk_42 (dk_at dksX0_first_1 14 rfl rfl)
theorem dX0_first_38 : decode cX0_first 38 = .ok (.iload_n 3, 1) := dk_29 (dk_at dksX0_first_1 15 rfl rfl)
theorem dX0_first_39 : decode cX0_first 39 = .ok (.iload_n 2, 1) := dk_28 (dk_at dksX0_first_1 16 rfl rfl)
theorem dX0_first_40 : decode cX0_first 40 = .ok (.iconst 0, 1) := dk_3 (dk_at dksX0_first_1 17 rfl rfl)
theorem dX0_first_41 : decode cX0_first 41 = .ok (.invokevirtual 305, 3) := dk_182 1 49 (dk_at dksX0_first_1 18 rfl rfl)
theorem dX0_first_44 : decode cX0_first 44 = .ok (.ifCond .ne 13, 3) := dk_154 0 13 (dk_at dksX0_first_1 21 rfl rfl)
theorem dX0_first_47 : decode cX0_first 47 = .ok (.iload_n 1, 1) := dk_27 (dk_at dksX0_first_2 0 rfl rfl)
theorem dX0_first_48 : decode cX0_first 48 = .ok (.ifCond .ne 7, 3) := dk_154 0 7 (dk_at dksX0_first_2 1 rfl rfl)
theorem dX0_first_51 : decode cX0_first 51 = .ok (.iload_n 3, 1) := dk_29 (dk_at dksX0_first_2 4 rfl rfl)
theorem dX0_first_52 : decode cX0_first 52 = .ok (.goto 4, 3) := dk_167 0 4 (dk_at dksX0_first_2 5 rfl rfl)
theorem dX0_first_55 : decode cX0_first 55 = .ok (.iload_n 2, 1) := dk_28 (dk_at dksX0_first_2 8 rfl rfl)
theorem dX0_first_56 : decode cX0_first 56 = .ok (.ireturn, 1) := dk_172 (dk_at dksX0_first_2 9 rfl rfl)
theorem dX0_first_57 : decode cX0_first 57 = .ok (.iinc 3 1, 3) := dk_132 3 1 (dk_at dksX0_first_2 10 rfl rfl)
theorem dX0_first_60 : decode cX0_first 60 = .ok (.goto (-39), 3) := dk_167 255 217 (dk_at dksX0_first_2 13 rfl rfl)
theorem dX0_first_63 : decode cX0_first 63 = .ok (.iinc 2 1, 3) := dk_132 2 1 (dk_at dksX0_first_2 16 rfl rfl)
theorem dX0_first_66 : decode cX0_first 66 = .ok (.goto (-53), 3) := dk_167 255 203 (dk_at dksX0_first_2 19 rfl rfl)
theorem dX0_first_69 : decode cX0_first 69 = .ok (.iconst (-1), 1) := dk_2 (dk_at dksX0_first_2 22 rfl rfl)
theorem dX0_first_70 : decode cX0_first 70 = .ok (.ireturn, 1) := dk_172 (dk_at dksX0_first_2 23 rfl rfl)
abbrev cX0_will : ByteArray := prog_1_method_44_code
def yX0_will : MethodName := ⟨RX0, "will", "(II)I"⟩
def dkwX0_will_2 : List UInt8 := [182, 0, 231, 87, 132, 3, 1, 167, 255, 236, 42, 180, 0, 23, 180, 0, 100, 27, 46, 172]
abbrev dktX0_will_2 : List UInt8 := dkwX0_will_2 ++ []
def dkwX0_will_1 : List UInt8 := [42, 180, 0, 19, 182, 0, 141, 3, 62, 29, 28, 162, 0, 21, 42, 180, 0, 23, 42, 180, 0, 10]
abbrev dktX0_will_1 : List UInt8 := dkwX0_will_1 ++ dktX0_will_2
def dkwX0_will_0 : List UInt8 := [42, 27, 182, 0, 168, 153, 0, 13, 28, 3, 16, 60, 184, 0, 158, 154, 0, 5, 2, 172, 42, 180, 0, 23]
abbrev dktX0_will_0 : List UInt8 := dkwX0_will_0 ++ dktX0_will_1
theorem dksX0_will_0 : cX0_will.data.toList.drop 0 = dktX0_will_0 := by decide +kernel
theorem dksX0_will_1 : cX0_will.data.toList.drop 24 = dktX0_will_1 := dk_seg dksX0_will_0 24 rfl rfl
theorem dksX0_will_2 : cX0_will.data.toList.drop 46 = dktX0_will_2 := dk_seg dksX0_will_1 22 rfl rfl
theorem dX0_will_0 : decode cX0_will 0 = .ok (.aload_n 0, 1) := dk_42 (dk_at dksX0_will_0 0 rfl rfl)
theorem dX0_will_1 : decode cX0_will 1 = .ok (.iload_n 1, 1) := dk_27 (dk_at dksX0_will_0 1 rfl rfl)
theorem dX0_will_2 : decode cX0_will 2 = .ok (.invokevirtual 168, 3) := dk_182 0 168 (dk_at dksX0_will_0 2 rfl rfl)
theorem dX0_will_5 : decode cX0_will 5 = .ok (.ifCond .eq 13, 3) := dk_153 0 13 (dk_at dksX0_will_0 5 rfl rfl)
theorem dX0_will_8 : decode cX0_will 8 = .ok (.iload_n 2, 1) := dk_28 (dk_at dksX0_will_0 8 rfl rfl)
theorem dX0_will_9 : decode cX0_will 9 = .ok (.iconst 0, 1) := dk_3 (dk_at dksX0_will_0 9 rfl rfl)
theorem dX0_will_10 : decode cX0_will 10 = .ok (.bipush 60, 2) := dk_16 60 (dk_at dksX0_will_0 10 rfl rfl)
theorem dX0_will_12 : decode cX0_will 12 = .ok (.invokestatic 158, 3) := dk_184 0 158 (dk_at dksX0_will_0 12 rfl rfl)
theorem dX0_will_15 : decode cX0_will 15 = .ok (.ifCond .ne 5, 3) := dk_154 0 5 (dk_at dksX0_will_0 15 rfl rfl)
theorem dX0_will_18 : decode cX0_will 18 = .ok (.iconst (-1), 1) := dk_2 (dk_at dksX0_will_0 18 rfl rfl)
theorem dX0_will_19 : decode cX0_will 19 = .ok (.ireturn, 1) := dk_172 (dk_at dksX0_will_0 19 rfl rfl)
theorem dX0_will_20 : decode cX0_will 20 = .ok (.aload_n 0, 1) := dk_42 (dk_at dksX0_will_0 20 rfl rfl)
theorem dX0_will_21 : decode cX0_will 21 = .ok (.getfield 23, 3) := dk_180 0 23 (dk_at dksX0_will_0 21 rfl rfl)
theorem dX0_will_24 : decode cX0_will 24 = .ok (.aload_n 0, 1) := dk_42 (dk_at dksX0_will_1 0 rfl rfl)
theorem dX0_will_25 : decode cX0_will 25 = .ok (.getfield 19, 3) := dk_180 0 19 (dk_at dksX0_will_1 1 rfl rfl)
theorem dX0_will_28 : decode cX0_will 28 = .ok (.invokevirtual 141, 3) := dk_182 0 141 (dk_at dksX0_will_1 4 rfl rfl)
theorem dX0_will_31 : decode cX0_will 31 = .ok (.iconst 0, 1) := dk_3 (dk_at dksX0_will_1 7 rfl rfl)
theorem dX0_will_32 : decode cX0_will 32 = .ok (.istore_n 3, 1) := dk_62 (dk_at dksX0_will_1 8 rfl rfl)
theorem dX0_will_33 : decode cX0_will 33 = .ok (.iload_n 3, 1) := dk_29 (dk_at dksX0_will_1 9 rfl rfl)
theorem dX0_will_34 : decode cX0_will 34 = .ok (.iload_n 2, 1) := dk_28 (dk_at dksX0_will_1 10 rfl rfl)
theorem dX0_will_35 : decode cX0_will 35 = .ok (.if_icmp .ge 21, 3) := dk_162 0 21 (dk_at dksX0_will_1 11 rfl rfl)
theorem dX0_will_38 : decode cX0_will 38 = .ok (.aload_n 0, 1) := dk_42 (dk_at dksX0_will_1 14 rfl rfl)
theorem dX0_will_39 : decode cX0_will 39 = .ok (.getfield 23, 3) := dk_180 0 23 (dk_at dksX0_will_1 15 rfl rfl)
theorem dX0_will_42 : decode cX0_will 42 = .ok (.aload_n 0, 1) := dk_42 (dk_at dksX0_will_1 18 rfl rfl)
theorem dX0_will_43 : decode cX0_will 43 = .ok (.getfield 10, 3) := dk_180 0 10 (dk_at dksX0_will_1 19 rfl rfl)
theorem dX0_will_46 : decode cX0_will 46 = .ok (.invokevirtual 231, 3) := dk_182 0 231 (dk_at dksX0_will_2 0 rfl rfl)
theorem dX0_will_49 : decode cX0_will 49 = .ok (.pop, 1) := dk_87 (dk_at dksX0_will_2 3 rfl rfl)
theorem dX0_will_50 : decode cX0_will 50 = .ok (.iinc 3 1, 3) := dk_132 3 1 (dk_at dksX0_will_2 4 rfl rfl)
theorem dX0_will_53 : decode cX0_will 53 = .ok (.goto (-20), 3) := dk_167 255 236 (dk_at dksX0_will_2 7 rfl rfl)
theorem dX0_will_56 : decode cX0_will 56 = .ok (.aload_n 0, 1) := dk_42 (dk_at dksX0_will_2 10 rfl rfl)
theorem dX0_will_57 : decode cX0_will 57 = .ok (.getfield 23, 3) := dk_180 0 23 (dk_at dksX0_will_2 11 rfl rfl)
theorem dX0_will_60 : decode cX0_will 60 = .ok (.getfield 100, 3) := dk_180 0 100 (dk_at dksX0_will_2 14 rfl rfl)
theorem dX0_will_63 : decode cX0_will 63 = .ok (.iload_n 1, 1) := dk_27 (dk_at dksX0_will_2 17 rfl rfl)
theorem dX0_will_64 : decode cX0_will 64 = .ok (.iaload, 1) := dk_46 (dk_at dksX0_will_2 18 rfl rfl)
theorem dX0_will_65 : decode cX0_will 65 = .ok (.ireturn, 1) := dk_172 (dk_at dksX0_will_2 19 rfl rfl)
abbrev cX0_truce : ByteArray := prog_1_method_45_code
def yX0_truce : MethodName := ⟨RX0, "truce", "()I"⟩
def dkwX0_truce_0 : List UInt8 := [42, 3, 181, 0, 136, 42, 180, 0, 74, 182, 1, 53, 172]
abbrev dktX0_truce_0 : List UInt8 := dkwX0_truce_0 ++ []
theorem dksX0_truce_0 : cX0_truce.data.toList.drop 0 = dktX0_truce_0 := by decide +kernel
theorem dX0_truce_0 : decode cX0_truce 0 = .ok (.aload_n 0, 1) := dk_42 (dk_at dksX0_truce_0 0 rfl rfl)
theorem dX0_truce_1 : decode cX0_truce 1 = .ok (.iconst 0, 1) := dk_3 (dk_at dksX0_truce_0 1 rfl rfl)
theorem dX0_truce_2 : decode cX0_truce 2 = .ok (.putfield 136, 3) := dk_181 0 136 (dk_at dksX0_truce_0 2 rfl rfl)
theorem dX0_truce_5 : decode cX0_truce 5 = .ok (.aload_n 0, 1) := dk_42 (dk_at dksX0_truce_0 5 rfl rfl)
theorem dX0_truce_6 : decode cX0_truce 6 = .ok (.getfield 74, 3) := dk_180 0 74 (dk_at dksX0_truce_0 6 rfl rfl)
theorem dX0_truce_9 : decode cX0_truce 9 = .ok (.invokevirtual 309, 3) := dk_182 1 53 (dk_at dksX0_truce_0 9 rfl rfl)
theorem dX0_truce_12 : decode cX0_truce 12 = .ok (.ireturn, 1) := dk_172 (dk_at dksX0_truce_0 12 rfl rfl)
abbrev cX0_calm : ByteArray := prog_1_method_46_code
def yX0_calm : MethodName := ⟨RX0, "calm", "()I"⟩
def dkwX0_calm_0 : List UInt8 := [42, 3, 181, 0, 136, 42, 180, 0, 81, 182, 1, 55, 172]
abbrev dktX0_calm_0 : List UInt8 := dkwX0_calm_0 ++ []
theorem dksX0_calm_0 : cX0_calm.data.toList.drop 0 = dktX0_calm_0 := by decide +kernel
theorem dX0_calm_0 : decode cX0_calm 0 = .ok (.aload_n 0, 1) := dk_42 (dk_at dksX0_calm_0 0 rfl rfl)
theorem dX0_calm_1 : decode cX0_calm 1 = .ok (.iconst 0, 1) := dk_3 (dk_at dksX0_calm_0 1 rfl rfl)
theorem dX0_calm_2 : decode cX0_calm 2 = .ok (.putfield 136, 3) := dk_181 0 136 (dk_at dksX0_calm_0 2 rfl rfl)
theorem dX0_calm_5 : decode cX0_calm 5 = .ok (.aload_n 0, 1) := dk_42 (dk_at dksX0_calm_0 5 rfl rfl)
theorem dX0_calm_6 : decode cX0_calm 6 = .ok (.getfield 81, 3) := dk_180 0 81 (dk_at dksX0_calm_0 6 rfl rfl)
theorem dX0_calm_9 : decode cX0_calm 9 = .ok (.invokevirtual 311, 3) := dk_182 1 55 (dk_at dksX0_calm_0 9 rfl rfl)
theorem dX0_calm_12 : decode cX0_calm 12 = .ok (.ireturn, 1) := dk_172 (dk_at dksX0_calm_0 12 rfl rfl)
abbrev cX0_likes : ByteArray := prog_1_method_47_code
def yX0_likes : MethodName := ⟨RX0, "likes", "(II)I"⟩
def dkwX0_likes_1 : List UInt8 := [182, 1, 56, 167, 0, 5, 16, 156, 172]
abbrev dktX0_likes_1 : List UInt8 := dkwX0_likes_1 ++ []
def dkwX0_likes_0 : List UInt8 := [42, 27, 182, 0, 216, 153, 0, 23, 42, 28, 182, 0, 216, 153, 0, 15, 42, 180, 0, 10, 27, 28]
abbrev dktX0_likes_0 : List UInt8 := dkwX0_likes_0 ++ dktX0_likes_1
theorem dksX0_likes_0 : cX0_likes.data.toList.drop 0 = dktX0_likes_0 := by decide +kernel
theorem dksX0_likes_1 : cX0_likes.data.toList.drop 22 = dktX0_likes_1 := dk_seg dksX0_likes_0 22 rfl rfl
theorem dX0_likes_0 : decode cX0_likes 0 = .ok (.aload_n 0, 1) := dk_42 (dk_at dksX0_likes_0 0 rfl rfl)
theorem dX0_likes_1 : decode cX0_likes 1 = .ok (.iload_n 1, 1) := dk_27 (dk_at dksX0_likes_0 1 rfl rfl)
theorem dX0_likes_2 : decode cX0_likes 2 = .ok (.invokevirtual 216, 3) := dk_182 0 216 (dk_at dksX0_likes_0 2 rfl rfl)
theorem dX0_likes_5 : decode cX0_likes 5 = .ok (.ifCond .eq 23, 3) := dk_153 0 23 (dk_at dksX0_likes_0 5 rfl rfl)
theorem dX0_likes_8 : decode cX0_likes 8 = .ok (.aload_n 0, 1) := dk_42 (dk_at dksX0_likes_0 8 rfl rfl)
theorem dX0_likes_9 : decode cX0_likes 9 = .ok (.iload_n 2, 1) := dk_28 (dk_at dksX0_likes_0 9 rfl rfl)
theorem dX0_likes_10 : decode cX0_likes 10 = .ok (.invokevirtual 216, 3) := dk_182 0 216 (dk_at dksX0_likes_0 10 rfl rfl)
theorem dX0_likes_13 : decode cX0_likes 13 = .ok (.ifCond .eq 15, 3) := dk_153 0 15 (dk_at dksX0_likes_0 13 rfl rfl)
theorem dX0_likes_16 : decode cX0_likes 16 = .ok (.aload_n 0, 1) := dk_42 (dk_at dksX0_likes_0 16 rfl rfl)
theorem dX0_likes_17 : decode cX0_likes 17 = .ok (.getfield 10, 3) := dk_180 0 10 (dk_at dksX0_likes_0 17 rfl rfl)
theorem dX0_likes_20 : decode cX0_likes 20 = .ok (.iload_n 1, 1) := dk_27 (dk_at dksX0_likes_0 20 rfl rfl)
theorem dX0_likes_21 : decode cX0_likes 21 = .ok (.iload_n 2, 1) := dk_28 (dk_at dksX0_likes_0 21 rfl rfl)
theorem dX0_likes_22 : decode cX0_likes 22 = .ok (.invokevirtual 312, 3) := dk_182 1 56 (dk_at dksX0_likes_1 0 rfl rfl)
theorem dX0_likes_25 : decode cX0_likes 25 = .ok (.goto 5, 3) := dk_167 0 5 (dk_at dksX0_likes_1 3 rfl rfl)
theorem dX0_likes_28 : decode cX0_likes 28 = .ok (.bipush (-100), 2) := dk_16 156 (dk_at dksX0_likes_1 6 rfl rfl)
theorem dX0_likes_30 : decode cX0_likes 30 = .ok (.ireturn, 1) := dk_172 (dk_at dksX0_likes_1 8 rfl rfl)
abbrev cX0_tug : ByteArray := prog_1_method_48_code
def yX0_tug : MethodName := ⟨RX0, "tug", "(IIZ)I"⟩
def dkwX0_tug_2 : List UInt8 := [180, 1, 61, 183, 1, 64, 182, 0, 154, 87, 42, 180, 0, 85, 182, 0, 144, 4, 100, 172]
abbrev dktX0_tug_2 : List UInt8 := dkwX0_tug_2 ++ []
def dkwX0_tug_1 : List UInt8 := [182, 0, 144, 16, 30, 160, 0, 5, 2, 172, 42, 180, 0, 85, 187, 1, 59, 89, 27, 28, 29, 42]
abbrev dktX0_tug_1 : List UInt8 := dkwX0_tug_1 ++ dktX0_tug_2
def dkwX0_tug_0 : List UInt8 := [27, 3, 5, 184, 0, 158, 153, 0, 25, 28, 3, 16, 9, 184, 0, 158, 153, 0, 15, 42, 180, 0, 85]
abbrev dktX0_tug_0 : List UInt8 := dkwX0_tug_0 ++ dktX0_tug_1
theorem dksX0_tug_0 : cX0_tug.data.toList.drop 0 = dktX0_tug_0 := by decide +kernel
theorem dksX0_tug_1 : cX0_tug.data.toList.drop 23 = dktX0_tug_1 := dk_seg dksX0_tug_0 23 rfl rfl
theorem dksX0_tug_2 : cX0_tug.data.toList.drop 45 = dktX0_tug_2 := dk_seg dksX0_tug_1 22 rfl rfl
theorem dX0_tug_0 : decode cX0_tug 0 = .ok (.iload_n 1, 1) := dk_27 (dk_at dksX0_tug_0 0 rfl rfl)
theorem dX0_tug_1 : decode cX0_tug 1 = .ok (.iconst 0, 1) := dk_3 (dk_at dksX0_tug_0 1 rfl rfl)
theorem dX0_tug_2 : decode cX0_tug 2 = .ok (.iconst 2, 1) := dk_5 (dk_at dksX0_tug_0 2 rfl rfl)
theorem dX0_tug_3 : decode cX0_tug 3 = .ok (.invokestatic 158, 3) := dk_184 0 158 (dk_at dksX0_tug_0 3 rfl rfl)
theorem dX0_tug_6 : decode cX0_tug 6 = .ok (.ifCond .eq 25, 3) := dk_153 0 25 (dk_at dksX0_tug_0 6 rfl rfl)
theorem dX0_tug_9 : decode cX0_tug 9 = .ok (.iload_n 2, 1) := dk_28 (dk_at dksX0_tug_0 9 rfl rfl)
theorem dX0_tug_10 : decode cX0_tug 10 = .ok (.iconst 0, 1) := dk_3 (dk_at dksX0_tug_0 10 rfl rfl)
theorem dX0_tug_11 : decode cX0_tug 11 = .ok (.bipush 9, 2) := dk_16 9 (dk_at dksX0_tug_0 11 rfl rfl)
theorem dX0_tug_13 : decode cX0_tug 13 = .ok (.invokestatic 158, 3) := dk_184 0 158 (dk_at dksX0_tug_0 13 rfl rfl)
theorem dX0_tug_16 : decode cX0_tug 16 = .ok (.ifCond .eq 15, 3) := dk_153 0 15 (dk_at dksX0_tug_0 16 rfl rfl)
theorem dX0_tug_19 : decode cX0_tug 19 = .ok (.aload_n 0, 1) := dk_42 (dk_at dksX0_tug_0 19 rfl rfl)
theorem dX0_tug_20 : decode cX0_tug 20 = .ok (.getfield 85, 3) := dk_180 0 85 (dk_at dksX0_tug_0 20 rfl rfl)
theorem dX0_tug_23 : decode cX0_tug 23 = .ok (.invokevirtual 144, 3) := dk_182 0 144 (dk_at dksX0_tug_1 0 rfl rfl)
theorem dX0_tug_26 : decode cX0_tug 26 = .ok (.bipush 30, 2) := dk_16 30 (dk_at dksX0_tug_1 3 rfl rfl)
theorem dX0_tug_28 : decode cX0_tug 28 = .ok (.if_icmp .ne 5, 3) := dk_160 0 5 (dk_at dksX0_tug_1 5 rfl rfl)
theorem dX0_tug_31 : decode cX0_tug 31 = .ok (.iconst (-1), 1) := dk_2 (dk_at dksX0_tug_1 8 rfl rfl)
theorem dX0_tug_32 : decode cX0_tug 32 = .ok (.ireturn, 1) := dk_172 (dk_at dksX0_tug_1 9 rfl rfl)
theorem dX0_tug_33 : decode cX0_tug 33 = .ok (.aload_n 0, 1) := dk_42 (dk_at dksX0_tug_1 10 rfl rfl)
theorem dX0_tug_34 : decode cX0_tug 34 = .ok (.getfield 85, 3) := dk_180 0 85 (dk_at dksX0_tug_1 11 rfl rfl)
theorem dX0_tug_37 : decode cX0_tug 37 = .ok (.new 315, 3) := dk_187 1 59 (dk_at dksX0_tug_1 14 rfl rfl)
theorem dX0_tug_40 : decode cX0_tug 40 = .ok (.dup, 1) := dk_89 (dk_at dksX0_tug_1 17 rfl rfl)
theorem dX0_tug_41 : decode cX0_tug 41 = .ok (.iload_n 1, 1) := dk_27 (dk_at dksX0_tug_1 18 rfl rfl)
theorem dX0_tug_42 : decode cX0_tug 42 = .ok (.iload_n 2, 1) := dk_28 (dk_at dksX0_tug_1 19 rfl rfl)
theorem dX0_tug_43 : decode cX0_tug 43 = .ok (.iload_n 3, 1) := dk_29 (dk_at dksX0_tug_1 20 rfl rfl)
theorem dX0_tug_44 : decode cX0_tug 44 = .ok (.aload_n 0, 1) := dk_42 (dk_at dksX0_tug_1 21 rfl rfl)
theorem dX0_tug_45 : decode cX0_tug 45 = .ok (.getfield 317, 3) := dk_180 1 61 (dk_at dksX0_tug_2 0 rfl rfl)
theorem dX0_tug_48 : decode cX0_tug 48 = .ok (.invokespecial 320, 3) := dk_183 1 64 (dk_at dksX0_tug_2 3 rfl rfl)
theorem dX0_tug_51 : decode cX0_tug 51 = .ok (.invokevirtual 154, 3) := dk_182 0 154 (dk_at dksX0_tug_2 6 rfl rfl)
theorem dX0_tug_54 : decode cX0_tug 54 = .ok (.pop, 1) := dk_87 (dk_at dksX0_tug_2 9 rfl rfl)
theorem dX0_tug_55 : decode cX0_tug 55 = .ok (.aload_n 0, 1) := dk_42 (dk_at dksX0_tug_2 10 rfl rfl)
theorem dX0_tug_56 : decode cX0_tug 56 = .ok (.getfield 85, 3) := dk_180 0 85 (dk_at dksX0_tug_2 11 rfl rfl)
theorem dX0_tug_59 : decode cX0_tug 59 = .ok (.invokevirtual 144, 3) := dk_182 0 144 (dk_at dksX0_tug_2 14 rfl rfl)
theorem dX0_tug_62 : decode cX0_tug 62 = .ok (.iconst 1, 1) := dk_4 (dk_at dksX0_tug_2 17 rfl rfl)
theorem dX0_tug_63 : decode cX0_tug 63 = .ok (.isub, 1) := dk_100 (dk_at dksX0_tug_2 18 rfl rfl)
theorem dX0_tug_64 : decode cX0_tug 64 = .ok (.ireturn, 1) := dk_172 (dk_at dksX0_tug_2 19 rfl rfl)
abbrev cX0_untell : ByteArray := prog_1_method_49_code
def yX0_untell : MethodName := ⟨RX0, "untell", "(I)Z"⟩
def dkwX0_untell_2 : List UInt8 := [192, 1, 59, 42, 180, 1, 61, 181, 1, 67, 4, 172]
abbrev dktX0_untell_2 : List UInt8 := dkwX0_untell_2 ++ []
def dkwX0_untell_1 : List UInt8 := [182, 0, 113, 192, 1, 59, 180, 1, 67, 155, 0, 5, 3, 172, 42, 180, 0, 85, 27, 182, 0, 113]
abbrev dktX0_untell_1 : List UInt8 := dkwX0_untell_1 ++ dktX0_untell_2
def dkwX0_untell_0 : List UInt8 := [27, 3, 42, 180, 0, 85, 182, 0, 144, 4, 100, 184, 0, 158, 153, 0, 20, 42, 180, 0, 85, 27]
abbrev dktX0_untell_0 : List UInt8 := dkwX0_untell_0 ++ dktX0_untell_1
theorem dksX0_untell_0 : cX0_untell.data.toList.drop 0 = dktX0_untell_0 := by decide +kernel
theorem dksX0_untell_1 : cX0_untell.data.toList.drop 22 = dktX0_untell_1 := dk_seg dksX0_untell_0 22 rfl rfl
theorem dksX0_untell_2 : cX0_untell.data.toList.drop 44 = dktX0_untell_2 := dk_seg dksX0_untell_1 22 rfl rfl
theorem dX0_untell_0 : decode cX0_untell 0 = .ok (.iload_n 1, 1) := dk_27 (dk_at dksX0_untell_0 0 rfl rfl)
theorem dX0_untell_1 : decode cX0_untell 1 = .ok (.iconst 0, 1) := dk_3 (dk_at dksX0_untell_0 1 rfl rfl)
theorem dX0_untell_2 : decode cX0_untell 2 = .ok (.aload_n 0, 1) := dk_42 (dk_at dksX0_untell_0 2 rfl rfl)
theorem dX0_untell_3 : decode cX0_untell 3 = .ok (.getfield 85, 3) := dk_180 0 85 (dk_at dksX0_untell_0 3 rfl rfl)
theorem dX0_untell_6 : decode cX0_untell 6 = .ok (.invokevirtual 144, 3) := dk_182 0 144 (dk_at dksX0_untell_0 6 rfl rfl)
theorem dX0_untell_9 : decode cX0_untell 9 = .ok (.iconst 1, 1) := dk_4 (dk_at dksX0_untell_0 9 rfl rfl)
theorem dX0_untell_10 : decode cX0_untell 10 = .ok (.isub, 1) := dk_100 (dk_at dksX0_untell_0 10 rfl rfl)
theorem dX0_untell_11 : decode cX0_untell 11 = .ok (.invokestatic 158, 3) := dk_184 0 158 (dk_at dksX0_untell_0 11 rfl rfl)
theorem dX0_untell_14 : decode cX0_untell 14 = .ok (.ifCond .eq 20, 3) := dk_153 0 20 (dk_at dksX0_untell_0 14 rfl rfl)
theorem dX0_untell_17 : decode cX0_untell 17 = .ok (.aload_n 0, 1) := dk_42 (dk_at dksX0_untell_0 17 rfl rfl)
theorem dX0_untell_18 : decode cX0_untell 18 = .ok (.getfield 85, 3) := dk_180 0 85 (dk_at dksX0_untell_0 18 rfl rfl)
theorem dX0_untell_21 : decode cX0_untell 21 = .ok (.iload_n 1, 1) := dk_27 (dk_at dksX0_untell_0 21 rfl rfl)
theorem dX0_untell_22 : decode cX0_untell 22 = .ok (.invokevirtual 113, 3) := dk_182 0 113 (dk_at dksX0_untell_1 0 rfl rfl)
theorem dX0_untell_25 : decode cX0_untell 25 = .ok (.checkcast 315, 3) := dk_192 1 59 (dk_at dksX0_untell_1 3 rfl rfl)
theorem dX0_untell_28 : decode cX0_untell 28 = .ok (.getfield 323, 3) := dk_180 1 67 (dk_at dksX0_untell_1 6 rfl rfl)
theorem dX0_untell_31 : decode cX0_untell 31 = .ok (.ifCond .lt 5, 3) := dk_155 0 5 (dk_at dksX0_untell_1 9 rfl rfl)
theorem dX0_untell_34 : decode cX0_untell 34 = .ok (.iconst 0, 1) := dk_3 (dk_at dksX0_untell_1 12 rfl rfl)
theorem dX0_untell_35 : decode cX0_untell 35 = .ok (.ireturn, 1) := dk_172 (dk_at dksX0_untell_1 13 rfl rfl)
theorem dX0_untell_36 : decode cX0_untell 36 = .ok (.aload_n 0, 1) := dk_42 (dk_at dksX0_untell_1 14 rfl rfl)
theorem dX0_untell_37 : decode cX0_untell 37 = .ok (.getfield 85, 3) := dk_180 0 85 (dk_at dksX0_untell_1 15 rfl rfl)
theorem dX0_untell_40 : decode cX0_untell 40 = .ok (.iload_n 1, 1) := dk_27 (dk_at dksX0_untell_1 18 rfl rfl)
theorem dX0_untell_41 : decode cX0_untell 41 = .ok (.invokevirtual 113, 3) := dk_182 0 113 (dk_at dksX0_untell_1 19 rfl rfl)
theorem dX0_untell_44 : decode cX0_untell 44 = .ok (.checkcast 315, 3) := dk_192 1 59 (dk_at dksX0_untell_2 0 rfl rfl)
theorem dX0_untell_47 : decode cX0_untell 47 = .ok (.aload_n 0, 1) := dk_42 (dk_at dksX0_untell_2 3 rfl rfl)
theorem dX0_untell_48 : decode cX0_untell 48 = .ok (.getfield 317, 3) := dk_180 1 61 (dk_at dksX0_untell_2 4 rfl rfl)
theorem dX0_untell_51 : decode cX0_untell 51 = .ok (.putfield 323, 3) := dk_181 1 67 (dk_at dksX0_untell_2 7 rfl rfl)
theorem dX0_untell_54 : decode cX0_untell 54 = .ok (.iconst 1, 1) := dk_4 (dk_at dksX0_untell_2 10 rfl rfl)
theorem dX0_untell_55 : decode cX0_untell 55 = .ok (.ireturn, 1) := dk_172 (dk_at dksX0_untell_2 11 rfl rfl)
abbrev cX0_later : ByteArray := prog_1_method_50_code
def yX0_later : MethodName := ⟨RX0, "late\x72", "(I)I"⟩
def dkwX0_later_1 : List UInt8 := [172, 42, 89, 180, 1, 61, 27, 96, 181, 1, 61, 42, 180, 1, 61, 172]
abbrev dktX0_later_1 : List UInt8 := dkwX0_later_1 ++ []
def dkwX0_later_0 : List UInt8 := [27, 155, 0, 22, 27, 17, 3, 232, 163, 0, 15, 42, 180, 1, 61, 27, 96, 19, 1, 70, 164, 0, 5, 2]
abbrev dktX0_later_0 : List UInt8 := dkwX0_later_0 ++ dktX0_later_1
theorem dksX0_later_0 : cX0_later.data.toList.drop 0 = dktX0_later_0 := by decide +kernel
theorem dksX0_later_1 : cX0_later.data.toList.drop 24 = dktX0_later_1 := dk_seg dksX0_later_0 24 rfl rfl
theorem dX0_later_0 : decode cX0_later 0 = .ok (.iload_n 1, 1) := dk_27 (dk_at dksX0_later_0 0 rfl rfl)
theorem dX0_later_1 : decode cX0_later 1 = .ok (.ifCond .lt 22, 3) := dk_155 0 22 (dk_at dksX0_later_0 1 rfl rfl)
theorem dX0_later_4 : decode cX0_later 4 = .ok (.iload_n 1, 1) := dk_27 (dk_at dksX0_later_0 4 rfl rfl)
theorem dX0_later_5 : decode cX0_later 5 = .ok (.sipush 1000, 3) := dk_17 3 232 (dk_at dksX0_later_0 5 rfl rfl)
theorem dX0_later_8 : decode cX0_later 8 = .ok (.if_icmp .gt 15, 3) := dk_163 0 15 (dk_at dksX0_later_0 8 rfl rfl)
theorem dX0_later_11 : decode cX0_later 11 = .ok (.aload_n 0, 1) := dk_42 (dk_at dksX0_later_0 11 rfl rfl)
theorem dX0_later_12 : decode cX0_later 12 = .ok (.getfield 317, 3) := dk_180 1 61 (dk_at dksX0_later_0 12 rfl rfl)
theorem dX0_later_15 : decode cX0_later 15 = .ok (.iload_n 1, 1) := dk_27 (dk_at dksX0_later_0 15 rfl rfl)
theorem dX0_later_16 : decode cX0_later 16 = .ok (.iadd, 1) := dk_96 (dk_at dksX0_later_0 16 rfl rfl)
theorem dX0_later_17 : decode cX0_later 17 = .ok (.ldc_w 326, 3) := dk_19 1 70 (dk_at dksX0_later_0 17 rfl rfl)
theorem dX0_later_20 : decode cX0_later 20 = .ok (.if_icmp .le 5, 3) := dk_164 0 5 (dk_at dksX0_later_0 20 rfl rfl)
theorem dX0_later_23 : decode cX0_later 23 = .ok (.iconst (-1), 1) := dk_2 (dk_at dksX0_later_0 23 rfl rfl)
theorem dX0_later_24 : decode cX0_later 24 = .ok (.ireturn, 1) := dk_172 (dk_at dksX0_later_1 0 rfl rfl)
theorem dX0_later_25 : decode cX0_later 25 = .ok (.aload_n 0, 1) := dk_42 (dk_at dksX0_later_1 1 rfl rfl)
theorem dX0_later_26 : decode cX0_later 26 = .ok (.dup, 1) := dk_89 (dk_at dksX0_later_1 2 rfl rfl)
theorem dX0_later_27 : decode cX0_later 27 = .ok (.getfield 317, 3) := dk_180 1 61 (dk_at dksX0_later_1 3 rfl rfl)
theorem dX0_later_30 : decode cX0_later 30 = .ok (.iload_n 1, 1) := dk_27 (dk_at dksX0_later_1 6 rfl rfl)
theorem dX0_later_31 : decode cX0_later 31 = .ok (.iadd, 1) := dk_96 (dk_at dksX0_later_1 7 rfl rfl)
theorem dX0_later_32 : decode cX0_later 32 = .ok (.putfield 317, 3) := dk_181 1 61 (dk_at dksX0_later_1 8 rfl rfl)
theorem dX0_later_35 : decode cX0_later 35 = .ok (.aload_n 0, 1) := dk_42 (dk_at dksX0_later_1 11 rfl rfl)
theorem dX0_later_36 : decode cX0_later 36 = .ok (.getfield 317, 3) := dk_180 1 61 (dk_at dksX0_later_1 12 rfl rfl)
theorem dX0_later_39 : decode cX0_later 39 = .ok (.ireturn, 1) := dk_172 (dk_at dksX0_later_1 15 rfl rfl)
abbrev cX0_swore : ByteArray := prog_1_method_51_code
def yX0_swore : MethodName := ⟨RX0, "swore", "(I)I"⟩
def dkwX0_swore_4 : List UInt8 := [167, 255, 167, 28, 172]
abbrev dktX0_swore_4 : List UInt8 := dkwX0_swore_4 ++ []
def dkwX0_swore_3 : List UInt8 := [54, 4, 132, 5, 1, 167, 255, 204, 21, 4, 153, 0, 9, 28, 4, 29, 120, 128, 61, 132, 3, 1]
abbrev dktX0_swore_3 : List UInt8 := dkwX0_swore_3 ++ dktX0_swore_4
def dkwX0_swore_2 : List UInt8 := [182, 0, 113, 192, 1, 59, 42, 180, 0, 10, 180, 0, 162, 29, 182, 0, 113, 192, 1, 71, 27, 182, 1, 73]
abbrev dktX0_swore_2 : List UInt8 := dkwX0_swore_2 ++ dktX0_swore_3
def dkwX0_swore_1 : List UInt8 := [21, 5, 42, 180, 0, 85, 182, 0, 144, 162, 0, 46, 21, 4, 153, 0, 41, 42, 180, 0, 85, 21, 5]
abbrev dktX0_swore_1 : List UInt8 := dkwX0_swore_1 ++ dktX0_swore_2
def dkwX0_swore_0 : List UInt8 := [3, 61, 3, 62, 29, 42, 180, 0, 10, 180, 0, 162, 182, 0, 144, 162, 0, 81, 4, 54, 4, 3, 54, 5]
abbrev dktX0_swore_0 : List UInt8 := dkwX0_swore_0 ++ dktX0_swore_1
theorem dksX0_swore_0 : cX0_swore.data.toList.drop 0 = dktX0_swore_0 := by decide +kernel
theorem dksX0_swore_1 : cX0_swore.data.toList.drop 24 = dktX0_swore_1 := dk_seg dksX0_swore_0 24 rfl rfl
theorem dksX0_swore_2 : cX0_swore.data.toList.drop 47 = dktX0_swore_2 := dk_seg dksX0_swore_1 23 rfl rfl
theorem dksX0_swore_3 : cX0_swore.data.toList.drop 71 = dktX0_swore_3 := dk_seg dksX0_swore_2 24 rfl rfl
theorem dksX0_swore_4 : cX0_swore.data.toList.drop 93 = dktX0_swore_4 := dk_seg dksX0_swore_3 22 rfl rfl
theorem dX0_swore_0 : decode cX0_swore 0 = .ok (.iconst 0, 1) := dk_3 (dk_at dksX0_swore_0 0 rfl rfl)
theorem dX0_swore_1 : decode cX0_swore 1 = .ok (.istore_n 2, 1) := dk_61 (dk_at dksX0_swore_0 1 rfl rfl)
theorem dX0_swore_2 : decode cX0_swore 2 = .ok (.iconst 0, 1) := dk_3 (dk_at dksX0_swore_0 2 rfl rfl)
theorem dX0_swore_3 : decode cX0_swore 3 = .ok (.istore_n 3, 1) := dk_62 (dk_at dksX0_swore_0 3 rfl rfl)
theorem dX0_swore_4 : decode cX0_swore 4 = .ok (.iload_n 3, 1) := dk_29 (dk_at dksX0_swore_0 4 rfl rfl)
theorem dX0_swore_5 : decode cX0_swore 5 = .ok (.aload_n 0, 1) := dk_42 (dk_at dksX0_swore_0 5 rfl rfl)
theorem dX0_swore_6 : decode cX0_swore 6 = .ok (.getfield 10, 3) := dk_180 0 10 (dk_at dksX0_swore_0 6 rfl rfl)
theorem dX0_swore_9 : decode cX0_swore 9 = .ok (.getfield 162, 3) := dk_180 0 162 (dk_at dksX0_swore_0 9 rfl rfl)
theorem dX0_swore_12 : decode cX0_swore 12 = .ok (.invokevirtual 144, 3) := dk_182 0 144 (dk_at dksX0_swore_0 12 rfl rfl)
theorem dX0_swore_15 : decode cX0_swore 15 = .ok (.if_icmp .ge 81, 3) := dk_162 0 81 (dk_at dksX0_swore_0 15 rfl rfl)
theorem dX0_swore_18 : decode cX0_swore 18 = .ok (.iconst 1, 1) := dk_4 (dk_at dksX0_swore_0 18 rfl rfl)
theorem dX0_swore_19 : decode cX0_swore 19 = .ok (.istore 4, 2) := dk_54 4 (dk_at dksX0_swore_0 19 rfl rfl)
theorem dX0_swore_21 : decode cX0_swore 21 = .ok (.iconst 0, 1) := dk_3 (dk_at dksX0_swore_0 21 rfl rfl)
theorem dX0_swore_22 : decode cX0_swore 22 = .ok (.istore 5, 2) := dk_54 5 (dk_at dksX0_swore_0 22 rfl rfl)
theorem dX0_swore_24 : decode cX0_swore 24 = .ok (.iload 5, 2) := dk_21 5 (dk_at dksX0_swore_1 0 rfl rfl)
theorem dX0_swore_26 : decode cX0_swore 26 = .ok (.aload_n 0, 1) := dk_42 (dk_at dksX0_swore_1 2 rfl rfl)
theorem dX0_swore_27 : decode cX0_swore 27 = .ok (.getfield 85, 3) := dk_180 0 85 (dk_at dksX0_swore_1 3 rfl rfl)
theorem dX0_swore_30 : decode cX0_swore 30 = .ok (.invokevirtual 144, 3) := dk_182 0 144 (dk_at dksX0_swore_1 6 rfl rfl)
theorem dX0_swore_33 : decode cX0_swore 33 = .ok (.if_icmp .ge 46, 3) := dk_162 0 46 (dk_at dksX0_swore_1 9 rfl rfl)
theorem dX0_swore_36 : decode cX0_swore 36 = .ok (.iload 4, 2) := dk_21 4 (dk_at dksX0_swore_1 12 rfl rfl)
theorem dX0_swore_38 : decode cX0_swore 38 = .ok (.ifCond .eq 41, 3) := dk_153 0 41 (dk_at dksX0_swore_1 14 rfl rfl)
theorem dX0_swore_41 : decode cX0_swore 41 = .ok (.aload_n 0, 1) := dk_42 (dk_at dksX0_swore_1 17 rfl rfl)
theorem dX0_swore_42 : decode cX0_swore 42 = .ok (.getfield 85, 3) := dk_180 0 85 (dk_at dksX0_swore_1 18 rfl rfl)
theorem dX0_swore_45 : decode cX0_swore 45 = .ok (.iload 5, 2) := dk_21 5 (dk_at dksX0_swore_1 21 rfl rfl)
theorem dX0_swore_47 : decode cX0_swore 47 = .ok (.invokevirtual 113, 3) := dk_182 0 113 (dk_at dksX0_swore_2 0 rfl rfl)
theorem dX0_swore_50 : decode cX0_swore 50 = .ok (.checkcast 315, 3) := dk_192 1 59 (dk_at dksX0_swore_2 3 rfl rfl)
theorem dX0_swore_53 : decode cX0_swore 53 = .ok (.aload_n 0, 1) := dk_42 (dk_at dksX0_swore_2 6 rfl rfl)
theorem dX0_swore_54 : decode cX0_swore 54 = .ok (.getfield 10, 3) := dk_180 0 10 (dk_at dksX0_swore_2 7 rfl rfl)
theorem dX0_swore_57 : decode cX0_swore 57 = .ok (.getfield 162, 3) := dk_180 0 162 (dk_at dksX0_swore_2 10 rfl rfl)
theorem dX0_swore_60 : decode cX0_swore 60 = .ok (.iload_n 3, 1) := dk_29 (dk_at dksX0_swore_2 13 rfl rfl)
theorem dX0_swore_61 : decode cX0_swore 61 = .ok (.invokevirtual 113, 3) := dk_182 0 113 (dk_at dksX0_swore_2 14 rfl rfl)
theorem dX0_swore_64 : decode cX0_swore 64 = .ok (.checkcast 327, 3) := dk_192 1 71 (dk_at dksX0_swore_2 17 rfl rfl)
theorem dX0_swore_67 : decode cX0_swore 67 = .ok (.iload_n 1, 1) := dk_27 (dk_at dksX0_swore_2 20 rfl rfl)
theorem dX0_swore_68 : decode cX0_swore 68 = .ok (.invokevirtual 329, 3) := dk_182 1 73 (dk_at dksX0_swore_2 21 rfl rfl)
theorem dX0_swore_71 : decode cX0_swore 71 = .ok (.istore 4, 2) := dk_54 4 (dk_at dksX0_swore_3 0 rfl rfl)
theorem dX0_swore_73 : decode cX0_swore 73 = .ok (.iinc 5 1, 3) := dk_132 5 1 (dk_at dksX0_swore_3 2 rfl rfl)
theorem dX0_swore_76 : decode cX0_swore 76 = .ok (.goto (-52), 3) := dk_167 255 204 (dk_at dksX0_swore_3 5 rfl rfl)
theorem dX0_swore_79 : decode cX0_swore 79 = .ok (.iload 4, 2) := dk_21 4 (dk_at dksX0_swore_3 8 rfl rfl)
theorem dX0_swore_81 : decode cX0_swore 81 = .ok (.ifCond .eq 9, 3) := dk_153 0 9 (dk_at dksX0_swore_3 10 rfl rfl)
theorem dX0_swore_84 : decode cX0_swore 84 = .ok (.iload_n 2, 1) := dk_28 (dk_at dksX0_swore_3 13 rfl rfl)
theorem dX0_swore_85 : decode cX0_swore 85 = .ok (.iconst 1, 1) := dk_4 (dk_at dksX0_swore_3 14 rfl rfl)
theorem dX0_swore_86 : decode cX0_swore 86 = .ok (.iload_n 3, 1) := dk_29 (dk_at dksX0_swore_3 15 rfl rfl)
theorem dX0_swore_87 : decode cX0_swore 87 = .ok (.ishl, 1) := dk_120 (dk_at dksX0_swore_3 16 rfl rfl)
theorem dX0_swore_88 : decode cX0_swore 88 = .ok (.ior, 1) := dk_128 (dk_at dksX0_swore_3 17 rfl rfl)
theorem dX0_swore_89 : decode cX0_swore 89 = .ok (.istore_n 2, 1) := dk_61 (dk_at dksX0_swore_3 18 rfl rfl)
theorem dX0_swore_90 : decode cX0_swore 90 = .ok (.iinc 3 1, 3) := dk_132 3 1 (dk_at dksX0_swore_3 19 rfl rfl)
theorem dX0_swore_93 : decode cX0_swore 93 = .ok (.goto (-89), 3) := dk_167 255 167 (dk_at dksX0_swore_4 0 rfl rfl)
theorem dX0_swore_96 : decode cX0_swore 96 = .ok (.iload_n 2, 1) := dk_28 (dk_at dksX0_swore_4 3 rfl rfl)
theorem dX0_swore_97 : decode cX0_swore 97 = .ok (.ireturn, 1) := dk_172 (dk_at dksX0_swore_4 4 rfl rfl)
abbrev cX0_ask : ByteArray := prog_1_method_53_code
def yX0_ask : MethodName := ⟨RX0, "ask", "(II)I"⟩
def dkwX0_ask_3 : List UInt8 := [21, 4, 182, 1, 88, 172]
abbrev dktX0_ask_3 : List UInt8 := dkwX0_ask_3 ++ []
def dkwX0_ask_2 : List UInt8 := [162, 0, 7, 21, 5, 54, 4, 132, 5, 1, 167, 255, 226, 27, 154, 0, 8, 21, 4, 167, 0, 10, 42, 29]
abbrev dktX0_ask_2 : List UInt8 := dkwX0_ask_2 ++ dktX0_ask_3
def dkwX0_ask_1 : List UInt8 := [4, 54, 5, 21, 5, 6, 162, 0, 30, 42, 29, 21, 5, 182, 1, 88, 42, 29, 21, 4, 182, 1, 88]
abbrev dktX0_ask_1 : List UInt8 := dkwX0_ask_1 ++ dktX0_ask_2
def dkwX0_ask_0 : List UInt8 := [42, 28, 182, 1, 85, 62, 29, 153, 0, 12, 27, 3, 4, 184, 0, 158, 154, 0, 5, 2, 172, 3, 54, 4]
abbrev dktX0_ask_0 : List UInt8 := dkwX0_ask_0 ++ dktX0_ask_1
theorem dksX0_ask_0 : cX0_ask.data.toList.drop 0 = dktX0_ask_0 := by decide +kernel
theorem dksX0_ask_1 : cX0_ask.data.toList.drop 24 = dktX0_ask_1 := dk_seg dksX0_ask_0 24 rfl rfl
theorem dksX0_ask_2 : cX0_ask.data.toList.drop 47 = dktX0_ask_2 := dk_seg dksX0_ask_1 23 rfl rfl
theorem dksX0_ask_3 : cX0_ask.data.toList.drop 71 = dktX0_ask_3 := dk_seg dksX0_ask_2 24 rfl rfl
theorem dX0_ask_0 : decode cX0_ask 0 = .ok (.aload_n 0, 1) := dk_42 (dk_at dksX0_ask_0 0 rfl rfl)
theorem dX0_ask_1 : decode cX0_ask 1 = .ok (.iload_n 2, 1) := dk_28 (dk_at dksX0_ask_0 1 rfl rfl)
theorem dX0_ask_2 : decode cX0_ask 2 = .ok (.invokevirtual 341, 3) := dk_182 1 85 (dk_at dksX0_ask_0 2 rfl rfl)
theorem dX0_ask_5 : decode cX0_ask 5 = .ok (.istore_n 3, 1) := dk_62 (dk_at dksX0_ask_0 5 rfl rfl)
theorem dX0_ask_6 : decode cX0_ask 6 = .ok (.iload_n 3, 1) := dk_29 (dk_at dksX0_ask_0 6 rfl rfl)
theorem dX0_ask_7 : decode cX0_ask 7 = .ok (.ifCond .eq 12, 3) := dk_153 0 12 (dk_at dksX0_ask_0 7 rfl rfl)
theorem dX0_ask_10 : decode cX0_ask 10 = .ok (.iload_n 1, 1) := dk_27 (dk_at dksX0_ask_0 10 rfl rfl)
theorem dX0_ask_11 : decode cX0_ask 11 = .ok (.iconst 0, 1) := dk_3 (dk_at dksX0_ask_0 11 rfl rfl)
theorem dX0_ask_12 : decode cX0_ask 12 = .ok (.iconst 1, 1) := dk_4 (dk_at dksX0_ask_0 12 rfl rfl)
theorem dX0_ask_13 : decode cX0_ask 13 = .ok (.invokestatic 158, 3) := dk_184 0 158 (dk_at dksX0_ask_0 13 rfl rfl)
theorem dX0_ask_16 : decode cX0_ask 16 = .ok (.ifCond .ne 5, 3) := dk_154 0 5 (dk_at dksX0_ask_0 16 rfl rfl)
theorem dX0_ask_19 : decode cX0_ask 19 = .ok (.iconst (-1), 1) := dk_2 (dk_at dksX0_ask_0 19 rfl rfl)
theorem dX0_ask_20 : decode cX0_ask 20 = .ok (.ireturn, 1) := dk_172 (dk_at dksX0_ask_0 20 rfl rfl)
theorem dX0_ask_21 : decode cX0_ask 21 = .ok (.iconst 0, 1) := dk_3 (dk_at dksX0_ask_0 21 rfl rfl)
theorem dX0_ask_22 : decode cX0_ask 22 = .ok (.istore 4, 2) := dk_54 4 (dk_at dksX0_ask_0 22 rfl rfl)
theorem dX0_ask_24 : decode cX0_ask 24 = .ok (.iconst 1, 1) := dk_4 (dk_at dksX0_ask_1 0 rfl rfl)
theorem dX0_ask_25 : decode cX0_ask 25 = .ok (.istore 5, 2) := dk_54 5 (dk_at dksX0_ask_1 1 rfl rfl)
theorem dX0_ask_27 : decode cX0_ask 27 = .ok (.iload 5, 2) := dk_21 5 (dk_at dksX0_ask_1 3 rfl rfl)
theorem dX0_ask_29 : decode cX0_ask 29 = .ok (.iconst 3, 1) := dk_6 (dk_at dksX0_ask_1 5 rfl rfl)
theorem dX0_ask_30 : decode cX0_ask 30 = .ok (.if_icmp .ge 30, 3) := dk_162 0 30 (dk_at dksX0_ask_1 6 rfl rfl)
theorem dX0_ask_33 : decode cX0_ask 33 = .ok (.aload_n 0, 1) := dk_42 (dk_at dksX0_ask_1 9 rfl rfl)
theorem dX0_ask_34 : decode cX0_ask 34 = .ok (.iload_n 3, 1) := dk_29 (dk_at dksX0_ask_1 10 rfl rfl)
theorem dX0_ask_35 : decode cX0_ask 35 = .ok (.iload 5, 2) := dk_21 5 (dk_at dksX0_ask_1 11 rfl rfl)
theorem dX0_ask_37 : decode cX0_ask 37 = .ok (.invokevirtual 344, 3) := dk_182 1 88 (dk_at dksX0_ask_1 13 rfl rfl)
theorem dX0_ask_40 : decode cX0_ask 40 = .ok (.aload_n 0, 1) := dk_42 (dk_at dksX0_ask_1 16 rfl rfl)
theorem dX0_ask_41 : decode cX0_ask 41 = .ok (.iload_n 3, 1) := dk_29 (dk_at dksX0_ask_1 17 rfl rfl)
theorem dX0_ask_42 : decode cX0_ask 42 = .ok (.iload 4, 2) := dk_21 4 (dk_at dksX0_ask_1 18 rfl rfl)
theorem dX0_ask_44 : decode cX0_ask 44 = .ok (.invokevirtual 344, 3) := dk_182 1 88 (dk_at dksX0_ask_1 20 rfl rfl)
theorem dX0_ask_47 : decode cX0_ask 47 = .ok (.if_icmp .ge 7, 3) := dk_162 0 7 (dk_at dksX0_ask_2 0 rfl rfl)
theorem dX0_ask_50 : decode cX0_ask 50 = .ok (.iload 5, 2) := dk_21 5 (dk_at dksX0_ask_2 3 rfl rfl)
theorem dX0_ask_52 : decode cX0_ask 52 = .ok (.istore 4, 2) := dk_54 4 (dk_at dksX0_ask_2 5 rfl rfl)
theorem dX0_ask_54 : decode cX0_ask 54 = .ok (.iinc 5 1, 3) := dk_132 5 1 (dk_at dksX0_ask_2 7 rfl rfl)
theorem dX0_ask_57 : decode cX0_ask 57 = .ok (.goto (-30), 3) := dk_167 255 226 (dk_at dksX0_ask_2 10 rfl rfl)
theorem dX0_ask_60 : decode cX0_ask 60 = .ok (.iload_n 1, 1) := dk_27 (dk_at dksX0_ask_2 13 rfl rfl)
theorem dX0_ask_61 : decode cX0_ask 61 = .ok (.ifCond .ne 8, 3) := dk_154 0 8 (dk_at dksX0_ask_2 14 rfl rfl)
theorem dX0_ask_64 : decode cX0_ask 64 = .ok (.iload 4, 2) := dk_21 4 (dk_at dksX0_ask_2 17 rfl rfl)
theorem dX0_ask_66 : decode cX0_ask 66 = .ok (.goto 10, 3) := dk_167 0 10 (dk_at dksX0_ask_2 19 rfl rfl)
theorem dX0_ask_69 : decode cX0_ask 69 = .ok (.aload_n 0, 1) := dk_42 (dk_at dksX0_ask_2 22 rfl rfl)
theorem dX0_ask_70 : decode cX0_ask 70 = .ok (.iload_n 3, 1) := dk_29 (dk_at dksX0_ask_2 23 rfl rfl)
theorem dX0_ask_71 : decode cX0_ask 71 = .ok (.iload 4, 2) := dk_21 4 (dk_at dksX0_ask_3 0 rfl rfl)
theorem dX0_ask_73 : decode cX0_ask 73 = .ok (.invokevirtual 344, 3) := dk_182 1 88 (dk_at dksX0_ask_3 2 rfl rfl)
theorem dX0_ask_76 : decode cX0_ask 76 = .ok (.ireturn, 1) := dk_172 (dk_at dksX0_ask_3 5 rfl rfl)
abbrev cX0_mostLeft : ByteArray := prog_1_method_52_code
def yX0_mostLeft : MethodName := ⟨RX0, "mostLeft", "(II)I"⟩
def dkwX0_mostLeft_3 : List UInt8 := [132, 6, 1, 167, 255, 202, 29, 21, 5, 184, 1, 80, 62, 132, 4, 1, 167, 255, 176, 29, 172]
abbrev dktX0_mostLeft_3 : List UInt8 := dkwX0_mostLeft_3 ++ []
def dkwX0_mostLeft_2 : List UInt8 := [180, 0, 162, 21, 6, 182, 0, 113, 192, 1, 71, 28, 182, 1, 77, 21, 4, 160, 0, 6, 132, 5, 1]
abbrev dktX0_mostLeft_2 : List UInt8 := dkwX0_mostLeft_2 ++ dktX0_mostLeft_3
def dkwX0_mostLeft_1 : List UInt8 := [180, 0, 162, 182, 0, 144, 162, 0, 45, 27, 21, 6, 184, 1, 26, 153, 0, 30, 42, 180, 0, 10]
abbrev dktX0_mostLeft_1 : List UInt8 := dkwX0_mostLeft_1 ++ dktX0_mostLeft_2
def dkwX0_mostLeft_0 : List UInt8 := [3, 62, 3, 54, 4, 21, 4, 16, 9, 163, 0, 79, 3, 54, 5, 3, 54, 6, 21, 6, 42, 180, 0, 10]
abbrev dktX0_mostLeft_0 : List UInt8 := dkwX0_mostLeft_0 ++ dktX0_mostLeft_1
theorem dksX0_mostLeft_0 : cX0_mostLeft.data.toList.drop 0 = dktX0_mostLeft_0 := by decide +kernel
theorem dksX0_mostLeft_1 : cX0_mostLeft.data.toList.drop 24 = dktX0_mostLeft_1 := dk_seg dksX0_mostLeft_0 24 rfl rfl
theorem dksX0_mostLeft_2 : cX0_mostLeft.data.toList.drop 46 = dktX0_mostLeft_2 := dk_seg dksX0_mostLeft_1 22 rfl rfl
theorem dksX0_mostLeft_3 : cX0_mostLeft.data.toList.drop 69 = dktX0_mostLeft_3 := dk_seg dksX0_mostLeft_2 23 rfl rfl
theorem dX0_mostLeft_0 : decode cX0_mostLeft 0 = .ok (.iconst 0, 1) := dk_3 (dk_at dksX0_mostLeft_0 0 rfl rfl)
theorem dX0_mostLeft_1 : decode cX0_mostLeft 1 = .ok (.istore_n 3, 1) := dk_62 (dk_at dksX0_mostLeft_0 1 rfl rfl)
theorem dX0_mostLeft_2 : decode cX0_mostLeft 2 = .ok (.iconst 0, 1) := dk_3 (dk_at dksX0_mostLeft_0 2 rfl rfl)
theorem dX0_mostLeft_3 : decode cX0_mostLeft 3 = .ok (.istore 4, 2) := dk_54 4 (dk_at dksX0_mostLeft_0 3 rfl rfl)
theorem dX0_mostLeft_5 : decode cX0_mostLeft 5 = .ok (.iload 4, 2) := dk_21 4 (dk_at dksX0_mostLeft_0 5 rfl rfl)
theorem dX0_mostLeft_7 : decode cX0_mostLeft 7 = .ok (.bipush 9, 2) := dk_16 9 (dk_at dksX0_mostLeft_0 7 rfl rfl)
theorem dX0_mostLeft_9 : decode cX0_mostLeft 9 = .ok (.if_icmp .gt 79, 3) := dk_163 0 79 (dk_at dksX0_mostLeft_0 9 rfl rfl)
theorem dX0_mostLeft_12 : decode cX0_mostLeft 12 = .ok (.iconst 0, 1) := dk_3 (dk_at dksX0_mostLeft_0 12 rfl rfl)
theorem dX0_mostLeft_13 : decode cX0_mostLeft 13 = .ok (.istore 5, 2) := dk_54 5 (dk_at dksX0_mostLeft_0 13 rfl rfl)
theorem dX0_mostLeft_15 : decode cX0_mostLeft 15 = .ok (.iconst 0, 1) := dk_3 (dk_at dksX0_mostLeft_0 15 rfl rfl)
theorem dX0_mostLeft_16 : decode cX0_mostLeft 16 = .ok (.istore 6, 2) := dk_54 6 (dk_at dksX0_mostLeft_0 16 rfl rfl)
theorem dX0_mostLeft_18 : decode cX0_mostLeft 18 = .ok (.iload 6, 2) := dk_21 6 (dk_at dksX0_mostLeft_0 18 rfl rfl)
theorem dX0_mostLeft_20 : decode cX0_mostLeft 20 = .ok (.aload_n 0, 1) := dk_42 (dk_at dksX0_mostLeft_0 20 rfl rfl)
theorem dX0_mostLeft_21 : decode cX0_mostLeft 21 = .ok (.getfield 10, 3) := dk_180 0 10 (dk_at dksX0_mostLeft_0 21 rfl rfl)
theorem dX0_mostLeft_24 : decode cX0_mostLeft 24 = .ok (.getfield 162, 3) := dk_180 0 162 (dk_at dksX0_mostLeft_1 0 rfl rfl)
theorem dX0_mostLeft_27 : decode cX0_mostLeft 27 = .ok (.invokevirtual 144, 3) := dk_182 0 144 (dk_at dksX0_mostLeft_1 3 rfl rfl)
theorem dX0_mostLeft_30 : decode cX0_mostLeft 30 = .ok (.if_icmp .ge 45, 3) := dk_162 0 45 (dk_at dksX0_mostLeft_1 6 rfl rfl)
theorem dX0_mostLeft_33 : decode cX0_mostLeft 33 = .ok (.iload_n 1, 1) := dk_27 (dk_at dksX0_mostLeft_1 9 rfl rfl)
theorem dX0_mostLeft_34 : decode cX0_mostLeft 34 = .ok (.iload 6, 2) := dk_21 6 (dk_at dksX0_mostLeft_1 10 rfl rfl)
theorem dX0_mostLeft_36 : decode cX0_mostLeft 36 = .ok (.invokestatic 282, 3) := dk_184 1 26 (dk_at dksX0_mostLeft_1 12 rfl rfl)
theorem dX0_mostLeft_39 : decode cX0_mostLeft 39 = .ok (.ifCond .eq 30, 3) := dk_153 0 30 (dk_at dksX0_mostLeft_1 15 rfl rfl)
theorem dX0_mostLeft_42 : decode cX0_mostLeft 42 = .ok (.aload_n 0, 1) := dk_42 (dk_at dksX0_mostLeft_1 18 rfl rfl)
theorem dX0_mostLeft_43 : decode cX0_mostLeft 43 = .ok (.getfield 10, 3) := dk_180 0 10 (dk_at dksX0_mostLeft_1 19 rfl rfl)
theorem dX0_mostLeft_46 : decode cX0_mostLeft 46 = .ok (.getfield 162, 3) := dk_180 0 162 (dk_at dksX0_mostLeft_2 0 rfl rfl)
theorem dX0_mostLeft_49 : decode cX0_mostLeft 49 = .ok (.iload 6, 2) := dk_21 6 (dk_at dksX0_mostLeft_2 3 rfl rfl)
theorem dX0_mostLeft_51 : decode cX0_mostLeft 51 = .ok (.invokevirtual 113, 3) := dk_182 0 113 (dk_at dksX0_mostLeft_2 5 rfl rfl)
theorem dX0_mostLeft_54 : decode cX0_mostLeft 54 = .ok (.checkcast 327, 3) := dk_192 1 71 (dk_at dksX0_mostLeft_2 8 rfl rfl)
theorem dX0_mostLeft_57 : decode cX0_mostLeft 57 = .ok (.iload_n 2, 1) := dk_28 (dk_at dksX0_mostLeft_2 11 rfl rfl)
theorem dX0_mostLeft_58 : decode cX0_mostLeft 58 = .ok (.invokevirtual 333, 3) := dk_182 1 77 (dk_at dksX0_mostLeft_2 12 rfl rfl)
theorem dX0_mostLeft_61 : decode cX0_mostLeft 61 = .ok (.iload 4, 2) := dk_21 4 (dk_at dksX0_mostLeft_2 15 rfl rfl)
theorem dX0_mostLeft_63 : decode cX0_mostLeft 63 = .ok (.if_icmp .ne 6, 3) := dk_160 0 6 (dk_at dksX0_mostLeft_2 17 rfl rfl)
theorem dX0_mostLeft_66 : decode cX0_mostLeft 66 = .ok (.iinc 5 1, 3) := dk_132 5 1 (dk_at dksX0_mostLeft_2 20 rfl rfl)
theorem dX0_mostLeft_69 : decode cX0_mostLeft 69 = .ok (.iinc 6 1, 3) := dk_132 6 1 (dk_at dksX0_mostLeft_3 0 rfl rfl)
theorem dX0_mostLeft_72 : decode cX0_mostLeft 72 = .ok (.goto (-54), 3) := dk_167 255 202 (dk_at dksX0_mostLeft_3 3 rfl rfl)
theorem dX0_mostLeft_75 : decode cX0_mostLeft 75 = .ok (.iload_n 3, 1) := dk_29 (dk_at dksX0_mostLeft_3 6 rfl rfl)
theorem dX0_mostLeft_76 : decode cX0_mostLeft 76 = .ok (.iload 5, 2) := dk_21 5 (dk_at dksX0_mostLeft_3 7 rfl rfl)
theorem dX0_mostLeft_78 : decode cX0_mostLeft 78 = .ok (.invokestatic 336, 3) := dk_184 1 80 (dk_at dksX0_mostLeft_3 9 rfl rfl)
theorem dX0_mostLeft_81 : decode cX0_mostLeft 81 = .ok (.istore_n 3, 1) := dk_62 (dk_at dksX0_mostLeft_3 12 rfl rfl)
theorem dX0_mostLeft_82 : decode cX0_mostLeft 82 = .ok (.iinc 4 1, 3) := dk_132 4 1 (dk_at dksX0_mostLeft_3 13 rfl rfl)
theorem dX0_mostLeft_85 : decode cX0_mostLeft 85 = .ok (.goto (-80), 3) := dk_167 255 176 (dk_at dksX0_mostLeft_3 16 rfl rfl)
theorem dX0_mostLeft_88 : decode cX0_mostLeft 88 = .ok (.iload_n 3, 1) := dk_29 (dk_at dksX0_mostLeft_3 19 rfl rfl)
theorem dX0_mostLeft_89 : decode cX0_mostLeft 89 = .ok (.ireturn, 1) := dk_172 (dk_at dksX0_mostLeft_3 20 rfl rfl)
abbrev cX0_image : ByteArray := prog_1_method_54_code
def yX0_image : MethodName := ⟨RX0, "image", "(I)I"⟩
def dkwX0_image_1 : List UInt8 := [181, 0, 139, 42, 180, 0, 19, 180, 0, 121, 172]
abbrev dktX0_image_1 : List UInt8 := dkwX0_image_1 ++ []
def dkwX0_image_0 : List UInt8 := [27, 3, 5, 184, 0, 158, 154, 0, 5, 2, 172, 42, 180, 0, 93, 27, 50, 42, 180, 0, 19, 184, 0, 150]
abbrev dktX0_image_0 : List UInt8 := dkwX0_image_0 ++ dktX0_image_1
theorem dksX0_image_0 : cX0_image.data.toList.drop 0 = dktX0_image_0 := by decide +kernel
theorem dksX0_image_1 : cX0_image.data.toList.drop 24 = dktX0_image_1 := dk_seg dksX0_image_0 24 rfl rfl
theorem dX0_image_0 : decode cX0_image 0 = .ok (.iload_n 1, 1) := dk_27 (dk_at dksX0_image_0 0 rfl rfl)
theorem dX0_image_1 : decode cX0_image 1 = .ok (.iconst 0, 1) := dk_3 (dk_at dksX0_image_0 1 rfl rfl)
theorem dX0_image_2 : decode cX0_image 2 = .ok (.iconst 2, 1) := dk_5 (dk_at dksX0_image_0 2 rfl rfl)
theorem dX0_image_3 : decode cX0_image 3 = .ok (.invokestatic 158, 3) := dk_184 0 158 (dk_at dksX0_image_0 3 rfl rfl)
theorem dX0_image_6 : decode cX0_image 6 = .ok (.ifCond .ne 5, 3) := dk_154 0 5 (dk_at dksX0_image_0 6 rfl rfl)
theorem dX0_image_9 : decode cX0_image 9 = .ok (.iconst (-1), 1) := dk_2 (dk_at dksX0_image_0 9 rfl rfl)
theorem dX0_image_10 : decode cX0_image 10 = .ok (.ireturn, 1) := dk_172 (dk_at dksX0_image_0 10 rfl rfl)
theorem dX0_image_11 : decode cX0_image 11 = .ok (.aload_n 0, 1) := dk_42 (dk_at dksX0_image_0 11 rfl rfl)
theorem dX0_image_12 : decode cX0_image 12 = .ok (.getfield 93, 3) := dk_180 0 93 (dk_at dksX0_image_0 12 rfl rfl)
theorem dX0_image_15 : decode cX0_image 15 = .ok (.iload_n 1, 1) := dk_27 (dk_at dksX0_image_0 15 rfl rfl)
theorem dX0_image_16 : decode cX0_image 16 = .ok (.aaload, 1) := dk_50 (dk_at dksX0_image_0 16 rfl rfl)
theorem dX0_image_17 : decode cX0_image 17 = .ok (.aload_n 0, 1) := dk_42 (dk_at dksX0_image_0 17 rfl rfl)
theorem dX0_image_18 : decode cX0_image 18 = .ok (.getfield 19, 3) := dk_180 0 19 (dk_at dksX0_image_0 18 rfl rfl)
theorem dX0_image_21 : decode cX0_image 21 = .ok (.invokestatic 150, 3) := dk_184 0 150 (dk_at dksX0_image_0 21 rfl rfl)
theorem dX0_image_24 : decode cX0_image 24 = .ok (.putfield 139, 3) := dk_181 0 139 (dk_at dksX0_image_1 0 rfl rfl)
theorem dX0_image_27 : decode cX0_image 27 = .ok (.aload_n 0, 1) := dk_42 (dk_at dksX0_image_1 3 rfl rfl)
theorem dX0_image_28 : decode cX0_image 28 = .ok (.getfield 19, 3) := dk_180 0 19 (dk_at dksX0_image_1 4 rfl rfl)
theorem dX0_image_31 : decode cX0_image 31 = .ok (.getfield 121, 3) := dk_180 0 121 (dk_at dksX0_image_1 7 rfl rfl)
theorem dX0_image_34 : decode cX0_image 34 = .ok (.ireturn, 1) := dk_172 (dk_at dksX0_image_1 10 rfl rfl)
abbrev cX0_back : ByteArray := prog_1_method_55_code
def yX0_back : MethodName := ⟨RX0, "back", "(I)I"⟩
def dkwX0_back_2 : List UInt8 := [180, 0, 48, 182, 0, 133, 42, 180, 0, 19, 180, 0, 121, 172]
abbrev dktX0_back_2 : List UInt8 := dkwX0_back_2 ++ []
def dkwX0_back_1 : List UInt8 := [180, 0, 19, 42, 180, 0, 93, 27, 50, 180, 0, 139, 182, 0, 141, 42, 180, 0, 44, 182, 0, 133, 42]
abbrev dktX0_back_1 : List UInt8 := dkwX0_back_1 ++ dktX0_back_2
def dkwX0_back_0 : List UInt8 := [27, 3, 5, 184, 0, 158, 153, 0, 15, 42, 180, 0, 93, 27, 50, 180, 0, 139, 199, 0, 5, 2, 172, 42]
abbrev dktX0_back_0 : List UInt8 := dkwX0_back_0 ++ dktX0_back_1
theorem dksX0_back_0 : cX0_back.data.toList.drop 0 = dktX0_back_0 := by decide +kernel
theorem dksX0_back_1 : cX0_back.data.toList.drop 24 = dktX0_back_1 := dk_seg dksX0_back_0 24 rfl rfl
theorem dksX0_back_2 : cX0_back.data.toList.drop 47 = dktX0_back_2 := dk_seg dksX0_back_1 23 rfl rfl
theorem dX0_back_0 : decode cX0_back 0 = .ok (.iload_n 1, 1) := dk_27 (dk_at dksX0_back_0 0 rfl rfl)
theorem dX0_back_1 : decode cX0_back 1 = .ok (.iconst 0, 1) := dk_3 (dk_at dksX0_back_0 1 rfl rfl)
theorem dX0_back_2 : decode cX0_back 2 = .ok (.iconst 2, 1) := dk_5 (dk_at dksX0_back_0 2 rfl rfl)
theorem dX0_back_3 : decode cX0_back 3 = .ok (.invokestatic 158, 3) := dk_184 0 158 (dk_at dksX0_back_0 3 rfl rfl)
theorem dX0_back_6 : decode cX0_back 6 = .ok (.ifCond .eq 15, 3) := dk_153 0 15 (dk_at dksX0_back_0 6 rfl rfl)
theorem dX0_back_9 : decode cX0_back 9 = .ok (.aload_n 0, 1) := dk_42 (dk_at dksX0_back_0 9 rfl rfl)
theorem dX0_back_10 : decode cX0_back 10 = .ok (.getfield 93, 3) := dk_180 0 93 (dk_at dksX0_back_0 10 rfl rfl)
theorem dX0_back_13 : decode cX0_back 13 = .ok (.iload_n 1, 1) := dk_27 (dk_at dksX0_back_0 13 rfl rfl)
theorem dX0_back_14 : decode cX0_back 14 = .ok (.aaload, 1) := dk_50 (dk_at dksX0_back_0 14 rfl rfl)
theorem dX0_back_15 : decode cX0_back 15 = .ok (.getfield 139, 3) := dk_180 0 139 (dk_at dksX0_back_0 15 rfl rfl)
theorem dX0_back_18 : decode cX0_back 18 = .ok (.ifnonnull 5, 3) := dk_199 0 5 (dk_at dksX0_back_0 18 rfl rfl)
theorem dX0_back_21 : decode cX0_back 21 = .ok (.iconst (-1), 1) := dk_2 (dk_at dksX0_back_0 21 rfl rfl)
theorem dX0_back_22 : decode cX0_back 22 = .ok (.ireturn, 1) := dk_172 (dk_at dksX0_back_0 22 rfl rfl)
theorem dX0_back_23 : decode cX0_back 23 = .ok (.aload_n 0, 1) := dk_42 (dk_at dksX0_back_0 23 rfl rfl)
theorem dX0_back_24 : decode cX0_back 24 = .ok (.getfield 19, 3) := dk_180 0 19 (dk_at dksX0_back_1 0 rfl rfl)
theorem dX0_back_27 : decode cX0_back 27 = .ok (.aload_n 0, 1) := dk_42 (dk_at dksX0_back_1 3 rfl rfl)
theorem dX0_back_28 : decode cX0_back 28 = .ok (.getfield 93, 3) := dk_180 0 93 (dk_at dksX0_back_1 4 rfl rfl)
theorem dX0_back_31 : decode cX0_back 31 = .ok (.iload_n 1, 1) := dk_27 (dk_at dksX0_back_1 7 rfl rfl)
theorem dX0_back_32 : decode cX0_back 32 = .ok (.aaload, 1) := dk_50 (dk_at dksX0_back_1 8 rfl rfl)
theorem dX0_back_33 : decode cX0_back 33 = .ok (.getfield 139, 3) := dk_180 0 139 (dk_at dksX0_back_1 9 rfl rfl)
theorem dX0_back_36 : decode cX0_back 36 = .ok (.invokevirtual 141, 3) := dk_182 0 141 (dk_at dksX0_back_1 12 rfl rfl)
theorem dX0_back_39 : decode cX0_back 39 = .ok (.aload_n 0, 1) := dk_42 (dk_at dksX0_back_1 15 rfl rfl)
theorem dX0_back_40 : decode cX0_back 40 = .ok (.getfield 44, 3) := dk_180 0 44 (dk_at dksX0_back_1 16 rfl rfl)
theorem dX0_back_43 : decode cX0_back 43 = .ok (.invokevirtual 133, 3) := dk_182 0 133 (dk_at dksX0_back_1 19 rfl rfl)
theorem dX0_back_46 : decode cX0_back 46 = .ok (.aload_n 0, 1) := dk_42 (dk_at dksX0_back_1 22 rfl rfl)
theorem dX0_back_47 : decode cX0_back 47 = .ok (.getfield 48, 3) := dk_180 0 48 (dk_at dksX0_back_2 0 rfl rfl)
theorem dX0_back_50 : decode cX0_back 50 = .ok (.invokevirtual 133, 3) := dk_182 0 133 (dk_at dksX0_back_2 3 rfl rfl)
theorem dX0_back_53 : decode cX0_back 53 = .ok (.aload_n 0, 1) := dk_42 (dk_at dksX0_back_2 6 rfl rfl)
theorem dX0_back_54 : decode cX0_back 54 = .ok (.getfield 19, 3) := dk_180 0 19 (dk_at dksX0_back_2 7 rfl rfl)
theorem dX0_back_57 : decode cX0_back 57 = .ok (.getfield 121, 3) := dk_180 0 121 (dk_at dksX0_back_2 10 rfl rfl)
theorem dX0_back_60 : decode cX0_back 60 = .ok (.ireturn, 1) := dk_172 (dk_at dksX0_back_2 13 rfl rfl)
abbrev cX0_about : ByteArray := prog_1_method_56_code
def yX0_about : MethodName := ⟨RX0, "about", "(I)I"⟩
def dkwX0_about_6 : List UInt8 := [172, 42, 180, 0, 172, 172, 42, 180, 0, 10, 180, 1, 97, 172, 42, 180, 0, 136, 172, 2, 172]
abbrev dktX0_about_6 : List UInt8 := dkwX0_about_6 ++ []
def dkwX0_about_5 : List UInt8 := [182, 0, 144, 172, 42, 180, 0, 48, 182, 0, 144, 172, 42, 180, 0, 85, 182, 0, 144, 172, 42, 180, 1, 61]
abbrev dktX0_about_5 : List UInt8 := dkwX0_about_5 ++ dktX0_about_6
def dkwX0_about_4 : List UInt8 := [180, 0, 127, 172, 42, 180, 0, 19, 180, 0, 130, 172, 42, 180, 0, 10, 180, 1, 94, 172, 42, 180, 0, 44]
abbrev dktX0_about_4 : List UInt8 := dkwX0_about_4 ++ dktX0_about_5
def dkwX0_about_3 : List UInt8 := [182, 0, 144, 172, 42, 180, 0, 10, 180, 1, 91, 172, 42, 180, 0, 19, 180, 0, 121, 172, 42, 180, 0, 19]
abbrev dktX0_about_3 : List UInt8 := dkwX0_about_3 ++ dktX0_about_4
def dkwX0_about_2 : List UInt8 := [42, 182, 0, 106, 172, 42, 180, 0, 10, 180, 0, 162, 182, 0, 144, 172, 42, 180, 0, 10, 180, 0, 165]
abbrev dktX0_about_2 : List UInt8 := dkwX0_about_2 ++ dktX0_about_3
def dkwX0_about_1 : List UInt8 := [170, 0, 0, 0, 0, 0, 189, 0, 0, 0, 0, 0, 0, 0, 14, 0, 0, 0, 75, 0, 0, 0, 80, 0, 0, 0, 91, 0, 0, 0, 102, 0, 0, 0, 110, 0, 0, 0, 118, 0, 0, 0, 126, 0, 0, 0, 134, 0, 0, 0, 142, 0, 0, 0, 150, 0, 0, 0, 158, 0, 0, 0, 166, 0, 0, 0, 171, 0, 0, 0, 176, 0, 0, 0, 184]
abbrev dktX0_about_1 : List UInt8 := dkwX0_about_1 ++ dktX0_about_2
def dkwX0_about_0 : List UInt8 := [27]
abbrev dktX0_about_0 : List UInt8 := dkwX0_about_0 ++ dktX0_about_1
theorem dksX0_about_0 : cX0_about.data.toList.drop 0 = dktX0_about_0 := by decide +kernel
theorem dksX0_about_1 : cX0_about.data.toList.drop 1 = dktX0_about_1 := dk_seg dksX0_about_0 1 rfl rfl
theorem dksX0_about_2 : cX0_about.data.toList.drop 76 = dktX0_about_2 := dk_seg dksX0_about_1 75 rfl rfl
theorem dksX0_about_3 : cX0_about.data.toList.drop 99 = dktX0_about_3 := dk_seg dksX0_about_2 23 rfl rfl
theorem dksX0_about_4 : cX0_about.data.toList.drop 123 = dktX0_about_4 := dk_seg dksX0_about_3 24 rfl rfl
theorem dksX0_about_5 : cX0_about.data.toList.drop 147 = dktX0_about_5 := dk_seg dksX0_about_4 24 rfl rfl
theorem dksX0_about_6 : cX0_about.data.toList.drop 171 = dktX0_about_6 := dk_seg dksX0_about_5 24 rfl rfl
theorem dX0_about_0 : decode cX0_about 0 = .ok (.iload_n 1, 1) := dk_27 (dk_at dksX0_about_0 0 rfl rfl)
theorem dX0_about_1 : decode cX0_about 1 = .ok (.tableswitch 189 0 14 #[75, 80, 91, 102, 110, 118, 126, 134, 142, 150, 158, 166, 171, 176, 184], 75) := by decide +kernel
theorem dX0_about_76 : decode cX0_about 76 = .ok (.aload_n 0, 1) := dk_42 (dk_at dksX0_about_2 0 rfl rfl)
theorem dX0_about_77 : decode cX0_about 77 = .ok (.invokevirtual 106, 3) := dk_182 0 106 (dk_at dksX0_about_2 1 rfl rfl)
theorem dX0_about_80 : decode cX0_about 80 = .ok (.ireturn, 1) := dk_172 (dk_at dksX0_about_2 4 rfl rfl)
theorem dX0_about_81 : decode cX0_about 81 = .ok (.aload_n 0, 1) := dk_42 (dk_at dksX0_about_2 5 rfl rfl)
theorem dX0_about_82 : decode cX0_about 82 = .ok (.getfield 10, 3) := dk_180 0 10 (dk_at dksX0_about_2 6 rfl rfl)
theorem dX0_about_85 : decode cX0_about 85 = .ok (.getfield 162, 3) := dk_180 0 162 (dk_at dksX0_about_2 9 rfl rfl)
theorem dX0_about_88 : decode cX0_about 88 = .ok (.invokevirtual 144, 3) := dk_182 0 144 (dk_at dksX0_about_2 12 rfl rfl)
theorem dX0_about_91 : decode cX0_about 91 = .ok (.ireturn, 1) := dk_172 (dk_at dksX0_about_2 15 rfl rfl)
theorem dX0_about_92 : decode cX0_about 92 = .ok (.aload_n 0, 1) := dk_42 (dk_at dksX0_about_2 16 rfl rfl)
theorem dX0_about_93 : decode cX0_about 93 = .ok (.getfield 10, 3) := dk_180 0 10 (dk_at dksX0_about_2 17 rfl rfl)
theorem dX0_about_96 : decode cX0_about 96 = .ok (.getfield 165, 3) := dk_180 0 165 (dk_at dksX0_about_2 20 rfl rfl)
theorem dX0_about_99 : decode cX0_about 99 = .ok (.invokevirtual 144, 3) := dk_182 0 144 (dk_at dksX0_about_3 0 rfl rfl)
theorem dX0_about_102 : decode cX0_about 102 = .ok (.ireturn, 1) := dk_172 (dk_at dksX0_about_3 3 rfl rfl)
theorem dX0_about_103 : decode cX0_about 103 = .ok (.aload_n 0, 1) := dk_42 (dk_at dksX0_about_3 4 rfl rfl)
theorem dX0_about_104 : decode cX0_about 104 = .ok (.getfield 10, 3) := dk_180 0 10 (dk_at dksX0_about_3 5 rfl rfl)
theorem dX0_about_107 : decode cX0_about 107 = .ok (.getfield 347, 3) := dk_180 1 91 (dk_at dksX0_about_3 8 rfl rfl)
theorem dX0_about_110 : decode cX0_about 110 = .ok (.ireturn, 1) := dk_172 (dk_at dksX0_about_3 11 rfl rfl)
theorem dX0_about_111 : decode cX0_about 111 = .ok (.aload_n 0, 1) := dk_42 (dk_at dksX0_about_3 12 rfl rfl)
theorem dX0_about_112 : decode cX0_about 112 = .ok (.getfield 19, 3) := dk_180 0 19 (dk_at dksX0_about_3 13 rfl rfl)
theorem dX0_about_115 : decode cX0_about 115 = .ok (.getfield 121, 3) := dk_180 0 121 (dk_at dksX0_about_3 16 rfl rfl)
theorem dX0_about_118 : decode cX0_about 118 = .ok (.ireturn, 1) := dk_172 (dk_at dksX0_about_3 19 rfl rfl)
theorem dX0_about_119 : decode cX0_about 119 = .ok (.aload_n 0, 1) := dk_42 (dk_at dksX0_about_3 20 rfl rfl)
theorem dX0_about_120 : decode cX0_about 120 = .ok (.getfield 19, 3) := dk_180 0 19 (dk_at dksX0_about_3 21 rfl rfl)
theorem dX0_about_123 : decode cX0_about 123 = .ok (.getfield 127, 3) := dk_180 0 127 (dk_at dksX0_about_4 0 rfl rfl)
theorem dX0_about_126 : decode cX0_about 126 = .ok (.ireturn, 1) := dk_172 (dk_at dksX0_about_4 3 rfl rfl)
theorem dX0_about_127 : decode cX0_about 127 = .ok (.aload_n 0, 1) := dk_42 (dk_at dksX0_about_4 4 rfl rfl)
theorem dX0_about_128 : decode cX0_about 128 = .ok (.getfield 19, 3) := dk_180 0 19 (dk_at dksX0_about_4 5 rfl rfl)
theorem dX0_about_131 : decode cX0_about 131 = .ok (.getfield 130, 3) := dk_180 0 130 (dk_at dksX0_about_4 8 rfl rfl)
theorem dX0_about_134 : decode cX0_about 134 = .ok (.ireturn, 1) := dk_172 (dk_at dksX0_about_4 11 rfl rfl)
theorem dX0_about_135 : decode cX0_about 135 = .ok (.aload_n 0, 1) := dk_42 (dk_at dksX0_about_4 12 rfl rfl)
theorem dX0_about_136 : decode cX0_about 136 = .ok (.getfield 10, 3) := dk_180 0 10 (dk_at dksX0_about_4 13 rfl rfl)
theorem dX0_about_139 : decode cX0_about 139 = .ok (.getfield 350, 3) := dk_180 1 94 (dk_at dksX0_about_4 16 rfl rfl)
theorem dX0_about_142 : decode cX0_about 142 = .ok (.ireturn, 1) := dk_172 (dk_at dksX0_about_4 19 rfl rfl)
theorem dX0_about_143 : decode cX0_about 143 = .ok (.aload_n 0, 1) := dk_42 (dk_at dksX0_about_4 20 rfl rfl)
theorem dX0_about_144 : decode cX0_about 144 = .ok (.getfield 44, 3) := dk_180 0 44 (dk_at dksX0_about_4 21 rfl rfl)
theorem dX0_about_147 : decode cX0_about 147 = .ok (.invokevirtual 144, 3) := dk_182 0 144 (dk_at dksX0_about_5 0 rfl rfl)
theorem dX0_about_150 : decode cX0_about 150 = .ok (.ireturn, 1) := dk_172 (dk_at dksX0_about_5 3 rfl rfl)
theorem dX0_about_151 : decode cX0_about 151 = .ok (.aload_n 0, 1) := dk_42 (dk_at dksX0_about_5 4 rfl rfl)
theorem dX0_about_152 : decode cX0_about 152 = .ok (.getfield 48, 3) := dk_180 0 48 (dk_at dksX0_about_5 5 rfl rfl)
theorem dX0_about_155 : decode cX0_about 155 = .ok (.invokevirtual 144, 3) := dk_182 0 144 (dk_at dksX0_about_5 8 rfl rfl)
theorem dX0_about_158 : decode cX0_about 158 = .ok (.ireturn, 1) := dk_172 (dk_at dksX0_about_5 11 rfl rfl)
theorem dX0_about_159 : decode cX0_about 159 = .ok (.aload_n 0, 1) := dk_42 (dk_at dksX0_about_5 12 rfl rfl)
theorem dX0_about_160 : decode cX0_about 160 = .ok (.getfield 85, 3) := dk_180 0 85 (dk_at dksX0_about_5 13 rfl rfl)
theorem dX0_about_163 : decode cX0_about 163 = .ok (.invokevirtual 144, 3) := dk_182 0 144 (dk_at dksX0_about_5 16 rfl rfl)
theorem dX0_about_166 : decode cX0_about 166 = .ok (.ireturn, 1) := dk_172 (dk_at dksX0_about_5 19 rfl rfl)
theorem dX0_about_167 : decode cX0_about 167 = .ok (.aload_n 0, 1) := dk_42 (dk_at dksX0_about_5 20 rfl rfl)
theorem dX0_about_168 : decode cX0_about 168 = .ok (.getfield 317, 3) := dk_180 1 61 (dk_at dksX0_about_5 21 rfl rfl)
theorem dX0_about_171 : decode cX0_about 171 = .ok (.ireturn, 1) := dk_172 (dk_at dksX0_about_6 0 rfl rfl)
theorem dX0_about_172 : decode cX0_about 172 = .ok (.aload_n 0, 1) := dk_42 (dk_at dksX0_about_6 1 rfl rfl)
theorem dX0_about_173 : decode cX0_about 173 = .ok (.getfield 172, 3) := dk_180 0 172 (dk_at dksX0_about_6 2 rfl rfl)
theorem dX0_about_176 : decode cX0_about 176 = .ok (.ireturn, 1) := dk_172 (dk_at dksX0_about_6 5 rfl rfl)
theorem dX0_about_177 : decode cX0_about 177 = .ok (.aload_n 0, 1) := dk_42 (dk_at dksX0_about_6 6 rfl rfl)
theorem dX0_about_178 : decode cX0_about 178 = .ok (.getfield 10, 3) := dk_180 0 10 (dk_at dksX0_about_6 7 rfl rfl)
theorem dX0_about_181 : decode cX0_about 181 = .ok (.getfield 353, 3) := dk_180 1 97 (dk_at dksX0_about_6 10 rfl rfl)
theorem dX0_about_184 : decode cX0_about 184 = .ok (.ireturn, 1) := dk_172 (dk_at dksX0_about_6 13 rfl rfl)
theorem dX0_about_185 : decode cX0_about 185 = .ok (.aload_n 0, 1) := dk_42 (dk_at dksX0_about_6 14 rfl rfl)
theorem dX0_about_186 : decode cX0_about 186 = .ok (.getfield 136, 3) := dk_180 0 136 (dk_at dksX0_about_6 15 rfl rfl)
theorem dX0_about_189 : decode cX0_about 189 = .ok (.ireturn, 1) := dk_172 (dk_at dksX0_about_6 18 rfl rfl)
theorem dX0_about_190 : decode cX0_about 190 = .ok (.iconst (-1), 1) := dk_2 (dk_at dksX0_about_6 19 rfl rfl)
theorem dX0_about_191 : decode cX0_about 191 = .ok (.ireturn, 1) := dk_172 (dk_at dksX0_about_6 20 rfl rfl)
theorem q117 : (Jvm.Cond.initialized "OathButtons") ∈ lw_all := lw_g (lw_at lw_m1 1 rfl) rfl
theorem q156 : (Jvm.Cond.instantiable "OathButtons" (20 : Nat)) ∈ lw_all := lw_g (lw_at lw_m1 40 rfl) rfl
theorem q158 : (Jvm.Cond.instanceMethod ({ cls := "OathButtons", name := "<init>", desc := "()V" } : Jvm.MethodName)) ∈ lw_all := lw_g (lw_at lw_m1 42 rfl) rfl
theorem q159 : (Jvm.Cond.code ({ cls := "OathButtons", name := "<init>", desc := "()V" } : Jvm.MethodName) prog_1_method_3_code (1 : Nat) (Option.none : Option Jvm.ClassFile.FieldType)) ∈ lw_all := lw_g (lw_at lw_m1 43 rfl) rfl
theorem q160 : (Jvm.Cond.methodLink "OathButtons" (1 : Nat) ({ cls := "java/lang/Object", name := "<init>", desc := "()V" } : Jvm.MethodName)) ∈ lw_all := lw_g (lw_at lw_m1 44 rfl) rfl
theorem q163 : (Jvm.Cond.classLink "OathButtons" (7 : Nat) "OathButtons$Regiment") ∈ lw_all := lw_g (lw_at lw_m1 47 rfl) rfl
theorem q165 : (Jvm.Cond.methodLink "OathButtons" (9 : Nat) ({ cls := "OathButtons$Regiment", name := "<init>", desc := "()V" } : Jvm.MethodName)) ∈ lw_all := lw_g (lw_at lw_m1 49 rfl) rfl
theorem q199 : (Jvm.Cond.fieldLinkNest "OathButtons" (162 : Nat) "OathButtons$Regiment" "men" "Ljava/util/ArrayList;" "OathButtons") ∈ lw_tbl := lw_at lw_m1 83 rfl
theorem q203 : (Jvm.Cond.fieldLinkNest "OathButtons" (165 : Nat) "OathButtons$Regiment" "deeds" "Ljava/util/ArrayList;" "OathButtons") ∈ lw_tbl := lw_at lw_m1 87 rfl
theorem q208 : (Jvm.Cond.fieldLinkNest "OathButtons" (110 : Nat) "OathButtons$Regiment" "oaths" "Ljava/util/ArrayList;" "OathButtons") ∈ lw_tbl := lw_at lw_m1 92 rfl
theorem q215 : (Jvm.Cond.fieldLinkNest "OathButtons" (347 : Nat) "OathButtons$Regiment" "friends" "I" "OathButtons") ∈ lw_tbl := lw_at lw_m1 99 rfl
theorem q217 : (Jvm.Cond.fieldLinkNest "OathButtons" (353 : Nat) "OathButtons$Regiment" "units" "I" "OathButtons") ∈ lw_tbl := lw_at lw_m1 101 rfl
theorem q221 : (Jvm.Cond.fieldLinkNest "OathButtons" (350 : Nat) "OathButtons$Regiment" "hours" "I" "OathButtons") ∈ lw_tbl := lw_at lw_m1 105 rfl
theorem q224 : (Jvm.Cond.fieldLinkNest "OathButtons" (300 : Nat) "OathButtons$Regiment" "storm" "I" "OathButtons") ∈ lw_tbl := lw_at lw_m1 108 rfl
theorem q225 : (Jvm.Cond.fieldLinkNest "OathButtons" (124 : Nat) "OathButtons$Regiment" "draw" "I" "OathButtons") ∈ lw_tbl := lw_at lw_m1 109 rfl
theorem q261 : (Jvm.Cond.classLink "OathButtons" (16 : Nat) "OathButtons$Day") ∈ lw_all := lw_g (lw_at lw_m1 145 rfl) rfl
theorem q263 : (Jvm.Cond.methodLinkNest "OathButtons" (18 : Nat) ({ cls := "OathButtons$Day", name := "<init>", desc := "()V" } : Jvm.MethodName) "OathButtons") ∈ lw_tbl := lw_at lw_m1 147 rfl
theorem q268 : (Jvm.Cond.fieldLinkNest "OathButtons" (100 : Nat) "OathButtons$Day" "state" "[I" "OathButtons") ∈ lw_tbl := lw_at lw_m1 152 rfl
theorem q271 : (Jvm.Cond.fieldLinkNest "OathButtons" (103 : Nat) "OathButtons$Day" "thread" "[I" "OathButtons") ∈ lw_tbl := lw_at lw_m1 155 rfl
theorem q274 : (Jvm.Cond.fieldLinkNest "OathButtons" (121 : Nat) "OathButtons$Day" "day" "I" "OathButtons") ∈ lw_tbl := lw_at lw_m1 158 rfl
theorem q276 : (Jvm.Cond.fieldLinkNest "OathButtons" (127 : Nat) "OathButtons$Day" "seed" "I" "OathButtons") ∈ lw_tbl := lw_at lw_m1 160 rfl
theorem q278 : (Jvm.Cond.fieldLinkNest "OathButtons" (130 : Nat) "OathButtons$Day" "cuts" "I" "OathButtons") ∈ lw_tbl := lw_at lw_m1 162 rfl
theorem q290 : (Jvm.Cond.classLink "OathButtons" (30 : Nat) "OathButtons$Wrong") ∈ lw_all := lw_g (lw_at lw_m1 174 rfl) rfl
theorem q327 : (Jvm.Cond.methodLinkNest "OathButtons" (32 : Nat) ({ cls := "OathButtons$Wrong", name := "<init>", desc := "()V" } : Jvm.MethodName) "OathButtons") ∈ lw_tbl := lw_at lw_m1 211 rfl
theorem q335 : (Jvm.Cond.fieldLinkNest "OathButtons" (191 : Nat) "OathButtons$Wrong" "kind" "I" "OathButtons") ∈ lw_tbl := lw_at lw_m1 219 rfl
theorem q337 : (Jvm.Cond.fieldLinkNest "OathButtons" (194 : Nat) "OathButtons$Wrong" "place" "I" "OathButtons") ∈ lw_tbl := lw_at lw_m1 221 rfl
theorem q355 : (Jvm.Cond.classLink "OathButtons" (41 : Nat) "java/util/ArrayList") ∈ lw_all := lw_g (lw_at lw_m1 239 rfl) rfl
theorem q356 : (Jvm.Cond.methodLink "OathButtons" (43 : Nat) ({ cls := "java/util/ArrayList", name := "<init>", desc := "()V" } : Jvm.MethodName)) ∈ lw_all := lw_g (lw_at lw_m2 0 rfl) rfl
theorem q357 : (Jvm.Cond.classLink "OathButtons" (55 : Nat) "OathButtons$Orders") ∈ lw_all := lw_g (lw_at lw_m2 1 rfl) rfl
theorem q359 : (Jvm.Cond.methodLinkNest "OathButtons" (57 : Nat) ({ cls := "OathButtons$Orders", name := "<init>", desc := "(LOathButtons;)V" } : Jvm.MethodName) "OathButtons") ∈ lw_tbl := lw_at lw_m2 3 rfl
theorem q366 : (Jvm.Cond.fieldLinkNest "OathButtons" (252 : Nat) "OathButtons$Orders" "bestRow" "[I" "OathButtons") ∈ lw_tbl := lw_at lw_m2 10 rfl
theorem q370 : (Jvm.Cond.fieldLinkNest "OathButtons" (262 : Nat) "OathButtons$Orders" "best" "I" "OathButtons") ∈ lw_tbl := lw_at lw_m2 14 rfl
theorem q372 : (Jvm.Cond.fieldLinkNest "OathButtons" (255 : Nat) "OathButtons$Orders" "bestMany" "I" "OathButtons") ∈ lw_tbl := lw_at lw_m2 16 rfl
theorem q374 : (Jvm.Cond.fieldLinkNest "OathButtons" (264 : Nat) "OathButtons$Orders" "bestHours" "I" "OathButtons") ∈ lw_tbl := lw_at lw_m2 18 rfl
theorem q376 : (Jvm.Cond.fieldLinkNest "OathButtons" (267 : Nat) "OathButtons$Orders" "bestSet" "I" "OathButtons") ∈ lw_tbl := lw_at lw_m2 20 rfl
theorem q400 : (Jvm.Cond.classLink "OathButtons" (71 : Nat) "OathButtons$Best") ∈ lw_all := lw_g (lw_at lw_m2 44 rfl) rfl
theorem q402 : (Jvm.Cond.methodLinkNest "OathButtons" (73 : Nat) ({ cls := "OathButtons$Best", name := "<init>", desc := "(LOathButtons;)V" } : Jvm.MethodName) "OathButtons") ∈ lw_tbl := lw_at lw_m2 46 rfl
theorem q430 : (Jvm.Cond.classLink "OathButtons" (78 : Nat) "OathButtons$Calm") ∈ lw_all := lw_g (lw_at lw_m2 74 rfl) rfl
theorem q432 : (Jvm.Cond.methodLinkNest "OathButtons" (80 : Nat) ({ cls := "OathButtons$Calm", name := "<init>", desc := "(LOathButtons;)V" } : Jvm.MethodName) "OathButtons") ∈ lw_tbl := lw_at lw_m2 76 rfl
theorem q445 : (Jvm.Cond.classLink "OathButtons" (88 : Nat) "OathButtons$Kept") ∈ lw_all := lw_g (lw_at lw_m2 89 rfl) rfl
theorem q448 : (Jvm.Cond.methodLink "OathButtons" (90 : Nat) ({ cls := "OathButtons$Kept", name := "<init>", desc := "(LOathButtons$Day;)V" } : Jvm.MethodName)) ∈ lw_all := lw_g (lw_at lw_m2 92 rfl) rfl
theorem q453 : (Jvm.Cond.fieldLinkNest "OathButtons" (139 : Nat) "OathButtons$Kept" "day" "LOathButtons$Day;" "OathButtons") ∈ lw_tbl := lw_at lw_m2 97 rfl
theorem q457 : (Jvm.Cond.methodLink "OathButtons" (97 : Nat) ({ cls := "OathButtons", name := "start", desc := "()V" } : Jvm.MethodName)) ∈ lw_all := lw_g (lw_at lw_m2 101 rfl) rfl
theorem q458 : (Jvm.Cond.privateMethod ({ cls := "OathButtons", name := "start", desc := "()V" } : Jvm.MethodName)) ∈ lw_tbl := lw_at lw_m2 102 rfl
theorem q459 : (Jvm.Cond.instanceMethod ({ cls := "OathButtons", name := "start", desc := "()V" } : Jvm.MethodName)) ∈ lw_all := lw_g (lw_at lw_m2 103 rfl) rfl
theorem q460 : (Jvm.Cond.code ({ cls := "OathButtons", name := "start", desc := "()V" } : Jvm.MethodName) prog_1_method_4_code (2 : Nat) (Option.none : Option Jvm.ClassFile.FieldType)) ∈ lw_all := lw_g (lw_at lw_m2 104 rfl) rfl
theorem q461 : (Jvm.Cond.methodLink "OathButtons" (106 : Nat) ({ cls := "OathButtons", name := "buttons", desc := "()I" } : Jvm.MethodName)) ∈ lw_all := lw_g (lw_at lw_m2 105 rfl) rfl
theorem q462 : (Jvm.Cond.privateMethod ({ cls := "OathButtons", name := "buttons", desc := "()I" } : Jvm.MethodName)) ∈ lw_tbl := lw_at lw_m2 106 rfl
theorem q463 : (Jvm.Cond.instanceMethod ({ cls := "OathButtons", name := "buttons", desc := "()I" } : Jvm.MethodName)) ∈ lw_all := lw_g (lw_at lw_m2 107 rfl) rfl
theorem q464 : (Jvm.Cond.code ({ cls := "OathButtons", name := "buttons", desc := "()I" } : Jvm.MethodName) prog_1_method_8_code (1 : Nat) (Option.some Jvm.ClassFile.FieldType.int)) ∈ lw_all := lw_g (lw_at lw_m2 108 rfl) rfl
theorem q465 : (Jvm.Cond.methodLink "OathButtons" (144 : Nat) ({ cls := "java/util/ArrayList", name := "size", desc := "()I" } : Jvm.MethodName)) ∈ lw_all := lw_g (lw_at lw_m2 109 rfl) rfl
theorem q469 : (Jvm.Cond.methodLink "OathButtons" (113 : Nat) ({ cls := "java/util/ArrayList", name := "get", desc := "(I)Ljava/lang/Object;" } : Jvm.MethodName)) ∈ lw_all := lw_g (lw_at lw_m2 113 rfl) rfl
theorem q483 : (Jvm.Cond.classLink "OathButtons" (117 : Nat) "OathButtons$Oath") ∈ lw_all := lw_g (lw_at lw_m2 127 rfl) rfl
theorem q484 : (Jvm.Cond.methodLink "OathButtons" (133 : Nat) ({ cls := "java/util/ArrayList", name := "clea\x72", desc := "()V" } : Jvm.MethodName)) ∈ lw_all := lw_g (lw_at lw_m2 128 rfl) rfl
theorem q489 : (Jvm.Cond.fieldLink "OathButtons" (10 : Nat) "OathButtons" "regiment" "LOathButtons$Regiment;") ∈ lw_all := lw_g (lw_at lw_m2 133 rfl) rfl
theorem q493 : (Jvm.Cond.fieldLink "OathButtons" (19 : Nat) "OathButtons" "now" "LOathButtons$Day;") ∈ lw_all := lw_g (lw_at lw_m2 137 rfl) rfl
theorem q495 : (Jvm.Cond.fieldLink "OathButtons" (23 : Nat) "OathButtons" "then" "LOathButtons$Day;") ∈ lw_all := lw_g (lw_at lw_m2 139 rfl) rfl
theorem q496 : (Jvm.Cond.fieldLink "OathButtons" (26 : Nat) "OathButtons" "tape" "[B") ∈ lw_all := lw_g (lw_at lw_m2 140 rfl) rfl
theorem q497 : (Jvm.Cond.fieldLink "OathButtons" (33 : Nat) "OathButtons" "fault" "LOathButtons$Wrong;") ∈ lw_all := lw_g (lw_at lw_m2 141 rfl) rfl
theorem q498 : (Jvm.Cond.fieldLink "OathButtons" (172 : Nat) "OathButtons" "taped" "I") ∈ lw_all := lw_g (lw_at lw_m2 142 rfl) rfl
theorem q499 : (Jvm.Cond.fieldLink "OathButtons" (317 : Nat) "OathButtons" "time" "I") ∈ lw_all := lw_g (lw_at lw_m2 143 rfl) rfl
theorem q500 : (Jvm.Cond.fieldLink "OathButtons" (179 : Nat) "OathButtons" "faultKind" "I") ∈ lw_all := lw_g (lw_at lw_m2 144 rfl) rfl
theorem q501 : (Jvm.Cond.fieldLink "OathButtons" (37 : Nat) "OathButtons" "faultPlace" "I") ∈ lw_all := lw_g (lw_at lw_m2 145 rfl) rfl
theorem q502 : (Jvm.Cond.fieldLink "OathButtons" (44 : Nat) "OathButtons" "acts" "Ljava/util/ArrayList;") ∈ lw_all := lw_g (lw_at lw_m2 146 rfl) rfl
theorem q503 : (Jvm.Cond.fieldLink "OathButtons" (48 : Nat) "OathButtons" "undone" "Ljava/util/ArrayList;") ∈ lw_all := lw_g (lw_at lw_m2 147 rfl) rfl
theorem q504 : (Jvm.Cond.fieldLink "OathButtons" (51 : Nat) "OathButtons" "laidRow" "[I") ∈ lw_all := lw_g (lw_at lw_m2 148 rfl) rfl
theorem q505 : (Jvm.Cond.fieldLink "OathButtons" (136 : Nat) "OathButtons" "laid" "I") ∈ lw_all := lw_g (lw_at lw_m2 149 rfl) rfl
theorem q506 : (Jvm.Cond.fieldLink "OathButtons" (60 : Nat) "OathButtons" "orders" "LOathButtons$Orders;") ∈ lw_all := lw_g (lw_at lw_m2 150 rfl) rfl
theorem q507 : (Jvm.Cond.fieldLink "OathButtons" (64 : Nat) "OathButtons" "ways" "[J") ∈ lw_all := lw_g (lw_at lw_m2 151 rfl) rfl
theorem q508 : (Jvm.Cond.fieldLink "OathButtons" (68 : Nat) "OathButtons" "waysThen" "[J") ∈ lw_all := lw_g (lw_at lw_m2 152 rfl) rfl
theorem q509 : (Jvm.Cond.fieldLink "OathButtons" (74 : Nat) "OathButtons" "best" "LOathButtons$Best;") ∈ lw_all := lw_g (lw_at lw_m2 153 rfl) rfl
theorem q510 : (Jvm.Cond.fieldLink "OathButtons" (81 : Nat) "OathButtons" "calm" "LOathButtons$Calm;") ∈ lw_all := lw_g (lw_at lw_m2 154 rfl) rfl
theorem q511 : (Jvm.Cond.fieldLink "OathButtons" (85 : Nat) "OathButtons" "tugs" "Ljava/util/ArrayList;") ∈ lw_all := lw_g (lw_at lw_m2 155 rfl) rfl
theorem q512 : (Jvm.Cond.fieldLink "OathButtons" (93 : Nat) "OathButtons" "boxes" "[LOathButtons$Kept;") ∈ lw_all := lw_g (lw_at lw_m2 156 rfl) rfl
theorem q513 : (Jvm.Cond.lays "OathButtons" "OathButtons" "regiment" "LOathButtons$Regiment;") ∈ lw_all := lw_g (lw_at lw_m2 157 rfl) rfl
theorem q514 : (Jvm.Cond.soleField "OathButtons" "regiment") ∈ lw_all := lw_g (lw_at lw_m2 158 rfl) rfl
theorem q515 : (Jvm.Cond.laysFinal "OathButtons" "OathButtons" "now" "LOathButtons$Day;") ∈ lw_all := lw_g (lw_at lw_m2 159 rfl) rfl
theorem q516 : (Jvm.Cond.soleField "OathButtons" "now") ∈ lw_all := lw_g (lw_at lw_m2 160 rfl) rfl
theorem q517 : (Jvm.Cond.laysFinal "OathButtons" "OathButtons" "then" "LOathButtons$Day;") ∈ lw_all := lw_g (lw_at lw_m2 161 rfl) rfl
theorem q518 : (Jvm.Cond.soleField "OathButtons" "then") ∈ lw_all := lw_g (lw_at lw_m2 162 rfl) rfl
theorem q519 : (Jvm.Cond.laysFinal "OathButtons" "OathButtons" "tape" "[B") ∈ lw_all := lw_g (lw_at lw_m2 163 rfl) rfl
theorem q520 : (Jvm.Cond.soleField "OathButtons" "tape") ∈ lw_all := lw_g (lw_at lw_m2 164 rfl) rfl
theorem q521 : (Jvm.Cond.laysFinal "OathButtons" "OathButtons" "fault" "LOathButtons$Wrong;") ∈ lw_all := lw_g (lw_at lw_m2 165 rfl) rfl
theorem q522 : (Jvm.Cond.soleField "OathButtons" "fault") ∈ lw_all := lw_g (lw_at lw_m2 166 rfl) rfl
theorem q523 : (Jvm.Cond.lays "OathButtons" "OathButtons" "taped" "I") ∈ lw_all := lw_g (lw_at lw_m2 167 rfl) rfl
theorem q524 : (Jvm.Cond.soleField "OathButtons" "taped") ∈ lw_all := lw_g (lw_at lw_m2 168 rfl) rfl
theorem q525 : (Jvm.Cond.lays "OathButtons" "OathButtons" "time" "I") ∈ lw_all := lw_g (lw_at lw_m2 169 rfl) rfl
theorem q526 : (Jvm.Cond.soleField "OathButtons" "time") ∈ lw_all := lw_g (lw_at lw_m2 170 rfl) rfl
theorem q527 : (Jvm.Cond.lays "OathButtons" "OathButtons" "faultKind" "I") ∈ lw_all := lw_g (lw_at lw_m2 171 rfl) rfl
theorem q528 : (Jvm.Cond.soleField "OathButtons" "faultKind") ∈ lw_all := lw_g (lw_at lw_m2 172 rfl) rfl
theorem q529 : (Jvm.Cond.lays "OathButtons" "OathButtons" "faultPlace" "I") ∈ lw_all := lw_g (lw_at lw_m2 173 rfl) rfl
theorem q530 : (Jvm.Cond.soleField "OathButtons" "faultPlace") ∈ lw_all := lw_g (lw_at lw_m2 174 rfl) rfl
theorem q531 : (Jvm.Cond.laysFinal "OathButtons" "OathButtons" "acts" "Ljava/util/ArrayList;") ∈ lw_all := lw_g (lw_at lw_m2 175 rfl) rfl
theorem q532 : (Jvm.Cond.soleField "OathButtons" "acts") ∈ lw_all := lw_g (lw_at lw_m2 176 rfl) rfl
theorem q533 : (Jvm.Cond.laysFinal "OathButtons" "OathButtons" "undone" "Ljava/util/ArrayList;") ∈ lw_all := lw_g (lw_at lw_m2 177 rfl) rfl
theorem q534 : (Jvm.Cond.soleField "OathButtons" "undone") ∈ lw_all := lw_g (lw_at lw_m2 178 rfl) rfl
theorem q535 : (Jvm.Cond.laysFinal "OathButtons" "OathButtons" "laidRow" "[I") ∈ lw_all := lw_g (lw_at lw_m2 179 rfl) rfl
theorem q536 : (Jvm.Cond.soleField "OathButtons" "laidRow") ∈ lw_all := lw_g (lw_at lw_m2 180 rfl) rfl
theorem q537 : (Jvm.Cond.lays "OathButtons" "OathButtons" "laid" "I") ∈ lw_all := lw_g (lw_at lw_m2 181 rfl) rfl
theorem q538 : (Jvm.Cond.soleField "OathButtons" "laid") ∈ lw_all := lw_g (lw_at lw_m2 182 rfl) rfl
theorem q539 : (Jvm.Cond.laysFinal "OathButtons" "OathButtons" "orders" "LOathButtons$Orders;") ∈ lw_all := lw_g (lw_at lw_m2 183 rfl) rfl
theorem q540 : (Jvm.Cond.soleField "OathButtons" "orders") ∈ lw_all := lw_g (lw_at lw_m2 184 rfl) rfl
theorem q541 : (Jvm.Cond.laysFinal "OathButtons" "OathButtons" "ways" "[J") ∈ lw_all := lw_g (lw_at lw_m2 185 rfl) rfl
theorem q542 : (Jvm.Cond.soleField "OathButtons" "ways") ∈ lw_all := lw_g (lw_at lw_m2 186 rfl) rfl
theorem q543 : (Jvm.Cond.laysFinal "OathButtons" "OathButtons" "waysThen" "[J") ∈ lw_all := lw_g (lw_at lw_m2 187 rfl) rfl
theorem q544 : (Jvm.Cond.soleField "OathButtons" "waysThen") ∈ lw_all := lw_g (lw_at lw_m2 188 rfl) rfl
theorem q545 : (Jvm.Cond.laysFinal "OathButtons" "OathButtons" "best" "LOathButtons$Best;") ∈ lw_all := lw_g (lw_at lw_m2 189 rfl) rfl
theorem q546 : (Jvm.Cond.soleField "OathButtons" "best") ∈ lw_all := lw_g (lw_at lw_m2 190 rfl) rfl
theorem q547 : (Jvm.Cond.laysFinal "OathButtons" "OathButtons" "calm" "LOathButtons$Calm;") ∈ lw_all := lw_g (lw_at lw_m2 191 rfl) rfl
theorem q548 : (Jvm.Cond.soleField "OathButtons" "calm") ∈ lw_all := lw_g (lw_at lw_m2 192 rfl) rfl
theorem q549 : (Jvm.Cond.laysFinal "OathButtons" "OathButtons" "tugs" "Ljava/util/ArrayList;") ∈ lw_all := lw_g (lw_at lw_m2 193 rfl) rfl
theorem q550 : (Jvm.Cond.soleField "OathButtons" "tugs") ∈ lw_all := lw_g (lw_at lw_m2 194 rfl) rfl
theorem q551 : (Jvm.Cond.laysFinal "OathButtons" "OathButtons" "boxes" "[LOathButtons$Kept;") ∈ lw_all := lw_g (lw_at lw_m2 195 rfl) rfl
theorem q552 : (Jvm.Cond.soleField "OathButtons" "boxes") ∈ lw_all := lw_g (lw_at lw_m2 196 rfl) rfl
theorem q553 : (Jvm.Cond.superclass "OathButtons" "java/lang/Object") ∈ lw_all := lw_g (lw_at lw_m2 197 rfl) rfl
theorem q555 : (Jvm.Cond.instanceMethod ({ cls := "OathButtons", name := "feed", desc := "(IIIII)I" } : Jvm.MethodName)) ∈ lw_all := lw_g (lw_at lw_m2 199 rfl) rfl
theorem q556 : (Jvm.Cond.selects "OathButtons" ({ cls := "OathButtons", name := "feed", desc := "(IIIII)I" } : Jvm.MethodName) ({ cls := "OathButtons", name := "feed", desc := "(IIIII)I" } : Jvm.MethodName)) ∈ lw_all := lw_g (lw_at lw_m2 200 rfl) rfl
theorem q557 : (Jvm.Cond.code ({ cls := "OathButtons", name := "feed", desc := "(IIIII)I" } : Jvm.MethodName) prog_1_method_13_code (6 : Nat) (Option.some Jvm.ClassFile.FieldType.int)) ∈ lw_all := lw_g (lw_at lw_m2 201 rfl) rfl
theorem q558 : (Jvm.Cond.methodLink "OathButtons" (175 : Nat) ({ cls := "OathButtons", name := "bytes", desc := "(I)V" } : Jvm.MethodName)) ∈ lw_all := lw_g (lw_at lw_m2 202 rfl) rfl
theorem q559 : (Jvm.Cond.privateMethod ({ cls := "OathButtons", name := "bytes", desc := "(I)V" } : Jvm.MethodName)) ∈ lw_tbl := lw_at lw_m2 203 rfl
theorem q560 : (Jvm.Cond.instanceMethod ({ cls := "OathButtons", name := "bytes", desc := "(I)V" } : Jvm.MethodName)) ∈ lw_all := lw_g (lw_at lw_m2 204 rfl) rfl
theorem q561 : (Jvm.Cond.code ({ cls := "OathButtons", name := "bytes", desc := "(I)V" } : Jvm.MethodName) prog_1_method_14_code (3 : Nat) (Option.none : Option Jvm.ClassFile.FieldType)) ∈ lw_all := lw_g (lw_at lw_m2 205 rfl) rfl
theorem q563 : (Jvm.Cond.instanceMethod ({ cls := "OathButtons", name := "end", desc := "(I)I" } : Jvm.MethodName)) ∈ lw_all := lw_g (lw_at lw_m2 207 rfl) rfl
theorem q564 : (Jvm.Cond.selects "OathButtons" ({ cls := "OathButtons", name := "end", desc := "(I)I" } : Jvm.MethodName) ({ cls := "OathButtons", name := "end", desc := "(I)I" } : Jvm.MethodName)) ∈ lw_all := lw_g (lw_at lw_m2 208 rfl) rfl
theorem q565 : (Jvm.Cond.code ({ cls := "OathButtons", name := "end", desc := "(I)I" } : Jvm.MethodName) prog_1_method_15_code (2 : Nat) (Option.some Jvm.ClassFile.FieldType.int)) ∈ lw_all := lw_g (lw_at lw_m2 209 rfl) rfl
theorem q567 : (Jvm.Cond.instanceMethod ({ cls := "OathButtons", name := "regiment", desc := "()I" } : Jvm.MethodName)) ∈ lw_all := lw_g (lw_at lw_m2 211 rfl) rfl
theorem q568 : (Jvm.Cond.selects "OathButtons" ({ cls := "OathButtons", name := "regiment", desc := "()I" } : Jvm.MethodName) ({ cls := "OathButtons", name := "regiment", desc := "()I" } : Jvm.MethodName)) ∈ lw_all := lw_g (lw_at lw_m2 212 rfl) rfl
theorem q569 : (Jvm.Cond.codeWith ({ cls := "OathButtons", name := "regiment", desc := "()I" } : Jvm.MethodName) prog_1_method_16_code (3 : Nat) (Option.some Jvm.ClassFile.FieldType.int) [((20 : Nat), (43 : Nat), (46 : Nat), (30 : Nat))]) ∈ lw_all := lw_g (lw_at lw_m2 213 rfl) rfl
theorem q570 : (Jvm.Cond.classLink "OathButtons" (182 : Nat) "OathButtons$Reade\x72") ∈ lw_all := lw_g (lw_at lw_m2 214 rfl) rfl
theorem q572 : (Jvm.Cond.methodLink "OathButtons" (184 : Nat) ({ cls := "OathButtons$Reade\x72", name := "<init>", desc := "([BILOathButtons$Wrong;)V" } : Jvm.MethodName)) ∈ lw_all := lw_g (lw_at lw_m2 216 rfl) rfl
theorem q612 : (Jvm.Cond.methodLink "OathButtons" (187 : Nat) ({ cls := "OathButtons$Reade\x72", name := "read", desc := "()LOathButtons$Regiment;" } : Jvm.MethodName)) ∈ lw_all := lw_g (lw_at lw_m3 16 rfl) rfl
theorem q818 : (Jvm.Cond.selects "OathButtons" ({ cls := "java/lang/Object", name := "getClass", desc := "()Ljava/lang/Class;" } : Jvm.MethodName) ({ cls := "java/lang/Object", name := "getClass", desc := "()Ljava/lang/Class;" } : Jvm.MethodName)) ∈ lw_all := lw_g (lw_at lw_m3 222 rfl) rfl
theorem q893 : (Jvm.Cond.fieldLink "OathButtons" (197 : Nat) "OathButtons$Oath" "on" "I") ∈ lw_all := lw_g (lw_at lw_m4 57 rfl) rfl
theorem q896 : (Jvm.Cond.fieldLink "OathButtons" (200 : Nat) "OathButtons$Oath" "by" "I") ∈ lw_all := lw_g (lw_at lw_m4 60 rfl) rfl
theorem q899 : (Jvm.Cond.fieldLink "OathButtons" (203 : Nat) "OathButtons$Oath" "deed" "I") ∈ lw_all := lw_g (lw_at lw_m4 63 rfl) rfl
theorem q903 : (Jvm.Cond.fieldLink "OathButtons" (210 : Nat) "OathButtons$Oath" "until" "I") ∈ lw_all := lw_g (lw_at lw_m4 67 rfl) rfl
theorem q906 : (Jvm.Cond.fieldLink "OathButtons" (119 : Nat) "OathButtons$Oath" "thread" "I") ∈ lw_all := lw_g (lw_at lw_m4 70 rfl) rfl
theorem q909 : (Jvm.Cond.fieldLink "OathButtons" (213 : Nat) "OathButtons$Oath" "afte\x72" "I") ∈ lw_all := lw_g (lw_at lw_m4 73 rfl) rfl
theorem q1049 : (Jvm.Cond.instanceMethod ({ cls := "OathButtons", name := "fault", desc := "(I)I" } : Jvm.MethodName)) ∈ lw_all := lw_g (lw_at lw_m4 213 rfl) rfl
theorem q1050 : (Jvm.Cond.selects "OathButtons" ({ cls := "OathButtons", name := "fault", desc := "(I)I" } : Jvm.MethodName) ({ cls := "OathButtons", name := "fault", desc := "(I)I" } : Jvm.MethodName)) ∈ lw_all := lw_g (lw_at lw_m4 214 rfl) rfl
theorem q1051 : (Jvm.Cond.code ({ cls := "OathButtons", name := "fault", desc := "(I)I" } : Jvm.MethodName) prog_1_method_17_code (2 : Nat) (Option.some Jvm.ClassFile.FieldType.int)) ∈ lw_all := lw_g (lw_at lw_m4 215 rfl) rfl
theorem q1053 : (Jvm.Cond.instanceMethod ({ cls := "OathButtons", name := "button", desc := "(II)I" } : Jvm.MethodName)) ∈ lw_all := lw_g (lw_at lw_m4 217 rfl) rfl
theorem q1054 : (Jvm.Cond.selects "OathButtons" ({ cls := "OathButtons", name := "button", desc := "(II)I" } : Jvm.MethodName) ({ cls := "OathButtons", name := "button", desc := "(II)I" } : Jvm.MethodName)) ∈ lw_all := lw_g (lw_at lw_m4 218 rfl) rfl
theorem q1055 : (Jvm.Cond.code ({ cls := "OathButtons", name := "button", desc := "(II)I" } : Jvm.MethodName) prog_1_method_18_code (4 : Nat) (Option.some Jvm.ClassFile.FieldType.int)) ∈ lw_all := lw_g (lw_at lw_m4 219 rfl) rfl
theorem q1056 : (Jvm.Cond.methodLink "OathButtons" (168 : Nat) ({ cls := "OathButtons", name := "isButton", desc := "(I)Z" } : Jvm.MethodName)) ∈ lw_all := lw_g (lw_at lw_m4 220 rfl) rfl
theorem q1057 : (Jvm.Cond.privateMethod ({ cls := "OathButtons", name := "isButton", desc := "(I)Z" } : Jvm.MethodName)) ∈ lw_tbl := lw_at lw_m4 221 rfl
theorem q1058 : (Jvm.Cond.instanceMethod ({ cls := "OathButtons", name := "isButton", desc := "(I)Z" } : Jvm.MethodName)) ∈ lw_all := lw_g (lw_at lw_m4 222 rfl) rfl
theorem q1059 : (Jvm.Cond.code ({ cls := "OathButtons", name := "isButton", desc := "(I)Z" } : Jvm.MethodName) prog_1_method_9_code (2 : Nat) (Option.some Jvm.ClassFile.FieldType.boolean)) ∈ lw_all := lw_g (lw_at lw_m4 223 rfl) rfl
theorem q1060 : (Jvm.Cond.methodLink "OathButtons" (158 : Nat) ({ cls := "OathButtons", name := "isIn", desc := "(III)Z" } : Jvm.MethodName)) ∈ lw_all := lw_g (lw_at lw_m4 224 rfl) rfl
theorem q1061 : (Jvm.Cond.static ({ cls := "OathButtons", name := "isIn", desc := "(III)Z" } : Jvm.MethodName)) ∈ lw_all := lw_g (lw_at lw_m4 225 rfl) rfl
theorem q1062 : (Jvm.Cond.code ({ cls := "OathButtons", name := "isIn", desc := "(III)Z" } : Jvm.MethodName) prog_1_method_1_code (3 : Nat) (Option.some Jvm.ClassFile.FieldType.boolean)) ∈ lw_all := lw_g (lw_at lw_m4 226 rfl) rfl
theorem q1063 : (Jvm.Cond.methodLink "OathButtons" (206 : Nat) ({ cls := "OathButtons$Oath", name := "isPromise", desc := "()Z" } : Jvm.MethodName)) ∈ lw_all := lw_g (lw_at lw_m4 227 rfl) rfl
theorem q1073 : (Jvm.Cond.instanceMethod ({ cls := "OathButtons", name := "coat", desc := "(II)I" } : Jvm.MethodName)) ∈ lw_all := lw_g (lw_at lw_m4 237 rfl) rfl
theorem q1074 : (Jvm.Cond.selects "OathButtons" ({ cls := "OathButtons", name := "coat", desc := "(II)I" } : Jvm.MethodName) ({ cls := "OathButtons", name := "coat", desc := "(II)I" } : Jvm.MethodName)) ∈ lw_all := lw_g (lw_at lw_m4 238 rfl) rfl
theorem q1075 : (Jvm.Cond.code ({ cls := "OathButtons", name := "coat", desc := "(II)I" } : Jvm.MethodName) prog_1_method_19_code (7 : Nat) (Option.some Jvm.ClassFile.FieldType.int)) ∈ lw_all := lw_g (lw_at lw_m4 239 rfl) rfl
theorem q1076 : (Jvm.Cond.methodLink "OathButtons" (216 : Nat) ({ cls := "OathButtons", name := "isMan", desc := "(I)Z" } : Jvm.MethodName)) ∈ lw_all := lw_g (lw_at lw_m5 0 rfl) rfl
theorem q1077 : (Jvm.Cond.privateMethod ({ cls := "OathButtons", name := "isMan", desc := "(I)Z" } : Jvm.MethodName)) ∈ lw_tbl := lw_at lw_m5 1 rfl
theorem q1078 : (Jvm.Cond.instanceMethod ({ cls := "OathButtons", name := "isMan", desc := "(I)Z" } : Jvm.MethodName)) ∈ lw_all := lw_g (lw_at lw_m5 2 rfl) rfl
theorem q1079 : (Jvm.Cond.code ({ cls := "OathButtons", name := "isMan", desc := "(I)Z" } : Jvm.MethodName) prog_1_method_10_code (2 : Nat) (Option.some Jvm.ClassFile.FieldType.boolean)) ∈ lw_all := lw_g (lw_at lw_m5 3 rfl) rfl
theorem q1081 : (Jvm.Cond.instanceMethod ({ cls := "OathButtons", name := "free", desc := "()I" } : Jvm.MethodName)) ∈ lw_all := lw_g (lw_at lw_m5 5 rfl) rfl
theorem q1082 : (Jvm.Cond.selects "OathButtons" ({ cls := "OathButtons", name := "free", desc := "()I" } : Jvm.MethodName) ({ cls := "OathButtons", name := "free", desc := "()I" } : Jvm.MethodName)) ∈ lw_all := lw_g (lw_at lw_m5 6 rfl) rfl
theorem q1083 : (Jvm.Cond.code ({ cls := "OathButtons", name := "free", desc := "()I" } : Jvm.MethodName) prog_1_method_20_code (3 : Nat) (Option.some Jvm.ClassFile.FieldType.int)) ∈ lw_all := lw_g (lw_at lw_m5 7 rfl) rfl
theorem q1084 : (Jvm.Cond.methodLink "OathButtons" (219 : Nat) ({ cls := "OathButtons", name := "isOn", desc := "(I)Z" } : Jvm.MethodName)) ∈ lw_all := lw_g (lw_at lw_m5 8 rfl) rfl
theorem q1085 : (Jvm.Cond.privateMethod ({ cls := "OathButtons", name := "isOn", desc := "(I)Z" } : Jvm.MethodName)) ∈ lw_tbl := lw_at lw_m5 9 rfl
theorem q1086 : (Jvm.Cond.instanceMethod ({ cls := "OathButtons", name := "isOn", desc := "(I)Z" } : Jvm.MethodName)) ∈ lw_all := lw_g (lw_at lw_m5 10 rfl) rfl
theorem q1087 : (Jvm.Cond.code ({ cls := "OathButtons", name := "isOn", desc := "(I)Z" } : Jvm.MethodName) prog_1_method_12_code (2 : Nat) (Option.some Jvm.ClassFile.FieldType.boolean)) ∈ lw_all := lw_g (lw_at lw_m5 11 rfl) rfl
theorem q1089 : (Jvm.Cond.instanceMethod ({ cls := "OathButtons", name := "sworn", desc := "(II)I" } : Jvm.MethodName)) ∈ lw_all := lw_g (lw_at lw_m5 13 rfl) rfl
theorem q1090 : (Jvm.Cond.selects "OathButtons" ({ cls := "OathButtons", name := "sworn", desc := "(II)I" } : Jvm.MethodName) ({ cls := "OathButtons", name := "sworn", desc := "(II)I" } : Jvm.MethodName)) ∈ lw_all := lw_g (lw_at lw_m5 14 rfl) rfl
theorem q1091 : (Jvm.Cond.code ({ cls := "OathButtons", name := "sworn", desc := "(II)I" } : Jvm.MethodName) prog_1_method_21_code (6 : Nat) (Option.some Jvm.ClassFile.FieldType.int)) ∈ lw_all := lw_g (lw_at lw_m5 15 rfl) rfl
theorem q1092 : (Jvm.Cond.methodLink "OathButtons" (222 : Nat) ({ cls := "OathButtons", name := "isDeed", desc := "(I)Z" } : Jvm.MethodName)) ∈ lw_all := lw_g (lw_at lw_m5 16 rfl) rfl
theorem q1093 : (Jvm.Cond.privateMethod ({ cls := "OathButtons", name := "isDeed", desc := "(I)Z" } : Jvm.MethodName)) ∈ lw_tbl := lw_at lw_m5 17 rfl
theorem q1094 : (Jvm.Cond.instanceMethod ({ cls := "OathButtons", name := "isDeed", desc := "(I)Z" } : Jvm.MethodName)) ∈ lw_all := lw_g (lw_at lw_m5 18 rfl) rfl
theorem q1095 : (Jvm.Cond.code ({ cls := "OathButtons", name := "isDeed", desc := "(I)Z" } : Jvm.MethodName) prog_1_method_11_code (2 : Nat) (Option.some Jvm.ClassFile.FieldType.boolean)) ∈ lw_all := lw_g (lw_at lw_m5 19 rfl) rfl
theorem q1097 : (Jvm.Cond.instanceMethod ({ cls := "OathButtons", name := "many", desc := "(I)I" } : Jvm.MethodName)) ∈ lw_all := lw_g (lw_at lw_m5 21 rfl) rfl
theorem q1098 : (Jvm.Cond.selects "OathButtons" ({ cls := "OathButtons", name := "many", desc := "(I)I" } : Jvm.MethodName) ({ cls := "OathButtons", name := "many", desc := "(I)I" } : Jvm.MethodName)) ∈ lw_all := lw_g (lw_at lw_m5 22 rfl) rfl
theorem q1099 : (Jvm.Cond.code ({ cls := "OathButtons", name := "many", desc := "(I)I" } : Jvm.MethodName) prog_1_method_22_code (4 : Nat) (Option.some Jvm.ClassFile.FieldType.int)) ∈ lw_all := lw_g (lw_at lw_m5 23 rfl) rfl
theorem q1101 : (Jvm.Cond.instanceMethod ({ cls := "OathButtons", name := "does", desc := "(II)I" } : Jvm.MethodName)) ∈ lw_all := lw_g (lw_at lw_m5 25 rfl) rfl
theorem q1102 : (Jvm.Cond.selects "OathButtons" ({ cls := "OathButtons", name := "does", desc := "(II)I" } : Jvm.MethodName) ({ cls := "OathButtons", name := "does", desc := "(II)I" } : Jvm.MethodName)) ∈ lw_all := lw_g (lw_at lw_m5 26 rfl) rfl
theorem q1103 : (Jvm.Cond.code ({ cls := "OathButtons", name := "does", desc := "(II)I" } : Jvm.MethodName) prog_1_method_23_code (6 : Nat) (Option.some Jvm.ClassFile.FieldType.int)) ∈ lw_all := lw_g (lw_at lw_m5 27 rfl) rfl
theorem q1104 : (Jvm.Cond.methodLink "OathButtons" (225 : Nat) ({ cls := "OathButtons", name := "keepAct", desc := "()V" } : Jvm.MethodName)) ∈ lw_all := lw_g (lw_at lw_m5 28 rfl) rfl
theorem q1105 : (Jvm.Cond.privateMethod ({ cls := "OathButtons", name := "keepAct", desc := "()V" } : Jvm.MethodName)) ∈ lw_tbl := lw_at lw_m5 29 rfl
theorem q1106 : (Jvm.Cond.instanceMethod ({ cls := "OathButtons", name := "keepAct", desc := "()V" } : Jvm.MethodName)) ∈ lw_all := lw_g (lw_at lw_m5 30 rfl) rfl
theorem q1107 : (Jvm.Cond.code ({ cls := "OathButtons", name := "keepAct", desc := "()V" } : Jvm.MethodName) prog_1_method_6_code (1 : Nat) (Option.none : Option Jvm.ClassFile.FieldType)) ∈ lw_all := lw_g (lw_at lw_m5 31 rfl) rfl
theorem q1108 : (Jvm.Cond.methodLink "OathButtons" (147 : Nat) ({ cls := "java/util/ArrayList", name := "remove", desc := "(I)Ljava/lang/Object;" } : Jvm.MethodName)) ∈ lw_all := lw_g (lw_at lw_m5 32 rfl) rfl
theorem q1117 : (Jvm.Cond.methodLink "OathButtons" (150 : Nat) ({ cls := "OathButtons", name := "copy", desc := "(LOathButtons$Day;)LOathButtons$Day;" } : Jvm.MethodName)) ∈ lw_all := lw_g (lw_at lw_m5 41 rfl) rfl
theorem q1118 : (Jvm.Cond.static ({ cls := "OathButtons", name := "copy", desc := "(LOathButtons$Day;)LOathButtons$Day;" } : Jvm.MethodName)) ∈ lw_all := lw_g (lw_at lw_m5 42 rfl) rfl
theorem q1119 : (Jvm.Cond.code ({ cls := "OathButtons", name := "copy", desc := "(LOathButtons$Day;)LOathButtons$Day;" } : Jvm.MethodName) prog_1_method_5_code (2 : Nat) (Option.some (Jvm.ClassFile.FieldType.object "OathButtons$Day"))) ∈ lw_all := lw_g (lw_at lw_m5 43 rfl) rfl
theorem q1120 : (Jvm.Cond.methodLink "OathButtons" (141 : Nat) ({ cls := "OathButtons$Day", name := "of", desc := "(LOathButtons$Day;)V" } : Jvm.MethodName)) ∈ lw_all := lw_g (lw_at lw_m5 44 rfl) rfl
theorem q1125 : (Jvm.Cond.methodLink "OathButtons" (154 : Nat) ({ cls := "java/util/ArrayList", name := "add", desc := "(Ljava/lang/Object;)Z" } : Jvm.MethodName)) ∈ lw_all := lw_g (lw_at lw_m5 49 rfl) rfl
theorem q1126 : (Jvm.Cond.methodLink "OathButtons" (228 : Nat) ({ cls := "OathButtons$Oath", name := "byDeed", desc := "()I" } : Jvm.MethodName)) ∈ lw_all := lw_g (lw_at lw_m5 50 rfl) rfl
theorem q1134 : (Jvm.Cond.instanceMethod ({ cls := "OathButtons", name := "undoes", desc := "(I)Z" } : Jvm.MethodName)) ∈ lw_all := lw_g (lw_at lw_m5 58 rfl) rfl
theorem q1135 : (Jvm.Cond.selects "OathButtons" ({ cls := "OathButtons", name := "undoes", desc := "(I)Z" } : Jvm.MethodName) ({ cls := "OathButtons", name := "undoes", desc := "(I)Z" } : Jvm.MethodName)) ∈ lw_all := lw_g (lw_at lw_m5 59 rfl) rfl
theorem q1136 : (Jvm.Cond.code ({ cls := "OathButtons", name := "undoes", desc := "(I)Z" } : Jvm.MethodName) prog_1_method_24_code (2 : Nat) (Option.some Jvm.ClassFile.FieldType.boolean)) ∈ lw_all := lw_g (lw_at lw_m5 60 rfl) rfl
theorem q1138 : (Jvm.Cond.instanceMethod ({ cls := "OathButtons", name := "cut", desc := "(I)I" } : Jvm.MethodName)) ∈ lw_all := lw_g (lw_at lw_m5 62 rfl) rfl
theorem q1139 : (Jvm.Cond.selects "OathButtons" ({ cls := "OathButtons", name := "cut", desc := "(I)I" } : Jvm.MethodName) ({ cls := "OathButtons", name := "cut", desc := "(I)I" } : Jvm.MethodName)) ∈ lw_all := lw_g (lw_at lw_m5 63 rfl) rfl
theorem q1140 : (Jvm.Cond.code ({ cls := "OathButtons", name := "cut", desc := "(I)I" } : Jvm.MethodName) prog_1_method_25_code (2 : Nat) (Option.some Jvm.ClassFile.FieldType.int)) ∈ lw_all := lw_g (lw_at lw_m5 64 rfl) rfl
theorem q1142 : (Jvm.Cond.instanceMethod ({ cls := "OathButtons", name := "sew", desc := "(I)I" } : Jvm.MethodName)) ∈ lw_all := lw_g (lw_at lw_m5 66 rfl) rfl
theorem q1143 : (Jvm.Cond.selects "OathButtons" ({ cls := "OathButtons", name := "sew", desc := "(I)I" } : Jvm.MethodName) ({ cls := "OathButtons", name := "sew", desc := "(I)I" } : Jvm.MethodName)) ∈ lw_all := lw_g (lw_at lw_m5 67 rfl) rfl
theorem q1144 : (Jvm.Cond.code ({ cls := "OathButtons", name := "sew", desc := "(I)I" } : Jvm.MethodName) prog_1_method_26_code (3 : Nat) (Option.some Jvm.ClassFile.FieldType.int)) ∈ lw_all := lw_g (lw_at lw_m5 68 rfl) rfl
theorem q1146 : (Jvm.Cond.instanceMethod ({ cls := "OathButtons", name := "day", desc := "()I" } : Jvm.MethodName)) ∈ lw_all := lw_g (lw_at lw_m5 70 rfl) rfl
theorem q1147 : (Jvm.Cond.selects "OathButtons" ({ cls := "OathButtons", name := "day", desc := "()I" } : Jvm.MethodName) ({ cls := "OathButtons", name := "day", desc := "()I" } : Jvm.MethodName)) ∈ lw_all := lw_g (lw_at lw_m5 71 rfl) rfl
theorem q1148 : (Jvm.Cond.code ({ cls := "OathButtons", name := "day", desc := "()I" } : Jvm.MethodName) prog_1_method_27_code (1 : Nat) (Option.some Jvm.ClassFile.FieldType.int)) ∈ lw_all := lw_g (lw_at lw_m5 72 rfl) rfl
theorem q1149 : (Jvm.Cond.methodLink "OathButtons" (231 : Nat) ({ cls := "OathButtons$Day", name := "goOn", desc := "(LOathButtons$Regiment;)I" } : Jvm.MethodName)) ∈ lw_all := lw_g (lw_at lw_m5 73 rfl) rfl
theorem q1192 : (Jvm.Cond.instanceMethod ({ cls := "OathButtons", name := "undo", desc := "()Z" } : Jvm.MethodName)) ∈ lw_all := lw_g (lw_at lw_m5 116 rfl) rfl
theorem q1193 : (Jvm.Cond.selects "OathButtons" ({ cls := "OathButtons", name := "undo", desc := "()Z" } : Jvm.MethodName) ({ cls := "OathButtons", name := "undo", desc := "()Z" } : Jvm.MethodName)) ∈ lw_all := lw_g (lw_at lw_m5 117 rfl) rfl
theorem q1194 : (Jvm.Cond.code ({ cls := "OathButtons", name := "undo", desc := "()Z" } : Jvm.MethodName) prog_1_method_28_code (1 : Nat) (Option.some Jvm.ClassFile.FieldType.boolean)) ∈ lw_all := lw_g (lw_at lw_m5 118 rfl) rfl
theorem q1195 : (Jvm.Cond.methodLink "OathButtons" (235 : Nat) ({ cls := "java/util/ArrayList", name := "isEmpty", desc := "()Z" } : Jvm.MethodName)) ∈ lw_all := lw_g (lw_at lw_m5 119 rfl) rfl
theorem q1199 : (Jvm.Cond.methodLink "OathButtons" (238 : Nat) ({ cls := "OathButtons", name := "turned", desc := "(LOathButtons$Kept;)LOathButtons$Kept;" } : Jvm.MethodName)) ∈ lw_all := lw_g (lw_at lw_m5 123 rfl) rfl
theorem q1200 : (Jvm.Cond.privateMethod ({ cls := "OathButtons", name := "turned", desc := "(LOathButtons$Kept;)LOathButtons$Kept;" } : Jvm.MethodName)) ∈ lw_tbl := lw_at lw_m5 124 rfl
theorem q1201 : (Jvm.Cond.instanceMethod ({ cls := "OathButtons", name := "turned", desc := "(LOathButtons$Kept;)LOathButtons$Kept;" } : Jvm.MethodName)) ∈ lw_all := lw_g (lw_at lw_m5 125 rfl) rfl
theorem q1202 : (Jvm.Cond.code ({ cls := "OathButtons", name := "turned", desc := "(LOathButtons$Kept;)LOathButtons$Kept;" } : Jvm.MethodName) prog_1_method_7_code (3 : Nat) (Option.some (Jvm.ClassFile.FieldType.object "OathButtons$Kept"))) ∈ lw_all := lw_g (lw_at lw_m5 126 rfl) rfl
theorem q1204 : (Jvm.Cond.instanceMethod ({ cls := "OathButtons", name := "redo", desc := "()Z" } : Jvm.MethodName)) ∈ lw_all := lw_g (lw_at lw_m5 128 rfl) rfl
theorem q1205 : (Jvm.Cond.selects "OathButtons" ({ cls := "OathButtons", name := "redo", desc := "()Z" } : Jvm.MethodName) ({ cls := "OathButtons", name := "redo", desc := "()Z" } : Jvm.MethodName)) ∈ lw_all := lw_g (lw_at lw_m5 129 rfl) rfl
theorem q1206 : (Jvm.Cond.code ({ cls := "OathButtons", name := "redo", desc := "()Z" } : Jvm.MethodName) prog_1_method_29_code (1 : Nat) (Option.some Jvm.ClassFile.FieldType.boolean)) ∈ lw_all := lw_g (lw_at lw_m5 130 rfl) rfl
theorem q1208 : (Jvm.Cond.instanceMethod ({ cls := "OathButtons", name := "lies", desc := "(I)I" } : Jvm.MethodName)) ∈ lw_all := lw_g (lw_at lw_m5 132 rfl) rfl
theorem q1209 : (Jvm.Cond.selects "OathButtons" ({ cls := "OathButtons", name := "lies", desc := "(I)I" } : Jvm.MethodName) ({ cls := "OathButtons", name := "lies", desc := "(I)I" } : Jvm.MethodName)) ∈ lw_all := lw_g (lw_at lw_m5 133 rfl) rfl
theorem q1210 : (Jvm.Cond.code ({ cls := "OathButtons", name := "lies", desc := "(I)I" } : Jvm.MethodName) prog_1_method_30_code (2 : Nat) (Option.some Jvm.ClassFile.FieldType.int)) ∈ lw_all := lw_g (lw_at lw_m5 134 rfl) rfl
theorem q1212 : (Jvm.Cond.instanceMethod ({ cls := "OathButtons", name := "keep", desc := "(II)I" } : Jvm.MethodName)) ∈ lw_all := lw_g (lw_at lw_m5 136 rfl) rfl
theorem q1213 : (Jvm.Cond.selects "OathButtons" ({ cls := "OathButtons", name := "keep", desc := "(II)I" } : Jvm.MethodName) ({ cls := "OathButtons", name := "keep", desc := "(II)I" } : Jvm.MethodName)) ∈ lw_all := lw_g (lw_at lw_m5 137 rfl) rfl
theorem q1214 : (Jvm.Cond.code ({ cls := "OathButtons", name := "keep", desc := "(II)I" } : Jvm.MethodName) prog_1_method_32_code (3 : Nat) (Option.some Jvm.ClassFile.FieldType.int)) ∈ lw_all := lw_g (lw_at lw_m5 138 rfl) rfl
theorem q1215 : (Jvm.Cond.methodLink "OathButtons" (248 : Nat) ({ cls := "OathButtons$Orders", name := "lay", desc := "(II)V" } : Jvm.MethodName)) ∈ lw_all := lw_g (lw_at lw_m5 139 rfl) rfl
theorem q1232 : (Jvm.Cond.static ({ cls := "OathButtons", name := "has", desc := "(II)Z" } : Jvm.MethodName)) ∈ lw_all := lw_g (lw_at lw_m5 156 rfl) rfl
theorem q1233 : (Jvm.Cond.code ({ cls := "OathButtons", name := "has", desc := "(II)Z" } : Jvm.MethodName) prog_1_method_2_code (2 : Nat) (Option.some Jvm.ClassFile.FieldType.boolean)) ∈ lw_all := lw_g (lw_at lw_m5 157 rfl) rfl
theorem q1242 : (Jvm.Cond.methodLink "OathButtons" (258 : Nat) ({ cls := "OathButtons", name := "show", desc := "([II)V" } : Jvm.MethodName)) ∈ lw_all := lw_g (lw_at lw_m5 166 rfl) rfl
theorem q1243 : (Jvm.Cond.privateMethod ({ cls := "OathButtons", name := "show", desc := "([II)V" } : Jvm.MethodName)) ∈ lw_tbl := lw_at lw_m5 167 rfl
theorem q1244 : (Jvm.Cond.instanceMethod ({ cls := "OathButtons", name := "show", desc := "([II)V" } : Jvm.MethodName)) ∈ lw_all := lw_g (lw_at lw_m5 168 rfl) rfl
theorem q1245 : (Jvm.Cond.code ({ cls := "OathButtons", name := "show", desc := "([II)V" } : Jvm.MethodName) prog_1_method_31_code (3 : Nat) (Option.none : Option Jvm.ClassFile.FieldType)) ∈ lw_all := lw_g (lw_at lw_m5 169 rfl) rfl
theorem q1246 : (Jvm.Cond.methodLink "OathButtons" (242 : Nat) ({ cls := "java/lang/System", name := "arraycopy", desc := "(Ljava/lang/Object;ILjava/lang/Object;II)V" } : Jvm.MethodName)) ∈ lw_all := lw_g (lw_at lw_m5 170 rfl) rfl
theorem q1248 : (Jvm.Cond.instanceMethod ({ cls := "OathButtons", name := "rest", desc := "(I)I" } : Jvm.MethodName)) ∈ lw_all := lw_g (lw_at lw_m5 172 rfl) rfl
theorem q1249 : (Jvm.Cond.selects "OathButtons" ({ cls := "OathButtons", name := "rest", desc := "(I)I" } : Jvm.MethodName) ({ cls := "OathButtons", name := "rest", desc := "(I)I" } : Jvm.MethodName)) ∈ lw_all := lw_g (lw_at lw_m5 173 rfl) rfl
theorem q1250 : (Jvm.Cond.code ({ cls := "OathButtons", name := "rest", desc := "(I)I" } : Jvm.MethodName) prog_1_method_33_code (4 : Nat) (Option.some Jvm.ClassFile.FieldType.int)) ∈ lw_all := lw_g (lw_at lw_m5 174 rfl) rfl
theorem q1252 : (Jvm.Cond.instanceMethod ({ cls := "OathButtons", name := "ties", desc := "(II)I" } : Jvm.MethodName)) ∈ lw_all := lw_g (lw_at lw_m5 176 rfl) rfl
theorem q1253 : (Jvm.Cond.selects "OathButtons" ({ cls := "OathButtons", name := "ties", desc := "(II)I" } : Jvm.MethodName) ({ cls := "OathButtons", name := "ties", desc := "(II)I" } : Jvm.MethodName)) ∈ lw_all := lw_g (lw_at lw_m5 177 rfl) rfl
theorem q1254 : (Jvm.Cond.code ({ cls := "OathButtons", name := "ties", desc := "(II)I" } : Jvm.MethodName) prog_1_method_34_code (5 : Nat) (Option.some Jvm.ClassFile.FieldType.int)) ∈ lw_all := lw_g (lw_at lw_m5 178 rfl) rfl
theorem q1256 : (Jvm.Cond.instanceMethod ({ cls := "OathButtons", name := "clash", desc := "(II)I" } : Jvm.MethodName)) ∈ lw_all := lw_g (lw_at lw_m5 180 rfl) rfl
theorem q1257 : (Jvm.Cond.selects "OathButtons" ({ cls := "OathButtons", name := "clash", desc := "(II)I" } : Jvm.MethodName) ({ cls := "OathButtons", name := "clash", desc := "(II)I" } : Jvm.MethodName)) ∈ lw_all := lw_g (lw_at lw_m5 181 rfl) rfl
theorem q1258 : (Jvm.Cond.code ({ cls := "OathButtons", name := "clash", desc := "(II)I" } : Jvm.MethodName) prog_1_method_36_code (6 : Nat) (Option.some Jvm.ClassFile.FieldType.int)) ∈ lw_all := lw_g (lw_at lw_m5 182 rfl) rfl
theorem q1259 : (Jvm.Cond.methodLink "OathButtons" (270 : Nat) ({ cls := "OathButtons", name := "promisesOf", desc := "(I)I" } : Jvm.MethodName)) ∈ lw_all := lw_g (lw_at lw_m5 183 rfl) rfl
theorem q1260 : (Jvm.Cond.privateMethod ({ cls := "OathButtons", name := "promisesOf", desc := "(I)I" } : Jvm.MethodName)) ∈ lw_tbl := lw_at lw_m5 184 rfl
theorem q1261 : (Jvm.Cond.instanceMethod ({ cls := "OathButtons", name := "promisesOf", desc := "(I)I" } : Jvm.MethodName)) ∈ lw_all := lw_g (lw_at lw_m5 185 rfl) rfl
theorem q1262 : (Jvm.Cond.code ({ cls := "OathButtons", name := "promisesOf", desc := "(I)I" } : Jvm.MethodName) prog_1_method_35_code (4 : Nat) (Option.some Jvm.ClassFile.FieldType.int)) ∈ lw_all := lw_g (lw_at lw_m5 186 rfl) rfl
theorem q1263 : (Jvm.Cond.methodLink "OathButtons" (274 : Nat) ({ cls := "java/lang/Intege\x72", name := "bitCount", desc := "(I)I" } : Jvm.MethodName)) ∈ lw_all := lw_g (lw_at lw_m5 187 rfl) rfl
theorem q1264 : (Jvm.Cond.methodLink "OathButtons" (279 : Nat) ({ cls := "OathButtons$Orders", name := "canKeep", desc := "(I)Z" } : Jvm.MethodName)) ∈ lw_all := lw_g (lw_at lw_m5 188 rfl) rfl
theorem q1269 : (Jvm.Cond.instanceMethod ({ cls := "OathButtons", name := "leave", desc := "(II)I" } : Jvm.MethodName)) ∈ lw_all := lw_g (lw_at lw_m5 193 rfl) rfl
theorem q1270 : (Jvm.Cond.selects "OathButtons" ({ cls := "OathButtons", name := "leave", desc := "(II)I" } : Jvm.MethodName) ({ cls := "OathButtons", name := "leave", desc := "(II)I" } : Jvm.MethodName)) ∈ lw_all := lw_g (lw_at lw_m5 194 rfl) rfl
theorem q1271 : (Jvm.Cond.code ({ cls := "OathButtons", name := "leave", desc := "(II)I" } : Jvm.MethodName) prog_1_method_38_code (5 : Nat) (Option.some Jvm.ClassFile.FieldType.int)) ∈ lw_all := lw_g (lw_at lw_m5 195 rfl) rfl
theorem q1272 : (Jvm.Cond.methodLink "OathButtons" (286 : Nat) ({ cls := "OathButtons", name := "leaveSet", desc := "(II)I" } : Jvm.MethodName)) ∈ lw_all := lw_g (lw_at lw_m5 196 rfl) rfl
theorem q1273 : (Jvm.Cond.privateMethod ({ cls := "OathButtons", name := "leaveSet", desc := "(II)I" } : Jvm.MethodName)) ∈ lw_tbl := lw_at lw_m5 197 rfl
theorem q1274 : (Jvm.Cond.instanceMethod ({ cls := "OathButtons", name := "leaveSet", desc := "(II)I" } : Jvm.MethodName)) ∈ lw_all := lw_g (lw_at lw_m5 198 rfl) rfl
theorem q1275 : (Jvm.Cond.code ({ cls := "OathButtons", name := "leaveSet", desc := "(II)I" } : Jvm.MethodName) prog_1_method_37_code (6 : Nat) (Option.some Jvm.ClassFile.FieldType.int)) ∈ lw_all := lw_g (lw_at lw_m5 199 rfl) rfl
theorem q1276 : (Jvm.Cond.methodLink "OathButtons" (282 : Nat) ({ cls := "OathButtons", name := "has", desc := "(II)Z" } : Jvm.MethodName)) ∈ lw_all := lw_g (lw_at lw_m5 200 rfl) rfl
theorem q1278 : (Jvm.Cond.instanceMethod ({ cls := "OathButtons", name := "asked", desc := "(II)I" } : Jvm.MethodName)) ∈ lw_all := lw_g (lw_at lw_m5 202 rfl) rfl
theorem q1279 : (Jvm.Cond.selects "OathButtons" ({ cls := "OathButtons", name := "asked", desc := "(II)I" } : Jvm.MethodName) ({ cls := "OathButtons", name := "asked", desc := "(II)I" } : Jvm.MethodName)) ∈ lw_all := lw_g (lw_at lw_m5 203 rfl) rfl
theorem q1280 : (Jvm.Cond.code ({ cls := "OathButtons", name := "asked", desc := "(II)I" } : Jvm.MethodName) prog_1_method_39_code (6 : Nat) (Option.some Jvm.ClassFile.FieldType.int)) ∈ lw_all := lw_g (lw_at lw_m5 204 rfl) rfl
theorem q1282 : (Jvm.Cond.instanceMethod ({ cls := "OathButtons", name := "holds", desc := "(III)I" } : Jvm.MethodName)) ∈ lw_all := lw_g (lw_at lw_m5 206 rfl) rfl
theorem q1283 : (Jvm.Cond.selects "OathButtons" ({ cls := "OathButtons", name := "holds", desc := "(III)I" } : Jvm.MethodName) ({ cls := "OathButtons", name := "holds", desc := "(III)I" } : Jvm.MethodName)) ∈ lw_all := lw_g (lw_at lw_m5 207 rfl) rfl
theorem q1284 : (Jvm.Cond.code ({ cls := "OathButtons", name := "holds", desc := "(III)I" } : Jvm.MethodName) prog_1_method_40_code (6 : Nat) (Option.some Jvm.ClassFile.FieldType.int)) ∈ lw_all := lw_g (lw_at lw_m5 208 rfl) rfl
theorem q1285 : (Jvm.Cond.methodLink "OathButtons" (290 : Nat) ({ cls := "OathButtons$Regiment", name := "wears", desc := "(IIII)I" } : Jvm.MethodName)) ∈ lw_all := lw_g (lw_at lw_m5 209 rfl) rfl
theorem q1287 : (Jvm.Cond.instanceMethod ({ cls := "OathButtons", name := "odds", desc := "(III)J" } : Jvm.MethodName)) ∈ lw_all := lw_g (lw_at lw_m5 211 rfl) rfl
theorem q1288 : (Jvm.Cond.selects "OathButtons" ({ cls := "OathButtons", name := "odds", desc := "(III)J" } : Jvm.MethodName) ({ cls := "OathButtons", name := "odds", desc := "(III)J" } : Jvm.MethodName)) ∈ lw_all := lw_g (lw_at lw_m5 212 rfl) rfl
theorem q1289 : (Jvm.Cond.code ({ cls := "OathButtons", name := "odds", desc := "(III)J" } : Jvm.MethodName) prog_1_method_42_code (9 : Nat) (Option.some Jvm.ClassFile.FieldType.long)) ∈ lw_all := lw_g (lw_at lw_m5 213 rfl) rfl
theorem q1290 : (Jvm.Cond.constantLong "OathButtons" (298 : Nat) (-1 : Int64)) ∈ lw_all := lw_g (lw_at lw_m5 214 rfl) rfl
theorem q1291 : (Jvm.Cond.constantLong "OathButtons" (303 : Nat) (100 : Int64)) ∈ lw_all := lw_g (lw_at lw_m5 215 rfl) rfl
theorem q1292 : (Jvm.Cond.methodLink "OathButtons" (294 : Nat) ({ cls := "OathButtons", name := "common", desc := "(JJ)J" } : Jvm.MethodName)) ∈ lw_all := lw_g (lw_at lw_m5 216 rfl) rfl
theorem q1293 : (Jvm.Cond.static ({ cls := "OathButtons", name := "common", desc := "(JJ)J" } : Jvm.MethodName)) ∈ lw_all := lw_g (lw_at lw_m5 217 rfl) rfl
theorem q1294 : (Jvm.Cond.code ({ cls := "OathButtons", name := "common", desc := "(JJ)J" } : Jvm.MethodName) prog_1_method_41_code (4 : Nat) (Option.some Jvm.ClassFile.FieldType.long)) ∈ lw_all := lw_g (lw_at lw_m5 218 rfl) rfl
theorem q1296 : (Jvm.Cond.instanceMethod ({ cls := "OathButtons", name := "first", desc := "(I)I" } : Jvm.MethodName)) ∈ lw_all := lw_g (lw_at lw_m5 220 rfl) rfl
theorem q1297 : (Jvm.Cond.selects "OathButtons" ({ cls := "OathButtons", name := "first", desc := "(I)I" } : Jvm.MethodName) ({ cls := "OathButtons", name := "first", desc := "(I)I" } : Jvm.MethodName)) ∈ lw_all := lw_g (lw_at lw_m5 221 rfl) rfl
theorem q1298 : (Jvm.Cond.code ({ cls := "OathButtons", name := "first", desc := "(I)I" } : Jvm.MethodName) prog_1_method_43_code (4 : Nat) (Option.some Jvm.ClassFile.FieldType.int)) ∈ lw_all := lw_g (lw_at lw_m5 222 rfl) rfl
theorem q1299 : (Jvm.Cond.methodLink "OathButtons" (305 : Nat) ({ cls := "OathButtons", name := "holds", desc := "(III)I" } : Jvm.MethodName)) ∈ lw_all := lw_g (lw_at lw_m5 223 rfl) rfl
theorem q1301 : (Jvm.Cond.instanceMethod ({ cls := "OathButtons", name := "will", desc := "(II)I" } : Jvm.MethodName)) ∈ lw_all := lw_g (lw_at lw_m5 225 rfl) rfl
theorem q1302 : (Jvm.Cond.selects "OathButtons" ({ cls := "OathButtons", name := "will", desc := "(II)I" } : Jvm.MethodName) ({ cls := "OathButtons", name := "will", desc := "(II)I" } : Jvm.MethodName)) ∈ lw_all := lw_g (lw_at lw_m5 226 rfl) rfl
theorem q1303 : (Jvm.Cond.code ({ cls := "OathButtons", name := "will", desc := "(II)I" } : Jvm.MethodName) prog_1_method_44_code (4 : Nat) (Option.some Jvm.ClassFile.FieldType.int)) ∈ lw_all := lw_g (lw_at lw_m5 227 rfl) rfl
theorem q1305 : (Jvm.Cond.instanceMethod ({ cls := "OathButtons", name := "truce", desc := "()I" } : Jvm.MethodName)) ∈ lw_all := lw_g (lw_at lw_m5 229 rfl) rfl
theorem q1306 : (Jvm.Cond.selects "OathButtons" ({ cls := "OathButtons", name := "truce", desc := "()I" } : Jvm.MethodName) ({ cls := "OathButtons", name := "truce", desc := "()I" } : Jvm.MethodName)) ∈ lw_all := lw_g (lw_at lw_m5 230 rfl) rfl
theorem q1307 : (Jvm.Cond.code ({ cls := "OathButtons", name := "truce", desc := "()I" } : Jvm.MethodName) prog_1_method_45_code (1 : Nat) (Option.some Jvm.ClassFile.FieldType.int)) ∈ lw_all := lw_g (lw_at lw_m5 231 rfl) rfl
theorem q1308 : (Jvm.Cond.methodLink "OathButtons" (309 : Nat) ({ cls := "OathButtons$Best", name := "lay", desc := "()I" } : Jvm.MethodName)) ∈ lw_all := lw_g (lw_at lw_m5 232 rfl) rfl
theorem q1345 : (Jvm.Cond.instanceMethod ({ cls := "OathButtons", name := "calm", desc := "()I" } : Jvm.MethodName)) ∈ lw_all := lw_g (lw_at lw_m6 29 rfl) rfl
theorem q1346 : (Jvm.Cond.selects "OathButtons" ({ cls := "OathButtons", name := "calm", desc := "()I" } : Jvm.MethodName) ({ cls := "OathButtons", name := "calm", desc := "()I" } : Jvm.MethodName)) ∈ lw_all := lw_g (lw_at lw_m6 30 rfl) rfl
theorem q1347 : (Jvm.Cond.code ({ cls := "OathButtons", name := "calm", desc := "()I" } : Jvm.MethodName) prog_1_method_46_code (1 : Nat) (Option.some Jvm.ClassFile.FieldType.int)) ∈ lw_all := lw_g (lw_at lw_m6 31 rfl) rfl
theorem q1348 : (Jvm.Cond.methodLink "OathButtons" (311 : Nat) ({ cls := "OathButtons$Calm", name := "lay", desc := "()I" } : Jvm.MethodName)) ∈ lw_all := lw_g (lw_at lw_m6 32 rfl) rfl
theorem q1356 : (Jvm.Cond.instanceMethod ({ cls := "OathButtons", name := "likes", desc := "(II)I" } : Jvm.MethodName)) ∈ lw_all := lw_g (lw_at lw_m6 40 rfl) rfl
theorem q1357 : (Jvm.Cond.selects "OathButtons" ({ cls := "OathButtons", name := "likes", desc := "(II)I" } : Jvm.MethodName) ({ cls := "OathButtons", name := "likes", desc := "(II)I" } : Jvm.MethodName)) ∈ lw_all := lw_g (lw_at lw_m6 41 rfl) rfl
theorem q1358 : (Jvm.Cond.code ({ cls := "OathButtons", name := "likes", desc := "(II)I" } : Jvm.MethodName) prog_1_method_47_code (3 : Nat) (Option.some Jvm.ClassFile.FieldType.int)) ∈ lw_all := lw_g (lw_at lw_m6 42 rfl) rfl
theorem q1359 : (Jvm.Cond.methodLink "OathButtons" (312 : Nat) ({ cls := "OathButtons$Regiment", name := "likesOf", desc := "(II)I" } : Jvm.MethodName)) ∈ lw_all := lw_g (lw_at lw_m6 43 rfl) rfl
theorem q1361 : (Jvm.Cond.instanceMethod ({ cls := "OathButtons", name := "tug", desc := "(IIZ)I" } : Jvm.MethodName)) ∈ lw_all := lw_g (lw_at lw_m6 45 rfl) rfl
theorem q1362 : (Jvm.Cond.selects "OathButtons" ({ cls := "OathButtons", name := "tug", desc := "(IIZ)I" } : Jvm.MethodName) ({ cls := "OathButtons", name := "tug", desc := "(IIZ)I" } : Jvm.MethodName)) ∈ lw_all := lw_g (lw_at lw_m6 46 rfl) rfl
theorem q1363 : (Jvm.Cond.code ({ cls := "OathButtons", name := "tug", desc := "(IIZ)I" } : Jvm.MethodName) prog_1_method_48_code (4 : Nat) (Option.some Jvm.ClassFile.FieldType.int)) ∈ lw_all := lw_g (lw_at lw_m6 47 rfl) rfl
theorem q1364 : (Jvm.Cond.classLink "OathButtons" (315 : Nat) "OathButtons$Tug") ∈ lw_all := lw_g (lw_at lw_m6 48 rfl) rfl
theorem q1366 : (Jvm.Cond.methodLink "OathButtons" (320 : Nat) ({ cls := "OathButtons$Tug", name := "<init>", desc := "(IIZI)V" } : Jvm.MethodName)) ∈ lw_all := lw_g (lw_at lw_m6 50 rfl) rfl
theorem q1375 : (Jvm.Cond.fieldLinkNest "OathButtons" (323 : Nat) "OathButtons$Tug" "untold" "I" "OathButtons") ∈ lw_tbl := lw_at lw_m6 59 rfl
theorem q1388 : (Jvm.Cond.instanceMethod ({ cls := "OathButtons", name := "untell", desc := "(I)Z" } : Jvm.MethodName)) ∈ lw_all := lw_g (lw_at lw_m6 72 rfl) rfl
theorem q1389 : (Jvm.Cond.selects "OathButtons" ({ cls := "OathButtons", name := "untell", desc := "(I)Z" } : Jvm.MethodName) ({ cls := "OathButtons", name := "untell", desc := "(I)Z" } : Jvm.MethodName)) ∈ lw_all := lw_g (lw_at lw_m6 73 rfl) rfl
theorem q1390 : (Jvm.Cond.code ({ cls := "OathButtons", name := "untell", desc := "(I)Z" } : Jvm.MethodName) prog_1_method_49_code (2 : Nat) (Option.some Jvm.ClassFile.FieldType.boolean)) ∈ lw_all := lw_g (lw_at lw_m6 74 rfl) rfl
theorem q1392 : (Jvm.Cond.instanceMethod ({ cls := "OathButtons", name := "late\x72", desc := "(I)I" } : Jvm.MethodName)) ∈ lw_all := lw_g (lw_at lw_m6 76 rfl) rfl
theorem q1393 : (Jvm.Cond.selects "OathButtons" ({ cls := "OathButtons", name := "late\x72", desc := "(I)I" } : Jvm.MethodName) ({ cls := "OathButtons", name := "late\x72", desc := "(I)I" } : Jvm.MethodName)) ∈ lw_all := lw_g (lw_at lw_m6 77 rfl) rfl
theorem q1394 : (Jvm.Cond.code ({ cls := "OathButtons", name := "late\x72", desc := "(I)I" } : Jvm.MethodName) prog_1_method_50_code (2 : Nat) (Option.some Jvm.ClassFile.FieldType.int)) ∈ lw_all := lw_g (lw_at lw_m6 78 rfl) rfl
theorem q1395 : (Jvm.Cond.constant "OathButtons" (326 : Nat) (100000 : Int32)) ∈ lw_all := lw_g (lw_at lw_m6 79 rfl) rfl
theorem q1397 : (Jvm.Cond.instanceMethod ({ cls := "OathButtons", name := "swore", desc := "(I)I" } : Jvm.MethodName)) ∈ lw_all := lw_g (lw_at lw_m6 81 rfl) rfl
theorem q1398 : (Jvm.Cond.selects "OathButtons" ({ cls := "OathButtons", name := "swore", desc := "(I)I" } : Jvm.MethodName) ({ cls := "OathButtons", name := "swore", desc := "(I)I" } : Jvm.MethodName)) ∈ lw_all := lw_g (lw_at lw_m6 82 rfl) rfl
theorem q1399 : (Jvm.Cond.code ({ cls := "OathButtons", name := "swore", desc := "(I)I" } : Jvm.MethodName) prog_1_method_51_code (6 : Nat) (Option.some Jvm.ClassFile.FieldType.int)) ∈ lw_all := lw_g (lw_at lw_m6 83 rfl) rfl
theorem q1400 : (Jvm.Cond.classLink "OathButtons" (327 : Nat) "OathButtons$Man") ∈ lw_all := lw_g (lw_at lw_m6 84 rfl) rfl
theorem q1401 : (Jvm.Cond.methodLink "OathButtons" (329 : Nat) ({ cls := "OathButtons$Tug", name := "isSo", desc := "(LOathButtons$Man;I)Z" } : Jvm.MethodName)) ∈ lw_all := lw_g (lw_at lw_m6 85 rfl) rfl
theorem q1410 : (Jvm.Cond.instanceMethod ({ cls := "OathButtons", name := "ask", desc := "(II)I" } : Jvm.MethodName)) ∈ lw_all := lw_g (lw_at lw_m6 94 rfl) rfl
theorem q1411 : (Jvm.Cond.selects "OathButtons" ({ cls := "OathButtons", name := "ask", desc := "(II)I" } : Jvm.MethodName) ({ cls := "OathButtons", name := "ask", desc := "(II)I" } : Jvm.MethodName)) ∈ lw_all := lw_g (lw_at lw_m6 95 rfl) rfl
theorem q1412 : (Jvm.Cond.code ({ cls := "OathButtons", name := "ask", desc := "(II)I" } : Jvm.MethodName) prog_1_method_53_code (6 : Nat) (Option.some Jvm.ClassFile.FieldType.int)) ∈ lw_all := lw_g (lw_at lw_m6 96 rfl) rfl
theorem q1413 : (Jvm.Cond.methodLink "OathButtons" (341 : Nat) ({ cls := "OathButtons", name := "swore", desc := "(I)I" } : Jvm.MethodName)) ∈ lw_all := lw_g (lw_at lw_m6 97 rfl) rfl
theorem q1414 : (Jvm.Cond.methodLink "OathButtons" (344 : Nat) ({ cls := "OathButtons", name := "mostLeft", desc := "(II)I" } : Jvm.MethodName)) ∈ lw_all := lw_g (lw_at lw_m6 98 rfl) rfl
theorem q1415 : (Jvm.Cond.privateMethod ({ cls := "OathButtons", name := "mostLeft", desc := "(II)I" } : Jvm.MethodName)) ∈ lw_tbl := lw_at lw_m6 99 rfl
theorem q1416 : (Jvm.Cond.instanceMethod ({ cls := "OathButtons", name := "mostLeft", desc := "(II)I" } : Jvm.MethodName)) ∈ lw_all := lw_g (lw_at lw_m6 100 rfl) rfl
theorem q1417 : (Jvm.Cond.code ({ cls := "OathButtons", name := "mostLeft", desc := "(II)I" } : Jvm.MethodName) prog_1_method_52_code (7 : Nat) (Option.some Jvm.ClassFile.FieldType.int)) ∈ lw_all := lw_g (lw_at lw_m6 101 rfl) rfl
theorem q1418 : (Jvm.Cond.methodLink "OathButtons" (333 : Nat) ({ cls := "OathButtons$Man", name := "trait", desc := "(I)I" } : Jvm.MethodName)) ∈ lw_all := lw_g (lw_at lw_m6 102 rfl) rfl
theorem q1419 : (Jvm.Cond.methodLink "OathButtons" (336 : Nat) ({ cls := "java/lang/Math", name := "max", desc := "(II)I" } : Jvm.MethodName)) ∈ lw_all := lw_g (lw_at lw_m6 103 rfl) rfl
theorem q1421 : (Jvm.Cond.instanceMethod ({ cls := "OathButtons", name := "image", desc := "(I)I" } : Jvm.MethodName)) ∈ lw_all := lw_g (lw_at lw_m6 105 rfl) rfl
theorem q1422 : (Jvm.Cond.selects "OathButtons" ({ cls := "OathButtons", name := "image", desc := "(I)I" } : Jvm.MethodName) ({ cls := "OathButtons", name := "image", desc := "(I)I" } : Jvm.MethodName)) ∈ lw_all := lw_g (lw_at lw_m6 106 rfl) rfl
theorem q1423 : (Jvm.Cond.code ({ cls := "OathButtons", name := "image", desc := "(I)I" } : Jvm.MethodName) prog_1_method_54_code (2 : Nat) (Option.some Jvm.ClassFile.FieldType.int)) ∈ lw_all := lw_g (lw_at lw_m6 107 rfl) rfl
theorem q1425 : (Jvm.Cond.instanceMethod ({ cls := "OathButtons", name := "back", desc := "(I)I" } : Jvm.MethodName)) ∈ lw_all := lw_g (lw_at lw_m6 109 rfl) rfl
theorem q1426 : (Jvm.Cond.selects "OathButtons" ({ cls := "OathButtons", name := "back", desc := "(I)I" } : Jvm.MethodName) ({ cls := "OathButtons", name := "back", desc := "(I)I" } : Jvm.MethodName)) ∈ lw_all := lw_g (lw_at lw_m6 110 rfl) rfl
theorem q1427 : (Jvm.Cond.code ({ cls := "OathButtons", name := "back", desc := "(I)I" } : Jvm.MethodName) prog_1_method_55_code (2 : Nat) (Option.some Jvm.ClassFile.FieldType.int)) ∈ lw_all := lw_g (lw_at lw_m6 111 rfl) rfl
theorem q1429 : (Jvm.Cond.instanceMethod ({ cls := "OathButtons", name := "about", desc := "(I)I" } : Jvm.MethodName)) ∈ lw_all := lw_g (lw_at lw_m6 113 rfl) rfl
theorem q1430 : (Jvm.Cond.selects "OathButtons" ({ cls := "OathButtons", name := "about", desc := "(I)I" } : Jvm.MethodName) ({ cls := "OathButtons", name := "about", desc := "(I)I" } : Jvm.MethodName)) ∈ lw_all := lw_g (lw_at lw_m6 114 rfl) rfl
theorem q1431 : (Jvm.Cond.code ({ cls := "OathButtons", name := "about", desc := "(I)I" } : Jvm.MethodName) prog_1_method_56_code (2 : Nat) (Option.some Jvm.ClassFile.FieldType.int)) ∈ lw_all := lw_g (lw_at lw_m6 115 rfl) rfl
theorem q2206 : (Jvm.Cond.castable "OathButtons" "java/lang/Object") ∈ lw_tbl := lw_at lw_m9 170 rfl
theorem in_X0 : ∀ w ∈ wsX00, w ∈ lw_all := lw_in wsX00 [513, 515, 517, 519, 521, 523, 525, 527, 529, 531, 533, 535, 537, 539, 541, 543, 545, 547, 549, 551] (by decide +kernel) (by decide +kernel)
/-! OathButtons$Regiment -/
set_option maxRecDepth 100000
def RX1 : String := "OathButtons$Regiment"
def TX1 : u_T := fun k => match k with
  | 0 => ("OathButtons$Regiment", "men", "Ljava/util/ArrayList;", true)
  | 1 => ("OathButtons$Regiment", "deeds", "Ljava/util/ArrayList;", true)
  | 2 => ("OathButtons$Regiment", "oaths", "Ljava/util/ArrayList;", true)
  | 3 => ("OathButtons$Regiment", "likes", "[I", true)
  | 4 => ("OathButtons$Regiment", "wea\x72", "LOathButtons$Part;", false)
  | 5 => ("OathButtons$Regiment", "friends", "I", false)
  | 6 => ("OathButtons$Regiment", "units", "I", false)
  | 7 => ("OathButtons$Regiment", "hours", "I", false)
  | 8 => ("OathButtons$Regiment", "storm", "I", false)
  | 9 => ("OathButtons$Regiment", "draw", "I", false)
  | 10 => ("OathButtons$Regiment", "hasHours", "Z", false)
  | 11 => ("OathButtons$Regiment", "hasStorm", "Z", false)
  | 12 => ("OathButtons$Regiment", "hasDraw", "Z", false)
  | _ => ("OathButtons$Regiment", "told", "[I", true)
def tyX1 : Nat → FieldType := fun k => match k with
  | 0 => .object "java/util/ArrayList"
  | 1 => .object "java/util/ArrayList"
  | 2 => .object "java/util/ArrayList"
  | 3 => .array .int
  | 4 => .object "OathButtons$Part"
  | 5 => .int
  | 6 => .int
  | 7 => .int
  | 8 => .int
  | 9 => .int
  | 10 => .boolean
  | 11 => .boolean
  | 12 => .boolean
  | _ => .array .int
abbrev wsX10 : List Cond := u_ws RX1 TX1 14
set_option maxRecDepth 100000 in
theorem nmX1 : ∀ a, a < 14 → ∀ b, b < 14 → a ≠ b → (TX1 a).2.1 ≠ (TX1 b).2.1 := by decide +kernel
set_option maxRecDepth 100000 in
theorem tyX1_ok : ∀ k, k < 14 → parseFieldDescriptor (TX1 k).2.2.1 = some (tyX1 k) := by decide +kernel
abbrev cX1_init : ByteArray := prog_19_method_1_code
def yX1_init : MethodName := ⟨RX1, "<init>", "()V"⟩
def dkwX1_init_3 : List UInt8 := [27, 16, 156, 79, 132, 1, 1, 167, 255, 239, 177]
abbrev dktX1_init_3 : List UInt8 := dkwX1_init_3 ++ []
def dkwX1_init_2 : List UInt8 := [16, 8, 181, 0, 28, 42, 7, 188, 10, 181, 0, 32, 3, 60, 27, 16, 36, 162, 0, 17, 42, 180, 0, 24]
abbrev dktX1_init_2 : List UInt8 := dkwX1_init_2 ++ dktX1_init_3
def dkwX1_init_1 : List UInt8 := [181, 0, 18, 42, 187, 0, 9, 89, 183, 0, 11, 181, 0, 21, 42, 16, 36, 188, 10, 181, 0, 24, 42]
abbrev dktX1_init_1 : List UInt8 := dkwX1_init_1 ++ dktX1_init_2
def dkwX1_init_0 : List UInt8 := [42, 183, 0, 3, 42, 187, 0, 9, 89, 183, 0, 11, 181, 0, 12, 42, 187, 0, 9, 89, 183, 0, 11]
abbrev dktX1_init_0 : List UInt8 := dkwX1_init_0 ++ dktX1_init_1
theorem dksX1_init_0 : cX1_init.data.toList.drop 0 = dktX1_init_0 := by decide +kernel
theorem dksX1_init_1 : cX1_init.data.toList.drop 23 = dktX1_init_1 := dk_seg dksX1_init_0 23 rfl rfl
theorem dksX1_init_2 : cX1_init.data.toList.drop 46 = dktX1_init_2 := dk_seg dksX1_init_1 23 rfl rfl
theorem dksX1_init_3 : cX1_init.data.toList.drop 70 = dktX1_init_3 := dk_seg dksX1_init_2 24 rfl rfl
theorem dX1_init_0 : decode cX1_init 0 = .ok (.aload_n 0, 1) := dk_42 (dk_at dksX1_init_0 0 rfl rfl)
theorem dX1_init_1 : decode cX1_init 1 = .ok (.invokespecial 3, 3) := dk_183 0 3 (dk_at dksX1_init_0 1 rfl rfl)
theorem dX1_init_4 : decode cX1_init 4 = .ok (.aload_n 0, 1) := dk_42 (dk_at dksX1_init_0 4 rfl rfl)
theorem dX1_init_5 : decode cX1_init 5 = .ok (.new 9, 3) := dk_187 0 9 (dk_at dksX1_init_0 5 rfl rfl)
theorem dX1_init_8 : decode cX1_init 8 = .ok (.dup, 1) := dk_89 (dk_at dksX1_init_0 8 rfl rfl)
theorem dX1_init_9 : decode cX1_init 9 = .ok (.invokespecial 11, 3) := dk_183 0 11 (dk_at dksX1_init_0 9 rfl rfl)
theorem dX1_init_12 : decode cX1_init 12 = .ok (.putfield 12, 3) := dk_181 0 12 (dk_at dksX1_init_0 12 rfl rfl)
theorem dX1_init_15 : decode cX1_init 15 = .ok (.aload_n 0, 1) := dk_42 (dk_at dksX1_init_0 15 rfl rfl)
theorem dX1_init_16 : decode cX1_init 16 = .ok (.new 9, 3) := dk_187 0 9 (dk_at dksX1_init_0 16 rfl rfl)
theorem dX1_init_19 : decode cX1_init 19 = .ok (.dup, 1) := dk_89 (dk_at dksX1_init_0 19 rfl rfl)
theorem dX1_init_20 : decode cX1_init 20 = .ok (.invokespecial 11, 3) := dk_183 0 11 (dk_at dksX1_init_0 20 rfl rfl)
theorem dX1_init_23 : decode cX1_init 23 = .ok (.putfield 18, 3) := dk_181 0 18 (dk_at dksX1_init_1 0 rfl rfl)
theorem dX1_init_26 : decode cX1_init 26 = .ok (.aload_n 0, 1) := dk_42 (dk_at dksX1_init_1 3 rfl rfl)
theorem dX1_init_27 : decode cX1_init 27 = .ok (.new 9, 3) := dk_187 0 9 (dk_at dksX1_init_1 4 rfl rfl)
theorem dX1_init_30 : decode cX1_init 30 = .ok (.dup, 1) := dk_89 (dk_at dksX1_init_1 7 rfl rfl)
theorem dX1_init_31 : decode cX1_init 31 = .ok (.invokespecial 11, 3) := dk_183 0 11 (dk_at dksX1_init_1 8 rfl rfl)
theorem dX1_init_34 : decode cX1_init 34 = .ok (.putfield 21, 3) := dk_181 0 21 (dk_at dksX1_init_1 11 rfl rfl)
theorem dX1_init_37 : decode cX1_init 37 = .ok (.aload_n 0, 1) := dk_42 (dk_at dksX1_init_1 14 rfl rfl)
theorem dX1_init_38 : decode cX1_init 38 = .ok (.bipush 36, 2) := dk_16 36 (dk_at dksX1_init_1 15 rfl rfl)
theorem dX1_init_40 : decode cX1_init 40 = .ok (.newarray .int, 2) := dk_188_10 (dk_at dksX1_init_1 17 rfl rfl)
theorem dX1_init_42 : decode cX1_init 42 = .ok (.putfield 24, 3) := dk_181 0 24 (dk_at dksX1_init_1 19 rfl rfl)
theorem dX1_init_45 : decode cX1_init 45 = .ok (.aload_n 0, 1) := dk_42 (dk_at dksX1_init_1 22 rfl rfl)
theorem dX1_init_46 : decode cX1_init 46 = .ok (.bipush 8, 2) := dk_16 8 (dk_at dksX1_init_2 0 rfl rfl)
theorem dX1_init_48 : decode cX1_init 48 = .ok (.putfield 28, 3) := dk_181 0 28 (dk_at dksX1_init_2 2 rfl rfl)
theorem dX1_init_51 : decode cX1_init 51 = .ok (.aload_n 0, 1) := dk_42 (dk_at dksX1_init_2 5 rfl rfl)
theorem dX1_init_52 : decode cX1_init 52 = .ok (.iconst 4, 1) := dk_7 (dk_at dksX1_init_2 6 rfl rfl)
theorem dX1_init_53 : decode cX1_init 53 = .ok (.newarray .int, 2) := dk_188_10 (dk_at dksX1_init_2 7 rfl rfl)
theorem dX1_init_55 : decode cX1_init 55 = .ok (.putfield 32, 3) := dk_181 0 32 (dk_at dksX1_init_2 9 rfl rfl)
theorem dX1_init_58 : decode cX1_init 58 = .ok (.iconst 0, 1) := dk_3 (dk_at dksX1_init_2 12 rfl rfl)
theorem dX1_init_59 : decode cX1_init 59 = .ok (.istore_n 1, 1) := dk_60 (dk_at dksX1_init_2 13 rfl rfl)
theorem dX1_init_60 : decode cX1_init 60 = .ok (.iload_n 1, 1) := dk_27 (dk_at dksX1_init_2 14 rfl rfl)
theorem dX1_init_61 : decode cX1_init 61 = .ok (.bipush 36, 2) := dk_16 36 (dk_at dksX1_init_2 15 rfl rfl)
theorem dX1_init_63 : decode cX1_init 63 = .ok (.if_icmp .ge 17, 3) := dk_162 0 17 (dk_at dksX1_init_2 17 rfl rfl)
theorem dX1_init_66 : decode cX1_init 66 = .ok (.aload_n 0, 1) := dk_42 (dk_at dksX1_init_2 20 rfl rfl)
theorem dX1_init_67 : decode cX1_init 67 = .ok (.getfield 24, 3) := dk_180 0 24 (dk_at dksX1_init_2 21 rfl rfl)
theorem dX1_init_70 : decode cX1_init 70 = .ok (.iload_n 1, 1) := dk_27 (dk_at dksX1_init_3 0 rfl rfl)
theorem dX1_init_71 : decode cX1_init 71 = .ok (.bipush (-100), 2) := dk_16 156 (dk_at dksX1_init_3 1 rfl rfl)
theorem dX1_init_73 : decode cX1_init 73 = .ok (.iastore, 1) := dk_79 (dk_at dksX1_init_3 3 rfl rfl)
theorem dX1_init_74 : decode cX1_init 74 = .ok (.iinc 1 1, 3) := dk_132 1 1 (dk_at dksX1_init_3 4 rfl rfl)
theorem dX1_init_77 : decode cX1_init 77 = .ok (.goto (-17), 3) := dk_167 255 239 (dk_at dksX1_init_3 7 rfl rfl)
theorem dX1_init_80 : decode cX1_init 80 = .ok (.return_, 1) := dk_177 (dk_at dksX1_init_3 10 rfl rfl)
abbrev cX1_likesOf : ByteArray := prog_19_method_3_code
def yX1_likesOf : MethodName := ⟨RX1, "likesOf", "(II)I"⟩
def dkwX1_likesOf_0 : List UInt8 := [42, 180, 0, 24, 16, 6, 27, 104, 28, 96, 46, 172]
abbrev dktX1_likesOf_0 : List UInt8 := dkwX1_likesOf_0 ++ []
theorem dksX1_likesOf_0 : cX1_likesOf.data.toList.drop 0 = dktX1_likesOf_0 := by decide +kernel
theorem dX1_likesOf_0 : decode cX1_likesOf 0 = .ok (.aload_n 0, 1) := dk_42 (dk_at dksX1_likesOf_0 0 rfl rfl)
theorem dX1_likesOf_1 : decode cX1_likesOf 1 = .ok (.getfield 24, 3) := dk_180 0 24 (dk_at dksX1_likesOf_0 1 rfl rfl)
theorem dX1_likesOf_4 : decode cX1_likesOf 4 = .ok (.bipush 6, 2) := dk_16 6 (dk_at dksX1_likesOf_0 4 rfl rfl)
theorem dX1_likesOf_6 : decode cX1_likesOf 6 = .ok (.iload_n 1, 1) := dk_27 (dk_at dksX1_likesOf_0 6 rfl rfl)
theorem dX1_likesOf_7 : decode cX1_likesOf 7 = .ok (.imul, 1) := dk_104 (dk_at dksX1_likesOf_0 7 rfl rfl)
theorem dX1_likesOf_8 : decode cX1_likesOf 8 = .ok (.iload_n 2, 1) := dk_28 (dk_at dksX1_likesOf_0 8 rfl rfl)
theorem dX1_likesOf_9 : decode cX1_likesOf 9 = .ok (.iadd, 1) := dk_96 (dk_at dksX1_likesOf_0 9 rfl rfl)
theorem dX1_likesOf_10 : decode cX1_likesOf 10 = .ok (.iaload, 1) := dk_46 (dk_at dksX1_likesOf_0 10 rfl rfl)
theorem dX1_likesOf_11 : decode cX1_likesOf 11 = .ok (.ireturn, 1) := dk_172 (dk_at dksX1_likesOf_0 11 rfl rfl)
abbrev cX1_wears : ByteArray := prog_19_method_2_code
def yX1_wears : MethodName := ⟨RX1, "wears", "(IIII)I"⟩
def dkwX1_wears_3 : List UInt8 := [42, 180, 0, 35, 42, 180, 0, 32, 182, 0, 59, 184, 0, 39, 184, 0, 65, 172]
abbrev dktX1_wears_3 : List UInt8 := dkwX1_wears_3 ++ []
def dkwX1_wears_2 : List UInt8 := [192, 0, 54, 180, 0, 56, 79, 42, 180, 0, 32, 5, 29, 79, 42, 180, 0, 32, 6, 21, 4, 79, 3, 28]
abbrev dktX1_wears_2 : List UInt8 := dkwX1_wears_2 ++ dktX1_wears_3
def dkwX1_wears_1 : List UInt8 := [4, 42, 180, 0, 12, 42, 180, 0, 21, 27, 182, 0, 45, 192, 0, 49, 180, 0, 51, 182, 0, 45]
abbrev dktX1_wears_1 : List UInt8 := dkwX1_wears_1 ++ dktX1_wears_2
def dkwX1_wears_0 : List UInt8 := [42, 180, 0, 35, 199, 0, 9, 4, 28, 184, 0, 39, 172, 42, 180, 0, 32, 3, 28, 79, 42, 180, 0, 32]
abbrev dktX1_wears_0 : List UInt8 := dkwX1_wears_0 ++ dktX1_wears_1
theorem dksX1_wears_0 : cX1_wears.data.toList.drop 0 = dktX1_wears_0 := by decide +kernel
theorem dksX1_wears_1 : cX1_wears.data.toList.drop 24 = dktX1_wears_1 := dk_seg dksX1_wears_0 24 rfl rfl
theorem dksX1_wears_2 : cX1_wears.data.toList.drop 46 = dktX1_wears_2 := dk_seg dksX1_wears_1 22 rfl rfl
theorem dksX1_wears_3 : cX1_wears.data.toList.drop 70 = dktX1_wears_3 := dk_seg dksX1_wears_2 24 rfl rfl
theorem dX1_wears_0 : decode cX1_wears 0 = .ok (.aload_n 0, 1) := dk_42 (dk_at dksX1_wears_0 0 rfl rfl)
theorem dX1_wears_1 : decode cX1_wears 1 = .ok (.getfield 35, 3) := dk_180 0 35 (dk_at dksX1_wears_0 1 rfl rfl)
theorem dX1_wears_4 : decode cX1_wears 4 = .ok (.ifnonnull 9, 3) := dk_199 0 9 (dk_at dksX1_wears_0 4 rfl rfl)
theorem dX1_wears_7 : decode cX1_wears 7 = .ok (.iconst 1, 1) := dk_4 (dk_at dksX1_wears_0 7 rfl rfl)
theorem dX1_wears_8 : decode cX1_wears 8 = .ok (.iload_n 2, 1) := dk_28 (dk_at dksX1_wears_0 8 rfl rfl)
theorem dX1_wears_9 : decode cX1_wears 9 = .ok (.invokestatic 39, 3) := dk_184 0 39 (dk_at dksX1_wears_0 9 rfl rfl)
theorem dX1_wears_12 : decode cX1_wears 12 = .ok (.ireturn, 1) := dk_172 (dk_at dksX1_wears_0 12 rfl rfl)
theorem dX1_wears_13 : decode cX1_wears 13 = .ok (.aload_n 0, 1) := dk_42 (dk_at dksX1_wears_0 13 rfl rfl)
theorem dX1_wears_14 : decode cX1_wears 14 = .ok (.getfield 32, 3) := dk_180 0 32 (dk_at dksX1_wears_0 14 rfl rfl)
theorem dX1_wears_17 : decode cX1_wears 17 = .ok (.iconst 0, 1) := dk_3 (dk_at dksX1_wears_0 17 rfl rfl)
theorem dX1_wears_18 : decode cX1_wears 18 = .ok (.iload_n 2, 1) := dk_28 (dk_at dksX1_wears_0 18 rfl rfl)
theorem dX1_wears_19 : decode cX1_wears 19 = .ok (.iastore, 1) := dk_79 (dk_at dksX1_wears_0 19 rfl rfl)
theorem dX1_wears_20 : decode cX1_wears 20 = .ok (.aload_n 0, 1) := dk_42 (dk_at dksX1_wears_0 20 rfl rfl)
theorem dX1_wears_21 : decode cX1_wears 21 = .ok (.getfield 32, 3) := dk_180 0 32 (dk_at dksX1_wears_0 21 rfl rfl)
theorem dX1_wears_24 : decode cX1_wears 24 = .ok (.iconst 1, 1) := dk_4 (dk_at dksX1_wears_1 0 rfl rfl)
theorem dX1_wears_25 : decode cX1_wears 25 = .ok (.aload_n 0, 1) := dk_42 (dk_at dksX1_wears_1 1 rfl rfl)
theorem dX1_wears_26 : decode cX1_wears 26 = .ok (.getfield 12, 3) := dk_180 0 12 (dk_at dksX1_wears_1 2 rfl rfl)
theorem dX1_wears_29 : decode cX1_wears 29 = .ok (.aload_n 0, 1) := dk_42 (dk_at dksX1_wears_1 5 rfl rfl)
theorem dX1_wears_30 : decode cX1_wears 30 = .ok (.getfield 21, 3) := dk_180 0 21 (dk_at dksX1_wears_1 6 rfl rfl)
theorem dX1_wears_33 : decode cX1_wears 33 = .ok (.iload_n 1, 1) := dk_27 (dk_at dksX1_wears_1 9 rfl rfl)
theorem dX1_wears_34 : decode cX1_wears 34 = .ok (.invokevirtual 45, 3) := dk_182 0 45 (dk_at dksX1_wears_1 10 rfl rfl)
theorem dX1_wears_37 : decode cX1_wears 37 = .ok (.checkcast 49, 3) := dk_192 0 49 (dk_at dksX1_wears_1 13 rfl rfl)
theorem dX1_wears_40 : decode cX1_wears 40 = .ok (.getfield 51, 3) := dk_180 0 51 (dk_at dksX1_wears_1 16 rfl rfl)
theorem dX1_wears_43 : decode cX1_wears 43 = .ok (.invokevirtual 45, 3) := dk_182 0 45 (dk_at dksX1_wears_1 19 rfl rfl)
theorem dX1_wears_46 : decode cX1_wears 46 = .ok (.checkcast 54, 3) := dk_192 0 54 (dk_at dksX1_wears_2 0 rfl rfl)
theorem dX1_wears_49 : decode cX1_wears 49 = .ok (.getfield 56, 3) := dk_180 0 56 (dk_at dksX1_wears_2 3 rfl rfl)
theorem dX1_wears_52 : decode cX1_wears 52 = .ok (.iastore, 1) := dk_79 (dk_at dksX1_wears_2 6 rfl rfl)
theorem dX1_wears_53 : decode cX1_wears 53 = .ok (.aload_n 0, 1) := dk_42 (dk_at dksX1_wears_2 7 rfl rfl)
theorem dX1_wears_54 : decode cX1_wears 54 = .ok (.getfield 32, 3) := dk_180 0 32 (dk_at dksX1_wears_2 8 rfl rfl)
theorem dX1_wears_57 : decode cX1_wears 57 = .ok (.iconst 2, 1) := dk_5 (dk_at dksX1_wears_2 11 rfl rfl)
theorem dX1_wears_58 : decode cX1_wears 58 = .ok (.iload_n 3, 1) := dk_29 (dk_at dksX1_wears_2 12 rfl rfl)
theorem dX1_wears_59 : decode cX1_wears 59 = .ok (.iastore, 1) := dk_79 (dk_at dksX1_wears_2 13 rfl rfl)
theorem dX1_wears_60 : decode cX1_wears 60 = .ok (.aload_n 0, 1) := dk_42 (dk_at dksX1_wears_2 14 rfl rfl)
theorem dX1_wears_61 : decode cX1_wears 61 = .ok (.getfield 32, 3) := dk_180 0 32 (dk_at dksX1_wears_2 15 rfl rfl)
theorem dX1_wears_64 : decode cX1_wears 64 = .ok (.iconst 3, 1) := dk_6 (dk_at dksX1_wears_2 18 rfl rfl)
theorem dX1_wears_65 : decode cX1_wears 65 = .ok (.iload 4, 2) := dk_21 4 (dk_at dksX1_wears_2 19 rfl rfl)
theorem dX1_wears_67 : decode cX1_wears 67 = .ok (.iastore, 1) := dk_79 (dk_at dksX1_wears_2 21 rfl rfl)
theorem dX1_wears_68 : decode cX1_wears 68 = .ok (.iconst 0, 1) := dk_3 (dk_at dksX1_wears_2 22 rfl rfl)
theorem dX1_wears_69 : decode cX1_wears 69 = .ok (.iload_n 2, 1) := dk_28 (dk_at dksX1_wears_2 23 rfl rfl)
theorem dX1_wears_70 : decode cX1_wears 70 = .ok (.aload_n 0, 1) := dk_42 (dk_at dksX1_wears_3 0 rfl rfl)
theorem dX1_wears_71 : decode cX1_wears 71 = .ok (.getfield 35, 3) := dk_180 0 35 (dk_at dksX1_wears_3 1 rfl rfl)
theorem dX1_wears_74 : decode cX1_wears 74 = .ok (.aload_n 0, 1) := dk_42 (dk_at dksX1_wears_3 4 rfl rfl)
theorem dX1_wears_75 : decode cX1_wears 75 = .ok (.getfield 32, 3) := dk_180 0 32 (dk_at dksX1_wears_3 5 rfl rfl)
theorem dX1_wears_78 : decode cX1_wears 78 = .ok (.invokevirtual 59, 3) := dk_182 0 59 (dk_at dksX1_wears_3 8 rfl rfl)
theorem dX1_wears_81 : decode cX1_wears 81 = .ok (.invokestatic 39, 3) := dk_184 0 39 (dk_at dksX1_wears_3 11 rfl rfl)
theorem dX1_wears_84 : decode cX1_wears 84 = .ok (.invokestatic 65, 3) := dk_184 0 65 (dk_at dksX1_wears_3 14 rfl rfl)
theorem dX1_wears_87 : decode cX1_wears 87 = .ok (.ireturn, 1) := dk_172 (dk_at dksX1_wears_3 17 rfl rfl)
theorem q118 : (Jvm.Cond.initialized "OathButtons$Regiment") ∈ lw_all := lw_g (lw_at lw_m1 2 rfl) rfl
theorem q164 : (Jvm.Cond.instantiable "OathButtons$Regiment" (14 : Nat)) ∈ lw_all := lw_g (lw_at lw_m1 48 rfl) rfl
theorem q166 : (Jvm.Cond.instanceMethod ({ cls := "OathButtons$Regiment", name := "<init>", desc := "()V" } : Jvm.MethodName)) ∈ lw_all := lw_g (lw_at lw_m1 50 rfl) rfl
theorem q167 : (Jvm.Cond.code ({ cls := "OathButtons$Regiment", name := "<init>", desc := "()V" } : Jvm.MethodName) prog_19_method_1_code (2 : Nat) (Option.none : Option Jvm.ClassFile.FieldType)) ∈ lw_all := lw_g (lw_at lw_m1 51 rfl) rfl
theorem q168 : (Jvm.Cond.methodLink "OathButtons$Regiment" (3 : Nat) ({ cls := "java/lang/Object", name := "<init>", desc := "()V" } : Jvm.MethodName)) ∈ lw_all := lw_g (lw_at lw_m1 52 rfl) rfl
theorem q169 : (Jvm.Cond.classLink "OathButtons$Regiment" (9 : Nat) "java/util/ArrayList") ∈ lw_all := lw_g (lw_at lw_m1 53 rfl) rfl
theorem q171 : (Jvm.Cond.methodLink "OathButtons$Regiment" (11 : Nat) ({ cls := "java/util/ArrayList", name := "<init>", desc := "()V" } : Jvm.MethodName)) ∈ lw_all := lw_g (lw_at lw_m1 55 rfl) rfl
theorem q195 : (Jvm.Cond.fieldLink "OathButtons$Regiment" (12 : Nat) "OathButtons$Regiment" "men" "Ljava/util/ArrayList;") ∈ lw_all := lw_g (lw_at lw_m1 79 rfl) rfl
theorem q201 : (Jvm.Cond.fieldLink "OathButtons$Regiment" (18 : Nat) "OathButtons$Regiment" "deeds" "Ljava/util/ArrayList;") ∈ lw_all := lw_g (lw_at lw_m1 85 rfl) rfl
theorem q205 : (Jvm.Cond.fieldLink "OathButtons$Regiment" (21 : Nat) "OathButtons$Regiment" "oaths" "Ljava/util/ArrayList;") ∈ lw_all := lw_g (lw_at lw_m1 89 rfl) rfl
theorem q210 : (Jvm.Cond.fieldLink "OathButtons$Regiment" (24 : Nat) "OathButtons$Regiment" "likes" "[I") ∈ lw_all := lw_g (lw_at lw_m1 94 rfl) rfl
theorem q212 : (Jvm.Cond.fieldLink "OathButtons$Regiment" (35 : Nat) "OathButtons$Regiment" "wea\x72" "LOathButtons$Part;") ∈ lw_all := lw_g (lw_at lw_m1 96 rfl) rfl
theorem q218 : (Jvm.Cond.fieldLink "OathButtons$Regiment" (28 : Nat) "OathButtons$Regiment" "hours" "I") ∈ lw_all := lw_g (lw_at lw_m1 102 rfl) rfl
theorem q230 : (Jvm.Cond.fieldLink "OathButtons$Regiment" (32 : Nat) "OathButtons$Regiment" "told" "[I") ∈ lw_all := lw_g (lw_at lw_m1 114 rfl) rfl
theorem q231 : (Jvm.Cond.laysFinal "OathButtons$Regiment" "OathButtons$Regiment" "men" "Ljava/util/ArrayList;") ∈ lw_all := lw_g (lw_at lw_m1 115 rfl) rfl
theorem q232 : (Jvm.Cond.soleField "OathButtons$Regiment" "men") ∈ lw_all := lw_g (lw_at lw_m1 116 rfl) rfl
theorem q233 : (Jvm.Cond.laysFinal "OathButtons$Regiment" "OathButtons$Regiment" "deeds" "Ljava/util/ArrayList;") ∈ lw_all := lw_g (lw_at lw_m1 117 rfl) rfl
theorem q234 : (Jvm.Cond.soleField "OathButtons$Regiment" "deeds") ∈ lw_all := lw_g (lw_at lw_m1 118 rfl) rfl
theorem q235 : (Jvm.Cond.laysFinal "OathButtons$Regiment" "OathButtons$Regiment" "oaths" "Ljava/util/ArrayList;") ∈ lw_all := lw_g (lw_at lw_m1 119 rfl) rfl
theorem q236 : (Jvm.Cond.soleField "OathButtons$Regiment" "oaths") ∈ lw_all := lw_g (lw_at lw_m1 120 rfl) rfl
theorem q237 : (Jvm.Cond.laysFinal "OathButtons$Regiment" "OathButtons$Regiment" "likes" "[I") ∈ lw_all := lw_g (lw_at lw_m1 121 rfl) rfl
theorem q238 : (Jvm.Cond.soleField "OathButtons$Regiment" "likes") ∈ lw_all := lw_g (lw_at lw_m1 122 rfl) rfl
theorem q239 : (Jvm.Cond.lays "OathButtons$Regiment" "OathButtons$Regiment" "wea\x72" "LOathButtons$Part;") ∈ lw_all := lw_g (lw_at lw_m1 123 rfl) rfl
theorem q240 : (Jvm.Cond.soleField "OathButtons$Regiment" "wea\x72") ∈ lw_all := lw_g (lw_at lw_m1 124 rfl) rfl
theorem q241 : (Jvm.Cond.lays "OathButtons$Regiment" "OathButtons$Regiment" "friends" "I") ∈ lw_all := lw_g (lw_at lw_m1 125 rfl) rfl
theorem q242 : (Jvm.Cond.soleField "OathButtons$Regiment" "friends") ∈ lw_all := lw_g (lw_at lw_m1 126 rfl) rfl
theorem q243 : (Jvm.Cond.lays "OathButtons$Regiment" "OathButtons$Regiment" "units" "I") ∈ lw_all := lw_g (lw_at lw_m1 127 rfl) rfl
theorem q244 : (Jvm.Cond.soleField "OathButtons$Regiment" "units") ∈ lw_all := lw_g (lw_at lw_m1 128 rfl) rfl
theorem q245 : (Jvm.Cond.lays "OathButtons$Regiment" "OathButtons$Regiment" "hours" "I") ∈ lw_all := lw_g (lw_at lw_m1 129 rfl) rfl
theorem q246 : (Jvm.Cond.soleField "OathButtons$Regiment" "hours") ∈ lw_all := lw_g (lw_at lw_m1 130 rfl) rfl
theorem q247 : (Jvm.Cond.lays "OathButtons$Regiment" "OathButtons$Regiment" "storm" "I") ∈ lw_all := lw_g (lw_at lw_m1 131 rfl) rfl
theorem q248 : (Jvm.Cond.soleField "OathButtons$Regiment" "storm") ∈ lw_all := lw_g (lw_at lw_m1 132 rfl) rfl
theorem q249 : (Jvm.Cond.lays "OathButtons$Regiment" "OathButtons$Regiment" "draw" "I") ∈ lw_all := lw_g (lw_at lw_m1 133 rfl) rfl
theorem q250 : (Jvm.Cond.soleField "OathButtons$Regiment" "draw") ∈ lw_all := lw_g (lw_at lw_m1 134 rfl) rfl
theorem q251 : (Jvm.Cond.lays "OathButtons$Regiment" "OathButtons$Regiment" "hasHours" "Z") ∈ lw_all := lw_g (lw_at lw_m1 135 rfl) rfl
theorem q252 : (Jvm.Cond.soleField "OathButtons$Regiment" "hasHours") ∈ lw_all := lw_g (lw_at lw_m1 136 rfl) rfl
theorem q253 : (Jvm.Cond.lays "OathButtons$Regiment" "OathButtons$Regiment" "hasStorm" "Z") ∈ lw_all := lw_g (lw_at lw_m1 137 rfl) rfl
theorem q254 : (Jvm.Cond.soleField "OathButtons$Regiment" "hasStorm") ∈ lw_all := lw_g (lw_at lw_m1 138 rfl) rfl
theorem q255 : (Jvm.Cond.lays "OathButtons$Regiment" "OathButtons$Regiment" "hasDraw" "Z") ∈ lw_all := lw_g (lw_at lw_m1 139 rfl) rfl
theorem q256 : (Jvm.Cond.soleField "OathButtons$Regiment" "hasDraw") ∈ lw_all := lw_g (lw_at lw_m1 140 rfl) rfl
theorem q257 : (Jvm.Cond.laysFinal "OathButtons$Regiment" "OathButtons$Regiment" "told" "[I") ∈ lw_all := lw_g (lw_at lw_m1 141 rfl) rfl
theorem q258 : (Jvm.Cond.soleField "OathButtons$Regiment" "told") ∈ lw_all := lw_g (lw_at lw_m1 142 rfl) rfl
theorem q259 : (Jvm.Cond.superclass "OathButtons$Regiment" "java/lang/Object") ∈ lw_all := lw_g (lw_at lw_m1 143 rfl) rfl
theorem q756 : (Jvm.Cond.fieldLinkNest "OathButtons$Regiment" (56 : Nat) "OathButtons$Man" "holes" "I" "OathButtons") ∈ lw_tbl := lw_at lw_m3 160 rfl
theorem q832 : (Jvm.Cond.selects "OathButtons$Regiment" ({ cls := "java/lang/Object", name := "getClass", desc := "()Ljava/lang/Class;" } : Jvm.MethodName) ({ cls := "java/lang/Object", name := "getClass", desc := "()Ljava/lang/Class;" } : Jvm.MethodName)) ∈ lw_all := lw_g (lw_at lw_m3 236 rfl) rfl
theorem q895 : (Jvm.Cond.fieldLink "OathButtons$Regiment" (51 : Nat) "OathButtons$Oath" "by" "I") ∈ lw_all := lw_g (lw_at lw_m4 59 rfl) rfl
theorem q947 : (Jvm.Cond.instanceMethod ({ cls := "OathButtons$Regiment", name := "likesOf", desc := "(II)I" } : Jvm.MethodName)) ∈ lw_all := lw_g (lw_at lw_m4 111 rfl) rfl
theorem q948 : (Jvm.Cond.selects "OathButtons$Regiment" ({ cls := "OathButtons$Regiment", name := "likesOf", desc := "(II)I" } : Jvm.MethodName) ({ cls := "OathButtons$Regiment", name := "likesOf", desc := "(II)I" } : Jvm.MethodName)) ∈ lw_all := lw_g (lw_at lw_m4 112 rfl) rfl
theorem q949 : (Jvm.Cond.code ({ cls := "OathButtons$Regiment", name := "likesOf", desc := "(II)I" } : Jvm.MethodName) prog_19_method_3_code (3 : Nat) (Option.some Jvm.ClassFile.FieldType.int)) ∈ lw_all := lw_g (lw_at lw_m4 113 rfl) rfl
theorem q1155 : (Jvm.Cond.instanceMethod ({ cls := "OathButtons$Regiment", name := "wears", desc := "(IIII)I" } : Jvm.MethodName)) ∈ lw_all := lw_g (lw_at lw_m5 79 rfl) rfl
theorem q1156 : (Jvm.Cond.selects "OathButtons$Regiment" ({ cls := "OathButtons$Regiment", name := "wears", desc := "(IIII)I" } : Jvm.MethodName) ({ cls := "OathButtons$Regiment", name := "wears", desc := "(IIII)I" } : Jvm.MethodName)) ∈ lw_all := lw_g (lw_at lw_m5 80 rfl) rfl
theorem q1157 : (Jvm.Cond.code ({ cls := "OathButtons$Regiment", name := "wears", desc := "(IIII)I" } : Jvm.MethodName) prog_19_method_2_code (5 : Nat) (Option.some Jvm.ClassFile.FieldType.int)) ∈ lw_all := lw_g (lw_at lw_m5 81 rfl) rfl
theorem q1158 : (Jvm.Cond.methodLink "OathButtons$Regiment" (39 : Nat) ({ cls := "java/lang/Math", name := "min", desc := "(II)I" } : Jvm.MethodName)) ∈ lw_all := lw_g (lw_at lw_m5 82 rfl) rfl
theorem q1159 : (Jvm.Cond.methodLink "OathButtons$Regiment" (45 : Nat) ({ cls := "java/util/ArrayList", name := "get", desc := "(I)Ljava/lang/Object;" } : Jvm.MethodName)) ∈ lw_all := lw_g (lw_at lw_m5 83 rfl) rfl
theorem q1160 : (Jvm.Cond.classLink "OathButtons$Regiment" (49 : Nat) "OathButtons$Oath") ∈ lw_all := lw_g (lw_at lw_m5 84 rfl) rfl
theorem q1161 : (Jvm.Cond.classLink "OathButtons$Regiment" (54 : Nat) "OathButtons$Man") ∈ lw_all := lw_g (lw_at lw_m5 85 rfl) rfl
theorem q1162 : (Jvm.Cond.methodLink "OathButtons$Regiment" (59 : Nat) ({ cls := "OathButtons$Part", name := "of", desc := "([I)I" } : Jvm.MethodName)) ∈ lw_all := lw_g (lw_at lw_m5 86 rfl) rfl
theorem q1182 : (Jvm.Cond.methodLink "OathButtons$Regiment" (65 : Nat) ({ cls := "java/lang/Math", name := "max", desc := "(II)I" } : Jvm.MethodName)) ∈ lw_all := lw_g (lw_at lw_m5 106 rfl) rfl
theorem q2207 : (Jvm.Cond.castable "OathButtons$Regiment" "java/lang/Object") ∈ lw_tbl := lw_at lw_m9 171 rfl
theorem in_X1 : ∀ w ∈ wsX10, w ∈ lw_all := lw_in wsX10 [231, 233, 235, 237, 239, 241, 243, 245, 247, 249, 251, 253, 255, 257] (by decide +kernel) (by decide +kernel)
/-! OathButtons$Day -/
set_option maxRecDepth 100000
def RX2 : String := "OathButtons$Day"
def TX2 : u_T := fun k => match k with
  | 0 => ("OathButtons$Day", "state", "[I", true)
  | 1 => ("OathButtons$Day", "thread", "[I", true)
  | 2 => ("OathButtons$Day", "day", "I", false)
  | 3 => ("OathButtons$Day", "seed", "I", false)
  | _ => ("OathButtons$Day", "cuts", "I", false)
def tyX2 : Nat → FieldType := fun k => match k with
  | 0 => .array .int
  | 1 => .array .int
  | 2 => .int
  | 3 => .int
  | _ => .int
abbrev wsX20 : List Cond := u_ws RX2 TX2 5
theorem nmX2 : ∀ a, a < 5 → ∀ b, b < 5 → a ≠ b → (TX2 a).2.1 ≠ (TX2 b).2.1 := by decide +kernel
theorem tyX2_ok : ∀ k, k < 5 → parseFieldDescriptor (TX2 k).2.2.1 = some (tyX2 k) := by decide +kernel
abbrev cX2_init : ByteArray := prog_6_method_1_code
def yX2_init : MethodName := ⟨RX2, "<init>", "()V"⟩
def dkwX2_init_0 : List UInt8 := [42, 183, 0, 3, 42, 16, 10, 188, 10, 181, 0, 9, 42, 16, 10, 188, 10, 181, 0, 15, 177]
abbrev dktX2_init_0 : List UInt8 := dkwX2_init_0 ++ []
theorem dksX2_init_0 : cX2_init.data.toList.drop 0 = dktX2_init_0 := by decide +kernel
theorem dX2_init_0 : decode cX2_init 0 = .ok (.aload_n 0, 1) := dk_42 (dk_at dksX2_init_0 0 rfl rfl)
theorem dX2_init_1 : decode cX2_init 1 = .ok (.invokespecial 3, 3) := dk_183 0 3 (dk_at dksX2_init_0 1 rfl rfl)
theorem dX2_init_4 : decode cX2_init 4 = .ok (.aload_n 0, 1) := dk_42 (dk_at dksX2_init_0 4 rfl rfl)
theorem dX2_init_5 : decode cX2_init 5 = .ok (.bipush 10, 2) := dk_16 10 (dk_at dksX2_init_0 5 rfl rfl)
theorem dX2_init_7 : decode cX2_init 7 = .ok (.newarray .int, 2) := dk_188_10 (dk_at dksX2_init_0 7 rfl rfl)
theorem dX2_init_9 : decode cX2_init 9 = .ok (.putfield 9, 3) := dk_181 0 9 (dk_at dksX2_init_0 9 rfl rfl)
theorem dX2_init_12 : decode cX2_init 12 = .ok (.aload_n 0, 1) := dk_42 (dk_at dksX2_init_0 12 rfl rfl)
theorem dX2_init_13 : decode cX2_init 13 = .ok (.bipush 10, 2) := dk_16 10 (dk_at dksX2_init_0 13 rfl rfl)
theorem dX2_init_15 : decode cX2_init 15 = .ok (.newarray .int, 2) := dk_188_10 (dk_at dksX2_init_0 15 rfl rfl)
theorem dX2_init_17 : decode cX2_init 17 = .ok (.putfield 15, 3) := dk_181 0 15 (dk_at dksX2_init_0 17 rfl rfl)
theorem dX2_init_20 : decode cX2_init 20 = .ok (.return_, 1) := dk_177 (dk_at dksX2_init_0 20 rfl rfl)
abbrev cX2_of : ByteArray := prog_6_method_2_code
def yX2_of : MethodName := ⟨RX2, "of", "(LOathButtons$Day;)V"⟩
def dkwX2_of_2 : List UInt8 := [180, 0, 31, 181, 0, 31, 177]
abbrev dktX2_of_2 : List UInt8 := dkwX2_of_2 ++ []
def dkwX2_of_1 : List UInt8 := [3, 16, 10, 184, 0, 18, 42, 43, 180, 0, 24, 181, 0, 24, 42, 43, 180, 0, 28, 181, 0, 28, 42, 43]
abbrev dktX2_of_1 : List UInt8 := dkwX2_of_1 ++ dktX2_of_2
def dkwX2_of_0 : List UInt8 := [43, 180, 0, 9, 3, 42, 180, 0, 9, 3, 16, 10, 184, 0, 18, 43, 180, 0, 15, 3, 42, 180, 0, 15]
abbrev dktX2_of_0 : List UInt8 := dkwX2_of_0 ++ dktX2_of_1
theorem dksX2_of_0 : cX2_of.data.toList.drop 0 = dktX2_of_0 := by decide +kernel
theorem dksX2_of_1 : cX2_of.data.toList.drop 24 = dktX2_of_1 := dk_seg dksX2_of_0 24 rfl rfl
theorem dksX2_of_2 : cX2_of.data.toList.drop 48 = dktX2_of_2 := dk_seg dksX2_of_1 24 rfl rfl
theorem dX2_of_0 : decode cX2_of 0 = .ok (.aload_n 1, 1) := dk_43 (dk_at dksX2_of_0 0 rfl rfl)
theorem dX2_of_1 : decode cX2_of 1 = .ok (.getfield 9, 3) := dk_180 0 9 (dk_at dksX2_of_0 1 rfl rfl)
theorem dX2_of_4 : decode cX2_of 4 = .ok (.iconst 0, 1) := dk_3 (dk_at dksX2_of_0 4 rfl rfl)
theorem dX2_of_5 : decode cX2_of 5 = .ok (.aload_n 0, 1) := dk_42 (dk_at dksX2_of_0 5 rfl rfl)
theorem dX2_of_6 : decode cX2_of 6 = .ok (.getfield 9, 3) := dk_180 0 9 (dk_at dksX2_of_0 6 rfl rfl)
theorem dX2_of_9 : decode cX2_of 9 = .ok (.iconst 0, 1) := dk_3 (dk_at dksX2_of_0 9 rfl rfl)
theorem dX2_of_10 : decode cX2_of 10 = .ok (.bipush 10, 2) := dk_16 10 (dk_at dksX2_of_0 10 rfl rfl)
theorem dX2_of_12 : decode cX2_of 12 = .ok (.invokestatic 18, 3) := dk_184 0 18 (dk_at dksX2_of_0 12 rfl rfl)
theorem dX2_of_15 : decode cX2_of 15 = .ok (.aload_n 1, 1) := dk_43 (dk_at dksX2_of_0 15 rfl rfl)
theorem dX2_of_16 : decode cX2_of 16 = .ok (.getfield 15, 3) := dk_180 0 15 (dk_at dksX2_of_0 16 rfl rfl)
theorem dX2_of_19 : decode cX2_of 19 = .ok (.iconst 0, 1) := dk_3 (dk_at dksX2_of_0 19 rfl rfl)
theorem dX2_of_20 : decode cX2_of 20 = .ok (.aload_n 0, 1) := dk_42 (dk_at dksX2_of_0 20 rfl rfl)
theorem dX2_of_21 : decode cX2_of 21 = .ok (.getfield 15, 3) := dk_180 0 15 (dk_at dksX2_of_0 21 rfl rfl)
theorem dX2_of_24 : decode cX2_of 24 = .ok (.iconst 0, 1) := dk_3 (dk_at dksX2_of_1 0 rfl rfl)
theorem dX2_of_25 : decode cX2_of 25 = .ok (.bipush 10, 2) := dk_16 10 (dk_at dksX2_of_1 1 rfl rfl)
theorem dX2_of_27 : decode cX2_of 27 = .ok (.invokestatic 18, 3) := dk_184 0 18 (dk_at dksX2_of_1 3 rfl rfl)
theorem dX2_of_30 : decode cX2_of 30 = .ok (.aload_n 0, 1) := dk_42 (dk_at dksX2_of_1 6 rfl rfl)
theorem dX2_of_31 : decode cX2_of 31 = .ok (.aload_n 1, 1) := dk_43 (dk_at dksX2_of_1 7 rfl rfl)
theorem dX2_of_32 : decode cX2_of 32 = .ok (.getfield 24, 3) := dk_180 0 24 (dk_at dksX2_of_1 8 rfl rfl)
theorem dX2_of_35 : decode cX2_of 35 = .ok (.putfield 24, 3) := dk_181 0 24 (dk_at dksX2_of_1 11 rfl rfl)
theorem dX2_of_38 : decode cX2_of 38 = .ok (.aload_n 0, 1) := dk_42 (dk_at dksX2_of_1 14 rfl rfl)
theorem dX2_of_39 : decode cX2_of 39 = .ok (.aload_n 1, 1) := dk_43 (dk_at dksX2_of_1 15 rfl rfl)
theorem dX2_of_40 : decode cX2_of 40 = .ok (.getfield 28, 3) := dk_180 0 28 (dk_at dksX2_of_1 16 rfl rfl)
theorem dX2_of_43 : decode cX2_of 43 = .ok (.putfield 28, 3) := dk_181 0 28 (dk_at dksX2_of_1 19 rfl rfl)
theorem dX2_of_46 : decode cX2_of 46 = .ok (.aload_n 0, 1) := dk_42 (dk_at dksX2_of_1 22 rfl rfl)
theorem dX2_of_47 : decode cX2_of 47 = .ok (.aload_n 1, 1) := dk_43 (dk_at dksX2_of_1 23 rfl rfl)
theorem dX2_of_48 : decode cX2_of 48 = .ok (.getfield 31, 3) := dk_180 0 31 (dk_at dksX2_of_2 0 rfl rfl)
theorem dX2_of_51 : decode cX2_of 51 = .ok (.putfield 31, 3) := dk_181 0 31 (dk_at dksX2_of_2 3 rfl rfl)
theorem dX2_of_54 : decode cX2_of 54 = .ok (.return_, 1) := dk_177 (dk_at dksX2_of_2 6 rfl rfl)
abbrev cX2_goOn : ByteArray := prog_6_method_3_code
def yX2_goOn : MethodName := ⟨RX2, "goOn", "(LOathButtons$Regiment;)I"⟩
def dkwX2_goOn_9 : List UInt8 := [167, 255, 187, 29, 172]
abbrev dktX2_goOn_9 : List UInt8 := dkwX2_goOn_9 ++ []
def dkwX2_goOn_8 : List UInt8 := [180, 0, 9, 21, 4, 43, 180, 0, 39, 21, 4, 182, 0, 53, 192, 0, 57, 182, 0, 62, 79, 132, 4, 1]
abbrev dktX2_goOn_8 : List UInt8 := dkwX2_goOn_8 ++ dktX2_goOn_9
def dkwX2_goOn_7 : List UInt8 := [180, 0, 39, 21, 4, 182, 0, 53, 192, 0, 57, 180, 0, 59, 42, 180, 0, 24, 162, 0, 25, 42]
abbrev dktX2_goOn_7 : List UInt8 := dkwX2_goOn_7 ++ dktX2_goOn_8
def dkwX2_goOn_6 : List UInt8 := [21, 4, 43, 180, 0, 39, 182, 0, 43, 162, 0, 63, 42, 180, 0, 9, 21, 4, 46, 154, 0, 47, 43]
abbrev dktX2_goOn_6 : List UInt8 := dkwX2_goOn_6 ++ dktX2_goOn_7
def dkwX2_goOn_5 : List UInt8 := [7, 79, 132, 3, 1, 132, 4, 1, 167, 255, 176, 42, 89, 180, 0, 24, 4, 96, 181, 0, 24, 3, 54, 4]
abbrev dktX2_goOn_5 : List UInt8 := dkwX2_goOn_5 ++ dktX2_goOn_6
def dkwX2_goOn_4 : List UInt8 := [182, 0, 49, 100, 79, 42, 180, 0, 15, 21, 4, 46, 158, 0, 6, 167, 0, 14, 42, 180, 0, 9, 21, 4]
abbrev dktX2_goOn_4 : List UInt8 := dkwX2_goOn_4 ++ dktX2_goOn_5
def dkwX2_goOn_3 : List UInt8 := [180, 0, 15, 21, 4, 92, 46, 43, 21, 4, 42, 180, 0, 15, 21, 4, 46, 28, 42, 180, 0, 24]
abbrev dktX2_goOn_3 : List UInt8 := dkwX2_goOn_3 ++ dktX2_goOn_4
def dkwX2_goOn_2 : List UInt8 := [180, 0, 39, 182, 0, 43, 162, 0, 74, 42, 180, 0, 9, 21, 4, 46, 153, 0, 6, 167, 0, 55, 42]
abbrev dktX2_goOn_2 : List UInt8 := dkwX2_goOn_2 ++ dktX2_goOn_3
def dkwX2_goOn_1 : List UInt8 := [16, 100, 112, 43, 180, 0, 34, 162, 0, 7, 4, 167, 0, 4, 3, 61, 3, 62, 3, 54, 4, 21, 4, 43]
abbrev dktX2_goOn_1 : List UInt8 := dkwX2_goOn_1 ++ dktX2_goOn_2
def dkwX2_goOn_0 : List UInt8 := [42, 17, 0, 137, 42, 180, 0, 28, 104, 16, 71, 96, 17, 3, 232, 112, 181, 0, 28, 42, 180, 0, 28]
abbrev dktX2_goOn_0 : List UInt8 := dkwX2_goOn_0 ++ dktX2_goOn_1
theorem dksX2_goOn_0 : cX2_goOn.data.toList.drop 0 = dktX2_goOn_0 := by decide +kernel
theorem dksX2_goOn_1 : cX2_goOn.data.toList.drop 23 = dktX2_goOn_1 := dk_seg dksX2_goOn_0 23 rfl rfl
theorem dksX2_goOn_2 : cX2_goOn.data.toList.drop 47 = dktX2_goOn_2 := dk_seg dksX2_goOn_1 24 rfl rfl
theorem dksX2_goOn_3 : cX2_goOn.data.toList.drop 70 = dktX2_goOn_3 := dk_seg dksX2_goOn_2 23 rfl rfl
theorem dksX2_goOn_4 : cX2_goOn.data.toList.drop 92 = dktX2_goOn_4 := dk_seg dksX2_goOn_3 22 rfl rfl
theorem dksX2_goOn_5 : cX2_goOn.data.toList.drop 116 = dktX2_goOn_5 := dk_seg dksX2_goOn_4 24 rfl rfl
theorem dksX2_goOn_6 : cX2_goOn.data.toList.drop 140 = dktX2_goOn_6 := dk_seg dksX2_goOn_5 24 rfl rfl
theorem dksX2_goOn_7 : cX2_goOn.data.toList.drop 163 = dktX2_goOn_7 := dk_seg dksX2_goOn_6 23 rfl rfl
theorem dksX2_goOn_8 : cX2_goOn.data.toList.drop 185 = dktX2_goOn_8 := dk_seg dksX2_goOn_7 22 rfl rfl
theorem dksX2_goOn_9 : cX2_goOn.data.toList.drop 209 = dktX2_goOn_9 := dk_seg dksX2_goOn_8 24 rfl rfl
theorem dX2_goOn_0 : decode cX2_goOn 0 = .ok (.aload_n 0, 1) := dk_42 (dk_at dksX2_goOn_0 0 rfl rfl)
theorem dX2_goOn_1 : decode cX2_goOn 1 = .ok (.sipush 137, 3) := dk_17 0 137 (dk_at dksX2_goOn_0 1 rfl rfl)
theorem dX2_goOn_4 : decode cX2_goOn 4 = .ok (.aload_n 0, 1) := dk_42 (dk_at dksX2_goOn_0 4 rfl rfl)
theorem dX2_goOn_5 : decode cX2_goOn 5 = .ok (.getfield 28, 3) := dk_180 0 28 (dk_at dksX2_goOn_0 5 rfl rfl)
theorem dX2_goOn_8 : decode cX2_goOn 8 = .ok (.imul, 1) := dk_104 (dk_at dksX2_goOn_0 8 rfl rfl)
theorem dX2_goOn_9 : decode cX2_goOn 9 = .ok (.bipush 71, 2) := dk_16 71 (dk_at dksX2_goOn_0 9 rfl rfl)
theorem dX2_goOn_11 : decode cX2_goOn 11 = .ok (.iadd, 1) := dk_96 (dk_at dksX2_goOn_0 11 rfl rfl)
theorem dX2_goOn_12 : decode cX2_goOn 12 = .ok (.sipush 1000, 3) := dk_17 3 232 (dk_at dksX2_goOn_0 12 rfl rfl)
theorem dX2_goOn_15 : decode cX2_goOn 15 = .ok (.irem, 1) := dk_112 (dk_at dksX2_goOn_0 15 rfl rfl)
theorem dX2_goOn_16 : decode cX2_goOn 16 = .ok (.putfield 28, 3) := dk_181 0 28 (dk_at dksX2_goOn_0 16 rfl rfl)
theorem dX2_goOn_19 : decode cX2_goOn 19 = .ok (.aload_n 0, 1) := dk_42 (dk_at dksX2_goOn_0 19 rfl rfl)
theorem dX2_goOn_20 : decode cX2_goOn 20 = .ok (.getfield 28, 3) := dk_180 0 28 (dk_at dksX2_goOn_0 20 rfl rfl)
theorem dX2_goOn_23 : decode cX2_goOn 23 = .ok (.bipush 100, 2) := dk_16 100 (dk_at dksX2_goOn_1 0 rfl rfl)
theorem dX2_goOn_25 : decode cX2_goOn 25 = .ok (.irem, 1) := dk_112 (dk_at dksX2_goOn_1 2 rfl rfl)
theorem dX2_goOn_26 : decode cX2_goOn 26 = .ok (.aload_n 1, 1) := dk_43 (dk_at dksX2_goOn_1 3 rfl rfl)
theorem dX2_goOn_27 : decode cX2_goOn 27 = .ok (.getfield 34, 3) := dk_180 0 34 (dk_at dksX2_goOn_1 4 rfl rfl)
theorem dX2_goOn_30 : decode cX2_goOn 30 = .ok (.if_icmp .ge 7, 3) := dk_162 0 7 (dk_at dksX2_goOn_1 7 rfl rfl)
theorem dX2_goOn_33 : decode cX2_goOn 33 = .ok (.iconst 1, 1) := dk_4 (dk_at dksX2_goOn_1 10 rfl rfl)
theorem dX2_goOn_34 : decode cX2_goOn 34 = .ok (.goto 4, 3) := dk_167 0 4 (dk_at dksX2_goOn_1 11 rfl rfl)
theorem dX2_goOn_37 : decode cX2_goOn 37 = .ok (.iconst 0, 1) := dk_3 (dk_at dksX2_goOn_1 14 rfl rfl)
theorem dX2_goOn_38 : decode cX2_goOn 38 = .ok (.istore_n 2, 1) := dk_61 (dk_at dksX2_goOn_1 15 rfl rfl)
theorem dX2_goOn_39 : decode cX2_goOn 39 = .ok (.iconst 0, 1) := dk_3 (dk_at dksX2_goOn_1 16 rfl rfl)
theorem dX2_goOn_40 : decode cX2_goOn 40 = .ok (.istore_n 3, 1) := dk_62 (dk_at dksX2_goOn_1 17 rfl rfl)
theorem dX2_goOn_41 : decode cX2_goOn 41 = .ok (.iconst 0, 1) := dk_3 (dk_at dksX2_goOn_1 18 rfl rfl)
theorem dX2_goOn_42 : decode cX2_goOn 42 = .ok (.istore 4, 2) := dk_54 4 (dk_at dksX2_goOn_1 19 rfl rfl)
theorem dX2_goOn_44 : decode cX2_goOn 44 = .ok (.iload 4, 2) := dk_21 4 (dk_at dksX2_goOn_1 21 rfl rfl)
theorem dX2_goOn_46 : decode cX2_goOn 46 = .ok (.aload_n 1, 1) := dk_43 (dk_at dksX2_goOn_1 23 rfl rfl)
theorem dX2_goOn_47 : decode cX2_goOn 47 = .ok (.getfield 39, 3) := dk_180 0 39 (dk_at dksX2_goOn_2 0 rfl rfl)
theorem dX2_goOn_50 : decode cX2_goOn 50 = .ok (.invokevirtual 43, 3) := dk_182 0 43 (dk_at dksX2_goOn_2 3 rfl rfl)
theorem dX2_goOn_53 : decode cX2_goOn 53 = .ok (.if_icmp .ge 74, 3) := dk_162 0 74 (dk_at dksX2_goOn_2 6 rfl rfl)
theorem dX2_goOn_56 : decode cX2_goOn 56 = .ok (.aload_n 0, 1) := dk_42 (dk_at dksX2_goOn_2 9 rfl rfl)
theorem dX2_goOn_57 : decode cX2_goOn 57 = .ok (.getfield 9, 3) := dk_180 0 9 (dk_at dksX2_goOn_2 10 rfl rfl)
theorem dX2_goOn_60 : decode cX2_goOn 60 = .ok (.iload 4, 2) := dk_21 4 (dk_at dksX2_goOn_2 13 rfl rfl)
theorem dX2_goOn_62 : decode cX2_goOn 62 = .ok (.iaload, 1) := dk_46 (dk_at dksX2_goOn_2 15 rfl rfl)
theorem dX2_goOn_63 : decode cX2_goOn 63 = .ok (.ifCond .eq 6, 3) := dk_153 0 6 (dk_at dksX2_goOn_2 16 rfl rfl)
theorem dX2_goOn_66 : decode cX2_goOn 66 = .ok (.goto 55, 3) := dk_167 0 55 (dk_at dksX2_goOn_2 19 rfl rfl)
theorem dX2_goOn_69 : decode cX2_goOn 69 = .ok (.aload_n 0, 1) := dk_42 (dk_at dksX2_goOn_2 22 rfl rfl)
theorem dX2_goOn_70 : decode cX2_goOn 70 = .ok (.getfield 15, 3) := dk_180 0 15 (dk_at dksX2_goOn_3 0 rfl rfl)
theorem dX2_goOn_73 : decode cX2_goOn 73 = .ok (.iload 4, 2) := dk_21 4 (dk_at dksX2_goOn_3 3 rfl rfl)
theorem dX2_goOn_75 : decode cX2_goOn 75 = .ok (.dup2, 1) := dk_92 (dk_at dksX2_goOn_3 5 rfl rfl)
theorem dX2_goOn_76 : decode cX2_goOn 76 = .ok (.iaload, 1) := dk_46 (dk_at dksX2_goOn_3 6 rfl rfl)
theorem dX2_goOn_77 : decode cX2_goOn 77 = .ok (.aload_n 1, 1) := dk_43 (dk_at dksX2_goOn_3 7 rfl rfl)
theorem dX2_goOn_78 : decode cX2_goOn 78 = .ok (.iload 4, 2) := dk_21 4 (dk_at dksX2_goOn_3 8 rfl rfl)
theorem dX2_goOn_80 : decode cX2_goOn 80 = .ok (.aload_n 0, 1) := dk_42 (dk_at dksX2_goOn_3 10 rfl rfl)
theorem dX2_goOn_81 : decode cX2_goOn 81 = .ok (.getfield 15, 3) := dk_180 0 15 (dk_at dksX2_goOn_3 11 rfl rfl)
theorem dX2_goOn_84 : decode cX2_goOn 84 = .ok (.iload 4, 2) := dk_21 4 (dk_at dksX2_goOn_3 14 rfl rfl)
theorem dX2_goOn_86 : decode cX2_goOn 86 = .ok (.iaload, 1) := dk_46 (dk_at dksX2_goOn_3 16 rfl rfl)
theorem dX2_goOn_87 : decode cX2_goOn 87 = .ok (.iload_n 2, 1) := dk_28 (dk_at dksX2_goOn_3 17 rfl rfl)
theorem dX2_goOn_88 : decode cX2_goOn 88 = .ok (.aload_n 0, 1) := dk_42 (dk_at dksX2_goOn_3 18 rfl rfl)
theorem dX2_goOn_89 : decode cX2_goOn 89 = .ok (.getfield 24, 3) := dk_180 0 24 (dk_at dksX2_goOn_3 19 rfl rfl)
theorem dX2_goOn_92 : decode cX2_goOn 92 = .ok (.invokevirtual 49, 3) := dk_182 0 49 (dk_at dksX2_goOn_4 0 rfl rfl)
theorem dX2_goOn_95 : decode cX2_goOn 95 = .ok (.isub, 1) := dk_100 (dk_at dksX2_goOn_4 3 rfl rfl)
theorem dX2_goOn_96 : decode cX2_goOn 96 = .ok (.iastore, 1) := dk_79 (dk_at dksX2_goOn_4 4 rfl rfl)
theorem dX2_goOn_97 : decode cX2_goOn 97 = .ok (.aload_n 0, 1) := dk_42 (dk_at dksX2_goOn_4 5 rfl rfl)
theorem dX2_goOn_98 : decode cX2_goOn 98 = .ok (.getfield 15, 3) := dk_180 0 15 (dk_at dksX2_goOn_4 6 rfl rfl)
theorem dX2_goOn_101 : decode cX2_goOn 101 = .ok (.iload 4, 2) := dk_21 4 (dk_at dksX2_goOn_4 9 rfl rfl)
theorem dX2_goOn_103 : decode cX2_goOn 103 = .ok (.iaload, 1) := dk_46 (dk_at dksX2_goOn_4 11 rfl rfl)
theorem dX2_goOn_104 : decode cX2_goOn 104 = .ok (.ifCond .le 6, 3) := dk_158 0 6 (dk_at dksX2_goOn_4 12 rfl rfl)
theorem dX2_goOn_107 : decode cX2_goOn 107 = .ok (.goto 14, 3) := dk_167 0 14 (dk_at dksX2_goOn_4 15 rfl rfl)
theorem dX2_goOn_110 : decode cX2_goOn 110 = .ok (.aload_n 0, 1) := dk_42 (dk_at dksX2_goOn_4 18 rfl rfl)
theorem dX2_goOn_111 : decode cX2_goOn 111 = .ok (.getfield 9, 3) := dk_180 0 9 (dk_at dksX2_goOn_4 19 rfl rfl)
theorem dX2_goOn_114 : decode cX2_goOn 114 = .ok (.iload 4, 2) := dk_21 4 (dk_at dksX2_goOn_4 22 rfl rfl)
theorem dX2_goOn_116 : decode cX2_goOn 116 = .ok (.iconst 4, 1) := dk_7 (dk_at dksX2_goOn_5 0 rfl rfl)
theorem dX2_goOn_117 : decode cX2_goOn 117 = .ok (.iastore, 1) := dk_79 (dk_at dksX2_goOn_5 1 rfl rfl)
theorem dX2_goOn_118 : decode cX2_goOn 118 = .ok (.iinc 3 1, 3) := dk_132 3 1 (dk_at dksX2_goOn_5 2 rfl rfl)
theorem dX2_goOn_121 : decode cX2_goOn 121 = .ok (.iinc 4 1, 3) := dk_132 4 1 (dk_at dksX2_goOn_5 5 rfl rfl)
theorem dX2_goOn_124 : decode cX2_goOn 124 = .ok (.goto (-80), 3) := dk_167 255 176 (dk_at dksX2_goOn_5 8 rfl rfl)
theorem dX2_goOn_127 : decode cX2_goOn 127 = .ok (.aload_n 0, 1) := dk_42 (dk_at dksX2_goOn_5 11 rfl rfl)
theorem dX2_goOn_128 : decode cX2_goOn 128 = .ok (.dup, 1) := dk_89 (dk_at dksX2_goOn_5 12 rfl rfl)
theorem dX2_goOn_129 : decode cX2_goOn 129 = .ok (.getfield 24, 3) := dk_180 0 24 (dk_at dksX2_goOn_5 13 rfl rfl)
theorem dX2_goOn_132 : decode cX2_goOn 132 = .ok (.iconst 1, 1) := dk_4 (dk_at dksX2_goOn_5 16 rfl rfl)
theorem dX2_goOn_133 : decode cX2_goOn 133 = .ok (.iadd, 1) := dk_96 (dk_at dksX2_goOn_5 17 rfl rfl)
theorem dX2_goOn_134 : decode cX2_goOn 134 = .ok (.putfield 24, 3) := dk_181 0 24 (dk_at dksX2_goOn_5 18 rfl rfl)
theorem dX2_goOn_137 : decode cX2_goOn 137 = .ok (.iconst 0, 1) := dk_3 (dk_at dksX2_goOn_5 21 rfl rfl)
theorem dX2_goOn_138 : decode cX2_goOn 138 = .ok (.istore 4, 2) := dk_54 4 (dk_at dksX2_goOn_5 22 rfl rfl)
theorem dX2_goOn_140 : decode cX2_goOn 140 = .ok (.iload 4, 2) := dk_21 4 (dk_at dksX2_goOn_6 0 rfl rfl)
theorem dX2_goOn_142 : decode cX2_goOn 142 = .ok (.aload_n 1, 1) := dk_43 (dk_at dksX2_goOn_6 2 rfl rfl)
theorem dX2_goOn_143 : decode cX2_goOn 143 = .ok (.getfield 39, 3) := dk_180 0 39 (dk_at dksX2_goOn_6 3 rfl rfl)
theorem dX2_goOn_146 : decode cX2_goOn 146 = .ok (.invokevirtual 43, 3) := dk_182 0 43 (dk_at dksX2_goOn_6 6 rfl rfl)
theorem dX2_goOn_149 : decode cX2_goOn 149 = .ok (.if_icmp .ge 63, 3) := dk_162 0 63 (dk_at dksX2_goOn_6 9 rfl rfl)
theorem dX2_goOn_152 : decode cX2_goOn 152 = .ok (.aload_n 0, 1) := dk_42 (dk_at dksX2_goOn_6 12 rfl rfl)
theorem dX2_goOn_153 : decode cX2_goOn 153 = .ok (.getfield 9, 3) := dk_180 0 9 (dk_at dksX2_goOn_6 13 rfl rfl)
theorem dX2_goOn_156 : decode cX2_goOn 156 = .ok (.iload 4, 2) := dk_21 4 (dk_at dksX2_goOn_6 16 rfl rfl)
theorem dX2_goOn_158 : decode cX2_goOn 158 = .ok (.iaload, 1) := dk_46 (dk_at dksX2_goOn_6 18 rfl rfl)
theorem dX2_goOn_159 : decode cX2_goOn 159 = .ok (.ifCond .ne 47, 3) := dk_154 0 47 (dk_at dksX2_goOn_6 19 rfl rfl)
theorem dX2_goOn_162 : decode cX2_goOn 162 = .ok (.aload_n 1, 1) := dk_43 (dk_at dksX2_goOn_6 22 rfl rfl)
theorem dX2_goOn_163 : decode cX2_goOn 163 = .ok (.getfield 39, 3) := dk_180 0 39 (dk_at dksX2_goOn_7 0 rfl rfl)
theorem dX2_goOn_166 : decode cX2_goOn 166 = .ok (.iload 4, 2) := dk_21 4 (dk_at dksX2_goOn_7 3 rfl rfl)
theorem dX2_goOn_168 : decode cX2_goOn 168 = .ok (.invokevirtual 53, 3) := dk_182 0 53 (dk_at dksX2_goOn_7 5 rfl rfl)
theorem dX2_goOn_171 : decode cX2_goOn 171 = .ok (.checkcast 57, 3) := dk_192 0 57 (dk_at dksX2_goOn_7 8 rfl rfl)
theorem dX2_goOn_174 : decode cX2_goOn 174 = .ok (.getfield 59, 3) := dk_180 0 59 (dk_at dksX2_goOn_7 11 rfl rfl)
theorem dX2_goOn_177 : decode cX2_goOn 177 = .ok (.aload_n 0, 1) := dk_42 (dk_at dksX2_goOn_7 14 rfl rfl)
theorem dX2_goOn_178 : decode cX2_goOn 178 = .ok (.getfield 24, 3) := dk_180 0 24 (dk_at dksX2_goOn_7 15 rfl rfl)
theorem dX2_goOn_181 : decode cX2_goOn 181 = .ok (.if_icmp .ge 25, 3) := dk_162 0 25 (dk_at dksX2_goOn_7 18 rfl rfl)
theorem dX2_goOn_184 : decode cX2_goOn 184 = .ok (.aload_n 0, 1) := dk_42 (dk_at dksX2_goOn_7 21 rfl rfl)
theorem dX2_goOn_185 : decode cX2_goOn 185 = .ok (.getfield 9, 3) := dk_180 0 9 (dk_at dksX2_goOn_8 0 rfl rfl)
theorem dX2_goOn_188 : decode cX2_goOn 188 = .ok (.iload 4, 2) := dk_21 4 (dk_at dksX2_goOn_8 3 rfl rfl)
theorem dX2_goOn_190 : decode cX2_goOn 190 = .ok (.aload_n 1, 1) := dk_43 (dk_at dksX2_goOn_8 5 rfl rfl)
theorem dX2_goOn_191 : decode cX2_goOn 191 = .ok (.getfield 39, 3) := dk_180 0 39 (dk_at dksX2_goOn_8 6 rfl rfl)
theorem dX2_goOn_194 : decode cX2_goOn 194 = .ok (.iload 4, 2) := dk_21 4 (dk_at dksX2_goOn_8 9 rfl rfl)
theorem dX2_goOn_196 : decode cX2_goOn 196 = .ok (.invokevirtual 53, 3) := dk_182 0 53 (dk_at dksX2_goOn_8 11 rfl rfl)
theorem dX2_goOn_199 : decode cX2_goOn 199 = .ok (.checkcast 57, 3) := dk_192 0 57 (dk_at dksX2_goOn_8 14 rfl rfl)
theorem dX2_goOn_202 : decode cX2_goOn 202 = .ok (.invokevirtual 62, 3) := dk_182 0 62 (dk_at dksX2_goOn_8 17 rfl rfl)
theorem dX2_goOn_205 : decode cX2_goOn 205 = .ok (.iastore, 1) := dk_79 (dk_at dksX2_goOn_8 20 rfl rfl)
theorem dX2_goOn_206 : decode cX2_goOn 206 = .ok (.iinc 4 1, 3) := dk_132 4 1 (dk_at dksX2_goOn_8 21 rfl rfl)
theorem dX2_goOn_209 : decode cX2_goOn 209 = .ok (.goto (-69), 3) := dk_167 255 187 (dk_at dksX2_goOn_9 0 rfl rfl)
theorem dX2_goOn_212 : decode cX2_goOn 212 = .ok (.iload_n 3, 1) := dk_29 (dk_at dksX2_goOn_9 3 rfl rfl)
theorem dX2_goOn_213 : decode cX2_goOn 213 = .ok (.ireturn, 1) := dk_172 (dk_at dksX2_goOn_9 4 rfl rfl)
theorem q122 : (Jvm.Cond.initialized "OathButtons$Day") ∈ lw_all := lw_g (lw_at lw_m1 6 rfl) rfl
theorem q206 : (Jvm.Cond.fieldLinkNest "OathButtons$Day" (39 : Nat) "OathButtons$Regiment" "oaths" "Ljava/util/ArrayList;" "OathButtons") ∈ lw_tbl := lw_at lw_m1 90 rfl
theorem q222 : (Jvm.Cond.fieldLinkNest "OathButtons$Day" (34 : Nat) "OathButtons$Regiment" "storm" "I" "OathButtons") ∈ lw_tbl := lw_at lw_m1 106 rfl
theorem q262 : (Jvm.Cond.instantiable "OathButtons$Day" (5 : Nat)) ∈ lw_all := lw_g (lw_at lw_m1 146 rfl) rfl
theorem q264 : (Jvm.Cond.instanceMethod ({ cls := "OathButtons$Day", name := "<init>", desc := "()V" } : Jvm.MethodName)) ∈ lw_all := lw_g (lw_at lw_m1 148 rfl) rfl
theorem q265 : (Jvm.Cond.code ({ cls := "OathButtons$Day", name := "<init>", desc := "()V" } : Jvm.MethodName) prog_6_method_1_code (1 : Nat) (Option.none : Option Jvm.ClassFile.FieldType)) ∈ lw_all := lw_g (lw_at lw_m1 149 rfl) rfl
theorem q266 : (Jvm.Cond.methodLink "OathButtons$Day" (3 : Nat) ({ cls := "java/lang/Object", name := "<init>", desc := "()V" } : Jvm.MethodName)) ∈ lw_all := lw_g (lw_at lw_m1 150 rfl) rfl
theorem q267 : (Jvm.Cond.fieldLink "OathButtons$Day" (9 : Nat) "OathButtons$Day" "state" "[I") ∈ lw_all := lw_g (lw_at lw_m1 151 rfl) rfl
theorem q270 : (Jvm.Cond.fieldLink "OathButtons$Day" (15 : Nat) "OathButtons$Day" "thread" "[I") ∈ lw_all := lw_g (lw_at lw_m1 154 rfl) rfl
theorem q272 : (Jvm.Cond.fieldLink "OathButtons$Day" (24 : Nat) "OathButtons$Day" "day" "I") ∈ lw_all := lw_g (lw_at lw_m1 156 rfl) rfl
theorem q275 : (Jvm.Cond.fieldLink "OathButtons$Day" (28 : Nat) "OathButtons$Day" "seed" "I") ∈ lw_all := lw_g (lw_at lw_m1 159 rfl) rfl
theorem q277 : (Jvm.Cond.fieldLink "OathButtons$Day" (31 : Nat) "OathButtons$Day" "cuts" "I") ∈ lw_all := lw_g (lw_at lw_m1 161 rfl) rfl
theorem q279 : (Jvm.Cond.laysFinal "OathButtons$Day" "OathButtons$Day" "state" "[I") ∈ lw_all := lw_g (lw_at lw_m1 163 rfl) rfl
theorem q280 : (Jvm.Cond.soleField "OathButtons$Day" "state") ∈ lw_all := lw_g (lw_at lw_m1 164 rfl) rfl
theorem q281 : (Jvm.Cond.laysFinal "OathButtons$Day" "OathButtons$Day" "thread" "[I") ∈ lw_all := lw_g (lw_at lw_m1 165 rfl) rfl
theorem q282 : (Jvm.Cond.soleField "OathButtons$Day" "thread") ∈ lw_all := lw_g (lw_at lw_m1 166 rfl) rfl
theorem q283 : (Jvm.Cond.lays "OathButtons$Day" "OathButtons$Day" "day" "I") ∈ lw_all := lw_g (lw_at lw_m1 167 rfl) rfl
theorem q284 : (Jvm.Cond.soleField "OathButtons$Day" "day") ∈ lw_all := lw_g (lw_at lw_m1 168 rfl) rfl
theorem q285 : (Jvm.Cond.lays "OathButtons$Day" "OathButtons$Day" "seed" "I") ∈ lw_all := lw_g (lw_at lw_m1 169 rfl) rfl
theorem q286 : (Jvm.Cond.soleField "OathButtons$Day" "seed") ∈ lw_all := lw_g (lw_at lw_m1 170 rfl) rfl
theorem q287 : (Jvm.Cond.lays "OathButtons$Day" "OathButtons$Day" "cuts" "I") ∈ lw_all := lw_g (lw_at lw_m1 171 rfl) rfl
theorem q288 : (Jvm.Cond.soleField "OathButtons$Day" "cuts") ∈ lw_all := lw_g (lw_at lw_m1 172 rfl) rfl
theorem q289 : (Jvm.Cond.superclass "OathButtons$Day" "java/lang/Object") ∈ lw_all := lw_g (lw_at lw_m1 173 rfl) rfl
theorem q822 : (Jvm.Cond.selects "OathButtons$Day" ({ cls := "java/lang/Object", name := "getClass", desc := "()Ljava/lang/Class;" } : Jvm.MethodName) ({ cls := "java/lang/Object", name := "getClass", desc := "()Ljava/lang/Class;" } : Jvm.MethodName)) ∈ lw_all := lw_g (lw_at lw_m3 226 rfl) rfl
theorem q901 : (Jvm.Cond.fieldLink "OathButtons$Day" (59 : Nat) "OathButtons$Oath" "until" "I") ∈ lw_all := lw_g (lw_at lw_m4 65 rfl) rfl
theorem q1121 : (Jvm.Cond.instanceMethod ({ cls := "OathButtons$Day", name := "of", desc := "(LOathButtons$Day;)V" } : Jvm.MethodName)) ∈ lw_all := lw_g (lw_at lw_m5 45 rfl) rfl
theorem q1122 : (Jvm.Cond.selects "OathButtons$Day" ({ cls := "OathButtons$Day", name := "of", desc := "(LOathButtons$Day;)V" } : Jvm.MethodName) ({ cls := "OathButtons$Day", name := "of", desc := "(LOathButtons$Day;)V" } : Jvm.MethodName)) ∈ lw_all := lw_g (lw_at lw_m5 46 rfl) rfl
theorem q1123 : (Jvm.Cond.code ({ cls := "OathButtons$Day", name := "of", desc := "(LOathButtons$Day;)V" } : Jvm.MethodName) prog_6_method_2_code (2 : Nat) (Option.none : Option Jvm.ClassFile.FieldType)) ∈ lw_all := lw_g (lw_at lw_m5 47 rfl) rfl
theorem q1124 : (Jvm.Cond.methodLink "OathButtons$Day" (18 : Nat) ({ cls := "java/lang/System", name := "arraycopy", desc := "(Ljava/lang/Object;ILjava/lang/Object;II)V" } : Jvm.MethodName)) ∈ lw_all := lw_g (lw_at lw_m5 48 rfl) rfl
theorem q1150 : (Jvm.Cond.instanceMethod ({ cls := "OathButtons$Day", name := "goOn", desc := "(LOathButtons$Regiment;)I" } : Jvm.MethodName)) ∈ lw_all := lw_g (lw_at lw_m5 74 rfl) rfl
theorem q1151 : (Jvm.Cond.selects "OathButtons$Day" ({ cls := "OathButtons$Day", name := "goOn", desc := "(LOathButtons$Regiment;)I" } : Jvm.MethodName) ({ cls := "OathButtons$Day", name := "goOn", desc := "(LOathButtons$Regiment;)I" } : Jvm.MethodName)) ∈ lw_all := lw_g (lw_at lw_m5 75 rfl) rfl
theorem q1152 : (Jvm.Cond.code ({ cls := "OathButtons$Day", name := "goOn", desc := "(LOathButtons$Regiment;)I" } : Jvm.MethodName) prog_6_method_3_code (5 : Nat) (Option.some Jvm.ClassFile.FieldType.int)) ∈ lw_all := lw_g (lw_at lw_m5 76 rfl) rfl
theorem q1153 : (Jvm.Cond.methodLink "OathButtons$Day" (43 : Nat) ({ cls := "java/util/ArrayList", name := "size", desc := "()I" } : Jvm.MethodName)) ∈ lw_all := lw_g (lw_at lw_m5 77 rfl) rfl
theorem q1154 : (Jvm.Cond.methodLink "OathButtons$Day" (49 : Nat) ({ cls := "OathButtons$Regiment", name := "wears", desc := "(IIII)I" } : Jvm.MethodName)) ∈ lw_all := lw_g (lw_at lw_m5 78 rfl) rfl
theorem q1183 : (Jvm.Cond.methodLink "OathButtons$Day" (53 : Nat) ({ cls := "java/util/ArrayList", name := "get", desc := "(I)Ljava/lang/Object;" } : Jvm.MethodName)) ∈ lw_all := lw_g (lw_at lw_m5 107 rfl) rfl
theorem q1184 : (Jvm.Cond.classLink "OathButtons$Day" (57 : Nat) "OathButtons$Oath") ∈ lw_all := lw_g (lw_at lw_m5 108 rfl) rfl
theorem q1185 : (Jvm.Cond.methodLink "OathButtons$Day" (62 : Nat) ({ cls := "OathButtons$Oath", name := "byEnd", desc := "()I" } : Jvm.MethodName)) ∈ lw_all := lw_g (lw_at lw_m5 109 rfl) rfl
theorem q2209 : (Jvm.Cond.castable "OathButtons$Day" "java/lang/Object") ∈ lw_tbl := lw_at lw_m9 173 rfl
theorem in_X2 : ∀ w ∈ wsX20, w ∈ lw_all := lw_in wsX20 [279, 281, 283, 285, 287] (by decide +kernel) (by decide +kernel)
/-! OathButtons$Wrong -/
set_option maxRecDepth 100000
def RX3 : String := "OathButtons$Wrong"
def TX3 : u_T := fun k => match k with
  | 0 => ("java/lang/Throwable", "cause", "Ljava/lang/Throwable;", false)
  | 1 => ("java/lang/Throwable", "stackTrace", "[Ljava/lang/StackTraceElement;", false)
  | 2 => ("java/lang/Throwable", "suppressedExceptions", "Ljava/util/List;", false)
  | 3 => ("java/lang/Throwable", "detailMessage", "Ljava/lang/String;", false)
  | 4 => ("java/lang/Throwable", "backtrace", "Ljava/lang/Object;", false)
  | 5 => ("java/lang/Throwable", "depth", "I", false)
  | 6 => ("OathButtons$Wrong", "kind", "I", false)
  | _ => ("OathButtons$Wrong", "place", "I", false)
def tyX3 : Nat → FieldType := fun k => match k with
  | 0 => .object "java/lang/Throwable"
  | 1 => .array (.object "java/lang/StackTraceElement")
  | 2 => .object "java/util/List"
  | 3 => .object "java/lang/String"
  | 4 => .object "java/lang/Object"
  | 5 => .int
  | 6 => .int
  | _ => .int
abbrev wsX30 : List Cond := u_ws RX3 TX3 8
theorem nmX3 : ∀ a, a < 8 → ∀ b, b < 8 → a ≠ b → (TX3 a).2.1 ≠ (TX3 b).2.1 := by decide +kernel
theorem tyX3_ok : ∀ k, k < 8 → parseFieldDescriptor (TX3 k).2.2.1 = some (tyX3 k) := by decide +kernel
abbrev cX3_init : ByteArray := prog_22_method_1_code
def yX3_init : MethodName := ⟨RX3, "<init>", "()V"⟩
theorem dX3_init_0 : decode cX3_init 0 = .ok (.aload_n 0, 1) := by decide +kernel
theorem dX3_init_1 : decode cX3_init 1 = .ok (.invokespecial 1, 3) := by decide +kernel
theorem dX3_init_4 : decode cX3_init 4 = .ok (.return_, 1) := by decide +kernel
abbrev cX3_by : ByteArray := prog_22_method_2_code
def yX3_by : MethodName := ⟨RX3, "by", "(II)LOathButtons$Wrong;"⟩
def dkwX3_by_0 : List UInt8 := [42, 27, 181, 0, 7, 42, 28, 181, 0, 13, 42, 176]
abbrev dktX3_by_0 : List UInt8 := dkwX3_by_0 ++ []
theorem dksX3_by_0 : cX3_by.data.toList.drop 0 = dktX3_by_0 := by decide +kernel
theorem dX3_by_0 : decode cX3_by 0 = .ok (.aload_n 0, 1) := dk_42 (dk_at dksX3_by_0 0 rfl rfl)
theorem dX3_by_1 : decode cX3_by 1 = .ok (.iload_n 1, 1) := dk_27 (dk_at dksX3_by_0 1 rfl rfl)
theorem dX3_by_2 : decode cX3_by 2 = .ok (.putfield 7, 3) := dk_181 0 7 (dk_at dksX3_by_0 2 rfl rfl)
theorem dX3_by_5 : decode cX3_by 5 = .ok (.aload_n 0, 1) := dk_42 (dk_at dksX3_by_0 5 rfl rfl)
theorem dX3_by_6 : decode cX3_by 6 = .ok (.iload_n 2, 1) := dk_28 (dk_at dksX3_by_0 6 rfl rfl)
theorem dX3_by_7 : decode cX3_by 7 = .ok (.putfield 13, 3) := dk_181 0 13 (dk_at dksX3_by_0 7 rfl rfl)
theorem dX3_by_10 : decode cX3_by 10 = .ok (.aload_n 0, 1) := dk_42 (dk_at dksX3_by_0 10 rfl rfl)
theorem dX3_by_11 : decode cX3_by 11 = .ok (.areturn, 1) := dk_176 (dk_at dksX3_by_0 11 rfl rfl)
theorem q125 : (Jvm.Cond.initialized "OathButtons$Wrong") ∈ lw_all := lw_g (lw_at lw_m1 9 rfl) rfl
theorem q291 : (Jvm.Cond.instantiable "OathButtons$Wrong" (8 : Nat)) ∈ lw_all := lw_g (lw_at lw_m1 175 rfl) rfl
theorem q292 : (Jvm.Cond.castable "OathButtons$Wrong" "OathButtons$Wrong") ∈ lw_tbl := lw_at lw_m1 176 rfl
theorem q297 : (Jvm.Cond.selects "OathButtons$Wrong" ({ cls := "java/lang/Throwable", name := "fillInStackTrace", desc := "(I)Ljava/lang/Throwable;" } : Jvm.MethodName) ({ cls := "java/lang/Throwable", name := "fillInStackTrace", desc := "(I)Ljava/lang/Throwable;" } : Jvm.MethodName)) ∈ lw_all := lw_g (lw_at lw_m1 181 rfl) rfl
theorem q298 : (Jvm.Cond.selects "OathButtons$Wrong" ({ cls := "java/lang/Throwable", name := "fillInStackTrace", desc := "()Ljava/lang/Throwable;" } : Jvm.MethodName) ({ cls := "java/lang/Throwable", name := "fillInStackTrace", desc := "()Ljava/lang/Throwable;" } : Jvm.MethodName)) ∈ lw_all := lw_g (lw_at lw_m1 182 rfl) rfl
theorem q299 : (Jvm.Cond.lays "OathButtons$Wrong" "java/lang/Throwable" "cause" "Ljava/lang/Throwable;") ∈ lw_all := lw_g (lw_at lw_m1 183 rfl) rfl
theorem q301 : (Jvm.Cond.lays "OathButtons$Wrong" "java/lang/Throwable" "stackTrace" "[Ljava/lang/StackTraceElement;") ∈ lw_all := lw_g (lw_at lw_m1 185 rfl) rfl
theorem q303 : (Jvm.Cond.lays "OathButtons$Wrong" "java/lang/Throwable" "suppressedExceptions" "Ljava/util/List;") ∈ lw_all := lw_g (lw_at lw_m1 187 rfl) rfl
theorem q305 : (Jvm.Cond.lays "OathButtons$Wrong" "java/lang/Throwable" "detailMessage" "Ljava/lang/String;") ∈ lw_all := lw_g (lw_at lw_m1 189 rfl) rfl
theorem q307 : (Jvm.Cond.lays "OathButtons$Wrong" "java/lang/Throwable" "backtrace" "Ljava/lang/Object;") ∈ lw_all := lw_g (lw_at lw_m1 191 rfl) rfl
theorem q328 : (Jvm.Cond.instanceMethod ({ cls := "OathButtons$Wrong", name := "<init>", desc := "()V" } : Jvm.MethodName)) ∈ lw_all := lw_g (lw_at lw_m1 212 rfl) rfl
theorem q329 : (Jvm.Cond.code ({ cls := "OathButtons$Wrong", name := "<init>", desc := "()V" } : Jvm.MethodName) prog_22_method_1_code (1 : Nat) (Option.none : Option Jvm.ClassFile.FieldType)) ∈ lw_all := lw_g (lw_at lw_m1 213 rfl) rfl
theorem q330 : (Jvm.Cond.methodLink "OathButtons$Wrong" (1 : Nat) ({ cls := "java/lang/Exception", name := "<init>", desc := "()V" } : Jvm.MethodName)) ∈ lw_all := lw_g (lw_at lw_m1 214 rfl) rfl
theorem q334 : (Jvm.Cond.fieldLink "OathButtons$Wrong" (7 : Nat) "OathButtons$Wrong" "kind" "I") ∈ lw_all := lw_g (lw_at lw_m1 218 rfl) rfl
theorem q336 : (Jvm.Cond.fieldLink "OathButtons$Wrong" (13 : Nat) "OathButtons$Wrong" "place" "I") ∈ lw_all := lw_g (lw_at lw_m1 220 rfl) rfl
theorem q342 : (Jvm.Cond.lays "OathButtons$Wrong" "OathButtons$Wrong" "kind" "I") ∈ lw_all := lw_g (lw_at lw_m1 226 rfl) rfl
theorem q343 : (Jvm.Cond.soleField "OathButtons$Wrong" "kind") ∈ lw_all := lw_g (lw_at lw_m1 227 rfl) rfl
theorem q344 : (Jvm.Cond.lays "OathButtons$Wrong" "OathButtons$Wrong" "place" "I") ∈ lw_all := lw_g (lw_at lw_m1 228 rfl) rfl
theorem q345 : (Jvm.Cond.soleField "OathButtons$Wrong" "place") ∈ lw_all := lw_g (lw_at lw_m1 229 rfl) rfl
theorem q350 : (Jvm.Cond.lays "OathButtons$Wrong" "java/lang/Throwable" "depth" "I") ∈ lw_all := lw_g (lw_at lw_m1 234 rfl) rfl
theorem q353 : (Jvm.Cond.superclass "OathButtons$Wrong" "java/lang/Exception") ∈ lw_all := lw_g (lw_at lw_m1 237 rfl) rfl
theorem q713 : (Jvm.Cond.instanceMethod ({ cls := "OathButtons$Wrong", name := "by", desc := "(II)LOathButtons$Wrong;" } : Jvm.MethodName)) ∈ lw_all := lw_g (lw_at lw_m3 117 rfl) rfl
theorem q714 : (Jvm.Cond.selects "OathButtons$Wrong" ({ cls := "OathButtons$Wrong", name := "by", desc := "(II)LOathButtons$Wrong;" } : Jvm.MethodName) ({ cls := "OathButtons$Wrong", name := "by", desc := "(II)LOathButtons$Wrong;" } : Jvm.MethodName)) ∈ lw_all := lw_g (lw_at lw_m3 118 rfl) rfl
theorem q715 : (Jvm.Cond.code ({ cls := "OathButtons$Wrong", name := "by", desc := "(II)LOathButtons$Wrong;" } : Jvm.MethodName) prog_22_method_2_code (3 : Nat) (Option.some (Jvm.ClassFile.FieldType.object "OathButtons$Wrong"))) ∈ lw_all := lw_g (lw_at lw_m3 119 rfl) rfl
theorem q835 : (Jvm.Cond.selects "OathButtons$Wrong" ({ cls := "java/lang/Object", name := "getClass", desc := "()Ljava/lang/Class;" } : Jvm.MethodName) ({ cls := "java/lang/Object", name := "getClass", desc := "()Ljava/lang/Class;" } : Jvm.MethodName)) ∈ lw_all := lw_g (lw_at lw_m3 239 rfl) rfl
theorem q2210 : (Jvm.Cond.castable "OathButtons$Wrong" "java/lang/Object") ∈ lw_tbl := lw_at lw_m9 174 rfl
theorem in_X3 : ∀ w ∈ wsX30, w ∈ lw_all := lw_in wsX30 [299, 301, 303, 305, 307, 350, 342, 344] (by decide +kernel) (by decide +kernel)
/-! OathButtons$Orders -/
set_option maxRecDepth 100000
def RX4 : String := "OathButtons$Orders"
def TX4 : u_T := fun k => match k with
  | 0 => ("OathButtons$Orders", "isKept", "[Z", true)
  | 1 => ("OathButtons$Orders", "row", "[I", true)
  | 2 => ("OathButtons$Orders", "bestRow", "[I", true)
  | 3 => ("OathButtons$Orders", "man", "I", false)
  | 4 => ("OathButtons$Orders", "late", "I", false)
  | 5 => ("OathButtons$Orders", "best", "I", false)
  | 6 => ("OathButtons$Orders", "bestMany", "I", false)
  | 7 => ("OathButtons$Orders", "bestHours", "I", false)
  | 8 => ("OathButtons$Orders", "bestSet", "I", false)
  | _ => ("OathButtons$Orders", "this$0", "LOathButtons;", true)
def tyX4 : Nat → FieldType := fun k => match k with
  | 0 => .array .boolean
  | 1 => .array .int
  | 2 => .array .int
  | 3 => .int
  | 4 => .int
  | 5 => .int
  | 6 => .int
  | 7 => .int
  | 8 => .int
  | _ => .object "OathButtons"
abbrev wsX40 : List Cond := u_ws RX4 TX4 10
theorem nmX4 : ∀ a, a < 10 → ∀ b, b < 10 → a ≠ b → (TX4 a).2.1 ≠ (TX4 b).2.1 := by decide +kernel
theorem tyX4_ok : ∀ k, k < 10 → parseFieldDescriptor (TX4 k).2.2.1 = some (tyX4 k) := by decide +kernel
abbrev cX4_init : ByteArray := prog_14_method_1_code
def yX4_init : MethodName := ⟨RX4, "<init>", "(LOathButtons;)V"⟩
def dkwX4_init_1 : List UInt8 := [181, 0, 19, 42, 16, 6, 188, 10, 181, 0, 23, 177]
abbrev dktX4_init_1 : List UInt8 := dkwX4_init_1 ++ []
def dkwX4_init_0 : List UInt8 := [42, 43, 181, 0, 3, 42, 183, 0, 9, 42, 17, 4, 0, 188, 4, 181, 0, 15, 42, 16, 6, 188, 10]
abbrev dktX4_init_0 : List UInt8 := dkwX4_init_0 ++ dktX4_init_1
theorem dksX4_init_0 : cX4_init.data.toList.drop 0 = dktX4_init_0 := by decide +kernel
theorem dksX4_init_1 : cX4_init.data.toList.drop 23 = dktX4_init_1 := dk_seg dksX4_init_0 23 rfl rfl
theorem dX4_init_0 : decode cX4_init 0 = .ok (.aload_n 0, 1) := dk_42 (dk_at dksX4_init_0 0 rfl rfl)
theorem dX4_init_1 : decode cX4_init 1 = .ok (.aload_n 1, 1) := dk_43 (dk_at dksX4_init_0 1 rfl rfl)
theorem dX4_init_2 : decode cX4_init 2 = .ok (.putfield 3, 3) := dk_181 0 3 (dk_at dksX4_init_0 2 rfl rfl)
theorem dX4_init_5 : decode cX4_init 5 = .ok (.aload_n 0, 1) := dk_42 (dk_at dksX4_init_0 5 rfl rfl)
theorem dX4_init_6 : decode cX4_init 6 = .ok (.invokespecial 9, 3) := dk_183 0 9 (dk_at dksX4_init_0 6 rfl rfl)
theorem dX4_init_9 : decode cX4_init 9 = .ok (.aload_n 0, 1) := dk_42 (dk_at dksX4_init_0 9 rfl rfl)
theorem dX4_init_10 : decode cX4_init 10 = .ok (.sipush 1024, 3) := dk_17 4 0 (dk_at dksX4_init_0 10 rfl rfl)
theorem dX4_init_13 : decode cX4_init 13 = .ok (.newarray .boolean, 2) := dk_188_4 (dk_at dksX4_init_0 13 rfl rfl)
theorem dX4_init_15 : decode cX4_init 15 = .ok (.putfield 15, 3) := dk_181 0 15 (dk_at dksX4_init_0 15 rfl rfl)
theorem dX4_init_18 : decode cX4_init 18 = .ok (.aload_n 0, 1) := dk_42 (dk_at dksX4_init_0 18 rfl rfl)
theorem dX4_init_19 : decode cX4_init 19 = .ok (.bipush 6, 2) := dk_16 6 (dk_at dksX4_init_0 19 rfl rfl)
theorem dX4_init_21 : decode cX4_init 21 = .ok (.newarray .int, 2) := dk_188_10 (dk_at dksX4_init_0 21 rfl rfl)
theorem dX4_init_23 : decode cX4_init 23 = .ok (.putfield 19, 3) := dk_181 0 19 (dk_at dksX4_init_1 0 rfl rfl)
theorem dX4_init_26 : decode cX4_init 26 = .ok (.aload_n 0, 1) := dk_42 (dk_at dksX4_init_1 3 rfl rfl)
theorem dX4_init_27 : decode cX4_init 27 = .ok (.bipush 6, 2) := dk_16 6 (dk_at dksX4_init_1 4 rfl rfl)
theorem dX4_init_29 : decode cX4_init 29 = .ok (.newarray .int, 2) := dk_188_10 (dk_at dksX4_init_1 6 rfl rfl)
theorem dX4_init_31 : decode cX4_init 31 = .ok (.putfield 23, 3) := dk_181 0 23 (dk_at dksX4_init_1 8 rfl rfl)
theorem dX4_init_34 : decode cX4_init 34 = .ok (.return_, 1) := dk_177 (dk_at dksX4_init_1 11 rfl rfl)
abbrev cX4_lay : ByteArray := prog_14_method_2_code
def yX4_lay : MethodName := ⟨RX4, "lay", "(II)V"⟩
def dkwX4_lay_2 : List UInt8 := [177]
abbrev dktX4_lay_2 : List UInt8 := dkwX4_lay_2 ++ []
def dkwX4_lay_1 : List UInt8 := [162, 0, 16, 42, 180, 0, 15, 29, 3, 84, 132, 3, 1, 167, 255, 237, 42, 3, 3, 3, 3, 182, 0, 36]
abbrev dktX4_lay_1 : List UInt8 := dkwX4_lay_1 ++ dktX4_lay_2
def dkwX4_lay_0 : List UInt8 := [42, 27, 181, 0, 26, 42, 28, 181, 0, 30, 42, 2, 181, 0, 33, 3, 62, 29, 42, 180, 0, 15, 190]
abbrev dktX4_lay_0 : List UInt8 := dkwX4_lay_0 ++ dktX4_lay_1
theorem dksX4_lay_0 : cX4_lay.data.toList.drop 0 = dktX4_lay_0 := by decide +kernel
theorem dksX4_lay_1 : cX4_lay.data.toList.drop 23 = dktX4_lay_1 := dk_seg dksX4_lay_0 23 rfl rfl
theorem dksX4_lay_2 : cX4_lay.data.toList.drop 47 = dktX4_lay_2 := dk_seg dksX4_lay_1 24 rfl rfl
theorem dX4_lay_0 : decode cX4_lay 0 = .ok (.aload_n 0, 1) := dk_42 (dk_at dksX4_lay_0 0 rfl rfl)
theorem dX4_lay_1 : decode cX4_lay 1 = .ok (.iload_n 1, 1) := dk_27 (dk_at dksX4_lay_0 1 rfl rfl)
theorem dX4_lay_2 : decode cX4_lay 2 = .ok (.putfield 26, 3) := dk_181 0 26 (dk_at dksX4_lay_0 2 rfl rfl)
theorem dX4_lay_5 : decode cX4_lay 5 = .ok (.aload_n 0, 1) := dk_42 (dk_at dksX4_lay_0 5 rfl rfl)
theorem dX4_lay_6 : decode cX4_lay 6 = .ok (.iload_n 2, 1) := dk_28 (dk_at dksX4_lay_0 6 rfl rfl)
theorem dX4_lay_7 : decode cX4_lay 7 = .ok (.putfield 30, 3) := dk_181 0 30 (dk_at dksX4_lay_0 7 rfl rfl)
theorem dX4_lay_10 : decode cX4_lay 10 = .ok (.aload_n 0, 1) := dk_42 (dk_at dksX4_lay_0 10 rfl rfl)
theorem dX4_lay_11 : decode cX4_lay 11 = .ok (.iconst (-1), 1) := dk_2 (dk_at dksX4_lay_0 11 rfl rfl)
theorem dX4_lay_12 : decode cX4_lay 12 = .ok (.putfield 33, 3) := dk_181 0 33 (dk_at dksX4_lay_0 12 rfl rfl)
theorem dX4_lay_15 : decode cX4_lay 15 = .ok (.iconst 0, 1) := dk_3 (dk_at dksX4_lay_0 15 rfl rfl)
theorem dX4_lay_16 : decode cX4_lay 16 = .ok (.istore_n 3, 1) := dk_62 (dk_at dksX4_lay_0 16 rfl rfl)
theorem dX4_lay_17 : decode cX4_lay 17 = .ok (.iload_n 3, 1) := dk_29 (dk_at dksX4_lay_0 17 rfl rfl)
theorem dX4_lay_18 : decode cX4_lay 18 = .ok (.aload_n 0, 1) := dk_42 (dk_at dksX4_lay_0 18 rfl rfl)
theorem dX4_lay_19 : decode cX4_lay 19 = .ok (.getfield 15, 3) := dk_180 0 15 (dk_at dksX4_lay_0 19 rfl rfl)
theorem dX4_lay_22 : decode cX4_lay 22 = .ok (.arraylength, 1) := dk_190 (dk_at dksX4_lay_0 22 rfl rfl)
theorem dX4_lay_23 : decode cX4_lay 23 = .ok (.if_icmp .ge 16, 3) := dk_162 0 16 (dk_at dksX4_lay_1 0 rfl rfl)
theorem dX4_lay_26 : decode cX4_lay 26 = .ok (.aload_n 0, 1) := dk_42 (dk_at dksX4_lay_1 3 rfl rfl)
theorem dX4_lay_27 : decode cX4_lay 27 = .ok (.getfield 15, 3) := dk_180 0 15 (dk_at dksX4_lay_1 4 rfl rfl)
theorem dX4_lay_30 : decode cX4_lay 30 = .ok (.iload_n 3, 1) := dk_29 (dk_at dksX4_lay_1 7 rfl rfl)
theorem dX4_lay_31 : decode cX4_lay 31 = .ok (.iconst 0, 1) := dk_3 (dk_at dksX4_lay_1 8 rfl rfl)
theorem dX4_lay_32 : decode cX4_lay 32 = .ok (.bastore, 1) := dk_84 (dk_at dksX4_lay_1 9 rfl rfl)
theorem dX4_lay_33 : decode cX4_lay 33 = .ok (.iinc 3 1, 3) := dk_132 3 1 (dk_at dksX4_lay_1 10 rfl rfl)
theorem dX4_lay_36 : decode cX4_lay 36 = .ok (.goto (-19), 3) := dk_167 255 237 (dk_at dksX4_lay_1 13 rfl rfl)
theorem dX4_lay_39 : decode cX4_lay 39 = .ok (.aload_n 0, 1) := dk_42 (dk_at dksX4_lay_1 16 rfl rfl)
theorem dX4_lay_40 : decode cX4_lay 40 = .ok (.iconst 0, 1) := dk_3 (dk_at dksX4_lay_1 17 rfl rfl)
theorem dX4_lay_41 : decode cX4_lay 41 = .ok (.iconst 0, 1) := dk_3 (dk_at dksX4_lay_1 18 rfl rfl)
theorem dX4_lay_42 : decode cX4_lay 42 = .ok (.iconst 0, 1) := dk_3 (dk_at dksX4_lay_1 19 rfl rfl)
theorem dX4_lay_43 : decode cX4_lay 43 = .ok (.iconst 0, 1) := dk_3 (dk_at dksX4_lay_1 20 rfl rfl)
theorem dX4_lay_44 : decode cX4_lay 44 = .ok (.invokevirtual 36, 3) := dk_182 0 36 (dk_at dksX4_lay_1 21 rfl rfl)
theorem dX4_lay_47 : decode cX4_lay 47 = .ok (.return_, 1) := dk_177 (dk_at dksX4_lay_2 0 rfl rfl)
abbrev cX4_go : ByteArray := prog_14_method_3_code
def yX4_go : MethodName := ⟨RX4, "go", "(IIII)V"⟩
def dkwX4_go_9 : List UInt8 := [4, 96, 21, 7, 21, 4, 21, 9, 128, 182, 0, 36, 132, 6, 1, 167, 255, 119, 177]
abbrev dktX4_go_9 : List UInt8 := dkwX4_go_9 ++ []
def dkwX4_go_8 : List UInt8 := [21, 9, 156, 0, 6, 167, 0, 31, 42, 180, 0, 19, 28, 21, 6, 79, 42, 27, 4, 21, 6, 120, 128, 28]
abbrev dktX4_go_8 : List UInt8 := dkwX4_go_8 ++ dktX4_go_9
def dkwX4_go_7 : List UInt8 := [180, 0, 3, 180, 0, 61, 180, 0, 99, 108, 96, 54, 8, 42, 21, 6, 21, 8, 182, 0, 100, 54, 9]
abbrev dktX4_go_7 : List UInt8 := dkwX4_go_7 ++ dktX4_go_8
def dkwX4_go_6 : List UInt8 := [54, 7, 42, 180, 0, 3, 180, 0, 90, 180, 0, 94, 42, 180, 0, 30, 96, 21, 7, 4, 100, 42]
abbrev dktX4_go_6 : List UInt8 := dkwX4_go_6 ++ dktX4_go_7
def dkwX4_go_5 : List UInt8 := [29, 42, 180, 0, 3, 180, 0, 61, 180, 0, 65, 21, 6, 182, 0, 81, 192, 0, 85, 180, 0, 87, 96]
abbrev dktX4_go_5 : List UInt8 := dkwX4_go_5 ++ dktX4_go_6
def dkwX4_go_4 : List UInt8 := [180, 0, 61, 180, 0, 65, 182, 0, 71, 162, 0, 125, 27, 21, 6, 184, 0, 77, 153, 0, 6, 167, 0, 107]
abbrev dktX4_go_4 : List UInt8 := dkwX4_go_4 ++ dktX4_go_5
def dkwX4_go_3 : List UInt8 := [180, 0, 19, 3, 42, 180, 0, 23, 3, 28, 184, 0, 55, 3, 54, 6, 21, 6, 42, 180, 0, 3]
abbrev dktX4_go_3 : List UInt8 := dkwX4_go_3 ++ dktX4_go_4
def dkwX4_go_2 : List UInt8 := [42, 21, 5, 181, 0, 33, 42, 28, 181, 0, 49, 42, 29, 181, 0, 46, 42, 21, 4, 181, 0, 52, 42]
abbrev dktX4_go_2 : List UInt8 := dkwX4_go_2 ++ dktX4_go_3
def dkwX4_go_1 : List UInt8 := [42, 180, 0, 33, 163, 0, 20, 21, 5, 42, 180, 0, 33, 160, 0, 47, 29, 42, 180, 0, 46, 162, 0, 39]
abbrev dktX4_go_1 : List UInt8 := dkwX4_go_1 ++ dktX4_go_2
def dkwX4_go_0 : List UInt8 := [42, 180, 0, 15, 21, 4, 4, 84, 21, 4, 184, 0, 40, 54, 5, 42, 180, 0, 33, 155, 0, 29, 21, 5]
abbrev dktX4_go_0 : List UInt8 := dkwX4_go_0 ++ dktX4_go_1
theorem dksX4_go_0 : cX4_go.data.toList.drop 0 = dktX4_go_0 := by decide +kernel
theorem dksX4_go_1 : cX4_go.data.toList.drop 24 = dktX4_go_1 := dk_seg dksX4_go_0 24 rfl rfl
theorem dksX4_go_2 : cX4_go.data.toList.drop 48 = dktX4_go_2 := dk_seg dksX4_go_1 24 rfl rfl
theorem dksX4_go_3 : cX4_go.data.toList.drop 71 = dktX4_go_3 := dk_seg dksX4_go_2 23 rfl rfl
theorem dksX4_go_4 : cX4_go.data.toList.drop 93 = dktX4_go_4 := dk_seg dksX4_go_3 22 rfl rfl
theorem dksX4_go_5 : cX4_go.data.toList.drop 117 = dktX4_go_5 := dk_seg dksX4_go_4 24 rfl rfl
theorem dksX4_go_6 : cX4_go.data.toList.drop 140 = dktX4_go_6 := dk_seg dksX4_go_5 23 rfl rfl
theorem dksX4_go_7 : cX4_go.data.toList.drop 162 = dktX4_go_7 := dk_seg dksX4_go_6 22 rfl rfl
theorem dksX4_go_8 : cX4_go.data.toList.drop 185 = dktX4_go_8 := dk_seg dksX4_go_7 23 rfl rfl
theorem dksX4_go_9 : cX4_go.data.toList.drop 209 = dktX4_go_9 := dk_seg dksX4_go_8 24 rfl rfl
theorem dX4_go_0 : decode cX4_go 0 = .ok (.aload_n 0, 1) := dk_42 (dk_at dksX4_go_0 0 rfl rfl)
theorem dX4_go_1 : decode cX4_go 1 = .ok (.getfield 15, 3) := dk_180 0 15 (dk_at dksX4_go_0 1 rfl rfl)
theorem dX4_go_4 : decode cX4_go 4 = .ok (.iload 4, 2) := dk_21 4 (dk_at dksX4_go_0 4 rfl rfl)
theorem dX4_go_6 : decode cX4_go 6 = .ok (.iconst 1, 1) := dk_4 (dk_at dksX4_go_0 6 rfl rfl)
theorem dX4_go_7 : decode cX4_go 7 = .ok (.bastore, 1) := dk_84 (dk_at dksX4_go_0 7 rfl rfl)
theorem dX4_go_8 : decode cX4_go 8 = .ok (.iload 4, 2) := dk_21 4 (dk_at dksX4_go_0 8 rfl rfl)
theorem dX4_go_10 : decode cX4_go 10 = .ok (.invokestatic 40, 3) := dk_184 0 40 (dk_at dksX4_go_0 10 rfl rfl)
theorem dX4_go_13 : decode cX4_go 13 = .ok (.istore 5, 2) := dk_54 5 (dk_at dksX4_go_0 13 rfl rfl)
theorem dX4_go_15 : decode cX4_go 15 = .ok (.aload_n 0, 1) := dk_42 (dk_at dksX4_go_0 15 rfl rfl)
theorem dX4_go_16 : decode cX4_go 16 = .ok (.getfield 33, 3) := dk_180 0 33 (dk_at dksX4_go_0 16 rfl rfl)
theorem dX4_go_19 : decode cX4_go 19 = .ok (.ifCond .lt 29, 3) := dk_155 0 29 (dk_at dksX4_go_0 19 rfl rfl)
theorem dX4_go_22 : decode cX4_go 22 = .ok (.iload 5, 2) := dk_21 5 (dk_at dksX4_go_0 22 rfl rfl)
theorem dX4_go_24 : decode cX4_go 24 = .ok (.aload_n 0, 1) := dk_42 (dk_at dksX4_go_1 0 rfl rfl)
theorem dX4_go_25 : decode cX4_go 25 = .ok (.getfield 33, 3) := dk_180 0 33 (dk_at dksX4_go_1 1 rfl rfl)
theorem dX4_go_28 : decode cX4_go 28 = .ok (.if_icmp .gt 20, 3) := dk_163 0 20 (dk_at dksX4_go_1 4 rfl rfl)
theorem dX4_go_31 : decode cX4_go 31 = .ok (.iload 5, 2) := dk_21 5 (dk_at dksX4_go_1 7 rfl rfl)
theorem dX4_go_33 : decode cX4_go 33 = .ok (.aload_n 0, 1) := dk_42 (dk_at dksX4_go_1 9 rfl rfl)
theorem dX4_go_34 : decode cX4_go 34 = .ok (.getfield 33, 3) := dk_180 0 33 (dk_at dksX4_go_1 10 rfl rfl)
theorem dX4_go_37 : decode cX4_go 37 = .ok (.if_icmp .ne 47, 3) := dk_160 0 47 (dk_at dksX4_go_1 13 rfl rfl)
theorem dX4_go_40 : decode cX4_go 40 = .ok (.iload_n 3, 1) := dk_29 (dk_at dksX4_go_1 16 rfl rfl)
theorem dX4_go_41 : decode cX4_go 41 = .ok (.aload_n 0, 1) := dk_42 (dk_at dksX4_go_1 17 rfl rfl)
theorem dX4_go_42 : decode cX4_go 42 = .ok (.getfield 46, 3) := dk_180 0 46 (dk_at dksX4_go_1 18 rfl rfl)
theorem dX4_go_45 : decode cX4_go 45 = .ok (.if_icmp .ge 39, 3) := dk_162 0 39 (dk_at dksX4_go_1 21 rfl rfl)
theorem dX4_go_48 : decode cX4_go 48 = .ok (.aload_n 0, 1) := dk_42 (dk_at dksX4_go_2 0 rfl rfl)
theorem dX4_go_49 : decode cX4_go 49 = .ok (.iload 5, 2) := dk_21 5 (dk_at dksX4_go_2 1 rfl rfl)
theorem dX4_go_51 : decode cX4_go 51 = .ok (.putfield 33, 3) := dk_181 0 33 (dk_at dksX4_go_2 3 rfl rfl)
theorem dX4_go_54 : decode cX4_go 54 = .ok (.aload_n 0, 1) := dk_42 (dk_at dksX4_go_2 6 rfl rfl)
theorem dX4_go_55 : decode cX4_go 55 = .ok (.iload_n 2, 1) := dk_28 (dk_at dksX4_go_2 7 rfl rfl)
theorem dX4_go_56 : decode cX4_go 56 = .ok (.putfield 49, 3) := dk_181 0 49 (dk_at dksX4_go_2 8 rfl rfl)
theorem dX4_go_59 : decode cX4_go 59 = .ok (.aload_n 0, 1) := dk_42 (dk_at dksX4_go_2 11 rfl rfl)
theorem dX4_go_60 : decode cX4_go 60 = .ok (.iload_n 3, 1) := dk_29 (dk_at dksX4_go_2 12 rfl rfl)
theorem dX4_go_61 : decode cX4_go 61 = .ok (.putfield 46, 3) := dk_181 0 46 (dk_at dksX4_go_2 13 rfl rfl)
theorem dX4_go_64 : decode cX4_go 64 = .ok (.aload_n 0, 1) := dk_42 (dk_at dksX4_go_2 16 rfl rfl)
theorem dX4_go_65 : decode cX4_go 65 = .ok (.iload 4, 2) := dk_21 4 (dk_at dksX4_go_2 17 rfl rfl)
theorem dX4_go_67 : decode cX4_go 67 = .ok (.putfield 52, 3) := dk_181 0 52 (dk_at dksX4_go_2 19 rfl rfl)
theorem dX4_go_70 : decode cX4_go 70 = .ok (.aload_n 0, 1) := dk_42 (dk_at dksX4_go_2 22 rfl rfl)
theorem dX4_go_71 : decode cX4_go 71 = .ok (.getfield 19, 3) := dk_180 0 19 (dk_at dksX4_go_3 0 rfl rfl)
theorem dX4_go_74 : decode cX4_go 74 = .ok (.iconst 0, 1) := dk_3 (dk_at dksX4_go_3 3 rfl rfl)
theorem dX4_go_75 : decode cX4_go 75 = .ok (.aload_n 0, 1) := dk_42 (dk_at dksX4_go_3 4 rfl rfl)
theorem dX4_go_76 : decode cX4_go 76 = .ok (.getfield 23, 3) := dk_180 0 23 (dk_at dksX4_go_3 5 rfl rfl)
theorem dX4_go_79 : decode cX4_go 79 = .ok (.iconst 0, 1) := dk_3 (dk_at dksX4_go_3 8 rfl rfl)
theorem dX4_go_80 : decode cX4_go 80 = .ok (.iload_n 2, 1) := dk_28 (dk_at dksX4_go_3 9 rfl rfl)
theorem dX4_go_81 : decode cX4_go 81 = .ok (.invokestatic 55, 3) := dk_184 0 55 (dk_at dksX4_go_3 10 rfl rfl)
theorem dX4_go_84 : decode cX4_go 84 = .ok (.iconst 0, 1) := dk_3 (dk_at dksX4_go_3 13 rfl rfl)
theorem dX4_go_85 : decode cX4_go 85 = .ok (.istore 6, 2) := dk_54 6 (dk_at dksX4_go_3 14 rfl rfl)
theorem dX4_go_87 : decode cX4_go 87 = .ok (.iload 6, 2) := dk_21 6 (dk_at dksX4_go_3 16 rfl rfl)
theorem dX4_go_89 : decode cX4_go 89 = .ok (.aload_n 0, 1) := dk_42 (dk_at dksX4_go_3 18 rfl rfl)
theorem dX4_go_90 : decode cX4_go 90 = .ok (.getfield 3, 3) := dk_180 0 3 (dk_at dksX4_go_3 19 rfl rfl)
theorem dX4_go_93 : decode cX4_go 93 = .ok (.getfield 61, 3) := dk_180 0 61 (dk_at dksX4_go_4 0 rfl rfl)
theorem dX4_go_96 : decode cX4_go 96 = .ok (.getfield 65, 3) := dk_180 0 65 (dk_at dksX4_go_4 3 rfl rfl)
theorem dX4_go_99 : decode cX4_go 99 = .ok (.invokevirtual 71, 3) := dk_182 0 71 (dk_at dksX4_go_4 6 rfl rfl)
theorem dX4_go_102 : decode cX4_go 102 = .ok (.if_icmp .ge 125, 3) := dk_162 0 125 (dk_at dksX4_go_4 9 rfl rfl)
theorem dX4_go_105 : decode cX4_go 105 = .ok (.iload_n 1, 1) := dk_27 (dk_at dksX4_go_4 12 rfl rfl)
theorem dX4_go_106 : decode cX4_go 106 = .ok (.iload 6, 2) := dk_21 6 (dk_at dksX4_go_4 13 rfl rfl)
theorem dX4_go_108 : decode cX4_go 108 = .ok (.invokestatic 77, 3) := dk_184 0 77 (dk_at dksX4_go_4 15 rfl rfl)
theorem dX4_go_111 : decode cX4_go 111 = .ok (.ifCond .eq 6, 3) := dk_153 0 6 (dk_at dksX4_go_4 18 rfl rfl)
theorem dX4_go_114 : decode cX4_go 114 = .ok (.goto 107, 3) := dk_167 0 107 (dk_at dksX4_go_4 21 rfl rfl)
theorem dX4_go_117 : decode cX4_go 117 = .ok (.iload_n 3, 1) := dk_29 (dk_at dksX4_go_5 0 rfl rfl)
theorem dX4_go_118 : decode cX4_go 118 = .ok (.aload_n 0, 1) := dk_42 (dk_at dksX4_go_5 1 rfl rfl)
theorem dX4_go_119 : decode cX4_go 119 = .ok (.getfield 3, 3) := dk_180 0 3 (dk_at dksX4_go_5 2 rfl rfl)
theorem dX4_go_122 : decode cX4_go 122 = .ok (.getfield 61, 3) := dk_180 0 61 (dk_at dksX4_go_5 5 rfl rfl)
theorem dX4_go_125 : decode cX4_go 125 = .ok (.getfield 65, 3) := dk_180 0 65 (dk_at dksX4_go_5 8 rfl rfl)
theorem dX4_go_128 : decode cX4_go 128 = .ok (.iload 6, 2) := dk_21 6 (dk_at dksX4_go_5 11 rfl rfl)
theorem dX4_go_130 : decode cX4_go 130 = .ok (.invokevirtual 81, 3) := dk_182 0 81 (dk_at dksX4_go_5 13 rfl rfl)
theorem dX4_go_133 : decode cX4_go 133 = .ok (.checkcast 85, 3) := dk_192 0 85 (dk_at dksX4_go_5 16 rfl rfl)
theorem dX4_go_136 : decode cX4_go 136 = .ok (.getfield 87, 3) := dk_180 0 87 (dk_at dksX4_go_5 19 rfl rfl)
theorem dX4_go_139 : decode cX4_go 139 = .ok (.iadd, 1) := dk_96 (dk_at dksX4_go_5 22 rfl rfl)
theorem dX4_go_140 : decode cX4_go 140 = .ok (.istore 7, 2) := dk_54 7 (dk_at dksX4_go_6 0 rfl rfl)
theorem dX4_go_142 : decode cX4_go 142 = .ok (.aload_n 0, 1) := dk_42 (dk_at dksX4_go_6 2 rfl rfl)
theorem dX4_go_143 : decode cX4_go 143 = .ok (.getfield 3, 3) := dk_180 0 3 (dk_at dksX4_go_6 3 rfl rfl)
theorem dX4_go_146 : decode cX4_go 146 = .ok (.getfield 90, 3) := dk_180 0 90 (dk_at dksX4_go_6 6 rfl rfl)
theorem dX4_go_149 : decode cX4_go 149 = .ok (.getfield 94, 3) := dk_180 0 94 (dk_at dksX4_go_6 9 rfl rfl)
theorem dX4_go_152 : decode cX4_go 152 = .ok (.aload_n 0, 1) := dk_42 (dk_at dksX4_go_6 12 rfl rfl)
theorem dX4_go_153 : decode cX4_go 153 = .ok (.getfield 30, 3) := dk_180 0 30 (dk_at dksX4_go_6 13 rfl rfl)
theorem dX4_go_156 : decode cX4_go 156 = .ok (.iadd, 1) := dk_96 (dk_at dksX4_go_6 16 rfl rfl)
theorem dX4_go_157 : decode cX4_go 157 = .ok (.iload 7, 2) := dk_21 7 (dk_at dksX4_go_6 17 rfl rfl)
theorem dX4_go_159 : decode cX4_go 159 = .ok (.iconst 1, 1) := dk_4 (dk_at dksX4_go_6 19 rfl rfl)
theorem dX4_go_160 : decode cX4_go 160 = .ok (.isub, 1) := dk_100 (dk_at dksX4_go_6 20 rfl rfl)
theorem dX4_go_161 : decode cX4_go 161 = .ok (.aload_n 0, 1) := dk_42 (dk_at dksX4_go_6 21 rfl rfl)
theorem dX4_go_162 : decode cX4_go 162 = .ok (.getfield 3, 3) := dk_180 0 3 (dk_at dksX4_go_7 0 rfl rfl)
theorem dX4_go_165 : decode cX4_go 165 = .ok (.getfield 61, 3) := dk_180 0 61 (dk_at dksX4_go_7 3 rfl rfl)
theorem dX4_go_168 : decode cX4_go 168 = .ok (.getfield 99, 3) := dk_180 0 99 (dk_at dksX4_go_7 6 rfl rfl)
theorem dX4_go_171 : decode cX4_go 171 = .ok (.idiv, 1) := dk_108 (dk_at dksX4_go_7 9 rfl rfl)
theorem dX4_go_172 : decode cX4_go 172 = .ok (.iadd, 1) := dk_96 (dk_at dksX4_go_7 10 rfl rfl)
theorem dX4_go_173 : decode cX4_go 173 = .ok (.istore 8, 2) := dk_54 8 (dk_at dksX4_go_7 11 rfl rfl)
theorem dX4_go_175 : decode cX4_go 175 = .ok (.aload_n 0, 1) := dk_42 (dk_at dksX4_go_7 13 rfl rfl)
theorem dX4_go_176 : decode cX4_go 176 = .ok (.iload 6, 2) := dk_21 6 (dk_at dksX4_go_7 14 rfl rfl)
theorem dX4_go_178 : decode cX4_go 178 = .ok (.iload 8, 2) := dk_21 8 (dk_at dksX4_go_7 16 rfl rfl)
theorem dX4_go_180 : decode cX4_go 180 = .ok (.invokevirtual 100, 3) := dk_182 0 100 (dk_at dksX4_go_7 18 rfl rfl)
theorem dX4_go_183 : decode cX4_go 183 = .ok (.istore 9, 2) := dk_54 9 (dk_at dksX4_go_7 21 rfl rfl)
theorem dX4_go_185 : decode cX4_go 185 = .ok (.iload 9, 2) := dk_21 9 (dk_at dksX4_go_8 0 rfl rfl)
theorem dX4_go_187 : decode cX4_go 187 = .ok (.ifCond .ge 6, 3) := dk_156 0 6 (dk_at dksX4_go_8 2 rfl rfl)
theorem dX4_go_190 : decode cX4_go 190 = .ok (.goto 31, 3) := dk_167 0 31 (dk_at dksX4_go_8 5 rfl rfl)
theorem dX4_go_193 : decode cX4_go 193 = .ok (.aload_n 0, 1) := dk_42 (dk_at dksX4_go_8 8 rfl rfl)
theorem dX4_go_194 : decode cX4_go 194 = .ok (.getfield 19, 3) := dk_180 0 19 (dk_at dksX4_go_8 9 rfl rfl)
theorem dX4_go_197 : decode cX4_go 197 = .ok (.iload_n 2, 1) := dk_28 (dk_at dksX4_go_8 12 rfl rfl)
theorem dX4_go_198 : decode cX4_go 198 = .ok (.iload 6, 2) := dk_21 6 (dk_at dksX4_go_8 13 rfl rfl)
theorem dX4_go_200 : decode cX4_go 200 = .ok (.iastore, 1) := dk_79 (dk_at dksX4_go_8 15 rfl rfl)
theorem dX4_go_201 : decode cX4_go 201 = .ok (.aload_n 0, 1) := dk_42 (dk_at dksX4_go_8 16 rfl rfl)
theorem dX4_go_202 : decode cX4_go 202 = .ok (.iload_n 1, 1) := dk_27 (dk_at dksX4_go_8 17 rfl rfl)
theorem dX4_go_203 : decode cX4_go 203 = .ok (.iconst 1, 1) := dk_4 (dk_at dksX4_go_8 18 rfl rfl)
theorem dX4_go_204 : decode cX4_go 204 = .ok (.iload 6, 2) := dk_21 6 (dk_at dksX4_go_8 19 rfl rfl)
theorem dX4_go_206 : decode cX4_go 206 = .ok (.ishl, 1) := dk_120 (dk_at dksX4_go_8 21 rfl rfl)
theorem dX4_go_207 : decode cX4_go 207 = .ok (.ior, 1) := dk_128 (dk_at dksX4_go_8 22 rfl rfl)
theorem dX4_go_208 : decode cX4_go 208 = .ok (.iload_n 2, 1) := dk_28 (dk_at dksX4_go_8 23 rfl rfl)
theorem dX4_go_209 : decode cX4_go 209 = .ok (.iconst 1, 1) := dk_4 (dk_at dksX4_go_9 0 rfl rfl)
theorem dX4_go_210 : decode cX4_go 210 = .ok (.iadd, 1) := dk_96 (dk_at dksX4_go_9 1 rfl rfl)
theorem dX4_go_211 : decode cX4_go 211 = .ok (.iload 7, 2) := dk_21 7 (dk_at dksX4_go_9 2 rfl rfl)
theorem dX4_go_213 : decode cX4_go 213 = .ok (.iload 4, 2) := dk_21 4 (dk_at dksX4_go_9 4 rfl rfl)
theorem dX4_go_215 : decode cX4_go 215 = .ok (.iload 9, 2) := dk_21 9 (dk_at dksX4_go_9 6 rfl rfl)
theorem dX4_go_217 : decode cX4_go 217 = .ok (.ior, 1) := dk_128 (dk_at dksX4_go_9 8 rfl rfl)
theorem dX4_go_218 : decode cX4_go 218 = .ok (.invokevirtual 36, 3) := dk_182 0 36 (dk_at dksX4_go_9 9 rfl rfl)
theorem dX4_go_221 : decode cX4_go 221 = .ok (.iinc 6 1, 3) := dk_132 6 1 (dk_at dksX4_go_9 12 rfl rfl)
theorem dX4_go_224 : decode cX4_go 224 = .ok (.goto (-137), 3) := dk_167 255 119 (dk_at dksX4_go_9 15 rfl rfl)
theorem dX4_go_227 : decode cX4_go 227 = .ok (.return_, 1) := dk_177 (dk_at dksX4_go_9 18 rfl rfl)
abbrev cX4_keeps : ByteArray := prog_14_method_4_code
def yX4_keeps : MethodName := ⟨RX4, "keeps", "(II)I"⟩
def dkwX4_keeps_4 : List UInt8 := [182, 0, 121, 154, 0, 5, 2, 172, 29, 4, 21, 4, 120, 128, 62, 132, 4, 1, 167, 255, 149, 29, 172]
abbrev dktX4_keeps_4 : List UInt8 := dkwX4_keeps_4 ++ []
def dkwX4_keeps_3 : List UInt8 := [25, 5, 180, 0, 115, 27, 160, 0, 32, 25, 5, 180, 0, 118, 28, 162, 0, 6, 167, 0, 20, 25, 5]
abbrev dktX4_keeps_3 : List UInt8 := dkwX4_keeps_3 ++ dktX4_keeps_4
def dkwX4_keeps_2 : List UInt8 := [180, 0, 90, 180, 0, 109, 21, 4, 46, 154, 0, 53, 25, 5, 180, 0, 112, 42, 180, 0, 26, 160, 0, 41]
abbrev dktX4_keeps_2 : List UInt8 := dkwX4_keeps_2 ++ dktX4_keeps_3
def dkwX4_keeps_1 : List UInt8 := [180, 0, 3, 180, 0, 61, 180, 0, 104, 21, 4, 182, 0, 81, 192, 0, 107, 58, 5, 42, 180, 0, 3]
abbrev dktX4_keeps_1 : List UInt8 := dkwX4_keeps_1 ++ dktX4_keeps_2
def dkwX4_keeps_0 : List UInt8 := [3, 62, 3, 54, 4, 21, 4, 42, 180, 0, 3, 180, 0, 61, 180, 0, 104, 182, 0, 71, 162, 0, 95, 42]
abbrev dktX4_keeps_0 : List UInt8 := dkwX4_keeps_0 ++ dktX4_keeps_1
theorem dksX4_keeps_0 : cX4_keeps.data.toList.drop 0 = dktX4_keeps_0 := by decide +kernel
theorem dksX4_keeps_1 : cX4_keeps.data.toList.drop 24 = dktX4_keeps_1 := dk_seg dksX4_keeps_0 24 rfl rfl
theorem dksX4_keeps_2 : cX4_keeps.data.toList.drop 47 = dktX4_keeps_2 := dk_seg dksX4_keeps_1 23 rfl rfl
theorem dksX4_keeps_3 : cX4_keeps.data.toList.drop 71 = dktX4_keeps_3 := dk_seg dksX4_keeps_2 24 rfl rfl
theorem dksX4_keeps_4 : cX4_keeps.data.toList.drop 94 = dktX4_keeps_4 := dk_seg dksX4_keeps_3 23 rfl rfl
theorem dX4_keeps_0 : decode cX4_keeps 0 = .ok (.iconst 0, 1) := dk_3 (dk_at dksX4_keeps_0 0 rfl rfl)
theorem dX4_keeps_1 : decode cX4_keeps 1 = .ok (.istore_n 3, 1) := dk_62 (dk_at dksX4_keeps_0 1 rfl rfl)
theorem dX4_keeps_2 : decode cX4_keeps 2 = .ok (.iconst 0, 1) := dk_3 (dk_at dksX4_keeps_0 2 rfl rfl)
theorem dX4_keeps_3 : decode cX4_keeps 3 = .ok (.istore 4, 2) := dk_54 4 (dk_at dksX4_keeps_0 3 rfl rfl)
theorem dX4_keeps_5 : decode cX4_keeps 5 = .ok (.iload 4, 2) := dk_21 4 (dk_at dksX4_keeps_0 5 rfl rfl)
theorem dX4_keeps_7 : decode cX4_keeps 7 = .ok (.aload_n 0, 1) := dk_42 (dk_at dksX4_keeps_0 7 rfl rfl)
theorem dX4_keeps_8 : decode cX4_keeps 8 = .ok (.getfield 3, 3) := dk_180 0 3 (dk_at dksX4_keeps_0 8 rfl rfl)
theorem dX4_keeps_11 : decode cX4_keeps 11 = .ok (.getfield 61, 3) := dk_180 0 61 (dk_at dksX4_keeps_0 11 rfl rfl)
theorem dX4_keeps_14 : decode cX4_keeps 14 = .ok (.getfield 104, 3) := dk_180 0 104 (dk_at dksX4_keeps_0 14 rfl rfl)
theorem dX4_keeps_17 : decode cX4_keeps 17 = .ok (.invokevirtual 71, 3) := dk_182 0 71 (dk_at dksX4_keeps_0 17 rfl rfl)
theorem dX4_keeps_20 : decode cX4_keeps 20 = .ok (.if_icmp .ge 95, 3) := dk_162 0 95 (dk_at dksX4_keeps_0 20 rfl rfl)
theorem dX4_keeps_23 : decode cX4_keeps 23 = .ok (.aload_n 0, 1) := dk_42 (dk_at dksX4_keeps_0 23 rfl rfl)
theorem dX4_keeps_24 : decode cX4_keeps 24 = .ok (.getfield 3, 3) := dk_180 0 3 (dk_at dksX4_keeps_1 0 rfl rfl)
theorem dX4_keeps_27 : decode cX4_keeps 27 = .ok (.getfield 61, 3) := dk_180 0 61 (dk_at dksX4_keeps_1 3 rfl rfl)
theorem dX4_keeps_30 : decode cX4_keeps 30 = .ok (.getfield 104, 3) := dk_180 0 104 (dk_at dksX4_keeps_1 6 rfl rfl)
theorem dX4_keeps_33 : decode cX4_keeps 33 = .ok (.iload 4, 2) := dk_21 4 (dk_at dksX4_keeps_1 9 rfl rfl)
theorem dX4_keeps_35 : decode cX4_keeps 35 = .ok (.invokevirtual 81, 3) := dk_182 0 81 (dk_at dksX4_keeps_1 11 rfl rfl)
theorem dX4_keeps_38 : decode cX4_keeps 38 = .ok (.checkcast 107, 3) := dk_192 0 107 (dk_at dksX4_keeps_1 14 rfl rfl)
theorem dX4_keeps_41 : decode cX4_keeps 41 = .ok (.astore 5, 2) := dk_58 5 (dk_at dksX4_keeps_1 17 rfl rfl)
theorem dX4_keeps_43 : decode cX4_keeps 43 = .ok (.aload_n 0, 1) := dk_42 (dk_at dksX4_keeps_1 19 rfl rfl)
theorem dX4_keeps_44 : decode cX4_keeps 44 = .ok (.getfield 3, 3) := dk_180 0 3 (dk_at dksX4_keeps_1 20 rfl rfl)
theorem dX4_keeps_47 : decode cX4_keeps 47 = .ok (.getfield 90, 3) := dk_180 0 90 (dk_at dksX4_keeps_2 0 rfl rfl)
theorem dX4_keeps_50 : decode cX4_keeps 50 = .ok (.getfield 109, 3) := dk_180 0 109 (dk_at dksX4_keeps_2 3 rfl rfl)
theorem dX4_keeps_53 : decode cX4_keeps 53 = .ok (.iload 4, 2) := dk_21 4 (dk_at dksX4_keeps_2 6 rfl rfl)
theorem dX4_keeps_55 : decode cX4_keeps 55 = .ok (.iaload, 1) := dk_46 (dk_at dksX4_keeps_2 8 rfl rfl)
theorem dX4_keeps_56 : decode cX4_keeps 56 = .ok (.ifCond .ne 53, 3) := dk_154 0 53 (dk_at dksX4_keeps_2 9 rfl rfl)
theorem dX4_keeps_59 : decode cX4_keeps 59 = .ok (.aload 5, 2) := dk_25 5 (dk_at dksX4_keeps_2 12 rfl rfl)
theorem dX4_keeps_61 : decode cX4_keeps 61 = .ok (.getfield 112, 3) := dk_180 0 112 (dk_at dksX4_keeps_2 14 rfl rfl)
theorem dX4_keeps_64 : decode cX4_keeps 64 = .ok (.aload_n 0, 1) := dk_42 (dk_at dksX4_keeps_2 17 rfl rfl)
theorem dX4_keeps_65 : decode cX4_keeps 65 = .ok (.getfield 26, 3) := dk_180 0 26 (dk_at dksX4_keeps_2 18 rfl rfl)
theorem dX4_keeps_68 : decode cX4_keeps 68 = .ok (.if_icmp .ne 41, 3) := dk_160 0 41 (dk_at dksX4_keeps_2 21 rfl rfl)
theorem dX4_keeps_71 : decode cX4_keeps 71 = .ok (.aload 5, 2) := dk_25 5 (dk_at dksX4_keeps_3 0 rfl rfl)
theorem dX4_keeps_73 : decode cX4_keeps 73 = .ok (.getfield 115, 3) := dk_180 0 115 (dk_at dksX4_keeps_3 2 rfl rfl)
theorem dX4_keeps_76 : decode cX4_keeps 76 = .ok (.iload_n 1, 1) := dk_27 (dk_at dksX4_keeps_3 5 rfl rfl)
theorem dX4_keeps_77 : decode cX4_keeps 77 = .ok (.if_icmp .ne 32, 3) := dk_160 0 32 (dk_at dksX4_keeps_3 6 rfl rfl)
theorem dX4_keeps_80 : decode cX4_keeps 80 = .ok (.aload 5, 2) := dk_25 5 (dk_at dksX4_keeps_3 9 rfl rfl)
theorem dX4_keeps_82 : decode cX4_keeps 82 = .ok (.getfield 118, 3) := dk_180 0 118 (dk_at dksX4_keeps_3 11 rfl rfl)
theorem dX4_keeps_85 : decode cX4_keeps 85 = .ok (.iload_n 2, 1) := dk_28 (dk_at dksX4_keeps_3 14 rfl rfl)
theorem dX4_keeps_86 : decode cX4_keeps 86 = .ok (.if_icmp .ge 6, 3) := dk_162 0 6 (dk_at dksX4_keeps_3 15 rfl rfl)
theorem dX4_keeps_89 : decode cX4_keeps 89 = .ok (.goto 20, 3) := dk_167 0 20 (dk_at dksX4_keeps_3 18 rfl rfl)
theorem dX4_keeps_92 : decode cX4_keeps 92 = .ok (.aload 5, 2) := dk_25 5 (dk_at dksX4_keeps_3 21 rfl rfl)
theorem dX4_keeps_94 : decode cX4_keeps 94 = .ok (.invokevirtual 121, 3) := dk_182 0 121 (dk_at dksX4_keeps_4 0 rfl rfl)
theorem dX4_keeps_97 : decode cX4_keeps 97 = .ok (.ifCond .ne 5, 3) := dk_154 0 5 (dk_at dksX4_keeps_4 3 rfl rfl)
theorem dX4_keeps_100 : decode cX4_keeps 100 = .ok (.iconst (-1), 1) := dk_2 (dk_at dksX4_keeps_4 6 rfl rfl)
theorem dX4_keeps_101 : decode cX4_keeps 101 = .ok (.ireturn, 1) := dk_172 (dk_at dksX4_keeps_4 7 rfl rfl)
theorem dX4_keeps_102 : decode cX4_keeps 102 = .ok (.iload_n 3, 1) := dk_29 (dk_at dksX4_keeps_4 8 rfl rfl)
theorem dX4_keeps_103 : decode cX4_keeps 103 = .ok (.iconst 1, 1) := dk_4 (dk_at dksX4_keeps_4 9 rfl rfl)
theorem dX4_keeps_104 : decode cX4_keeps 104 = .ok (.iload 4, 2) := dk_21 4 (dk_at dksX4_keeps_4 10 rfl rfl)
theorem dX4_keeps_106 : decode cX4_keeps 106 = .ok (.ishl, 1) := dk_120 (dk_at dksX4_keeps_4 12 rfl rfl)
theorem dX4_keeps_107 : decode cX4_keeps 107 = .ok (.ior, 1) := dk_128 (dk_at dksX4_keeps_4 13 rfl rfl)
theorem dX4_keeps_108 : decode cX4_keeps 108 = .ok (.istore_n 3, 1) := dk_62 (dk_at dksX4_keeps_4 14 rfl rfl)
theorem dX4_keeps_109 : decode cX4_keeps 109 = .ok (.iinc 4 1, 3) := dk_132 4 1 (dk_at dksX4_keeps_4 15 rfl rfl)
theorem dX4_keeps_112 : decode cX4_keeps 112 = .ok (.goto (-107), 3) := dk_167 255 149 (dk_at dksX4_keeps_4 18 rfl rfl)
theorem dX4_keeps_115 : decode cX4_keeps 115 = .ok (.iload_n 3, 1) := dk_29 (dk_at dksX4_keeps_4 21 rfl rfl)
theorem dX4_keeps_116 : decode cX4_keeps 116 = .ok (.ireturn, 1) := dk_172 (dk_at dksX4_keeps_4 22 rfl rfl)
abbrev cX4_canKeep : ByteArray := prog_14_method_5_code
def yX4_canKeep : MethodName := ⟨RX4, "canKeep", "(I)Z"⟩
def dkwX4_canKeep_1 : List UInt8 := [126, 154, 0, 5, 4, 172, 132, 2, 1, 167, 255, 225, 3, 172]
abbrev dktX4_canKeep_1 : List UInt8 := dkwX4_canKeep_1 ++ []
def dkwX4_canKeep_0 : List UInt8 := [3, 61, 28, 42, 180, 0, 15, 190, 162, 0, 28, 42, 180, 0, 15, 28, 51, 153, 0, 13, 27, 28, 2, 130]
abbrev dktX4_canKeep_0 : List UInt8 := dkwX4_canKeep_0 ++ dktX4_canKeep_1
theorem dksX4_canKeep_0 : cX4_canKeep.data.toList.drop 0 = dktX4_canKeep_0 := by decide +kernel
theorem dksX4_canKeep_1 : cX4_canKeep.data.toList.drop 24 = dktX4_canKeep_1 := dk_seg dksX4_canKeep_0 24 rfl rfl
theorem dX4_canKeep_0 : decode cX4_canKeep 0 = .ok (.iconst 0, 1) := dk_3 (dk_at dksX4_canKeep_0 0 rfl rfl)
theorem dX4_canKeep_1 : decode cX4_canKeep 1 = .ok (.istore_n 2, 1) := dk_61 (dk_at dksX4_canKeep_0 1 rfl rfl)
theorem dX4_canKeep_2 : decode cX4_canKeep 2 = .ok (.iload_n 2, 1) := dk_28 (dk_at dksX4_canKeep_0 2 rfl rfl)
theorem dX4_canKeep_3 : decode cX4_canKeep 3 = .ok (.aload_n 0, 1) := dk_42 (dk_at dksX4_canKeep_0 3 rfl rfl)
theorem dX4_canKeep_4 : decode cX4_canKeep 4 = .ok (.getfield 15, 3) := dk_180 0 15 (dk_at dksX4_canKeep_0 4 rfl rfl)
theorem dX4_canKeep_7 : decode cX4_canKeep 7 = .ok (.arraylength, 1) := dk_190 (dk_at dksX4_canKeep_0 7 rfl rfl)
theorem dX4_canKeep_8 : decode cX4_canKeep 8 = .ok (.if_icmp .ge 28, 3) := dk_162 0 28 (dk_at dksX4_canKeep_0 8 rfl rfl)
theorem dX4_canKeep_11 : decode cX4_canKeep 11 = .ok (.aload_n 0, 1) := dk_42 (dk_at dksX4_canKeep_0 11 rfl rfl)
theorem dX4_canKeep_12 : decode cX4_canKeep 12 = .ok (.getfield 15, 3) := dk_180 0 15 (dk_at dksX4_canKeep_0 12 rfl rfl)
theorem dX4_canKeep_15 : decode cX4_canKeep 15 = .ok (.iload_n 2, 1) := dk_28 (dk_at dksX4_canKeep_0 15 rfl rfl)
theorem dX4_canKeep_16 : decode cX4_canKeep 16 = .ok (.baload, 1) := dk_51 (dk_at dksX4_canKeep_0 16 rfl rfl)
theorem dX4_canKeep_17 : decode cX4_canKeep 17 = .ok (.ifCond .eq 13, 3) := dk_153 0 13 (dk_at dksX4_canKeep_0 17 rfl rfl)
theorem dX4_canKeep_20 : decode cX4_canKeep 20 = .ok (.iload_n 1, 1) := dk_27 (dk_at dksX4_canKeep_0 20 rfl rfl)
theorem dX4_canKeep_21 : decode cX4_canKeep 21 = .ok (.iload_n 2, 1) := dk_28 (dk_at dksX4_canKeep_0 21 rfl rfl)
theorem dX4_canKeep_22 : decode cX4_canKeep 22 = .ok (.iconst (-1), 1) := dk_2 (dk_at dksX4_canKeep_0 22 rfl rfl)
theorem dX4_canKeep_23 : decode cX4_canKeep 23 = .ok (.ixor, 1) := dk_130 (dk_at dksX4_canKeep_0 23 rfl rfl)
theorem dX4_canKeep_24 : decode cX4_canKeep 24 = .ok (.iand, 1) := dk_126 (dk_at dksX4_canKeep_1 0 rfl rfl)
theorem dX4_canKeep_25 : decode cX4_canKeep 25 = .ok (.ifCond .ne 5, 3) := dk_154 0 5 (dk_at dksX4_canKeep_1 1 rfl rfl)
theorem dX4_canKeep_28 : decode cX4_canKeep 28 = .ok (.iconst 1, 1) := dk_4 (dk_at dksX4_canKeep_1 4 rfl rfl)
theorem dX4_canKeep_29 : decode cX4_canKeep 29 = .ok (.ireturn, 1) := dk_172 (dk_at dksX4_canKeep_1 5 rfl rfl)
theorem dX4_canKeep_30 : decode cX4_canKeep 30 = .ok (.iinc 2 1, 3) := dk_132 2 1 (dk_at dksX4_canKeep_1 6 rfl rfl)
theorem dX4_canKeep_33 : decode cX4_canKeep 33 = .ok (.goto (-31), 3) := dk_167 255 225 (dk_at dksX4_canKeep_1 9 rfl rfl)
theorem dX4_canKeep_36 : decode cX4_canKeep 36 = .ok (.iconst 0, 1) := dk_3 (dk_at dksX4_canKeep_1 12 rfl rfl)
theorem dX4_canKeep_37 : decode cX4_canKeep 37 = .ok (.ireturn, 1) := dk_172 (dk_at dksX4_canKeep_1 13 rfl rfl)
theorem q126 : (Jvm.Cond.initialized "OathButtons$Orders") ∈ lw_all := lw_g (lw_at lw_m1 10 rfl) rfl
theorem q202 : (Jvm.Cond.fieldLinkNest "OathButtons$Orders" (65 : Nat) "OathButtons$Regiment" "deeds" "Ljava/util/ArrayList;" "OathButtons") ∈ lw_tbl := lw_at lw_m1 86 rfl
theorem q207 : (Jvm.Cond.fieldLinkNest "OathButtons$Orders" (104 : Nat) "OathButtons$Regiment" "oaths" "Ljava/util/ArrayList;" "OathButtons") ∈ lw_tbl := lw_at lw_m1 91 rfl
theorem q219 : (Jvm.Cond.fieldLinkNest "OathButtons$Orders" (99 : Nat) "OathButtons$Regiment" "hours" "I" "OathButtons") ∈ lw_tbl := lw_at lw_m1 103 rfl
theorem q269 : (Jvm.Cond.fieldLinkNest "OathButtons$Orders" (109 : Nat) "OathButtons$Day" "state" "[I" "OathButtons") ∈ lw_tbl := lw_at lw_m1 153 rfl
theorem q273 : (Jvm.Cond.fieldLinkNest "OathButtons$Orders" (94 : Nat) "OathButtons$Day" "day" "I" "OathButtons") ∈ lw_tbl := lw_at lw_m1 157 rfl
theorem q358 : (Jvm.Cond.instantiable "OathButtons$Orders" (10 : Nat)) ∈ lw_all := lw_g (lw_at lw_m2 2 rfl) rfl
theorem q360 : (Jvm.Cond.instanceMethod ({ cls := "OathButtons$Orders", name := "<init>", desc := "(LOathButtons;)V" } : Jvm.MethodName)) ∈ lw_all := lw_g (lw_at lw_m2 4 rfl) rfl
theorem q361 : (Jvm.Cond.code ({ cls := "OathButtons$Orders", name := "<init>", desc := "(LOathButtons;)V" } : Jvm.MethodName) prog_14_method_1_code (2 : Nat) (Option.none : Option Jvm.ClassFile.FieldType)) ∈ lw_all := lw_g (lw_at lw_m2 5 rfl) rfl
theorem q362 : (Jvm.Cond.methodLink "OathButtons$Orders" (9 : Nat) ({ cls := "java/lang/Object", name := "<init>", desc := "()V" } : Jvm.MethodName)) ∈ lw_all := lw_g (lw_at lw_m2 6 rfl) rfl
theorem q363 : (Jvm.Cond.fieldLink "OathButtons$Orders" (15 : Nat) "OathButtons$Orders" "isKept" "[Z") ∈ lw_all := lw_g (lw_at lw_m2 7 rfl) rfl
theorem q364 : (Jvm.Cond.fieldLink "OathButtons$Orders" (19 : Nat) "OathButtons$Orders" "row" "[I") ∈ lw_all := lw_g (lw_at lw_m2 8 rfl) rfl
theorem q365 : (Jvm.Cond.fieldLink "OathButtons$Orders" (23 : Nat) "OathButtons$Orders" "bestRow" "[I") ∈ lw_all := lw_g (lw_at lw_m2 9 rfl) rfl
theorem q367 : (Jvm.Cond.fieldLink "OathButtons$Orders" (26 : Nat) "OathButtons$Orders" "man" "I") ∈ lw_all := lw_g (lw_at lw_m2 11 rfl) rfl
theorem q368 : (Jvm.Cond.fieldLink "OathButtons$Orders" (30 : Nat) "OathButtons$Orders" "late" "I") ∈ lw_all := lw_g (lw_at lw_m2 12 rfl) rfl
theorem q369 : (Jvm.Cond.fieldLink "OathButtons$Orders" (33 : Nat) "OathButtons$Orders" "best" "I") ∈ lw_all := lw_g (lw_at lw_m2 13 rfl) rfl
theorem q371 : (Jvm.Cond.fieldLink "OathButtons$Orders" (49 : Nat) "OathButtons$Orders" "bestMany" "I") ∈ lw_all := lw_g (lw_at lw_m2 15 rfl) rfl
theorem q373 : (Jvm.Cond.fieldLink "OathButtons$Orders" (46 : Nat) "OathButtons$Orders" "bestHours" "I") ∈ lw_all := lw_g (lw_at lw_m2 17 rfl) rfl
theorem q375 : (Jvm.Cond.fieldLink "OathButtons$Orders" (52 : Nat) "OathButtons$Orders" "bestSet" "I") ∈ lw_all := lw_g (lw_at lw_m2 19 rfl) rfl
theorem q377 : (Jvm.Cond.fieldLink "OathButtons$Orders" (3 : Nat) "OathButtons$Orders" "this$0" "LOathButtons;") ∈ lw_all := lw_g (lw_at lw_m2 21 rfl) rfl
theorem q378 : (Jvm.Cond.laysFinal "OathButtons$Orders" "OathButtons$Orders" "isKept" "[Z") ∈ lw_all := lw_g (lw_at lw_m2 22 rfl) rfl
theorem q379 : (Jvm.Cond.soleField "OathButtons$Orders" "isKept") ∈ lw_all := lw_g (lw_at lw_m2 23 rfl) rfl
theorem q380 : (Jvm.Cond.laysFinal "OathButtons$Orders" "OathButtons$Orders" "row" "[I") ∈ lw_all := lw_g (lw_at lw_m2 24 rfl) rfl
theorem q381 : (Jvm.Cond.soleField "OathButtons$Orders" "row") ∈ lw_all := lw_g (lw_at lw_m2 25 rfl) rfl
theorem q382 : (Jvm.Cond.laysFinal "OathButtons$Orders" "OathButtons$Orders" "bestRow" "[I") ∈ lw_all := lw_g (lw_at lw_m2 26 rfl) rfl
theorem q383 : (Jvm.Cond.soleField "OathButtons$Orders" "bestRow") ∈ lw_all := lw_g (lw_at lw_m2 27 rfl) rfl
theorem q384 : (Jvm.Cond.lays "OathButtons$Orders" "OathButtons$Orders" "man" "I") ∈ lw_all := lw_g (lw_at lw_m2 28 rfl) rfl
theorem q385 : (Jvm.Cond.soleField "OathButtons$Orders" "man") ∈ lw_all := lw_g (lw_at lw_m2 29 rfl) rfl
theorem q386 : (Jvm.Cond.lays "OathButtons$Orders" "OathButtons$Orders" "late" "I") ∈ lw_all := lw_g (lw_at lw_m2 30 rfl) rfl
theorem q387 : (Jvm.Cond.soleField "OathButtons$Orders" "late") ∈ lw_all := lw_g (lw_at lw_m2 31 rfl) rfl
theorem q388 : (Jvm.Cond.lays "OathButtons$Orders" "OathButtons$Orders" "best" "I") ∈ lw_all := lw_g (lw_at lw_m2 32 rfl) rfl
theorem q389 : (Jvm.Cond.soleField "OathButtons$Orders" "best") ∈ lw_all := lw_g (lw_at lw_m2 33 rfl) rfl
theorem q390 : (Jvm.Cond.lays "OathButtons$Orders" "OathButtons$Orders" "bestMany" "I") ∈ lw_all := lw_g (lw_at lw_m2 34 rfl) rfl
theorem q391 : (Jvm.Cond.soleField "OathButtons$Orders" "bestMany") ∈ lw_all := lw_g (lw_at lw_m2 35 rfl) rfl
theorem q392 : (Jvm.Cond.lays "OathButtons$Orders" "OathButtons$Orders" "bestHours" "I") ∈ lw_all := lw_g (lw_at lw_m2 36 rfl) rfl
theorem q393 : (Jvm.Cond.soleField "OathButtons$Orders" "bestHours") ∈ lw_all := lw_g (lw_at lw_m2 37 rfl) rfl
theorem q394 : (Jvm.Cond.lays "OathButtons$Orders" "OathButtons$Orders" "bestSet" "I") ∈ lw_all := lw_g (lw_at lw_m2 38 rfl) rfl
theorem q395 : (Jvm.Cond.soleField "OathButtons$Orders" "bestSet") ∈ lw_all := lw_g (lw_at lw_m2 39 rfl) rfl
theorem q396 : (Jvm.Cond.laysFinal "OathButtons$Orders" "OathButtons$Orders" "this$0" "LOathButtons;") ∈ lw_all := lw_g (lw_at lw_m2 40 rfl) rfl
theorem q397 : (Jvm.Cond.soleField "OathButtons$Orders" "this$0") ∈ lw_all := lw_g (lw_at lw_m2 41 rfl) rfl
theorem q398 : (Jvm.Cond.superclass "OathButtons$Orders" "java/lang/Object") ∈ lw_all := lw_g (lw_at lw_m2 42 rfl) rfl
theorem q491 : (Jvm.Cond.fieldLinkNest "OathButtons$Orders" (61 : Nat) "OathButtons" "regiment" "LOathButtons$Regiment;" "OathButtons") ∈ lw_tbl := lw_at lw_m2 135 rfl
theorem q494 : (Jvm.Cond.fieldLinkNest "OathButtons$Orders" (90 : Nat) "OathButtons" "now" "LOathButtons$Day;" "OathButtons") ∈ lw_tbl := lw_at lw_m2 138 rfl
theorem q829 : (Jvm.Cond.selects "OathButtons$Orders" ({ cls := "java/lang/Object", name := "getClass", desc := "()Ljava/lang/Class;" } : Jvm.MethodName) ({ cls := "java/lang/Object", name := "getClass", desc := "()Ljava/lang/Class;" } : Jvm.MethodName)) ∈ lw_all := lw_g (lw_at lw_m3 233 rfl) rfl
theorem q863 : (Jvm.Cond.fieldLinkNest "OathButtons$Orders" (87 : Nat) "OathButtons$Deed" "hours" "I" "OathButtons") ∈ lw_tbl := lw_at lw_m4 27 rfl
theorem q892 : (Jvm.Cond.fieldLink "OathButtons$Orders" (112 : Nat) "OathButtons$Oath" "on" "I") ∈ lw_all := lw_g (lw_at lw_m4 56 rfl) rfl
theorem q898 : (Jvm.Cond.fieldLink "OathButtons$Orders" (115 : Nat) "OathButtons$Oath" "deed" "I") ∈ lw_all := lw_g (lw_at lw_m4 62 rfl) rfl
theorem q902 : (Jvm.Cond.fieldLink "OathButtons$Orders" (118 : Nat) "OathButtons$Oath" "until" "I") ∈ lw_all := lw_g (lw_at lw_m4 66 rfl) rfl
theorem q1216 : (Jvm.Cond.instanceMethod ({ cls := "OathButtons$Orders", name := "lay", desc := "(II)V" } : Jvm.MethodName)) ∈ lw_all := lw_g (lw_at lw_m5 140 rfl) rfl
theorem q1217 : (Jvm.Cond.selects "OathButtons$Orders" ({ cls := "OathButtons$Orders", name := "lay", desc := "(II)V" } : Jvm.MethodName) ({ cls := "OathButtons$Orders", name := "lay", desc := "(II)V" } : Jvm.MethodName)) ∈ lw_all := lw_g (lw_at lw_m5 141 rfl) rfl
theorem q1218 : (Jvm.Cond.code ({ cls := "OathButtons$Orders", name := "lay", desc := "(II)V" } : Jvm.MethodName) prog_14_method_2_code (4 : Nat) (Option.none : Option Jvm.ClassFile.FieldType)) ∈ lw_all := lw_g (lw_at lw_m5 142 rfl) rfl
theorem q1219 : (Jvm.Cond.methodLink "OathButtons$Orders" (36 : Nat) ({ cls := "OathButtons$Orders", name := "go", desc := "(IIII)V" } : Jvm.MethodName)) ∈ lw_all := lw_g (lw_at lw_m5 143 rfl) rfl
theorem q1220 : (Jvm.Cond.privateMethod ({ cls := "OathButtons$Orders", name := "go", desc := "(IIII)V" } : Jvm.MethodName)) ∈ lw_tbl := lw_at lw_m5 144 rfl
theorem q1221 : (Jvm.Cond.instanceMethod ({ cls := "OathButtons$Orders", name := "go", desc := "(IIII)V" } : Jvm.MethodName)) ∈ lw_all := lw_g (lw_at lw_m5 145 rfl) rfl
theorem q1222 : (Jvm.Cond.code ({ cls := "OathButtons$Orders", name := "go", desc := "(IIII)V" } : Jvm.MethodName) prog_14_method_3_code (10 : Nat) (Option.none : Option Jvm.ClassFile.FieldType)) ∈ lw_all := lw_g (lw_at lw_m5 146 rfl) rfl
theorem q1223 : (Jvm.Cond.methodLink "OathButtons$Orders" (40 : Nat) ({ cls := "java/lang/Intege\x72", name := "bitCount", desc := "(I)I" } : Jvm.MethodName)) ∈ lw_all := lw_g (lw_at lw_m5 147 rfl) rfl
theorem q1229 : (Jvm.Cond.methodLink "OathButtons$Orders" (55 : Nat) ({ cls := "java/lang/System", name := "arraycopy", desc := "(Ljava/lang/Object;ILjava/lang/Object;II)V" } : Jvm.MethodName)) ∈ lw_all := lw_g (lw_at lw_m5 153 rfl) rfl
theorem q1230 : (Jvm.Cond.methodLink "OathButtons$Orders" (71 : Nat) ({ cls := "java/util/ArrayList", name := "size", desc := "()I" } : Jvm.MethodName)) ∈ lw_all := lw_g (lw_at lw_m5 154 rfl) rfl
theorem q1231 : (Jvm.Cond.methodLinkNest "OathButtons$Orders" (77 : Nat) ({ cls := "OathButtons", name := "has", desc := "(II)Z" } : Jvm.MethodName) "OathButtons") ∈ lw_tbl := lw_at lw_m5 155 rfl
theorem q1234 : (Jvm.Cond.methodLink "OathButtons$Orders" (81 : Nat) ({ cls := "java/util/ArrayList", name := "get", desc := "(I)Ljava/lang/Object;" } : Jvm.MethodName)) ∈ lw_all := lw_g (lw_at lw_m5 158 rfl) rfl
theorem q1235 : (Jvm.Cond.classLink "OathButtons$Orders" (85 : Nat) "OathButtons$Deed") ∈ lw_all := lw_g (lw_at lw_m5 159 rfl) rfl
theorem q1236 : (Jvm.Cond.methodLink "OathButtons$Orders" (100 : Nat) ({ cls := "OathButtons$Orders", name := "keeps", desc := "(II)I" } : Jvm.MethodName)) ∈ lw_all := lw_g (lw_at lw_m5 160 rfl) rfl
theorem q1237 : (Jvm.Cond.privateMethod ({ cls := "OathButtons$Orders", name := "keeps", desc := "(II)I" } : Jvm.MethodName)) ∈ lw_tbl := lw_at lw_m5 161 rfl
theorem q1238 : (Jvm.Cond.instanceMethod ({ cls := "OathButtons$Orders", name := "keeps", desc := "(II)I" } : Jvm.MethodName)) ∈ lw_all := lw_g (lw_at lw_m5 162 rfl) rfl
theorem q1239 : (Jvm.Cond.code ({ cls := "OathButtons$Orders", name := "keeps", desc := "(II)I" } : Jvm.MethodName) prog_14_method_4_code (6 : Nat) (Option.some Jvm.ClassFile.FieldType.int)) ∈ lw_all := lw_g (lw_at lw_m5 163 rfl) rfl
theorem q1240 : (Jvm.Cond.classLink "OathButtons$Orders" (107 : Nat) "OathButtons$Oath") ∈ lw_all := lw_g (lw_at lw_m5 164 rfl) rfl
theorem q1241 : (Jvm.Cond.methodLink "OathButtons$Orders" (121 : Nat) ({ cls := "OathButtons$Oath", name := "isPromise", desc := "()Z" } : Jvm.MethodName)) ∈ lw_all := lw_g (lw_at lw_m5 165 rfl) rfl
theorem q1265 : (Jvm.Cond.instanceMethod ({ cls := "OathButtons$Orders", name := "canKeep", desc := "(I)Z" } : Jvm.MethodName)) ∈ lw_all := lw_g (lw_at lw_m5 189 rfl) rfl
theorem q1266 : (Jvm.Cond.selects "OathButtons$Orders" ({ cls := "OathButtons$Orders", name := "canKeep", desc := "(I)Z" } : Jvm.MethodName) ({ cls := "OathButtons$Orders", name := "canKeep", desc := "(I)Z" } : Jvm.MethodName)) ∈ lw_all := lw_g (lw_at lw_m5 190 rfl) rfl
theorem q1267 : (Jvm.Cond.code ({ cls := "OathButtons$Orders", name := "canKeep", desc := "(I)Z" } : Jvm.MethodName) prog_14_method_5_code (3 : Nat) (Option.some Jvm.ClassFile.FieldType.boolean)) ∈ lw_all := lw_g (lw_at lw_m5 191 rfl) rfl
theorem q2211 : (Jvm.Cond.castable "OathButtons$Orders" "java/lang/Object") ∈ lw_tbl := lw_at lw_m9 175 rfl
theorem in_X4 : ∀ w ∈ wsX40, w ∈ lw_all := lw_in wsX40 [378, 380, 382, 384, 386, 388, 390, 392, 394, 396] (by decide +kernel) (by decide +kernel)
/-! OathButtons$Pairs -/
set_option maxRecDepth 100000
def RX5 : String := "OathButtons$Pairs"
abbrev cX5_init : ByteArray := prog_15_method_1_code
def yX5_init : MethodName := ⟨RX5, "<init>", "(LOathButtons;)V"⟩
def dkwX5_init_0 : List UInt8 := [42, 43, 181, 0, 3, 42, 183, 0, 9, 42, 16, 6, 188, 10, 181, 0, 15, 177]
abbrev dktX5_init_0 : List UInt8 := dkwX5_init_0 ++ []
theorem dksX5_init_0 : cX5_init.data.toList.drop 0 = dktX5_init_0 := by decide +kernel
theorem dX5_init_0 : decode cX5_init 0 = .ok (.aload_n 0, 1) := dk_42 (dk_at dksX5_init_0 0 rfl rfl)
theorem dX5_init_1 : decode cX5_init 1 = .ok (.aload_n 1, 1) := dk_43 (dk_at dksX5_init_0 1 rfl rfl)
theorem dX5_init_2 : decode cX5_init 2 = .ok (.putfield 3, 3) := dk_181 0 3 (dk_at dksX5_init_0 2 rfl rfl)
theorem dX5_init_5 : decode cX5_init 5 = .ok (.aload_n 0, 1) := dk_42 (dk_at dksX5_init_0 5 rfl rfl)
theorem dX5_init_6 : decode cX5_init 6 = .ok (.invokespecial 9, 3) := dk_183 0 9 (dk_at dksX5_init_0 6 rfl rfl)
theorem dX5_init_9 : decode cX5_init 9 = .ok (.aload_n 0, 1) := dk_42 (dk_at dksX5_init_0 9 rfl rfl)
theorem dX5_init_10 : decode cX5_init 10 = .ok (.bipush 6, 2) := dk_16 6 (dk_at dksX5_init_0 10 rfl rfl)
theorem dX5_init_12 : decode cX5_init 12 = .ok (.newarray .int, 2) := dk_188_10 (dk_at dksX5_init_0 12 rfl rfl)
theorem dX5_init_14 : decode cX5_init 14 = .ok (.putfield 15, 3) := dk_181 0 15 (dk_at dksX5_init_0 14 rfl rfl)
theorem dX5_init_17 : decode cX5_init 17 = .ok (.return_, 1) := dk_177 (dk_at dksX5_init_0 17 rfl rfl)
abbrev cX5_goThrough : ByteArray := prog_15_method_3_code
def yX5_goThrough : MethodName := ⟨RX5, "goThrough", "()V"⟩
def dkwX5_goThrough_1 : List UInt8 := [182, 0, 19, 177]
abbrev dktX5_goThrough_1 : List UInt8 := dkwX5_goThrough_1 ++ []
def dkwX5_goThrough_0 : List UInt8 := [3, 60, 27, 16, 6, 162, 0, 16, 42, 180, 0, 15, 27, 2, 79, 132, 1, 1, 167, 255, 240, 42, 3, 3]
abbrev dktX5_goThrough_0 : List UInt8 := dkwX5_goThrough_0 ++ dktX5_goThrough_1
theorem dksX5_goThrough_0 : cX5_goThrough.data.toList.drop 0 = dktX5_goThrough_0 := by decide +kernel
theorem dksX5_goThrough_1 : cX5_goThrough.data.toList.drop 24 = dktX5_goThrough_1 := dk_seg dksX5_goThrough_0 24 rfl rfl
theorem dX5_goThrough_0 : decode cX5_goThrough 0 = .ok (.iconst 0, 1) := dk_3 (dk_at dksX5_goThrough_0 0 rfl rfl)
theorem dX5_goThrough_1 : decode cX5_goThrough 1 = .ok (.istore_n 1, 1) := dk_60 (dk_at dksX5_goThrough_0 1 rfl rfl)
theorem dX5_goThrough_2 : decode cX5_goThrough 2 = .ok (.iload_n 1, 1) := dk_27 (dk_at dksX5_goThrough_0 2 rfl rfl)
theorem dX5_goThrough_3 : decode cX5_goThrough 3 = .ok (.bipush 6, 2) := dk_16 6 (dk_at dksX5_goThrough_0 3 rfl rfl)
theorem dX5_goThrough_5 : decode cX5_goThrough 5 = .ok (.if_icmp .ge 16, 3) := dk_162 0 16 (dk_at dksX5_goThrough_0 5 rfl rfl)
theorem dX5_goThrough_8 : decode cX5_goThrough 8 = .ok (.aload_n 0, 1) := dk_42 (dk_at dksX5_goThrough_0 8 rfl rfl)
theorem dX5_goThrough_9 : decode cX5_goThrough 9 = .ok (.getfield 15, 3) := dk_180 0 15 (dk_at dksX5_goThrough_0 9 rfl rfl)
theorem dX5_goThrough_12 : decode cX5_goThrough 12 = .ok (.iload_n 1, 1) := dk_27 (dk_at dksX5_goThrough_0 12 rfl rfl)
theorem dX5_goThrough_13 : decode cX5_goThrough 13 = .ok (.iconst (-1), 1) := dk_2 (dk_at dksX5_goThrough_0 13 rfl rfl)
theorem dX5_goThrough_14 : decode cX5_goThrough 14 = .ok (.iastore, 1) := dk_79 (dk_at dksX5_goThrough_0 14 rfl rfl)
theorem dX5_goThrough_15 : decode cX5_goThrough 15 = .ok (.iinc 1 1, 3) := dk_132 1 1 (dk_at dksX5_goThrough_0 15 rfl rfl)
theorem dX5_goThrough_18 : decode cX5_goThrough 18 = .ok (.goto (-16), 3) := dk_167 255 240 (dk_at dksX5_goThrough_0 18 rfl rfl)
theorem dX5_goThrough_21 : decode cX5_goThrough 21 = .ok (.aload_n 0, 1) := dk_42 (dk_at dksX5_goThrough_0 21 rfl rfl)
theorem dX5_goThrough_22 : decode cX5_goThrough 22 = .ok (.iconst 0, 1) := dk_3 (dk_at dksX5_goThrough_0 22 rfl rfl)
theorem dX5_goThrough_23 : decode cX5_goThrough 23 = .ok (.iconst 0, 1) := dk_3 (dk_at dksX5_goThrough_0 23 rfl rfl)
theorem dX5_goThrough_24 : decode cX5_goThrough 24 = .ok (.invokevirtual 19, 3) := dk_182 0 19 (dk_at dksX5_goThrough_1 0 rfl rfl)
theorem dX5_goThrough_27 : decode cX5_goThrough 27 = .ok (.return_, 1) := dk_177 (dk_at dksX5_goThrough_1 3 rfl rfl)
abbrev cX5_go : ByteArray := prog_15_method_4_code
def yX5_go : MethodName := ⟨RX5, "go", "(II)V"⟩
def dkwX5_go_6 : List UInt8 := [42, 180, 0, 15, 29, 2, 79, 132, 3, 1, 167, 255, 158, 177]
abbrev dktX5_go_6 : List UInt8 := dkwX5_go_6 ++ []
def dkwX5_go_5 : List UInt8 := [28, 42, 180, 0, 3, 180, 0, 23, 27, 29, 182, 0, 43, 96, 182, 0, 19, 42, 180, 0, 15, 27, 2, 79]
abbrev dktX5_go_5 : List UInt8 := dkwX5_go_5 ++ dktX5_go_6
def dkwX5_go_4 : List UInt8 := [160, 0, 6, 167, 0, 52, 42, 180, 0, 15, 27, 29, 79, 42, 180, 0, 15, 29, 27, 79, 42, 27, 4, 96]
abbrev dktX5_go_4 : List UInt8 := dkwX5_go_4 ++ dktX5_go_5
def dkwX5_go_3 : List UInt8 := [42, 180, 0, 15, 29, 46, 156, 0, 72, 42, 180, 0, 3, 180, 0, 23, 27, 29, 182, 0, 43, 16, 156]
abbrev dktX5_go_3 : List UInt8 := dkwX5_go_3 ++ dktX5_go_4
def dkwX5_go_2 : List UInt8 := [182, 0, 19, 27, 4, 96, 62, 29, 42, 180, 0, 3, 180, 0, 23, 180, 0, 27, 182, 0, 33, 162, 0, 87]
abbrev dktX5_go_2 : List UInt8 := dkwX5_go_2 ++ dktX5_go_3
def dkwX5_go_1 : List UInt8 := [180, 0, 15, 27, 46, 155, 0, 12, 42, 27, 4, 96, 28, 182, 0, 19, 177, 42, 27, 4, 96, 28]
abbrev dktX5_go_1 : List UInt8 := dkwX5_go_1 ++ dktX5_go_2
def dkwX5_go_0 : List UInt8 := [27, 42, 180, 0, 3, 180, 0, 23, 180, 0, 27, 182, 0, 33, 160, 0, 9, 42, 28, 182, 0, 39, 177, 42]
abbrev dktX5_go_0 : List UInt8 := dkwX5_go_0 ++ dktX5_go_1
theorem dksX5_go_0 : cX5_go.data.toList.drop 0 = dktX5_go_0 := by decide +kernel
theorem dksX5_go_1 : cX5_go.data.toList.drop 24 = dktX5_go_1 := dk_seg dksX5_go_0 24 rfl rfl
theorem dksX5_go_2 : cX5_go.data.toList.drop 46 = dktX5_go_2 := dk_seg dksX5_go_1 22 rfl rfl
theorem dksX5_go_3 : cX5_go.data.toList.drop 70 = dktX5_go_3 := dk_seg dksX5_go_2 24 rfl rfl
theorem dksX5_go_4 : cX5_go.data.toList.drop 93 = dktX5_go_4 := dk_seg dksX5_go_3 23 rfl rfl
theorem dksX5_go_5 : cX5_go.data.toList.drop 117 = dktX5_go_5 := dk_seg dksX5_go_4 24 rfl rfl
theorem dksX5_go_6 : cX5_go.data.toList.drop 141 = dktX5_go_6 := dk_seg dksX5_go_5 24 rfl rfl
theorem dX5_go_0 : decode cX5_go 0 = .ok (.iload_n 1, 1) := dk_27 (dk_at dksX5_go_0 0 rfl rfl)
theorem dX5_go_1 : decode cX5_go 1 = .ok (.aload_n 0, 1) := dk_42 (dk_at dksX5_go_0 1 rfl rfl)
theorem dX5_go_2 : decode cX5_go 2 = .ok (.getfield 3, 3) := dk_180 0 3 (dk_at dksX5_go_0 2 rfl rfl)
theorem dX5_go_5 : decode cX5_go 5 = .ok (.getfield 23, 3) := dk_180 0 23 (dk_at dksX5_go_0 5 rfl rfl)
theorem dX5_go_8 : decode cX5_go 8 = .ok (.getfield 27, 3) := dk_180 0 27 (dk_at dksX5_go_0 8 rfl rfl)
theorem dX5_go_11 : decode cX5_go 11 = .ok (.invokevirtual 33, 3) := dk_182 0 33 (dk_at dksX5_go_0 11 rfl rfl)
theorem dX5_go_14 : decode cX5_go 14 = .ok (.if_icmp .ne 9, 3) := dk_160 0 9 (dk_at dksX5_go_0 14 rfl rfl)
theorem dX5_go_17 : decode cX5_go 17 = .ok (.aload_n 0, 1) := dk_42 (dk_at dksX5_go_0 17 rfl rfl)
theorem dX5_go_18 : decode cX5_go 18 = .ok (.iload_n 2, 1) := dk_28 (dk_at dksX5_go_0 18 rfl rfl)
theorem dX5_go_19 : decode cX5_go 19 = .ok (.invokevirtual 39, 3) := dk_182 0 39 (dk_at dksX5_go_0 19 rfl rfl)
theorem dX5_go_22 : decode cX5_go 22 = .ok (.return_, 1) := dk_177 (dk_at dksX5_go_0 22 rfl rfl)
theorem dX5_go_23 : decode cX5_go 23 = .ok (.aload_n 0, 1) := dk_42 (dk_at dksX5_go_0 23 rfl rfl)
theorem dX5_go_24 : decode cX5_go 24 = .ok (.getfield 15, 3) := dk_180 0 15 (dk_at dksX5_go_1 0 rfl rfl)
theorem dX5_go_27 : decode cX5_go 27 = .ok (.iload_n 1, 1) := dk_27 (dk_at dksX5_go_1 3 rfl rfl)
theorem dX5_go_28 : decode cX5_go 28 = .ok (.iaload, 1) := dk_46 (dk_at dksX5_go_1 4 rfl rfl)
theorem dX5_go_29 : decode cX5_go 29 = .ok (.ifCond .lt 12, 3) := dk_155 0 12 (dk_at dksX5_go_1 5 rfl rfl)
theorem dX5_go_32 : decode cX5_go 32 = .ok (.aload_n 0, 1) := dk_42 (dk_at dksX5_go_1 8 rfl rfl)
theorem dX5_go_33 : decode cX5_go 33 = .ok (.iload_n 1, 1) := dk_27 (dk_at dksX5_go_1 9 rfl rfl)
theorem dX5_go_34 : decode cX5_go 34 = .ok (.iconst 1, 1) := dk_4 (dk_at dksX5_go_1 10 rfl rfl)
theorem dX5_go_35 : decode cX5_go 35 = .ok (.iadd, 1) := dk_96 (dk_at dksX5_go_1 11 rfl rfl)
theorem dX5_go_36 : decode cX5_go 36 = .ok (.iload_n 2, 1) := dk_28 (dk_at dksX5_go_1 12 rfl rfl)
theorem dX5_go_37 : decode cX5_go 37 = .ok (.invokevirtual 19, 3) := dk_182 0 19 (dk_at dksX5_go_1 13 rfl rfl)
theorem dX5_go_40 : decode cX5_go 40 = .ok (.return_, 1) := dk_177 (dk_at dksX5_go_1 16 rfl rfl)
theorem dX5_go_41 : decode cX5_go 41 = .ok (.aload_n 0, 1) := dk_42 (dk_at dksX5_go_1 17 rfl rfl)
theorem dX5_go_42 : decode cX5_go 42 = .ok (.iload_n 1, 1) := dk_27 (dk_at dksX5_go_1 18 rfl rfl)
theorem dX5_go_43 : decode cX5_go 43 = .ok (.iconst 1, 1) := dk_4 (dk_at dksX5_go_1 19 rfl rfl)
theorem dX5_go_44 : decode cX5_go 44 = .ok (.iadd, 1) := dk_96 (dk_at dksX5_go_1 20 rfl rfl)
theorem dX5_go_45 : decode cX5_go 45 = .ok (.iload_n 2, 1) := dk_28 (dk_at dksX5_go_1 21 rfl rfl)
theorem dX5_go_46 : decode cX5_go 46 = .ok (.invokevirtual 19, 3) := dk_182 0 19 (dk_at dksX5_go_2 0 rfl rfl)
theorem dX5_go_49 : decode cX5_go 49 = .ok (.iload_n 1, 1) := dk_27 (dk_at dksX5_go_2 3 rfl rfl)
theorem dX5_go_50 : decode cX5_go 50 = .ok (.iconst 1, 1) := dk_4 (dk_at dksX5_go_2 4 rfl rfl)
theorem dX5_go_51 : decode cX5_go 51 = .ok (.iadd, 1) := dk_96 (dk_at dksX5_go_2 5 rfl rfl)
theorem dX5_go_52 : decode cX5_go 52 = .ok (.istore_n 3, 1) := dk_62 (dk_at dksX5_go_2 6 rfl rfl)
theorem dX5_go_53 : decode cX5_go 53 = .ok (.iload_n 3, 1) := dk_29 (dk_at dksX5_go_2 7 rfl rfl)
theorem dX5_go_54 : decode cX5_go 54 = .ok (.aload_n 0, 1) := dk_42 (dk_at dksX5_go_2 8 rfl rfl)
theorem dX5_go_55 : decode cX5_go 55 = .ok (.getfield 3, 3) := dk_180 0 3 (dk_at dksX5_go_2 9 rfl rfl)
theorem dX5_go_58 : decode cX5_go 58 = .ok (.getfield 23, 3) := dk_180 0 23 (dk_at dksX5_go_2 12 rfl rfl)
theorem dX5_go_61 : decode cX5_go 61 = .ok (.getfield 27, 3) := dk_180 0 27 (dk_at dksX5_go_2 15 rfl rfl)
theorem dX5_go_64 : decode cX5_go 64 = .ok (.invokevirtual 33, 3) := dk_182 0 33 (dk_at dksX5_go_2 18 rfl rfl)
theorem dX5_go_67 : decode cX5_go 67 = .ok (.if_icmp .ge 87, 3) := dk_162 0 87 (dk_at dksX5_go_2 21 rfl rfl)
theorem dX5_go_70 : decode cX5_go 70 = .ok (.aload_n 0, 1) := dk_42 (dk_at dksX5_go_3 0 rfl rfl)
theorem dX5_go_71 : decode cX5_go 71 = .ok (.getfield 15, 3) := dk_180 0 15 (dk_at dksX5_go_3 1 rfl rfl)
theorem dX5_go_74 : decode cX5_go 74 = .ok (.iload_n 3, 1) := dk_29 (dk_at dksX5_go_3 4 rfl rfl)
theorem dX5_go_75 : decode cX5_go 75 = .ok (.iaload, 1) := dk_46 (dk_at dksX5_go_3 5 rfl rfl)
theorem dX5_go_76 : decode cX5_go 76 = .ok (.ifCond .ge 72, 3) := dk_156 0 72 (dk_at dksX5_go_3 6 rfl rfl)
theorem dX5_go_79 : decode cX5_go 79 = .ok (.aload_n 0, 1) := dk_42 (dk_at dksX5_go_3 9 rfl rfl)
theorem dX5_go_80 : decode cX5_go 80 = .ok (.getfield 3, 3) := dk_180 0 3 (dk_at dksX5_go_3 10 rfl rfl)
theorem dX5_go_83 : decode cX5_go 83 = .ok (.getfield 23, 3) := dk_180 0 23 (dk_at dksX5_go_3 13 rfl rfl)
theorem dX5_go_86 : decode cX5_go 86 = .ok (.iload_n 1, 1) := dk_27 (dk_at dksX5_go_3 16 rfl rfl)
theorem dX5_go_87 : decode cX5_go 87 = .ok (.iload_n 3, 1) := dk_29 (dk_at dksX5_go_3 17 rfl rfl)
theorem dX5_go_88 : decode cX5_go 88 = .ok (.invokevirtual 43, 3) := dk_182 0 43 (dk_at dksX5_go_3 18 rfl rfl)
theorem dX5_go_91 : decode cX5_go 91 = .ok (.bipush (-100), 2) := dk_16 156 (dk_at dksX5_go_3 21 rfl rfl)
theorem dX5_go_93 : decode cX5_go 93 = .ok (.if_icmp .ne 6, 3) := dk_160 0 6 (dk_at dksX5_go_4 0 rfl rfl)
theorem dX5_go_96 : decode cX5_go 96 = .ok (.goto 52, 3) := dk_167 0 52 (dk_at dksX5_go_4 3 rfl rfl)
theorem dX5_go_99 : decode cX5_go 99 = .ok (.aload_n 0, 1) := dk_42 (dk_at dksX5_go_4 6 rfl rfl)
theorem dX5_go_100 : decode cX5_go 100 = .ok (.getfield 15, 3) := dk_180 0 15 (dk_at dksX5_go_4 7 rfl rfl)
theorem dX5_go_103 : decode cX5_go 103 = .ok (.iload_n 1, 1) := dk_27 (dk_at dksX5_go_4 10 rfl rfl)
theorem dX5_go_104 : decode cX5_go 104 = .ok (.iload_n 3, 1) := dk_29 (dk_at dksX5_go_4 11 rfl rfl)
theorem dX5_go_105 : decode cX5_go 105 = .ok (.iastore, 1) := dk_79 (dk_at dksX5_go_4 12 rfl rfl)
theorem dX5_go_106 : decode cX5_go 106 = .ok (.aload_n 0, 1) := dk_42 (dk_at dksX5_go_4 13 rfl rfl)
theorem dX5_go_107 : decode cX5_go 107 = .ok (.getfield 15, 3) := dk_180 0 15 (dk_at dksX5_go_4 14 rfl rfl)
theorem dX5_go_110 : decode cX5_go 110 = .ok (.iload_n 3, 1) := dk_29 (dk_at dksX5_go_4 17 rfl rfl)
theorem dX5_go_111 : decode cX5_go 111 = .ok (.iload_n 1, 1) := dk_27 (dk_at dksX5_go_4 18 rfl rfl)
theorem dX5_go_112 : decode cX5_go 112 = .ok (.iastore, 1) := dk_79 (dk_at dksX5_go_4 19 rfl rfl)
theorem dX5_go_113 : decode cX5_go 113 = .ok (.aload_n 0, 1) := dk_42 (dk_at dksX5_go_4 20 rfl rfl)
theorem dX5_go_114 : decode cX5_go 114 = .ok (.iload_n 1, 1) := dk_27 (dk_at dksX5_go_4 21 rfl rfl)
theorem dX5_go_115 : decode cX5_go 115 = .ok (.iconst 1, 1) := dk_4 (dk_at dksX5_go_4 22 rfl rfl)
theorem dX5_go_116 : decode cX5_go 116 = .ok (.iadd, 1) := dk_96 (dk_at dksX5_go_4 23 rfl rfl)
theorem dX5_go_117 : decode cX5_go 117 = .ok (.iload_n 2, 1) := dk_28 (dk_at dksX5_go_5 0 rfl rfl)
theorem dX5_go_118 : decode cX5_go 118 = .ok (.aload_n 0, 1) := dk_42 (dk_at dksX5_go_5 1 rfl rfl)
theorem dX5_go_119 : decode cX5_go 119 = .ok (.getfield 3, 3) := dk_180 0 3 (dk_at dksX5_go_5 2 rfl rfl)
theorem dX5_go_122 : decode cX5_go 122 = .ok (.getfield 23, 3) := dk_180 0 23 (dk_at dksX5_go_5 5 rfl rfl)
theorem dX5_go_125 : decode cX5_go 125 = .ok (.iload_n 1, 1) := dk_27 (dk_at dksX5_go_5 8 rfl rfl)
theorem dX5_go_126 : decode cX5_go 126 = .ok (.iload_n 3, 1) := dk_29 (dk_at dksX5_go_5 9 rfl rfl)
theorem dX5_go_127 : decode cX5_go 127 = .ok (.invokevirtual 43, 3) := dk_182 0 43 (dk_at dksX5_go_5 10 rfl rfl)
theorem dX5_go_130 : decode cX5_go 130 = .ok (.iadd, 1) := dk_96 (dk_at dksX5_go_5 13 rfl rfl)
theorem dX5_go_131 : decode cX5_go 131 = .ok (.invokevirtual 19, 3) := dk_182 0 19 (dk_at dksX5_go_5 14 rfl rfl)
theorem dX5_go_134 : decode cX5_go 134 = .ok (.aload_n 0, 1) := dk_42 (dk_at dksX5_go_5 17 rfl rfl)
theorem dX5_go_135 : decode cX5_go 135 = .ok (.getfield 15, 3) := dk_180 0 15 (dk_at dksX5_go_5 18 rfl rfl)
theorem dX5_go_138 : decode cX5_go 138 = .ok (.iload_n 1, 1) := dk_27 (dk_at dksX5_go_5 21 rfl rfl)
theorem dX5_go_139 : decode cX5_go 139 = .ok (.iconst (-1), 1) := dk_2 (dk_at dksX5_go_5 22 rfl rfl)
theorem dX5_go_140 : decode cX5_go 140 = .ok (.iastore, 1) := dk_79 (dk_at dksX5_go_5 23 rfl rfl)
theorem dX5_go_141 : decode cX5_go 141 = .ok (.aload_n 0, 1) := dk_42 (dk_at dksX5_go_6 0 rfl rfl)
theorem dX5_go_142 : decode cX5_go 142 = .ok (.getfield 15, 3) := dk_180 0 15 (dk_at dksX5_go_6 1 rfl rfl)
theorem dX5_go_145 : decode cX5_go 145 = .ok (.iload_n 3, 1) := dk_29 (dk_at dksX5_go_6 4 rfl rfl)
theorem dX5_go_146 : decode cX5_go 146 = .ok (.iconst (-1), 1) := dk_2 (dk_at dksX5_go_6 5 rfl rfl)
theorem dX5_go_147 : decode cX5_go 147 = .ok (.iastore, 1) := dk_79 (dk_at dksX5_go_6 6 rfl rfl)
theorem dX5_go_148 : decode cX5_go 148 = .ok (.iinc 3 1, 3) := dk_132 3 1 (dk_at dksX5_go_6 7 rfl rfl)
theorem dX5_go_151 : decode cX5_go 151 = .ok (.goto (-98), 3) := dk_167 255 158 (dk_at dksX5_go_6 10 rfl rfl)
theorem dX5_go_154 : decode cX5_go 154 = .ok (.return_, 1) := dk_177 (dk_at dksX5_go_6 13 rfl rfl)
abbrev cX5_hasOf : ByteArray := prog_15_method_5_code
def yX5_hasOf : MethodName := ⟨RX5, "hasOf", "(I)I"⟩
def dkwX5_hasOf_1 : List UInt8 := [180, 0, 15, 27, 46, 182, 0, 43, 172]
abbrev dktX5_hasOf_1 : List UInt8 := dkwX5_hasOf_1 ++ []
def dkwX5_hasOf_0 : List UInt8 := [42, 180, 0, 15, 27, 46, 156, 0, 7, 3, 167, 0, 20, 42, 180, 0, 3, 180, 0, 23, 27, 42]
abbrev dktX5_hasOf_0 : List UInt8 := dkwX5_hasOf_0 ++ dktX5_hasOf_1
theorem dksX5_hasOf_0 : cX5_hasOf.data.toList.drop 0 = dktX5_hasOf_0 := by decide +kernel
theorem dksX5_hasOf_1 : cX5_hasOf.data.toList.drop 22 = dktX5_hasOf_1 := dk_seg dksX5_hasOf_0 22 rfl rfl
theorem dX5_hasOf_0 : decode cX5_hasOf 0 = .ok (.aload_n 0, 1) := dk_42 (dk_at dksX5_hasOf_0 0 rfl rfl)
theorem dX5_hasOf_1 : decode cX5_hasOf 1 = .ok (.getfield 15, 3) := dk_180 0 15 (dk_at dksX5_hasOf_0 1 rfl rfl)
theorem dX5_hasOf_4 : decode cX5_hasOf 4 = .ok (.iload_n 1, 1) := dk_27 (dk_at dksX5_hasOf_0 4 rfl rfl)
theorem dX5_hasOf_5 : decode cX5_hasOf 5 = .ok (.iaload, 1) := dk_46 (dk_at dksX5_hasOf_0 5 rfl rfl)
theorem dX5_hasOf_6 : decode cX5_hasOf 6 = .ok (.ifCond .ge 7, 3) := dk_156 0 7 (dk_at dksX5_hasOf_0 6 rfl rfl)
theorem dX5_hasOf_9 : decode cX5_hasOf 9 = .ok (.iconst 0, 1) := dk_3 (dk_at dksX5_hasOf_0 9 rfl rfl)
theorem dX5_hasOf_10 : decode cX5_hasOf 10 = .ok (.goto 20, 3) := dk_167 0 20 (dk_at dksX5_hasOf_0 10 rfl rfl)
theorem dX5_hasOf_13 : decode cX5_hasOf 13 = .ok (.aload_n 0, 1) := dk_42 (dk_at dksX5_hasOf_0 13 rfl rfl)
theorem dX5_hasOf_14 : decode cX5_hasOf 14 = .ok (.getfield 3, 3) := dk_180 0 3 (dk_at dksX5_hasOf_0 14 rfl rfl)
theorem dX5_hasOf_17 : decode cX5_hasOf 17 = .ok (.getfield 23, 3) := dk_180 0 23 (dk_at dksX5_hasOf_0 17 rfl rfl)
theorem dX5_hasOf_20 : decode cX5_hasOf 20 = .ok (.iload_n 1, 1) := dk_27 (dk_at dksX5_hasOf_0 20 rfl rfl)
theorem dX5_hasOf_21 : decode cX5_hasOf 21 = .ok (.aload_n 0, 1) := dk_42 (dk_at dksX5_hasOf_0 21 rfl rfl)
theorem dX5_hasOf_22 : decode cX5_hasOf 22 = .ok (.getfield 15, 3) := dk_180 0 15 (dk_at dksX5_hasOf_1 0 rfl rfl)
theorem dX5_hasOf_25 : decode cX5_hasOf 25 = .ok (.iload_n 1, 1) := dk_27 (dk_at dksX5_hasOf_1 3 rfl rfl)
theorem dX5_hasOf_26 : decode cX5_hasOf 26 = .ok (.iaload, 1) := dk_46 (dk_at dksX5_hasOf_1 4 rfl rfl)
theorem dX5_hasOf_27 : decode cX5_hasOf 27 = .ok (.invokevirtual 43, 3) := dk_182 0 43 (dk_at dksX5_hasOf_1 5 rfl rfl)
theorem dX5_hasOf_30 : decode cX5_hasOf 30 = .ok (.ireturn, 1) := dk_172 (dk_at dksX5_hasOf_1 8 rfl rfl)
theorem q127 : (Jvm.Cond.initialized "OathButtons$Pairs") ∈ lw_all := lw_g (lw_at lw_m1 11 rfl) rfl
theorem q198 : (Jvm.Cond.fieldLinkNest "OathButtons$Pairs" (27 : Nat) "OathButtons$Regiment" "men" "Ljava/util/ArrayList;" "OathButtons") ∈ lw_tbl := lw_at lw_m1 82 rfl
theorem q406 : (Jvm.Cond.instanceMethod ({ cls := "OathButtons$Pairs", name := "<init>", desc := "(LOathButtons;)V" } : Jvm.MethodName)) ∈ lw_all := lw_g (lw_at lw_m2 50 rfl) rfl
theorem q407 : (Jvm.Cond.code ({ cls := "OathButtons$Pairs", name := "<init>", desc := "(LOathButtons;)V" } : Jvm.MethodName) prog_15_method_1_code (2 : Nat) (Option.none : Option Jvm.ClassFile.FieldType)) ∈ lw_all := lw_g (lw_at lw_m2 51 rfl) rfl
theorem q408 : (Jvm.Cond.methodLink "OathButtons$Pairs" (9 : Nat) ({ cls := "java/lang/Object", name := "<init>", desc := "()V" } : Jvm.MethodName)) ∈ lw_all := lw_g (lw_at lw_m2 52 rfl) rfl
theorem q412 : (Jvm.Cond.fieldLink "OathButtons$Pairs" (15 : Nat) "OathButtons$Pairs" "with" "[I") ∈ lw_all := lw_g (lw_at lw_m2 56 rfl) rfl
theorem q417 : (Jvm.Cond.fieldLink "OathButtons$Pairs" (3 : Nat) "OathButtons$Pairs" "this$0" "LOathButtons;") ∈ lw_all := lw_g (lw_at lw_m2 61 rfl) rfl
theorem q425 : (Jvm.Cond.soleField "OathButtons$Pairs" "with") ∈ lw_all := lw_g (lw_at lw_m2 69 rfl) rfl
theorem q427 : (Jvm.Cond.soleField "OathButtons$Pairs" "this$0") ∈ lw_all := lw_g (lw_at lw_m2 71 rfl) rfl
theorem q492 : (Jvm.Cond.fieldLinkNest "OathButtons$Pairs" (23 : Nat) "OathButtons" "regiment" "LOathButtons$Regiment;" "OathButtons") ∈ lw_tbl := lw_at lw_m2 136 rfl
theorem q1314 : (Jvm.Cond.declares ({ cls := "OathButtons$Pairs", name := "goThrough", desc := "()V" } : Jvm.MethodName)) ∈ lw_tbl := lw_at lw_m5 238 rfl
theorem q1316 : (Jvm.Cond.instanceMethod ({ cls := "OathButtons$Pairs", name := "goThrough", desc := "()V" } : Jvm.MethodName)) ∈ lw_all := lw_g (lw_at lw_m6 0 rfl) rfl
theorem q1317 : (Jvm.Cond.code ({ cls := "OathButtons$Pairs", name := "goThrough", desc := "()V" } : Jvm.MethodName) prog_15_method_3_code (2 : Nat) (Option.none : Option Jvm.ClassFile.FieldType)) ∈ lw_all := lw_g (lw_at lw_m6 1 rfl) rfl
theorem q1318 : (Jvm.Cond.methodLink "OathButtons$Pairs" (19 : Nat) ({ cls := "OathButtons$Pairs", name := "go", desc := "(II)V" } : Jvm.MethodName)) ∈ lw_all := lw_g (lw_at lw_m6 2 rfl) rfl
theorem q1319 : (Jvm.Cond.privateMethod ({ cls := "OathButtons$Pairs", name := "go", desc := "(II)V" } : Jvm.MethodName)) ∈ lw_tbl := lw_at lw_m6 3 rfl
theorem q1320 : (Jvm.Cond.instanceMethod ({ cls := "OathButtons$Pairs", name := "go", desc := "(II)V" } : Jvm.MethodName)) ∈ lw_all := lw_g (lw_at lw_m6 4 rfl) rfl
theorem q1321 : (Jvm.Cond.code ({ cls := "OathButtons$Pairs", name := "go", desc := "(II)V" } : Jvm.MethodName) prog_15_method_4_code (4 : Nat) (Option.none : Option Jvm.ClassFile.FieldType)) ∈ lw_all := lw_g (lw_at lw_m6 5 rfl) rfl
theorem q1322 : (Jvm.Cond.methodLink "OathButtons$Pairs" (33 : Nat) ({ cls := "java/util/ArrayList", name := "size", desc := "()I" } : Jvm.MethodName)) ∈ lw_all := lw_g (lw_at lw_m6 6 rfl) rfl
theorem q1323 : (Jvm.Cond.methodLink "OathButtons$Pairs" (39 : Nat) ({ cls := "OathButtons$Pairs", name := "met", desc := "(I)V" } : Jvm.MethodName)) ∈ lw_all := lw_g (lw_at lw_m6 7 rfl) rfl
theorem q1324 : (Jvm.Cond.declares ({ cls := "OathButtons$Pairs", name := "met", desc := "(I)V" } : Jvm.MethodName)) ∈ lw_tbl := lw_at lw_m6 8 rfl
theorem q1325 : (Jvm.Cond.sameMethod "OathButtons$Pairs" "OathButtons$Pairs" "met" "(I)V") ∈ lw_all := lw_g (lw_at lw_m6 9 rfl) rfl
theorem q1338 : (Jvm.Cond.declares ({ cls := "OathButtons$Pairs", name := "hasOf", desc := "(I)I" } : Jvm.MethodName)) ∈ lw_tbl := lw_at lw_m6 22 rfl
theorem q1340 : (Jvm.Cond.instanceMethod ({ cls := "OathButtons$Pairs", name := "hasOf", desc := "(I)I" } : Jvm.MethodName)) ∈ lw_all := lw_g (lw_at lw_m6 24 rfl) rfl
theorem q1341 : (Jvm.Cond.code ({ cls := "OathButtons$Pairs", name := "hasOf", desc := "(I)I" } : Jvm.MethodName) prog_15_method_5_code (2 : Nat) (Option.some Jvm.ClassFile.FieldType.int)) ∈ lw_all := lw_g (lw_at lw_m6 25 rfl) rfl
theorem q1342 : (Jvm.Cond.methodLink "OathButtons$Pairs" (43 : Nat) ({ cls := "OathButtons$Regiment", name := "likesOf", desc := "(II)I" } : Jvm.MethodName)) ∈ lw_all := lw_g (lw_at lw_m6 26 rfl) rfl
theorem q2197 : (Jvm.Cond.sameMethod "OathButtons$Pairs" "OathButtons$Pairs" "go" "(II)V") ∈ lw_all := lw_g (lw_at lw_m9 161 rfl) rfl
/-! OathButtons$Best -/
set_option maxRecDepth 100000
def RX6 : String := "OathButtons$Best"
def TX6 : u_T := fun k => match k with
  | 0 => ("OathButtons$Pairs", "with", "[I", true)
  | 1 => ("OathButtons$Pairs", "this$0", "LOathButtons;", true)
  | 2 => ("OathButtons$Best", "most", "I", false)
  | 3 => ("OathButtons$Best", "isAny", "Z", false)
  | _ => ("OathButtons$Best", "this$0", "LOathButtons;", true)
def tyX6 : Nat → FieldType := fun k => match k with
  | 0 => .array .int
  | 1 => .object "OathButtons"
  | 2 => .int
  | 3 => .boolean
  | _ => .object "OathButtons"
abbrev wsX60 : List Cond := u_ws RX6 TX6 5
-- two fields of one name: no nmX6
theorem tyX6_ok : ∀ k, k < 5 → parseFieldDescriptor (TX6 k).2.2.1 = some (tyX6 k) := by decide +kernel
abbrev cX6_init : ByteArray := prog_3_method_1_code
def yX6_init : MethodName := ⟨RX6, "<init>", "(LOathButtons;)V"⟩
def dkwX6_init_0 : List UInt8 := [42, 43, 181, 0, 1, 42, 43, 183, 0, 7, 177]
abbrev dktX6_init_0 : List UInt8 := dkwX6_init_0 ++ []
theorem dksX6_init_0 : cX6_init.data.toList.drop 0 = dktX6_init_0 := by decide +kernel
theorem dX6_init_0 : decode cX6_init 0 = .ok (.aload_n 0, 1) := dk_42 (dk_at dksX6_init_0 0 rfl rfl)
theorem dX6_init_1 : decode cX6_init 1 = .ok (.aload_n 1, 1) := dk_43 (dk_at dksX6_init_0 1 rfl rfl)
theorem dX6_init_2 : decode cX6_init 2 = .ok (.putfield 1, 3) := dk_181 0 1 (dk_at dksX6_init_0 2 rfl rfl)
theorem dX6_init_5 : decode cX6_init 5 = .ok (.aload_n 0, 1) := dk_42 (dk_at dksX6_init_0 5 rfl rfl)
theorem dX6_init_6 : decode cX6_init 6 = .ok (.aload_n 1, 1) := dk_43 (dk_at dksX6_init_0 6 rfl rfl)
theorem dX6_init_7 : decode cX6_init 7 = .ok (.invokespecial 7, 3) := dk_183 0 7 (dk_at dksX6_init_0 7 rfl rfl)
theorem dX6_init_10 : decode cX6_init 10 = .ok (.return_, 1) := dk_177 (dk_at dksX6_init_0 10 rfl rfl)
abbrev cX6_lay : ByteArray := prog_3_method_2_code
def yX6_lay : MethodName := ⟨RX6, "lay", "()I"⟩
def dkwX6_lay_0 : List UInt8 := [42, 3, 181, 0, 13, 42, 182, 0, 17, 42, 180, 0, 21, 172]
abbrev dktX6_lay_0 : List UInt8 := dkwX6_lay_0 ++ []
theorem dksX6_lay_0 : cX6_lay.data.toList.drop 0 = dktX6_lay_0 := by decide +kernel
theorem dX6_lay_0 : decode cX6_lay 0 = .ok (.aload_n 0, 1) := dk_42 (dk_at dksX6_lay_0 0 rfl rfl)
theorem dX6_lay_1 : decode cX6_lay 1 = .ok (.iconst 0, 1) := dk_3 (dk_at dksX6_lay_0 1 rfl rfl)
theorem dX6_lay_2 : decode cX6_lay 2 = .ok (.putfield 13, 3) := dk_181 0 13 (dk_at dksX6_lay_0 2 rfl rfl)
theorem dX6_lay_5 : decode cX6_lay 5 = .ok (.aload_n 0, 1) := dk_42 (dk_at dksX6_lay_0 5 rfl rfl)
theorem dX6_lay_6 : decode cX6_lay 6 = .ok (.invokevirtual 17, 3) := dk_182 0 17 (dk_at dksX6_lay_0 6 rfl rfl)
theorem dX6_lay_9 : decode cX6_lay 9 = .ok (.aload_n 0, 1) := dk_42 (dk_at dksX6_lay_0 9 rfl rfl)
theorem dX6_lay_10 : decode cX6_lay 10 = .ok (.getfield 21, 3) := dk_180 0 21 (dk_at dksX6_lay_0 10 rfl rfl)
theorem dX6_lay_13 : decode cX6_lay 13 = .ok (.ireturn, 1) := dk_172 (dk_at dksX6_lay_0 13 rfl rfl)
abbrev cX6_met : ByteArray := prog_3_method_3_code
def yX6_met : MethodName := ⟨RX6, "met", "(I)V"⟩
def dkwX6_met_2 : List UInt8 := [182, 0, 47, 177]
abbrev dktX6_met_2 : List UInt8 := dkwX6_met_2 ++ []
def dkwX6_met_1 : List UInt8 := [181, 0, 21, 42, 180, 0, 1, 42, 180, 0, 25, 42, 180, 0, 1, 180, 0, 29, 180, 0, 35, 182, 0, 41]
abbrev dktX6_met_1 : List UInt8 := dkwX6_met_1 ++ dktX6_met_2
def dkwX6_met_0 : List UInt8 := [42, 180, 0, 13, 153, 0, 12, 27, 42, 180, 0, 21, 163, 0, 4, 177, 42, 4, 181, 0, 13, 42, 27]
abbrev dktX6_met_0 : List UInt8 := dkwX6_met_0 ++ dktX6_met_1
theorem dksX6_met_0 : cX6_met.data.toList.drop 0 = dktX6_met_0 := by decide +kernel
theorem dksX6_met_1 : cX6_met.data.toList.drop 23 = dktX6_met_1 := dk_seg dksX6_met_0 23 rfl rfl
theorem dksX6_met_2 : cX6_met.data.toList.drop 47 = dktX6_met_2 := dk_seg dksX6_met_1 24 rfl rfl
theorem dX6_met_0 : decode cX6_met 0 = .ok (.aload_n 0, 1) := dk_42 (dk_at dksX6_met_0 0 rfl rfl)
theorem dX6_met_1 : decode cX6_met 1 = .ok (.getfield 13, 3) := dk_180 0 13 (dk_at dksX6_met_0 1 rfl rfl)
theorem dX6_met_4 : decode cX6_met 4 = .ok (.ifCond .eq 12, 3) := dk_153 0 12 (dk_at dksX6_met_0 4 rfl rfl)
theorem dX6_met_7 : decode cX6_met 7 = .ok (.iload_n 1, 1) := dk_27 (dk_at dksX6_met_0 7 rfl rfl)
theorem dX6_met_8 : decode cX6_met 8 = .ok (.aload_n 0, 1) := dk_42 (dk_at dksX6_met_0 8 rfl rfl)
theorem dX6_met_9 : decode cX6_met 9 = .ok (.getfield 21, 3) := dk_180 0 21 (dk_at dksX6_met_0 9 rfl rfl)
theorem dX6_met_12 : decode cX6_met 12 = .ok (.if_icmp .gt 4, 3) := dk_163 0 4 (dk_at dksX6_met_0 12 rfl rfl)
theorem dX6_met_15 : decode cX6_met 15 = .ok (.return_, 1) := dk_177 (dk_at dksX6_met_0 15 rfl rfl)
theorem dX6_met_16 : decode cX6_met 16 = .ok (.aload_n 0, 1) := dk_42 (dk_at dksX6_met_0 16 rfl rfl)
theorem dX6_met_17 : decode cX6_met 17 = .ok (.iconst 1, 1) := dk_4 (dk_at dksX6_met_0 17 rfl rfl)
theorem dX6_met_18 : decode cX6_met 18 = .ok (.putfield 13, 3) := dk_181 0 13 (dk_at dksX6_met_0 18 rfl rfl)
theorem dX6_met_21 : decode cX6_met 21 = .ok (.aload_n 0, 1) := dk_42 (dk_at dksX6_met_0 21 rfl rfl)
theorem dX6_met_22 : decode cX6_met 22 = .ok (.iload_n 1, 1) := dk_27 (dk_at dksX6_met_0 22 rfl rfl)
theorem dX6_met_23 : decode cX6_met 23 = .ok (.putfield 21, 3) := dk_181 0 21 (dk_at dksX6_met_1 0 rfl rfl)
theorem dX6_met_26 : decode cX6_met 26 = .ok (.aload_n 0, 1) := dk_42 (dk_at dksX6_met_1 3 rfl rfl)
theorem dX6_met_27 : decode cX6_met 27 = .ok (.getfield 1, 3) := dk_180 0 1 (dk_at dksX6_met_1 4 rfl rfl)
theorem dX6_met_30 : decode cX6_met 30 = .ok (.aload_n 0, 1) := dk_42 (dk_at dksX6_met_1 7 rfl rfl)
theorem dX6_met_31 : decode cX6_met 31 = .ok (.getfield 25, 3) := dk_180 0 25 (dk_at dksX6_met_1 8 rfl rfl)
theorem dX6_met_34 : decode cX6_met 34 = .ok (.aload_n 0, 1) := dk_42 (dk_at dksX6_met_1 11 rfl rfl)
theorem dX6_met_35 : decode cX6_met 35 = .ok (.getfield 1, 3) := dk_180 0 1 (dk_at dksX6_met_1 12 rfl rfl)
theorem dX6_met_38 : decode cX6_met 38 = .ok (.getfield 29, 3) := dk_180 0 29 (dk_at dksX6_met_1 15 rfl rfl)
theorem dX6_met_41 : decode cX6_met 41 = .ok (.getfield 35, 3) := dk_180 0 35 (dk_at dksX6_met_1 18 rfl rfl)
theorem dX6_met_44 : decode cX6_met 44 = .ok (.invokevirtual 41, 3) := dk_182 0 41 (dk_at dksX6_met_1 21 rfl rfl)
theorem dX6_met_47 : decode cX6_met 47 = .ok (.invokevirtual 47, 3) := dk_182 0 47 (dk_at dksX6_met_2 0 rfl rfl)
theorem dX6_met_50 : decode cX6_met 50 = .ok (.return_, 1) := dk_177 (dk_at dksX6_met_2 3 rfl rfl)
theorem q128 : (Jvm.Cond.initialized "OathButtons$Best") ∈ lw_all := lw_g (lw_at lw_m1 12 rfl) rfl
theorem q197 : (Jvm.Cond.fieldLinkNest "OathButtons$Best" (35 : Nat) "OathButtons$Regiment" "men" "Ljava/util/ArrayList;" "OathButtons") ∈ lw_tbl := lw_at lw_m1 81 rfl
theorem q401 : (Jvm.Cond.instantiable "OathButtons$Best" (5 : Nat)) ∈ lw_all := lw_g (lw_at lw_m2 45 rfl) rfl
theorem q403 : (Jvm.Cond.instanceMethod ({ cls := "OathButtons$Best", name := "<init>", desc := "(LOathButtons;)V" } : Jvm.MethodName)) ∈ lw_all := lw_g (lw_at lw_m2 47 rfl) rfl
theorem q404 : (Jvm.Cond.code ({ cls := "OathButtons$Best", name := "<init>", desc := "(LOathButtons;)V" } : Jvm.MethodName) prog_3_method_1_code (2 : Nat) (Option.none : Option Jvm.ClassFile.FieldType)) ∈ lw_all := lw_g (lw_at lw_m2 48 rfl) rfl
theorem q405 : (Jvm.Cond.methodLinkNest "OathButtons$Best" (7 : Nat) ({ cls := "OathButtons$Pairs", name := "<init>", desc := "(LOathButtons;)V" } : Jvm.MethodName) "OathButtons") ∈ lw_tbl := lw_at lw_m2 49 rfl
theorem q409 : (Jvm.Cond.fieldLink "OathButtons$Best" (21 : Nat) "OathButtons$Best" "most" "I") ∈ lw_all := lw_g (lw_at lw_m2 53 rfl) rfl
theorem q410 : (Jvm.Cond.fieldLink "OathButtons$Best" (13 : Nat) "OathButtons$Best" "isAny" "Z") ∈ lw_all := lw_g (lw_at lw_m2 54 rfl) rfl
theorem q411 : (Jvm.Cond.fieldLink "OathButtons$Best" (1 : Nat) "OathButtons$Best" "this$0" "LOathButtons;") ∈ lw_all := lw_g (lw_at lw_m2 55 rfl) rfl
theorem q413 : (Jvm.Cond.fieldLink "OathButtons$Best" (25 : Nat) "OathButtons$Best" "with" "[I") ∈ lw_all := lw_g (lw_at lw_m2 57 rfl) rfl
theorem q414 : (Jvm.Cond.sameField "OathButtons$Best" "OathButtons$Pairs" "with" "[I") ∈ lw_all := lw_g (lw_at lw_m2 58 rfl) rfl
theorem q418 : (Jvm.Cond.lays "OathButtons$Best" "OathButtons$Best" "most" "I") ∈ lw_all := lw_g (lw_at lw_m2 62 rfl) rfl
theorem q419 : (Jvm.Cond.soleField "OathButtons$Best" "most") ∈ lw_all := lw_g (lw_at lw_m2 63 rfl) rfl
theorem q420 : (Jvm.Cond.lays "OathButtons$Best" "OathButtons$Best" "isAny" "Z") ∈ lw_all := lw_g (lw_at lw_m2 64 rfl) rfl
theorem q421 : (Jvm.Cond.soleField "OathButtons$Best" "isAny") ∈ lw_all := lw_g (lw_at lw_m2 65 rfl) rfl
theorem q422 : (Jvm.Cond.laysFinal "OathButtons$Best" "OathButtons$Best" "this$0" "LOathButtons;") ∈ lw_all := lw_g (lw_at lw_m2 66 rfl) rfl
theorem q423 : (Jvm.Cond.soleField "OathButtons$Best" "this$0") ∈ lw_all := lw_g (lw_at lw_m2 67 rfl) rfl
theorem q424 : (Jvm.Cond.laysFinal "OathButtons$Best" "OathButtons$Pairs" "with" "[I") ∈ lw_all := lw_g (lw_at lw_m2 68 rfl) rfl
theorem q426 : (Jvm.Cond.laysFinal "OathButtons$Best" "OathButtons$Pairs" "this$0" "LOathButtons;") ∈ lw_all := lw_g (lw_at lw_m2 70 rfl) rfl
theorem q428 : (Jvm.Cond.superclass "OathButtons$Best" "OathButtons$Pairs") ∈ lw_all := lw_g (lw_at lw_m2 72 rfl) rfl
theorem q490 : (Jvm.Cond.fieldLinkNest "OathButtons$Best" (29 : Nat) "OathButtons" "regiment" "LOathButtons$Regiment;" "OathButtons") ∈ lw_tbl := lw_at lw_m2 134 rfl
theorem q820 : (Jvm.Cond.selects "OathButtons$Best" ({ cls := "java/lang/Object", name := "getClass", desc := "()Ljava/lang/Class;" } : Jvm.MethodName) ({ cls := "java/lang/Object", name := "getClass", desc := "()Ljava/lang/Class;" } : Jvm.MethodName)) ∈ lw_all := lw_g (lw_at lw_m3 224 rfl) rfl
theorem q1309 : (Jvm.Cond.instanceMethod ({ cls := "OathButtons$Best", name := "lay", desc := "()I" } : Jvm.MethodName)) ∈ lw_all := lw_g (lw_at lw_m5 233 rfl) rfl
theorem q1310 : (Jvm.Cond.selects "OathButtons$Best" ({ cls := "OathButtons$Best", name := "lay", desc := "()I" } : Jvm.MethodName) ({ cls := "OathButtons$Best", name := "lay", desc := "()I" } : Jvm.MethodName)) ∈ lw_all := lw_g (lw_at lw_m5 234 rfl) rfl
theorem q1311 : (Jvm.Cond.code ({ cls := "OathButtons$Best", name := "lay", desc := "()I" } : Jvm.MethodName) prog_3_method_2_code (1 : Nat) (Option.some Jvm.ClassFile.FieldType.int)) ∈ lw_all := lw_g (lw_at lw_m5 235 rfl) rfl
theorem q1312 : (Jvm.Cond.methodLink "OathButtons$Best" (17 : Nat) ({ cls := "OathButtons$Best", name := "goThrough", desc := "()V" } : Jvm.MethodName)) ∈ lw_all := lw_g (lw_at lw_m5 236 rfl) rfl
theorem q1313 : (Jvm.Cond.sameMethod "OathButtons$Best" "OathButtons$Pairs" "goThrough" "()V") ∈ lw_all := lw_g (lw_at lw_m5 237 rfl) rfl
theorem q1315 : (Jvm.Cond.selects "OathButtons$Best" ({ cls := "OathButtons$Best", name := "goThrough", desc := "()V" } : Jvm.MethodName) ({ cls := "OathButtons$Pairs", name := "goThrough", desc := "()V" } : Jvm.MethodName)) ∈ lw_all := lw_g (lw_at lw_m5 239 rfl) rfl
theorem q1326 : (Jvm.Cond.selects "OathButtons$Best" ({ cls := "OathButtons$Pairs", name := "met", desc := "(I)V" } : Jvm.MethodName) ({ cls := "OathButtons$Best", name := "met", desc := "(I)V" } : Jvm.MethodName)) ∈ lw_all := lw_g (lw_at lw_m6 10 rfl) rfl
theorem q1327 : (Jvm.Cond.instanceMethod ({ cls := "OathButtons$Best", name := "met", desc := "(I)V" } : Jvm.MethodName)) ∈ lw_all := lw_g (lw_at lw_m6 11 rfl) rfl
theorem q1328 : (Jvm.Cond.code ({ cls := "OathButtons$Best", name := "met", desc := "(I)V" } : Jvm.MethodName) prog_3_method_3_code (2 : Nat) (Option.none : Option Jvm.ClassFile.FieldType)) ∈ lw_all := lw_g (lw_at lw_m6 12 rfl) rfl
theorem q1329 : (Jvm.Cond.methodLink "OathButtons$Best" (41 : Nat) ({ cls := "java/util/ArrayList", name := "size", desc := "()I" } : Jvm.MethodName)) ∈ lw_all := lw_g (lw_at lw_m6 13 rfl) rfl
theorem q1330 : (Jvm.Cond.methodLinkNest "OathButtons$Best" (47 : Nat) ({ cls := "OathButtons", name := "show", desc := "([II)V" } : Jvm.MethodName) "OathButtons") ∈ lw_tbl := lw_at lw_m6 14 rfl
theorem q2212 : (Jvm.Cond.castable "OathButtons$Best" "java/lang/Object") ∈ lw_tbl := lw_at lw_m9 176 rfl
theorem in_X6 : ∀ w ∈ wsX60, w ∈ lw_all := lw_in wsX60 [424, 426, 418, 420, 422] (by decide +kernel) (by decide +kernel)
/-! OathButtons$Calm -/
set_option maxRecDepth 100000
def RX7 : String := "OathButtons$Calm"
def TX7 : u_T := fun k => match k with
  | 0 => ("OathButtons$Pairs", "with", "[I", true)
  | 1 => ("OathButtons$Pairs", "this$0", "LOathButtons;", true)
  | 2 => ("OathButtons$Calm", "many", "I", false)
  | _ => ("OathButtons$Calm", "this$0", "LOathButtons;", true)
def tyX7 : Nat → FieldType := fun k => match k with
  | 0 => .array .int
  | 1 => .object "OathButtons"
  | 2 => .int
  | _ => .object "OathButtons"
abbrev wsX70 : List Cond := u_ws RX7 TX7 4
-- two fields of one name: no nmX7
theorem tyX7_ok : ∀ k, k < 4 → parseFieldDescriptor (TX7 k).2.2.1 = some (tyX7 k) := by decide +kernel
abbrev cX7_init : ByteArray := prog_5_method_1_code
def yX7_init : MethodName := ⟨RX7, "<init>", "(LOathButtons;)V"⟩
def dkwX7_init_0 : List UInt8 := [42, 43, 181, 0, 3, 42, 43, 183, 0, 9, 177]
abbrev dktX7_init_0 : List UInt8 := dkwX7_init_0 ++ []
theorem dksX7_init_0 : cX7_init.data.toList.drop 0 = dktX7_init_0 := by decide +kernel
theorem dX7_init_0 : decode cX7_init 0 = .ok (.aload_n 0, 1) := dk_42 (dk_at dksX7_init_0 0 rfl rfl)
theorem dX7_init_1 : decode cX7_init 1 = .ok (.aload_n 1, 1) := dk_43 (dk_at dksX7_init_0 1 rfl rfl)
theorem dX7_init_2 : decode cX7_init 2 = .ok (.putfield 3, 3) := dk_181 0 3 (dk_at dksX7_init_0 2 rfl rfl)
theorem dX7_init_5 : decode cX7_init 5 = .ok (.aload_n 0, 1) := dk_42 (dk_at dksX7_init_0 5 rfl rfl)
theorem dX7_init_6 : decode cX7_init 6 = .ok (.aload_n 1, 1) := dk_43 (dk_at dksX7_init_0 6 rfl rfl)
theorem dX7_init_7 : decode cX7_init 7 = .ok (.invokespecial 9, 3) := dk_183 0 9 (dk_at dksX7_init_0 7 rfl rfl)
theorem dX7_init_10 : decode cX7_init 10 = .ok (.return_, 1) := dk_177 (dk_at dksX7_init_0 10 rfl rfl)
abbrev cX7_met : ByteArray := prog_5_method_3_code
def yX7_met : MethodName := ⟨RX7, "met", "(I)V"⟩
def dkwX7_met_5 : List UInt8 := [182, 0, 51, 42, 89, 180, 0, 15, 4, 96, 181, 0, 15, 177]
abbrev dktX7_met_5 : List UInt8 := dkwX7_met_5 ++ []
def dkwX7_met_4 : List UInt8 := [154, 0, 27, 42, 180, 0, 3, 42, 180, 0, 43, 42, 180, 0, 3, 180, 0, 23, 180, 0, 27, 182, 0, 33]
abbrev dktX7_met_4 : List UInt8 := dkwX7_met_4 ++ dktX7_met_5
def dkwX7_met_3 : List UInt8 := [182, 0, 47, 164, 0, 4, 177, 132, 3, 1, 167, 255, 196, 132, 2, 1, 167, 255, 171, 42, 180, 0, 15]
abbrev dktX7_met_3 : List UInt8 := dkwX7_met_3 ++ dktX7_met_4
def dkwX7_met_2 : List UInt8 := [42, 180, 0, 43, 28, 46, 29, 159, 0, 24, 21, 4, 42, 28, 182, 0, 47, 164, 0, 14, 21, 4, 42, 29]
abbrev dktX7_met_2 : List UInt8 := dkwX7_met_2 ++ dktX7_met_3
def dkwX7_met_1 : List UInt8 := [162, 0, 61, 42, 180, 0, 3, 180, 0, 23, 28, 29, 182, 0, 39, 54, 4, 21, 4, 16, 156, 159, 0, 34]
abbrev dktX7_met_1 : List UInt8 := dkwX7_met_1 ++ dktX7_met_2
def dkwX7_met_0 : List UInt8 := [3, 61, 28, 42, 180, 0, 3, 180, 0, 23, 180, 0, 27, 182, 0, 33, 162, 0, 74, 3, 62, 29, 28]
abbrev dktX7_met_0 : List UInt8 := dkwX7_met_0 ++ dktX7_met_1
theorem dksX7_met_0 : cX7_met.data.toList.drop 0 = dktX7_met_0 := by decide +kernel
theorem dksX7_met_1 : cX7_met.data.toList.drop 23 = dktX7_met_1 := dk_seg dksX7_met_0 23 rfl rfl
theorem dksX7_met_2 : cX7_met.data.toList.drop 47 = dktX7_met_2 := dk_seg dksX7_met_1 24 rfl rfl
theorem dksX7_met_3 : cX7_met.data.toList.drop 71 = dktX7_met_3 := dk_seg dksX7_met_2 24 rfl rfl
theorem dksX7_met_4 : cX7_met.data.toList.drop 94 = dktX7_met_4 := dk_seg dksX7_met_3 23 rfl rfl
theorem dksX7_met_5 : cX7_met.data.toList.drop 118 = dktX7_met_5 := dk_seg dksX7_met_4 24 rfl rfl
theorem dX7_met_0 : decode cX7_met 0 = .ok (.iconst 0, 1) := dk_3 (dk_at dksX7_met_0 0 rfl rfl)
theorem dX7_met_1 : decode cX7_met 1 = .ok (.istore_n 2, 1) := dk_61 (dk_at dksX7_met_0 1 rfl rfl)
theorem dX7_met_2 : decode cX7_met 2 = .ok (.iload_n 2, 1) := dk_28 (dk_at dksX7_met_0 2 rfl rfl)
theorem dX7_met_3 : decode cX7_met 3 = .ok (.aload_n 0, 1) := dk_42 (dk_at dksX7_met_0 3 rfl rfl)
theorem dX7_met_4 : decode cX7_met 4 = .ok (.getfield 3, 3) := dk_180 0 3 (dk_at dksX7_met_0 4 rfl rfl)
theorem dX7_met_7 : decode cX7_met 7 = .ok (.getfield 23, 3) := dk_180 0 23 (dk_at dksX7_met_0 7 rfl rfl)
theorem dX7_met_10 : decode cX7_met 10 = .ok (.getfield 27, 3) := dk_180 0 27 (dk_at dksX7_met_0 10 rfl rfl)
theorem dX7_met_13 : decode cX7_met 13 = .ok (.invokevirtual 33, 3) := dk_182 0 33 (dk_at dksX7_met_0 13 rfl rfl)
theorem dX7_met_16 : decode cX7_met 16 = .ok (.if_icmp .ge 74, 3) := dk_162 0 74 (dk_at dksX7_met_0 16 rfl rfl)
theorem dX7_met_19 : decode cX7_met 19 = .ok (.iconst 0, 1) := dk_3 (dk_at dksX7_met_0 19 rfl rfl)
theorem dX7_met_20 : decode cX7_met 20 = .ok (.istore_n 3, 1) := dk_62 (dk_at dksX7_met_0 20 rfl rfl)
theorem dX7_met_21 : decode cX7_met 21 = .ok (.iload_n 3, 1) := dk_29 (dk_at dksX7_met_0 21 rfl rfl)
theorem dX7_met_22 : decode cX7_met 22 = .ok (.iload_n 2, 1) := dk_28 (dk_at dksX7_met_0 22 rfl rfl)
theorem dX7_met_23 : decode cX7_met 23 = .ok (.if_icmp .ge 61, 3) := dk_162 0 61 (dk_at dksX7_met_1 0 rfl rfl)
theorem dX7_met_26 : decode cX7_met 26 = .ok (.aload_n 0, 1) := dk_42 (dk_at dksX7_met_1 3 rfl rfl)
theorem dX7_met_27 : decode cX7_met 27 = .ok (.getfield 3, 3) := dk_180 0 3 (dk_at dksX7_met_1 4 rfl rfl)
theorem dX7_met_30 : decode cX7_met 30 = .ok (.getfield 23, 3) := dk_180 0 23 (dk_at dksX7_met_1 7 rfl rfl)
theorem dX7_met_33 : decode cX7_met 33 = .ok (.iload_n 2, 1) := dk_28 (dk_at dksX7_met_1 10 rfl rfl)
theorem dX7_met_34 : decode cX7_met 34 = .ok (.iload_n 3, 1) := dk_29 (dk_at dksX7_met_1 11 rfl rfl)
theorem dX7_met_35 : decode cX7_met 35 = .ok (.invokevirtual 39, 3) := dk_182 0 39 (dk_at dksX7_met_1 12 rfl rfl)
theorem dX7_met_38 : decode cX7_met 38 = .ok (.istore 4, 2) := dk_54 4 (dk_at dksX7_met_1 15 rfl rfl)
theorem dX7_met_40 : decode cX7_met 40 = .ok (.iload 4, 2) := dk_21 4 (dk_at dksX7_met_1 17 rfl rfl)
theorem dX7_met_42 : decode cX7_met 42 = .ok (.bipush (-100), 2) := dk_16 156 (dk_at dksX7_met_1 19 rfl rfl)
theorem dX7_met_44 : decode cX7_met 44 = .ok (.if_icmp .eq 34, 3) := dk_159 0 34 (dk_at dksX7_met_1 21 rfl rfl)
theorem dX7_met_47 : decode cX7_met 47 = .ok (.aload_n 0, 1) := dk_42 (dk_at dksX7_met_2 0 rfl rfl)
theorem dX7_met_48 : decode cX7_met 48 = .ok (.getfield 43, 3) := dk_180 0 43 (dk_at dksX7_met_2 1 rfl rfl)
theorem dX7_met_51 : decode cX7_met 51 = .ok (.iload_n 2, 1) := dk_28 (dk_at dksX7_met_2 4 rfl rfl)
theorem dX7_met_52 : decode cX7_met 52 = .ok (.iaload, 1) := dk_46 (dk_at dksX7_met_2 5 rfl rfl)
theorem dX7_met_53 : decode cX7_met 53 = .ok (.iload_n 3, 1) := dk_29 (dk_at dksX7_met_2 6 rfl rfl)
theorem dX7_met_54 : decode cX7_met 54 = .ok (.if_icmp .eq 24, 3) := dk_159 0 24 (dk_at dksX7_met_2 7 rfl rfl)
theorem dX7_met_57 : decode cX7_met 57 = .ok (.iload 4, 2) := dk_21 4 (dk_at dksX7_met_2 10 rfl rfl)
theorem dX7_met_59 : decode cX7_met 59 = .ok (.aload_n 0, 1) := dk_42 (dk_at dksX7_met_2 12 rfl rfl)
theorem dX7_met_60 : decode cX7_met 60 = .ok (.iload_n 2, 1) := dk_28 (dk_at dksX7_met_2 13 rfl rfl)
theorem dX7_met_61 : decode cX7_met 61 = .ok (.invokevirtual 47, 3) := dk_182 0 47 (dk_at dksX7_met_2 14 rfl rfl)
theorem dX7_met_64 : decode cX7_met 64 = .ok (.if_icmp .le 14, 3) := dk_164 0 14 (dk_at dksX7_met_2 17 rfl rfl)
theorem dX7_met_67 : decode cX7_met 67 = .ok (.iload 4, 2) := dk_21 4 (dk_at dksX7_met_2 20 rfl rfl)
theorem dX7_met_69 : decode cX7_met 69 = .ok (.aload_n 0, 1) := dk_42 (dk_at dksX7_met_2 22 rfl rfl)
theorem dX7_met_70 : decode cX7_met 70 = .ok (.iload_n 3, 1) := dk_29 (dk_at dksX7_met_2 23 rfl rfl)
theorem dX7_met_71 : decode cX7_met 71 = .ok (.invokevirtual 47, 3) := dk_182 0 47 (dk_at dksX7_met_3 0 rfl rfl)
theorem dX7_met_74 : decode cX7_met 74 = .ok (.if_icmp .le 4, 3) := dk_164 0 4 (dk_at dksX7_met_3 3 rfl rfl)
theorem dX7_met_77 : decode cX7_met 77 = .ok (.return_, 1) := dk_177 (dk_at dksX7_met_3 6 rfl rfl)
theorem dX7_met_78 : decode cX7_met 78 = .ok (.iinc 3 1, 3) := dk_132 3 1 (dk_at dksX7_met_3 7 rfl rfl)
theorem dX7_met_81 : decode cX7_met 81 = .ok (.goto (-60), 3) := dk_167 255 196 (dk_at dksX7_met_3 10 rfl rfl)
theorem dX7_met_84 : decode cX7_met 84 = .ok (.iinc 2 1, 3) := dk_132 2 1 (dk_at dksX7_met_3 13 rfl rfl)
theorem dX7_met_87 : decode cX7_met 87 = .ok (.goto (-85), 3) := dk_167 255 171 (dk_at dksX7_met_3 16 rfl rfl)
theorem dX7_met_90 : decode cX7_met 90 = .ok (.aload_n 0, 1) := dk_42 (dk_at dksX7_met_3 19 rfl rfl)
theorem dX7_met_91 : decode cX7_met 91 = .ok (.getfield 15, 3) := dk_180 0 15 (dk_at dksX7_met_3 20 rfl rfl)
theorem dX7_met_94 : decode cX7_met 94 = .ok (.ifCond .ne 27, 3) := dk_154 0 27 (dk_at dksX7_met_4 0 rfl rfl)
theorem dX7_met_97 : decode cX7_met 97 = .ok (.aload_n 0, 1) := dk_42 (dk_at dksX7_met_4 3 rfl rfl)
theorem dX7_met_98 : decode cX7_met 98 = .ok (.getfield 3, 3) := dk_180 0 3 (dk_at dksX7_met_4 4 rfl rfl)
theorem dX7_met_101 : decode cX7_met 101 = .ok (.aload_n 0, 1) := dk_42 (dk_at dksX7_met_4 7 rfl rfl)
theorem dX7_met_102 : decode cX7_met 102 = .ok (.getfield 43, 3) := dk_180 0 43 (dk_at dksX7_met_4 8 rfl rfl)
theorem dX7_met_105 : decode cX7_met 105 = .ok (.aload_n 0, 1) := dk_42 (dk_at dksX7_met_4 11 rfl rfl)
theorem dX7_met_106 : decode cX7_met 106 = .ok (.getfield 3, 3) := dk_180 0 3 (dk_at dksX7_met_4 12 rfl rfl)
theorem dX7_met_109 : decode cX7_met 109 = .ok (.getfield 23, 3) := dk_180 0 23 (dk_at dksX7_met_4 15 rfl rfl)
theorem dX7_met_112 : decode cX7_met 112 = .ok (.getfield 27, 3) := dk_180 0 27 (dk_at dksX7_met_4 18 rfl rfl)
theorem dX7_met_115 : decode cX7_met 115 = .ok (.invokevirtual 33, 3) := dk_182 0 33 (dk_at dksX7_met_4 21 rfl rfl)
theorem dX7_met_118 : decode cX7_met 118 = .ok (.invokevirtual 51, 3) := dk_182 0 51 (dk_at dksX7_met_5 0 rfl rfl)
theorem dX7_met_121 : decode cX7_met 121 = .ok (.aload_n 0, 1) := dk_42 (dk_at dksX7_met_5 3 rfl rfl)
theorem dX7_met_122 : decode cX7_met 122 = .ok (.dup, 1) := dk_89 (dk_at dksX7_met_5 4 rfl rfl)
theorem dX7_met_123 : decode cX7_met 123 = .ok (.getfield 15, 3) := dk_180 0 15 (dk_at dksX7_met_5 5 rfl rfl)
theorem dX7_met_126 : decode cX7_met 126 = .ok (.iconst 1, 1) := dk_4 (dk_at dksX7_met_5 8 rfl rfl)
theorem dX7_met_127 : decode cX7_met 127 = .ok (.iadd, 1) := dk_96 (dk_at dksX7_met_5 9 rfl rfl)
theorem dX7_met_128 : decode cX7_met 128 = .ok (.putfield 15, 3) := dk_181 0 15 (dk_at dksX7_met_5 10 rfl rfl)
theorem dX7_met_131 : decode cX7_met 131 = .ok (.return_, 1) := dk_177 (dk_at dksX7_met_5 13 rfl rfl)
abbrev cX7_lay : ByteArray := prog_5_method_2_code
def yX7_lay : MethodName := ⟨RX7, "lay", "()I"⟩
def dkwX7_lay_0 : List UInt8 := [42, 3, 181, 0, 15, 42, 182, 0, 19, 42, 180, 0, 15, 172]
abbrev dktX7_lay_0 : List UInt8 := dkwX7_lay_0 ++ []
theorem dksX7_lay_0 : cX7_lay.data.toList.drop 0 = dktX7_lay_0 := by decide +kernel
theorem dX7_lay_0 : decode cX7_lay 0 = .ok (.aload_n 0, 1) := dk_42 (dk_at dksX7_lay_0 0 rfl rfl)
theorem dX7_lay_1 : decode cX7_lay 1 = .ok (.iconst 0, 1) := dk_3 (dk_at dksX7_lay_0 1 rfl rfl)
theorem dX7_lay_2 : decode cX7_lay 2 = .ok (.putfield 15, 3) := dk_181 0 15 (dk_at dksX7_lay_0 2 rfl rfl)
theorem dX7_lay_5 : decode cX7_lay 5 = .ok (.aload_n 0, 1) := dk_42 (dk_at dksX7_lay_0 5 rfl rfl)
theorem dX7_lay_6 : decode cX7_lay 6 = .ok (.invokevirtual 19, 3) := dk_182 0 19 (dk_at dksX7_lay_0 6 rfl rfl)
theorem dX7_lay_9 : decode cX7_lay 9 = .ok (.aload_n 0, 1) := dk_42 (dk_at dksX7_lay_0 9 rfl rfl)
theorem dX7_lay_10 : decode cX7_lay 10 = .ok (.getfield 15, 3) := dk_180 0 15 (dk_at dksX7_lay_0 10 rfl rfl)
theorem dX7_lay_13 : decode cX7_lay 13 = .ok (.ireturn, 1) := dk_172 (dk_at dksX7_lay_0 13 rfl rfl)
theorem q129 : (Jvm.Cond.initialized "OathButtons$Calm") ∈ lw_all := lw_g (lw_at lw_m1 13 rfl) rfl
theorem q196 : (Jvm.Cond.fieldLinkNest "OathButtons$Calm" (27 : Nat) "OathButtons$Regiment" "men" "Ljava/util/ArrayList;" "OathButtons") ∈ lw_tbl := lw_at lw_m1 80 rfl
theorem q415 : (Jvm.Cond.fieldLink "OathButtons$Calm" (43 : Nat) "OathButtons$Calm" "with" "[I") ∈ lw_all := lw_g (lw_at lw_m2 59 rfl) rfl
theorem q416 : (Jvm.Cond.sameField "OathButtons$Calm" "OathButtons$Pairs" "with" "[I") ∈ lw_all := lw_g (lw_at lw_m2 60 rfl) rfl
theorem q431 : (Jvm.Cond.instantiable "OathButtons$Calm" (4 : Nat)) ∈ lw_all := lw_g (lw_at lw_m2 75 rfl) rfl
theorem q433 : (Jvm.Cond.instanceMethod ({ cls := "OathButtons$Calm", name := "<init>", desc := "(LOathButtons;)V" } : Jvm.MethodName)) ∈ lw_all := lw_g (lw_at lw_m2 77 rfl) rfl
theorem q434 : (Jvm.Cond.code ({ cls := "OathButtons$Calm", name := "<init>", desc := "(LOathButtons;)V" } : Jvm.MethodName) prog_5_method_1_code (2 : Nat) (Option.none : Option Jvm.ClassFile.FieldType)) ∈ lw_all := lw_g (lw_at lw_m2 78 rfl) rfl
theorem q435 : (Jvm.Cond.methodLinkNest "OathButtons$Calm" (9 : Nat) ({ cls := "OathButtons$Pairs", name := "<init>", desc := "(LOathButtons;)V" } : Jvm.MethodName) "OathButtons") ∈ lw_tbl := lw_at lw_m2 79 rfl
theorem q436 : (Jvm.Cond.fieldLink "OathButtons$Calm" (15 : Nat) "OathButtons$Calm" "many" "I") ∈ lw_all := lw_g (lw_at lw_m2 80 rfl) rfl
theorem q437 : (Jvm.Cond.fieldLink "OathButtons$Calm" (3 : Nat) "OathButtons$Calm" "this$0" "LOathButtons;") ∈ lw_all := lw_g (lw_at lw_m2 81 rfl) rfl
theorem q438 : (Jvm.Cond.lays "OathButtons$Calm" "OathButtons$Calm" "many" "I") ∈ lw_all := lw_g (lw_at lw_m2 82 rfl) rfl
theorem q439 : (Jvm.Cond.soleField "OathButtons$Calm" "many") ∈ lw_all := lw_g (lw_at lw_m2 83 rfl) rfl
theorem q440 : (Jvm.Cond.laysFinal "OathButtons$Calm" "OathButtons$Calm" "this$0" "LOathButtons;") ∈ lw_all := lw_g (lw_at lw_m2 84 rfl) rfl
theorem q441 : (Jvm.Cond.soleField "OathButtons$Calm" "this$0") ∈ lw_all := lw_g (lw_at lw_m2 85 rfl) rfl
theorem q442 : (Jvm.Cond.laysFinal "OathButtons$Calm" "OathButtons$Pairs" "with" "[I") ∈ lw_all := lw_g (lw_at lw_m2 86 rfl) rfl
theorem q443 : (Jvm.Cond.laysFinal "OathButtons$Calm" "OathButtons$Pairs" "this$0" "LOathButtons;") ∈ lw_all := lw_g (lw_at lw_m2 87 rfl) rfl
theorem q444 : (Jvm.Cond.superclass "OathButtons$Calm" "OathButtons$Pairs") ∈ lw_all := lw_g (lw_at lw_m2 88 rfl) rfl
theorem q488 : (Jvm.Cond.fieldLinkNest "OathButtons$Calm" (23 : Nat) "OathButtons" "regiment" "LOathButtons$Regiment;" "OathButtons") ∈ lw_tbl := lw_at lw_m2 132 rfl
theorem q821 : (Jvm.Cond.selects "OathButtons$Calm" ({ cls := "java/lang/Object", name := "getClass", desc := "()Ljava/lang/Class;" } : Jvm.MethodName) ({ cls := "java/lang/Object", name := "getClass", desc := "()Ljava/lang/Class;" } : Jvm.MethodName)) ∈ lw_all := lw_g (lw_at lw_m3 225 rfl) rfl
theorem q1331 : (Jvm.Cond.selects "OathButtons$Calm" ({ cls := "OathButtons$Pairs", name := "met", desc := "(I)V" } : Jvm.MethodName) ({ cls := "OathButtons$Calm", name := "met", desc := "(I)V" } : Jvm.MethodName)) ∈ lw_all := lw_g (lw_at lw_m6 15 rfl) rfl
theorem q1332 : (Jvm.Cond.instanceMethod ({ cls := "OathButtons$Calm", name := "met", desc := "(I)V" } : Jvm.MethodName)) ∈ lw_all := lw_g (lw_at lw_m6 16 rfl) rfl
theorem q1333 : (Jvm.Cond.code ({ cls := "OathButtons$Calm", name := "met", desc := "(I)V" } : Jvm.MethodName) prog_5_method_3_code (5 : Nat) (Option.none : Option Jvm.ClassFile.FieldType)) ∈ lw_all := lw_g (lw_at lw_m6 17 rfl) rfl
theorem q1334 : (Jvm.Cond.methodLink "OathButtons$Calm" (33 : Nat) ({ cls := "java/util/ArrayList", name := "size", desc := "()I" } : Jvm.MethodName)) ∈ lw_all := lw_g (lw_at lw_m6 18 rfl) rfl
theorem q1335 : (Jvm.Cond.methodLink "OathButtons$Calm" (39 : Nat) ({ cls := "OathButtons$Regiment", name := "likesOf", desc := "(II)I" } : Jvm.MethodName)) ∈ lw_all := lw_g (lw_at lw_m6 19 rfl) rfl
theorem q1336 : (Jvm.Cond.methodLink "OathButtons$Calm" (47 : Nat) ({ cls := "OathButtons$Calm", name := "hasOf", desc := "(I)I" } : Jvm.MethodName)) ∈ lw_all := lw_g (lw_at lw_m6 20 rfl) rfl
theorem q1337 : (Jvm.Cond.sameMethod "OathButtons$Calm" "OathButtons$Pairs" "hasOf" "(I)I") ∈ lw_all := lw_g (lw_at lw_m6 21 rfl) rfl
theorem q1339 : (Jvm.Cond.selects "OathButtons$Calm" ({ cls := "OathButtons$Calm", name := "hasOf", desc := "(I)I" } : Jvm.MethodName) ({ cls := "OathButtons$Pairs", name := "hasOf", desc := "(I)I" } : Jvm.MethodName)) ∈ lw_all := lw_g (lw_at lw_m6 23 rfl) rfl
theorem q1343 : (Jvm.Cond.methodLinkNest "OathButtons$Calm" (51 : Nat) ({ cls := "OathButtons", name := "show", desc := "([II)V" } : Jvm.MethodName) "OathButtons") ∈ lw_tbl := lw_at lw_m6 27 rfl
theorem q1349 : (Jvm.Cond.instanceMethod ({ cls := "OathButtons$Calm", name := "lay", desc := "()I" } : Jvm.MethodName)) ∈ lw_all := lw_g (lw_at lw_m6 33 rfl) rfl
theorem q1350 : (Jvm.Cond.selects "OathButtons$Calm" ({ cls := "OathButtons$Calm", name := "lay", desc := "()I" } : Jvm.MethodName) ({ cls := "OathButtons$Calm", name := "lay", desc := "()I" } : Jvm.MethodName)) ∈ lw_all := lw_g (lw_at lw_m6 34 rfl) rfl
theorem q1351 : (Jvm.Cond.code ({ cls := "OathButtons$Calm", name := "lay", desc := "()I" } : Jvm.MethodName) prog_5_method_2_code (1 : Nat) (Option.some Jvm.ClassFile.FieldType.int)) ∈ lw_all := lw_g (lw_at lw_m6 35 rfl) rfl
theorem q1352 : (Jvm.Cond.methodLink "OathButtons$Calm" (19 : Nat) ({ cls := "OathButtons$Calm", name := "goThrough", desc := "()V" } : Jvm.MethodName)) ∈ lw_all := lw_g (lw_at lw_m6 36 rfl) rfl
theorem q1353 : (Jvm.Cond.sameMethod "OathButtons$Calm" "OathButtons$Pairs" "goThrough" "()V") ∈ lw_all := lw_g (lw_at lw_m6 37 rfl) rfl
theorem q1354 : (Jvm.Cond.selects "OathButtons$Calm" ({ cls := "OathButtons$Calm", name := "goThrough", desc := "()V" } : Jvm.MethodName) ({ cls := "OathButtons$Pairs", name := "goThrough", desc := "()V" } : Jvm.MethodName)) ∈ lw_all := lw_g (lw_at lw_m6 38 rfl) rfl
theorem q2213 : (Jvm.Cond.castable "OathButtons$Calm" "java/lang/Object") ∈ lw_tbl := lw_at lw_m9 177 rfl
theorem in_X7 : ∀ w ∈ wsX70, w ∈ lw_all := lw_in wsX70 [442, 443, 438, 440] (by decide +kernel) (by decide +kernel)
/-! OathButtons$Kept -/
set_option maxRecDepth 100000
def RX8 : String := "OathButtons$Kept"
def TX8 : u_T := fun k => match k with
  | _ => ("OathButtons$Kept", "day", "LOathButtons$Day;", false)
def tyX8 : Nat → FieldType := fun k => match k with
  | _ => .object "OathButtons$Day"
abbrev wsX80 : List Cond := u_ws RX8 TX8 1
theorem nmX8 : ∀ a, a < 1 → ∀ b, b < 1 → a ≠ b → (TX8 a).2.1 ≠ (TX8 b).2.1 := by decide +kernel
theorem tyX8_ok : ∀ k, k < 1 → parseFieldDescriptor (TX8 k).2.2.1 = some (tyX8 k) := by decide +kernel
abbrev cX8_init : ByteArray := prog_8_method_1_code
def yX8_init : MethodName := ⟨RX8, "<init>", "(LOathButtons$Day;)V"⟩
def dkwX8_init_0 : List UInt8 := [42, 183, 0, 1, 42, 43, 181, 0, 7, 177]
abbrev dktX8_init_0 : List UInt8 := dkwX8_init_0 ++ []
theorem dksX8_init_0 : cX8_init.data.toList.drop 0 = dktX8_init_0 := by decide +kernel
theorem dX8_init_0 : decode cX8_init 0 = .ok (.aload_n 0, 1) := dk_42 (dk_at dksX8_init_0 0 rfl rfl)
theorem dX8_init_1 : decode cX8_init 1 = .ok (.invokespecial 1, 3) := dk_183 0 1 (dk_at dksX8_init_0 1 rfl rfl)
theorem dX8_init_4 : decode cX8_init 4 = .ok (.aload_n 0, 1) := dk_42 (dk_at dksX8_init_0 4 rfl rfl)
theorem dX8_init_5 : decode cX8_init 5 = .ok (.aload_n 1, 1) := dk_43 (dk_at dksX8_init_0 5 rfl rfl)
theorem dX8_init_6 : decode cX8_init 6 = .ok (.putfield 7, 3) := dk_181 0 7 (dk_at dksX8_init_0 6 rfl rfl)
theorem dX8_init_9 : decode cX8_init 9 = .ok (.return_, 1) := dk_177 (dk_at dksX8_init_0 9 rfl rfl)
theorem q130 : (Jvm.Cond.initialized "OathButtons$Kept") ∈ lw_all := lw_g (lw_at lw_m1 14 rfl) rfl
theorem q447 : (Jvm.Cond.instantiable "OathButtons$Kept" (1 : Nat)) ∈ lw_all := lw_g (lw_at lw_m2 91 rfl) rfl
theorem q449 : (Jvm.Cond.instanceMethod ({ cls := "OathButtons$Kept", name := "<init>", desc := "(LOathButtons$Day;)V" } : Jvm.MethodName)) ∈ lw_all := lw_g (lw_at lw_m2 93 rfl) rfl
theorem q450 : (Jvm.Cond.code ({ cls := "OathButtons$Kept", name := "<init>", desc := "(LOathButtons$Day;)V" } : Jvm.MethodName) prog_8_method_1_code (2 : Nat) (Option.none : Option Jvm.ClassFile.FieldType)) ∈ lw_all := lw_g (lw_at lw_m2 94 rfl) rfl
theorem q451 : (Jvm.Cond.methodLink "OathButtons$Kept" (1 : Nat) ({ cls := "java/lang/Object", name := "<init>", desc := "()V" } : Jvm.MethodName)) ∈ lw_all := lw_g (lw_at lw_m2 95 rfl) rfl
theorem q452 : (Jvm.Cond.fieldLink "OathButtons$Kept" (7 : Nat) "OathButtons$Kept" "day" "LOathButtons$Day;") ∈ lw_all := lw_g (lw_at lw_m2 96 rfl) rfl
theorem q454 : (Jvm.Cond.lays "OathButtons$Kept" "OathButtons$Kept" "day" "LOathButtons$Day;") ∈ lw_all := lw_g (lw_at lw_m2 98 rfl) rfl
theorem q455 : (Jvm.Cond.soleField "OathButtons$Kept" "day") ∈ lw_all := lw_g (lw_at lw_m2 99 rfl) rfl
theorem q456 : (Jvm.Cond.superclass "OathButtons$Kept" "java/lang/Object") ∈ lw_all := lw_g (lw_at lw_m2 100 rfl) rfl
theorem q824 : (Jvm.Cond.selects "OathButtons$Kept" ({ cls := "java/lang/Object", name := "getClass", desc := "()Ljava/lang/Class;" } : Jvm.MethodName) ({ cls := "java/lang/Object", name := "getClass", desc := "()Ljava/lang/Class;" } : Jvm.MethodName)) ∈ lw_all := lw_g (lw_at lw_m3 228 rfl) rfl
theorem q2204 : (Jvm.Cond.castable "OathButtons$Kept" "java/lang/Object") ∈ lw_tbl := lw_at lw_m9 168 rfl
theorem in_X8 : ∀ w ∈ wsX80, w ∈ lw_all := lw_in wsX80 [454] (by decide +kernel) (by decide +kernel)
/-! the law's own entry -/
set_option maxRecDepth 100000
abbrev cL_law : ByteArray := code
def dkwL_law_47 : List UInt8 := [132, 3, 6, 167, 251, 54, 4, 172]
abbrev dktL_law_47 : List UInt8 := dkwL_law_47 ++ []
def dkwL_law_46 : List UInt8 := [43, 42, 29, 4, 96, 46, 182, 0, 170, 44, 42, 29, 4, 96, 46, 182, 0, 173, 159, 0, 5, 3, 172]
abbrev dktL_law_46 : List UInt8 := dkwL_law_46 ++ dktL_law_47
def dkwL_law_45 : List UInt8 := [172, 43, 42, 29, 4, 96, 46, 182, 0, 166, 44, 42, 29, 4, 96, 46, 182, 0, 169, 159, 0, 28, 3, 172]
abbrev dktL_law_45 : List UInt8 := dkwL_law_45 ++ dktL_law_46
def dkwL_law_44 : List UInt8 := [3, 172, 43, 42, 29, 4, 96, 46, 182, 0, 162, 44, 42, 29, 4, 96, 46, 182, 0, 165, 159, 0, 51, 3]
abbrev dktL_law_44 : List UInt8 := dkwL_law_44 ++ dktL_law_45
def dkwL_law_43 : List UInt8 := [29, 5, 96, 46, 182, 0, 158, 44, 42, 29, 4, 96, 46, 42, 29, 5, 96, 46, 182, 0, 161, 159, 0, 74]
abbrev dktL_law_43 : List UInt8 := dkwL_law_43 ++ dktL_law_44
def dkwL_law_42 : List UInt8 := [182, 0, 154, 44, 42, 29, 4, 96, 46, 182, 0, 157, 159, 0, 107, 3, 172, 43, 42, 29, 4, 96, 46, 42]
abbrev dktL_law_42 : List UInt8 := dkwL_law_42 ++ dktL_law_43
def dkwL_law_41 : List UInt8 := [46, 182, 0, 150, 44, 42, 29, 4, 96, 46, 182, 0, 153, 159, 0, 130, 3, 172, 43, 42, 29, 4, 96, 46]
abbrev dktL_law_41 : List UInt8 := dkwL_law_41 ++ dktL_law_42
def dkwL_law_40 : List UInt8 := [96, 46, 182, 0, 146, 44, 42, 29, 4, 96, 46, 182, 0, 149, 159, 0, 153, 3, 172, 43, 42, 29, 4, 96]
abbrev dktL_law_40 : List UInt8 := dkwL_law_40 ++ dktL_law_41
def dkwL_law_39 : List UInt8 := [29, 6, 96, 46, 153, 0, 7, 4, 167, 0, 4, 3, 182, 0, 145, 159, 0, 176, 3, 172, 43, 42, 29, 4]
abbrev dktL_law_39 : List UInt8 := dkwL_law_39 ++ dktL_law_40
def dkwL_law_38 : List UInt8 := [46, 153, 0, 7, 4, 167, 0, 4, 3, 182, 0, 141, 44, 42, 29, 4, 96, 46, 42, 29, 5, 96, 46, 42]
abbrev dktL_law_38 : List UInt8 := dkwL_law_38 ++ dktL_law_39
def dkwL_law_37 : List UInt8 := [46, 182, 0, 140, 159, 0, 235, 3, 172, 43, 42, 29, 4, 96, 46, 42, 29, 5, 96, 46, 42, 29, 6, 96]
abbrev dktL_law_37 : List UInt8 := dkwL_law_37 ++ dktL_law_38
def dkwL_law_36 : List UInt8 := [96, 46, 182, 0, 136, 159, 1, 2, 3, 172, 43, 42, 29, 4, 96, 46, 182, 0, 137, 44, 42, 29, 4, 96]
abbrev dktL_law_36 : List UInt8 := dkwL_law_36 ++ dktL_law_37
def dkwL_law_35 : List UInt8 := [172, 43, 42, 29, 4, 96, 46, 42, 29, 5, 96, 46, 182, 0, 133, 44, 42, 29, 4, 96, 46, 42, 29, 5]
abbrev dktL_law_35 : List UInt8 := dkwL_law_35 ++ dktL_law_36
def dkwL_law_34 : List UInt8 := [182, 0, 125, 44, 182, 0, 128, 159, 1, 48, 3, 172, 43, 182, 0, 129, 44, 182, 0, 132, 159, 1, 35, 3]
abbrev dktL_law_34 : List UInt8 := dkwL_law_34 ++ dktL_law_35
def dkwL_law_33 : List UInt8 := [182, 0, 121, 44, 42, 29, 4, 96, 46, 42, 29, 5, 96, 46, 182, 0, 124, 159, 1, 61, 3, 172, 43]
abbrev dktL_law_33 : List UInt8 := dkwL_law_33 ++ dktL_law_34
def dkwL_law_32 : List UInt8 := [42, 29, 4, 96, 46, 182, 0, 120, 159, 1, 94, 3, 172, 43, 42, 29, 4, 96, 46, 42, 29, 5, 96, 46]
abbrev dktL_law_32 : List UInt8 := dkwL_law_32 ++ dktL_law_33
def dkwL_law_31 : List UInt8 := [42, 29, 6, 96, 46, 182, 0, 116, 148, 153, 1, 117, 3, 172, 43, 42, 29, 4, 96, 46, 182, 0, 117, 44]
abbrev dktL_law_31 : List UInt8 := dkwL_law_31 ++ dktL_law_32
def dkwL_law_30 : List UInt8 := [42, 29, 5, 96, 46, 42, 29, 6, 96, 46, 182, 0, 112, 44, 42, 29, 4, 96, 46, 42, 29, 5, 96, 46]
abbrev dktL_law_30 : List UInt8 := dkwL_law_30 ++ dktL_law_31
def dkwL_law_29 : List UInt8 := [42, 29, 5, 96, 46, 42, 29, 6, 96, 46, 182, 0, 111, 159, 1, 161, 3, 172, 43, 42, 29, 4, 96, 46]
abbrev dktL_law_29 : List UInt8 := dkwL_law_29 ++ dktL_law_30
def dkwL_law_28 : List UInt8 := [42, 29, 4, 96, 46, 42, 29, 5, 96, 46, 42, 29, 6, 96, 46, 182, 0, 107, 44, 42, 29, 4, 96, 46]
abbrev dktL_law_28 : List UInt8 := dkwL_law_28 ++ dktL_law_29
def dkwL_law_27 : List UInt8 := [46, 182, 0, 103, 44, 42, 29, 4, 96, 46, 42, 29, 5, 96, 46, 182, 0, 106, 159, 1, 204, 3, 172, 43]
abbrev dktL_law_27 : List UInt8 := dkwL_law_27 ++ dktL_law_28
def dkwL_law_26 : List UInt8 := [46, 42, 29, 5, 96, 46, 182, 0, 102, 159, 1, 237, 3, 172, 43, 42, 29, 4, 96, 46, 42, 29, 5, 96]
abbrev dktL_law_26 : List UInt8 := dkwL_law_26 ++ dktL_law_27
def dkwL_law_25 : List UInt8 := [159, 2, 14, 3, 172, 43, 42, 29, 4, 96, 46, 42, 29, 5, 96, 46, 182, 0, 99, 44, 42, 29, 4, 96]
abbrev dktL_law_25 : List UInt8 := dkwL_law_25 ++ dktL_law_26
def dkwL_law_24 : List UInt8 := [42, 29, 5, 96, 46, 182, 0, 95, 44, 42, 29, 4, 96, 46, 42, 29, 5, 96, 46, 182, 0, 98]
abbrev dktL_law_24 : List UInt8 := dkwL_law_24 ++ dktL_law_25
def dkwL_law_23 : List UInt8 := [42, 29, 4, 96, 46, 42, 29, 5, 96, 46, 182, 0, 94, 159, 2, 47, 3, 172, 43, 42, 29, 4, 96, 46]
abbrev dktL_law_23 : List UInt8 := dkwL_law_23 ++ dktL_law_24
def dkwL_law_22 : List UInt8 := [46, 182, 0, 90, 159, 2, 80, 3, 172, 43, 42, 29, 4, 96, 46, 42, 29, 5, 96, 46, 182, 0, 91, 44]
abbrev dktL_law_22 : List UInt8 := dkwL_law_22 ++ dktL_law_23
def dkwL_law_21 : List UInt8 := [96, 46, 182, 0, 86, 159, 2, 103, 3, 172, 43, 42, 29, 4, 96, 46, 182, 0, 87, 44, 42, 29, 4, 96]
abbrev dktL_law_21 : List UInt8 := dkwL_law_21 ++ dktL_law_22
def dkwL_law_20 : List UInt8 := [172, 43, 42, 29, 4, 96, 46, 42, 29, 5, 96, 46, 182, 0, 83, 44, 42, 29, 4, 96, 46, 42, 29, 5]
abbrev dktL_law_20 : List UInt8 := dkwL_law_20 ++ dktL_law_21
def dkwL_law_19 : List UInt8 := [182, 0, 74, 44, 182, 0, 78, 159, 2, 149, 3, 172, 43, 182, 0, 79, 44, 182, 0, 82, 159, 2, 136, 3]
abbrev dktL_law_19 : List UInt8 := dkwL_law_19 ++ dktL_law_20
def dkwL_law_18 : List UInt8 := [182, 0, 69, 159, 2, 175, 3, 172, 43, 182, 0, 70, 44, 182, 0, 73, 159, 2, 162, 3, 172, 43]
abbrev dktL_law_18 : List UInt8 := dkwL_law_18 ++ dktL_law_19
def dkwL_law_17 : List UInt8 := [182, 0, 65, 159, 2, 198, 3, 172, 43, 42, 29, 4, 96, 46, 182, 0, 66, 44, 42, 29, 4, 96, 46]
abbrev dktL_law_17 : List UInt8 := dkwL_law_17 ++ dktL_law_18
def dkwL_law_16 : List UInt8 := [182, 0, 61, 159, 2, 221, 3, 172, 43, 42, 29, 4, 96, 46, 182, 0, 62, 44, 42, 29, 4, 96, 46]
abbrev dktL_law_16 : List UInt8 := dkwL_law_16 ++ dktL_law_17
def dkwL_law_15 : List UInt8 := [182, 0, 56, 159, 2, 244, 3, 172, 43, 42, 29, 4, 96, 46, 182, 0, 57, 44, 42, 29, 4, 96, 46]
abbrev dktL_law_15 : List UInt8 := dkwL_law_15 ++ dktL_law_16
def dkwL_law_14 : List UInt8 := [4, 96, 46, 42, 29, 5, 96, 46, 182, 0, 53, 44, 42, 29, 4, 96, 46, 42, 29, 5, 96, 46]
abbrev dktL_law_14 : List UInt8 := dkwL_law_14 ++ dktL_law_15
def dkwL_law_13 : List UInt8 := [29, 4, 96, 46, 182, 0, 49, 44, 42, 29, 4, 96, 46, 182, 0, 52, 159, 3, 21, 3, 172, 43, 42, 29]
abbrev dktL_law_13 : List UInt8 := dkwL_law_13 ++ dktL_law_14
def dkwL_law_12 : List UInt8 := [182, 0, 45, 44, 42, 29, 4, 96, 46, 42, 29, 5, 96, 46, 182, 0, 48, 159, 3, 44, 3, 172, 43, 42]
abbrev dktL_law_12 : List UInt8 := dkwL_law_12 ++ dktL_law_13
def dkwL_law_11 : List UInt8 := [182, 0, 41, 44, 182, 0, 44, 159, 3, 77, 3, 172, 43, 42, 29, 4, 96, 46, 42, 29, 5, 96, 46]
abbrev dktL_law_11 : List UInt8 := dkwL_law_11 ++ dktL_law_12
def dkwL_law_10 : List UInt8 := [46, 182, 0, 37, 44, 42, 29, 4, 96, 46, 42, 29, 5, 96, 46, 182, 0, 40, 159, 3, 90, 3, 172, 43]
abbrev dktL_law_10 : List UInt8 := dkwL_law_10 ++ dktL_law_11
def dkwL_law_9 : List UInt8 := [46, 42, 29, 5, 96, 46, 182, 0, 36, 159, 3, 123, 3, 172, 43, 42, 29, 4, 96, 46, 42, 29, 5, 96]
abbrev dktL_law_9 : List UInt8 := dkwL_law_9 ++ dktL_law_10
def dkwL_law_8 : List UInt8 := [159, 3, 156, 3, 172, 43, 42, 29, 4, 96, 46, 42, 29, 5, 96, 46, 182, 0, 32, 44, 42, 29, 4, 96]
abbrev dktL_law_8 : List UInt8 := dkwL_law_8 ++ dktL_law_9
def dkwL_law_7 : List UInt8 := [159, 3, 179, 3, 172, 43, 42, 29, 4, 96, 46, 182, 0, 28, 44, 42, 29, 4, 96, 46, 182, 0, 31]
abbrev dktL_law_7 : List UInt8 := dkwL_law_7 ++ dktL_law_8
def dkwL_law_6 : List UInt8 := [44, 42, 29, 4, 96, 46, 182, 0, 22, 159, 3, 192, 3, 172, 43, 182, 0, 23, 44, 182, 0, 27]
abbrev dktL_law_6 : List UInt8 := dkwL_law_6 ++ dktL_law_7
def dkwL_law_5 : List UInt8 := [96, 46, 42, 29, 8, 96, 46, 182, 0, 17, 159, 3, 215, 3, 172, 43, 42, 29, 4, 96, 46, 182, 0, 18]
abbrev dktL_law_5 : List UInt8 := dkwL_law_5 ++ dktL_law_6
def dkwL_law_4 : List UInt8 := [96, 46, 182, 0, 13, 44, 42, 29, 4, 96, 46, 42, 29, 5, 96, 46, 42, 29, 6, 96, 46, 42, 29, 7]
abbrev dktL_law_4 : List UInt8 := dkwL_law_4 ++ dktL_law_5
def dkwL_law_3 : List UInt8 := [43, 42, 29, 4, 96, 46, 42, 29, 5, 96, 46, 42, 29, 6, 96, 46, 42, 29, 7, 96, 46, 42, 29, 8]
abbrev dktL_law_3 : List UInt8 := dkwL_law_3 ++ dktL_law_4
def dkwL_law_2 : List UInt8 := [170, 0, 0, 0, 0, 4, 184, 0, 0, 0, 0, 0, 0, 0, 37, 0, 0, 0, 167, 0, 0, 0, 230, 0, 0, 0, 253, 0, 0, 1, 10, 0, 0, 1, 33, 0, 0, 1, 66, 0, 0, 1, 99, 0, 0, 1, 112, 0, 0, 1, 145, 0, 0, 1, 168, 0, 0, 1, 201, 0, 0, 1, 224, 0, 0, 1, 247, 0, 0, 2, 14, 0, 0, 2, 27, 0, 0, 2, 40, 0, 0, 2, 53, 0, 0, 2, 86, 0, 0, 2, 109, 0, 0, 2, 142, 0, 0, 2, 175, 0, 0, 2, 208, 0, 0, 2, 241, 0, 0, 3, 28, 0, 0, 3, 72, 0, 0, 3, 95, 0, 0, 3, 128, 0, 0, 3, 141, 0, 0, 3, 154, 0, 0, 3, 187, 0, 0, 3, 210, 0, 0, 4, 13, 0, 0, 4, 36, 0, 0, 4, 59, 0, 0, 4, 82, 0, 0, 4, 115, 0, 0, 4, 138, 0, 0, 4, 161]
abbrev dktL_law_2 : List UInt8 := dkwL_law_2 ++ dktL_law_3
def dkwL_law_1 : List UInt8 := [163, 4, 199, 42, 29, 46, 16, 63, 126]
abbrev dktL_law_1 : List UInt8 := dkwL_law_1 ++ dktL_law_2
def dkwL_law_0 : List UInt8 := [187, 0, 7, 89, 183, 0, 9, 76, 187, 0, 10, 89, 183, 0, 12, 77, 3, 62, 29, 42, 190, 16, 6, 100]
abbrev dktL_law_0 : List UInt8 := dkwL_law_0 ++ dktL_law_1
theorem dksL_law_0 : cL_law.data.toList.drop 0 = dktL_law_0 := by decide +kernel
theorem dksL_law_1 : cL_law.data.toList.drop 24 = dktL_law_1 := dk_seg dksL_law_0 24 rfl rfl
theorem dksL_law_2 : cL_law.data.toList.drop 33 = dktL_law_2 := dk_seg dksL_law_1 9 rfl rfl
theorem dksL_law_3 : cL_law.data.toList.drop 200 = dktL_law_3 := dk_seg dksL_law_2 167 rfl rfl
theorem dksL_law_4 : cL_law.data.toList.drop 224 = dktL_law_4 := dk_seg dksL_law_3 24 rfl rfl
theorem dksL_law_5 : cL_law.data.toList.drop 248 = dktL_law_5 := dk_seg dksL_law_4 24 rfl rfl
theorem dksL_law_6 : cL_law.data.toList.drop 272 = dktL_law_6 := dk_seg dksL_law_5 24 rfl rfl
theorem dksL_law_7 : cL_law.data.toList.drop 294 = dktL_law_7 := dk_seg dksL_law_6 22 rfl rfl
theorem dksL_law_8 : cL_law.data.toList.drop 317 = dktL_law_8 := dk_seg dksL_law_7 23 rfl rfl
theorem dksL_law_9 : cL_law.data.toList.drop 341 = dktL_law_9 := dk_seg dksL_law_8 24 rfl rfl
theorem dksL_law_10 : cL_law.data.toList.drop 365 = dktL_law_10 := dk_seg dksL_law_9 24 rfl rfl
theorem dksL_law_11 : cL_law.data.toList.drop 389 = dktL_law_11 := dk_seg dksL_law_10 24 rfl rfl
theorem dksL_law_12 : cL_law.data.toList.drop 412 = dktL_law_12 := dk_seg dksL_law_11 23 rfl rfl
theorem dksL_law_13 : cL_law.data.toList.drop 436 = dktL_law_13 := dk_seg dksL_law_12 24 rfl rfl
theorem dksL_law_14 : cL_law.data.toList.drop 460 = dktL_law_14 := dk_seg dksL_law_13 24 rfl rfl
theorem dksL_law_15 : cL_law.data.toList.drop 482 = dktL_law_15 := dk_seg dksL_law_14 22 rfl rfl
theorem dksL_law_16 : cL_law.data.toList.drop 505 = dktL_law_16 := dk_seg dksL_law_15 23 rfl rfl
theorem dksL_law_17 : cL_law.data.toList.drop 528 = dktL_law_17 := dk_seg dksL_law_16 23 rfl rfl
theorem dksL_law_18 : cL_law.data.toList.drop 551 = dktL_law_18 := dk_seg dksL_law_17 23 rfl rfl
theorem dksL_law_19 : cL_law.data.toList.drop 573 = dktL_law_19 := dk_seg dksL_law_18 22 rfl rfl
theorem dksL_law_20 : cL_law.data.toList.drop 597 = dktL_law_20 := dk_seg dksL_law_19 24 rfl rfl
theorem dksL_law_21 : cL_law.data.toList.drop 621 = dktL_law_21 := dk_seg dksL_law_20 24 rfl rfl
theorem dksL_law_22 : cL_law.data.toList.drop 645 = dktL_law_22 := dk_seg dksL_law_21 24 rfl rfl
theorem dksL_law_23 : cL_law.data.toList.drop 669 = dktL_law_23 := dk_seg dksL_law_22 24 rfl rfl
theorem dksL_law_24 : cL_law.data.toList.drop 693 = dktL_law_24 := dk_seg dksL_law_23 24 rfl rfl
theorem dksL_law_25 : cL_law.data.toList.drop 715 = dktL_law_25 := dk_seg dksL_law_24 22 rfl rfl
theorem dksL_law_26 : cL_law.data.toList.drop 739 = dktL_law_26 := dk_seg dksL_law_25 24 rfl rfl
theorem dksL_law_27 : cL_law.data.toList.drop 763 = dktL_law_27 := dk_seg dksL_law_26 24 rfl rfl
theorem dksL_law_28 : cL_law.data.toList.drop 787 = dktL_law_28 := dk_seg dksL_law_27 24 rfl rfl
theorem dksL_law_29 : cL_law.data.toList.drop 811 = dktL_law_29 := dk_seg dksL_law_28 24 rfl rfl
theorem dksL_law_30 : cL_law.data.toList.drop 835 = dktL_law_30 := dk_seg dksL_law_29 24 rfl rfl
theorem dksL_law_31 : cL_law.data.toList.drop 859 = dktL_law_31 := dk_seg dksL_law_30 24 rfl rfl
theorem dksL_law_32 : cL_law.data.toList.drop 883 = dktL_law_32 := dk_seg dksL_law_31 24 rfl rfl
theorem dksL_law_33 : cL_law.data.toList.drop 907 = dktL_law_33 := dk_seg dksL_law_32 24 rfl rfl
theorem dksL_law_34 : cL_law.data.toList.drop 930 = dktL_law_34 := dk_seg dksL_law_33 23 rfl rfl
theorem dksL_law_35 : cL_law.data.toList.drop 954 = dktL_law_35 := dk_seg dksL_law_34 24 rfl rfl
theorem dksL_law_36 : cL_law.data.toList.drop 978 = dktL_law_36 := dk_seg dksL_law_35 24 rfl rfl
theorem dksL_law_37 : cL_law.data.toList.drop 1002 = dktL_law_37 := dk_seg dksL_law_36 24 rfl rfl
theorem dksL_law_38 : cL_law.data.toList.drop 1026 = dktL_law_38 := dk_seg dksL_law_37 24 rfl rfl
theorem dksL_law_39 : cL_law.data.toList.drop 1050 = dktL_law_39 := dk_seg dksL_law_38 24 rfl rfl
theorem dksL_law_40 : cL_law.data.toList.drop 1074 = dktL_law_40 := dk_seg dksL_law_39 24 rfl rfl
theorem dksL_law_41 : cL_law.data.toList.drop 1098 = dktL_law_41 := dk_seg dksL_law_40 24 rfl rfl
theorem dksL_law_42 : cL_law.data.toList.drop 1122 = dktL_law_42 := dk_seg dksL_law_41 24 rfl rfl
theorem dksL_law_43 : cL_law.data.toList.drop 1146 = dktL_law_43 := dk_seg dksL_law_42 24 rfl rfl
theorem dksL_law_44 : cL_law.data.toList.drop 1170 = dktL_law_44 := dk_seg dksL_law_43 24 rfl rfl
theorem dksL_law_45 : cL_law.data.toList.drop 1194 = dktL_law_45 := dk_seg dksL_law_44 24 rfl rfl
theorem dksL_law_46 : cL_law.data.toList.drop 1218 = dktL_law_46 := dk_seg dksL_law_45 24 rfl rfl
theorem dksL_law_47 : cL_law.data.toList.drop 1241 = dktL_law_47 := dk_seg dksL_law_46 23 rfl rfl
theorem dL_law_0 : decode cL_law 0 = .ok (.new 7, 3) := dk_187 0 7 (dk_at dksL_law_0 0 rfl rfl)
theorem dL_law_3 : decode cL_law 3 = .ok (.dup, 1) := dk_89 (dk_at dksL_law_0 3 rfl rfl)
theorem dL_law_4 : decode cL_law 4 = .ok (.invokespecial 9, 3) := dk_183 0 9 (dk_at dksL_law_0 4 rfl rfl)
theorem dL_law_7 : decode cL_law 7 = .ok (.astore_n 1, 1) := dk_76 (dk_at dksL_law_0 7 rfl rfl)
theorem dL_law_8 : decode cL_law 8 = .ok (.new 10, 3) := dk_187 0 10 (dk_at dksL_law_0 8 rfl rfl)
theorem dL_law_11 : decode cL_law 11 = .ok (.dup, 1) := dk_89 (dk_at dksL_law_0 11 rfl rfl)
theorem dL_law_12 : decode cL_law 12 = .ok (.invokespecial 12, 3) := dk_183 0 12 (dk_at dksL_law_0 12 rfl rfl)
theorem dL_law_15 : decode cL_law 15 = .ok (.astore_n 2, 1) := dk_77 (dk_at dksL_law_0 15 rfl rfl)
theorem dL_law_16 : decode cL_law 16 = .ok (.iconst 0, 1) := dk_3 (dk_at dksL_law_0 16 rfl rfl)
theorem dL_law_17 : decode cL_law 17 = .ok (.istore_n 3, 1) := dk_62 (dk_at dksL_law_0 17 rfl rfl)
theorem dL_law_18 : decode cL_law 18 = .ok (.iload_n 3, 1) := dk_29 (dk_at dksL_law_0 18 rfl rfl)
theorem dL_law_19 : decode cL_law 19 = .ok (.aload_n 0, 1) := dk_42 (dk_at dksL_law_0 19 rfl rfl)
theorem dL_law_20 : decode cL_law 20 = .ok (.arraylength, 1) := dk_190 (dk_at dksL_law_0 20 rfl rfl)
theorem dL_law_21 : decode cL_law 21 = .ok (.bipush 6, 2) := dk_16 6 (dk_at dksL_law_0 21 rfl rfl)
theorem dL_law_23 : decode cL_law 23 = .ok (.isub, 1) := dk_100 (dk_at dksL_law_0 23 rfl rfl)
theorem dL_law_24 : decode cL_law 24 = .ok (.if_icmp .gt 1223, 3) := dk_163 4 199 (dk_at dksL_law_1 0 rfl rfl)
theorem dL_law_27 : decode cL_law 27 = .ok (.aload_n 0, 1) := dk_42 (dk_at dksL_law_1 3 rfl rfl)
theorem dL_law_28 : decode cL_law 28 = .ok (.iload_n 3, 1) := dk_29 (dk_at dksL_law_1 4 rfl rfl)
theorem dL_law_29 : decode cL_law 29 = .ok (.iaload, 1) := dk_46 (dk_at dksL_law_1 5 rfl rfl)
theorem dL_law_30 : decode cL_law 30 = .ok (.bipush 63, 2) := dk_16 63 (dk_at dksL_law_1 6 rfl rfl)
theorem dL_law_32 : decode cL_law 32 = .ok (.iand, 1) := dk_126 (dk_at dksL_law_1 8 rfl rfl)
theorem dL_law_33 : decode cL_law 33 = .ok (.tableswitch 1208 0 37 #[167, 230, 253, 266, 289, 322, 355, 368, 401, 424, 457, 480, 503, 526, 539, 552, 565, 598, 621, 654, 687, 720, 753, 796, 840, 863, 896, 909, 922, 955, 978, 1037, 1060, 1083, 1106, 1139, 1162, 1185], 167) := by decide +kernel
theorem dL_law_200 : decode cL_law 200 = .ok (.aload_n 1, 1) := dk_43 (dk_at dksL_law_3 0 rfl rfl)
theorem dL_law_201 : decode cL_law 201 = .ok (.aload_n 0, 1) := dk_42 (dk_at dksL_law_3 1 rfl rfl)
theorem dL_law_202 : decode cL_law 202 = .ok (.iload_n 3, 1) := dk_29 (dk_at dksL_law_3 2 rfl rfl)
theorem dL_law_203 : decode cL_law 203 = .ok (.iconst 1, 1) := dk_4 (dk_at dksL_law_3 3 rfl rfl)
theorem dL_law_204 : decode cL_law 204 = .ok (.iadd, 1) := dk_96 (dk_at dksL_law_3 4 rfl rfl)
theorem dL_law_205 : decode cL_law 205 = .ok (.iaload, 1) := dk_46 (dk_at dksL_law_3 5 rfl rfl)
theorem dL_law_206 : decode cL_law 206 = .ok (.aload_n 0, 1) := dk_42 (dk_at dksL_law_3 6 rfl rfl)
theorem dL_law_207 : decode cL_law 207 = .ok (.iload_n 3, 1) := dk_29 (dk_at dksL_law_3 7 rfl rfl)
theorem dL_law_208 : decode cL_law 208 = .ok (.iconst 2, 1) := dk_5 (dk_at dksL_law_3 8 rfl rfl)
theorem dL_law_209 : decode cL_law 209 = .ok (.iadd, 1) := dk_96 (dk_at dksL_law_3 9 rfl rfl)
theorem dL_law_210 : decode cL_law 210 = .ok (.iaload, 1) := dk_46 (dk_at dksL_law_3 10 rfl rfl)
theorem dL_law_211 : decode cL_law 211 = .ok (.aload_n 0, 1) := dk_42 (dk_at dksL_law_3 11 rfl rfl)
theorem dL_law_212 : decode cL_law 212 = .ok (.iload_n 3, 1) := dk_29 (dk_at dksL_law_3 12 rfl rfl)
theorem dL_law_213 : decode cL_law 213 = .ok (.iconst 3, 1) := dk_6 (dk_at dksL_law_3 13 rfl rfl)
theorem dL_law_214 : decode cL_law 214 = .ok (.iadd, 1) := dk_96 (dk_at dksL_law_3 14 rfl rfl)
theorem dL_law_215 : decode cL_law 215 = .ok (.iaload, 1) := dk_46 (dk_at dksL_law_3 15 rfl rfl)
theorem dL_law_216 : decode cL_law 216 = .ok (.aload_n 0, 1) := dk_42 (dk_at dksL_law_3 16 rfl rfl)
theorem dL_law_217 : decode cL_law 217 = .ok (.iload_n 3, 1) := dk_29 (dk_at dksL_law_3 17 rfl rfl)
theorem dL_law_218 : decode cL_law 218 = .ok (.iconst 4, 1) := dk_7 (dk_at dksL_law_3 18 rfl rfl)
theorem dL_law_219 : decode cL_law 219 = .ok (.iadd, 1) := dk_96 (dk_at dksL_law_3 19 rfl rfl)
theorem dL_law_220 : decode cL_law 220 = .ok (.iaload, 1) := dk_46 (dk_at dksL_law_3 20 rfl rfl)
theorem dL_law_221 : decode cL_law 221 = .ok (.aload_n 0, 1) := dk_42 (dk_at dksL_law_3 21 rfl rfl)
theorem dL_law_222 : decode cL_law 222 = .ok (.iload_n 3, 1) := dk_29 (dk_at dksL_law_3 22 rfl rfl)
theorem dL_law_223 : decode cL_law 223 = .ok (.iconst 5, 1) := dk_8 (dk_at dksL_law_3 23 rfl rfl)
theorem dL_law_224 : decode cL_law 224 = .ok (.iadd, 1) := dk_96 (dk_at dksL_law_4 0 rfl rfl)
theorem dL_law_225 : decode cL_law 225 = .ok (.iaload, 1) := dk_46 (dk_at dksL_law_4 1 rfl rfl)
theorem dL_law_226 : decode cL_law 226 = .ok (.invokevirtual 13, 3) := dk_182 0 13 (dk_at dksL_law_4 2 rfl rfl)
theorem dL_law_229 : decode cL_law 229 = .ok (.aload_n 2, 1) := dk_44 (dk_at dksL_law_4 5 rfl rfl)
theorem dL_law_230 : decode cL_law 230 = .ok (.aload_n 0, 1) := dk_42 (dk_at dksL_law_4 6 rfl rfl)
theorem dL_law_231 : decode cL_law 231 = .ok (.iload_n 3, 1) := dk_29 (dk_at dksL_law_4 7 rfl rfl)
theorem dL_law_232 : decode cL_law 232 = .ok (.iconst 1, 1) := dk_4 (dk_at dksL_law_4 8 rfl rfl)
theorem dL_law_233 : decode cL_law 233 = .ok (.iadd, 1) := dk_96 (dk_at dksL_law_4 9 rfl rfl)
theorem dL_law_234 : decode cL_law 234 = .ok (.iaload, 1) := dk_46 (dk_at dksL_law_4 10 rfl rfl)
theorem dL_law_235 : decode cL_law 235 = .ok (.aload_n 0, 1) := dk_42 (dk_at dksL_law_4 11 rfl rfl)
theorem dL_law_236 : decode cL_law 236 = .ok (.iload_n 3, 1) := dk_29 (dk_at dksL_law_4 12 rfl rfl)
theorem dL_law_237 : decode cL_law 237 = .ok (.iconst 2, 1) := dk_5 (dk_at dksL_law_4 13 rfl rfl)
theorem dL_law_238 : decode cL_law 238 = .ok (.iadd, 1) := dk_96 (dk_at dksL_law_4 14 rfl rfl)
theorem dL_law_239 : decode cL_law 239 = .ok (.iaload, 1) := dk_46 (dk_at dksL_law_4 15 rfl rfl)
theorem dL_law_240 : decode cL_law 240 = .ok (.aload_n 0, 1) := dk_42 (dk_at dksL_law_4 16 rfl rfl)
theorem dL_law_241 : decode cL_law 241 = .ok (.iload_n 3, 1) := dk_29 (dk_at dksL_law_4 17 rfl rfl)
theorem dL_law_242 : decode cL_law 242 = .ok (.iconst 3, 1) := dk_6 (dk_at dksL_law_4 18 rfl rfl)
theorem dL_law_243 : decode cL_law 243 = .ok (.iadd, 1) := dk_96 (dk_at dksL_law_4 19 rfl rfl)
theorem dL_law_244 : decode cL_law 244 = .ok (.iaload, 1) := dk_46 (dk_at dksL_law_4 20 rfl rfl)
theorem dL_law_245 : decode cL_law 245 = .ok (.aload_n 0, 1) := dk_42 (dk_at dksL_law_4 21 rfl rfl)
theorem dL_law_246 : decode cL_law 246 = .ok (.iload_n 3, 1) := dk_29 (dk_at dksL_law_4 22 rfl rfl)
theorem dL_law_247 : decode cL_law 247 = .ok (.iconst 4, 1) := dk_7 (dk_at dksL_law_4 23 rfl rfl)
theorem dL_law_248 : decode cL_law 248 = .ok (.iadd, 1) := dk_96 (dk_at dksL_law_5 0 rfl rfl)
theorem dL_law_249 : decode cL_law 249 = .ok (.iaload, 1) := dk_46 (dk_at dksL_law_5 1 rfl rfl)
theorem dL_law_250 : decode cL_law 250 = .ok (.aload_n 0, 1) := dk_42 (dk_at dksL_law_5 2 rfl rfl)
theorem dL_law_251 : decode cL_law 251 = .ok (.iload_n 3, 1) := dk_29 (dk_at dksL_law_5 3 rfl rfl)
theorem dL_law_252 : decode cL_law 252 = .ok (.iconst 5, 1) := dk_8 (dk_at dksL_law_5 4 rfl rfl)
theorem dL_law_253 : decode cL_law 253 = .ok (.iadd, 1) := dk_96 (dk_at dksL_law_5 5 rfl rfl)
theorem dL_law_254 : decode cL_law 254 = .ok (.iaload, 1) := dk_46 (dk_at dksL_law_5 6 rfl rfl)
theorem dL_law_255 : decode cL_law 255 = .ok (.invokevirtual 17, 3) := dk_182 0 17 (dk_at dksL_law_5 7 rfl rfl)
theorem dL_law_258 : decode cL_law 258 = .ok (.if_icmp .eq 983, 3) := dk_159 3 215 (dk_at dksL_law_5 10 rfl rfl)
theorem dL_law_261 : decode cL_law 261 = .ok (.iconst 0, 1) := dk_3 (dk_at dksL_law_5 13 rfl rfl)
theorem dL_law_262 : decode cL_law 262 = .ok (.ireturn, 1) := dk_172 (dk_at dksL_law_5 14 rfl rfl)
theorem dL_law_263 : decode cL_law 263 = .ok (.aload_n 1, 1) := dk_43 (dk_at dksL_law_5 15 rfl rfl)
theorem dL_law_264 : decode cL_law 264 = .ok (.aload_n 0, 1) := dk_42 (dk_at dksL_law_5 16 rfl rfl)
theorem dL_law_265 : decode cL_law 265 = .ok (.iload_n 3, 1) := dk_29 (dk_at dksL_law_5 17 rfl rfl)
theorem dL_law_266 : decode cL_law 266 = .ok (.iconst 1, 1) := dk_4 (dk_at dksL_law_5 18 rfl rfl)
theorem dL_law_267 : decode cL_law 267 = .ok (.iadd, 1) := dk_96 (dk_at dksL_law_5 19 rfl rfl)
theorem dL_law_268 : decode cL_law 268 = .ok (.iaload, 1) := dk_46 (dk_at dksL_law_5 20 rfl rfl)
theorem dL_law_269 : decode cL_law 269 = .ok (.invokevirtual 18, 3) := dk_182 0 18 (dk_at dksL_law_5 21 rfl rfl)
theorem dL_law_272 : decode cL_law 272 = .ok (.aload_n 2, 1) := dk_44 (dk_at dksL_law_6 0 rfl rfl)
theorem dL_law_273 : decode cL_law 273 = .ok (.aload_n 0, 1) := dk_42 (dk_at dksL_law_6 1 rfl rfl)
theorem dL_law_274 : decode cL_law 274 = .ok (.iload_n 3, 1) := dk_29 (dk_at dksL_law_6 2 rfl rfl)
theorem dL_law_275 : decode cL_law 275 = .ok (.iconst 1, 1) := dk_4 (dk_at dksL_law_6 3 rfl rfl)
theorem dL_law_276 : decode cL_law 276 = .ok (.iadd, 1) := dk_96 (dk_at dksL_law_6 4 rfl rfl)
theorem dL_law_277 : decode cL_law 277 = .ok (.iaload, 1) := dk_46 (dk_at dksL_law_6 5 rfl rfl)
theorem dL_law_278 : decode cL_law 278 = .ok (.invokevirtual 22, 3) := dk_182 0 22 (dk_at dksL_law_6 6 rfl rfl)
theorem dL_law_281 : decode cL_law 281 = .ok (.if_icmp .eq 960, 3) := dk_159 3 192 (dk_at dksL_law_6 9 rfl rfl)
theorem dL_law_284 : decode cL_law 284 = .ok (.iconst 0, 1) := dk_3 (dk_at dksL_law_6 12 rfl rfl)
theorem dL_law_285 : decode cL_law 285 = .ok (.ireturn, 1) := dk_172 (dk_at dksL_law_6 13 rfl rfl)
theorem dL_law_286 : decode cL_law 286 = .ok (.aload_n 1, 1) := dk_43 (dk_at dksL_law_6 14 rfl rfl)
theorem dL_law_287 : decode cL_law 287 = .ok (.invokevirtual 23, 3) := dk_182 0 23 (dk_at dksL_law_6 15 rfl rfl)
theorem dL_law_290 : decode cL_law 290 = .ok (.aload_n 2, 1) := dk_44 (dk_at dksL_law_6 18 rfl rfl)
theorem dL_law_291 : decode cL_law 291 = .ok (.invokevirtual 27, 3) := dk_182 0 27 (dk_at dksL_law_6 19 rfl rfl)
theorem dL_law_294 : decode cL_law 294 = .ok (.if_icmp .eq 947, 3) := dk_159 3 179 (dk_at dksL_law_7 0 rfl rfl)
theorem dL_law_297 : decode cL_law 297 = .ok (.iconst 0, 1) := dk_3 (dk_at dksL_law_7 3 rfl rfl)
theorem dL_law_298 : decode cL_law 298 = .ok (.ireturn, 1) := dk_172 (dk_at dksL_law_7 4 rfl rfl)
theorem dL_law_299 : decode cL_law 299 = .ok (.aload_n 1, 1) := dk_43 (dk_at dksL_law_7 5 rfl rfl)
theorem dL_law_300 : decode cL_law 300 = .ok (.aload_n 0, 1) := dk_42 (dk_at dksL_law_7 6 rfl rfl)
theorem dL_law_301 : decode cL_law 301 = .ok (.iload_n 3, 1) := dk_29 (dk_at dksL_law_7 7 rfl rfl)
theorem dL_law_302 : decode cL_law 302 = .ok (.iconst 1, 1) := dk_4 (dk_at dksL_law_7 8 rfl rfl)
theorem dL_law_303 : decode cL_law 303 = .ok (.iadd, 1) := dk_96 (dk_at dksL_law_7 9 rfl rfl)
theorem dL_law_304 : decode cL_law 304 = .ok (.iaload, 1) := dk_46 (dk_at dksL_law_7 10 rfl rfl)
theorem dL_law_305 : decode cL_law 305 = .ok (.invokevirtual 28, 3) := dk_182 0 28 (dk_at dksL_law_7 11 rfl rfl)
theorem dL_law_308 : decode cL_law 308 = .ok (.aload_n 2, 1) := dk_44 (dk_at dksL_law_7 14 rfl rfl)
theorem dL_law_309 : decode cL_law 309 = .ok (.aload_n 0, 1) := dk_42 (dk_at dksL_law_7 15 rfl rfl)
theorem dL_law_310 : decode cL_law 310 = .ok (.iload_n 3, 1) := dk_29 (dk_at dksL_law_7 16 rfl rfl)
theorem dL_law_311 : decode cL_law 311 = .ok (.iconst 1, 1) := dk_4 (dk_at dksL_law_7 17 rfl rfl)
theorem dL_law_312 : decode cL_law 312 = .ok (.iadd, 1) := dk_96 (dk_at dksL_law_7 18 rfl rfl)
theorem dL_law_313 : decode cL_law 313 = .ok (.iaload, 1) := dk_46 (dk_at dksL_law_7 19 rfl rfl)
theorem dL_law_314 : decode cL_law 314 = .ok (.invokevirtual 31, 3) := dk_182 0 31 (dk_at dksL_law_7 20 rfl rfl)
theorem dL_law_317 : decode cL_law 317 = .ok (.if_icmp .eq 924, 3) := dk_159 3 156 (dk_at dksL_law_8 0 rfl rfl)
theorem dL_law_320 : decode cL_law 320 = .ok (.iconst 0, 1) := dk_3 (dk_at dksL_law_8 3 rfl rfl)
theorem dL_law_321 : decode cL_law 321 = .ok (.ireturn, 1) := dk_172 (dk_at dksL_law_8 4 rfl rfl)
theorem dL_law_322 : decode cL_law 322 = .ok (.aload_n 1, 1) := dk_43 (dk_at dksL_law_8 5 rfl rfl)
theorem dL_law_323 : decode cL_law 323 = .ok (.aload_n 0, 1) := dk_42 (dk_at dksL_law_8 6 rfl rfl)
theorem dL_law_324 : decode cL_law 324 = .ok (.iload_n 3, 1) := dk_29 (dk_at dksL_law_8 7 rfl rfl)
theorem dL_law_325 : decode cL_law 325 = .ok (.iconst 1, 1) := dk_4 (dk_at dksL_law_8 8 rfl rfl)
theorem dL_law_326 : decode cL_law 326 = .ok (.iadd, 1) := dk_96 (dk_at dksL_law_8 9 rfl rfl)
theorem dL_law_327 : decode cL_law 327 = .ok (.iaload, 1) := dk_46 (dk_at dksL_law_8 10 rfl rfl)
theorem dL_law_328 : decode cL_law 328 = .ok (.aload_n 0, 1) := dk_42 (dk_at dksL_law_8 11 rfl rfl)
theorem dL_law_329 : decode cL_law 329 = .ok (.iload_n 3, 1) := dk_29 (dk_at dksL_law_8 12 rfl rfl)
theorem dL_law_330 : decode cL_law 330 = .ok (.iconst 2, 1) := dk_5 (dk_at dksL_law_8 13 rfl rfl)
theorem dL_law_331 : decode cL_law 331 = .ok (.iadd, 1) := dk_96 (dk_at dksL_law_8 14 rfl rfl)
theorem dL_law_332 : decode cL_law 332 = .ok (.iaload, 1) := dk_46 (dk_at dksL_law_8 15 rfl rfl)
theorem dL_law_333 : decode cL_law 333 = .ok (.invokevirtual 32, 3) := dk_182 0 32 (dk_at dksL_law_8 16 rfl rfl)
theorem dL_law_336 : decode cL_law 336 = .ok (.aload_n 2, 1) := dk_44 (dk_at dksL_law_8 19 rfl rfl)
theorem dL_law_337 : decode cL_law 337 = .ok (.aload_n 0, 1) := dk_42 (dk_at dksL_law_8 20 rfl rfl)
theorem dL_law_338 : decode cL_law 338 = .ok (.iload_n 3, 1) := dk_29 (dk_at dksL_law_8 21 rfl rfl)
theorem dL_law_339 : decode cL_law 339 = .ok (.iconst 1, 1) := dk_4 (dk_at dksL_law_8 22 rfl rfl)
theorem dL_law_340 : decode cL_law 340 = .ok (.iadd, 1) := dk_96 (dk_at dksL_law_8 23 rfl rfl)
theorem dL_law_341 : decode cL_law 341 = .ok (.iaload, 1) := dk_46 (dk_at dksL_law_9 0 rfl rfl)
theorem dL_law_342 : decode cL_law 342 = .ok (.aload_n 0, 1) := dk_42 (dk_at dksL_law_9 1 rfl rfl)
theorem dL_law_343 : decode cL_law 343 = .ok (.iload_n 3, 1) := dk_29 (dk_at dksL_law_9 2 rfl rfl)
theorem dL_law_344 : decode cL_law 344 = .ok (.iconst 2, 1) := dk_5 (dk_at dksL_law_9 3 rfl rfl)
theorem dL_law_345 : decode cL_law 345 = .ok (.iadd, 1) := dk_96 (dk_at dksL_law_9 4 rfl rfl)
theorem dL_law_346 : decode cL_law 346 = .ok (.iaload, 1) := dk_46 (dk_at dksL_law_9 5 rfl rfl)
theorem dL_law_347 : decode cL_law 347 = .ok (.invokevirtual 36, 3) := dk_182 0 36 (dk_at dksL_law_9 6 rfl rfl)
theorem dL_law_350 : decode cL_law 350 = .ok (.if_icmp .eq 891, 3) := dk_159 3 123 (dk_at dksL_law_9 9 rfl rfl)
theorem dL_law_353 : decode cL_law 353 = .ok (.iconst 0, 1) := dk_3 (dk_at dksL_law_9 12 rfl rfl)
theorem dL_law_354 : decode cL_law 354 = .ok (.ireturn, 1) := dk_172 (dk_at dksL_law_9 13 rfl rfl)
theorem dL_law_355 : decode cL_law 355 = .ok (.aload_n 1, 1) := dk_43 (dk_at dksL_law_9 14 rfl rfl)
theorem dL_law_356 : decode cL_law 356 = .ok (.aload_n 0, 1) := dk_42 (dk_at dksL_law_9 15 rfl rfl)
theorem dL_law_357 : decode cL_law 357 = .ok (.iload_n 3, 1) := dk_29 (dk_at dksL_law_9 16 rfl rfl)
theorem dL_law_358 : decode cL_law 358 = .ok (.iconst 1, 1) := dk_4 (dk_at dksL_law_9 17 rfl rfl)
theorem dL_law_359 : decode cL_law 359 = .ok (.iadd, 1) := dk_96 (dk_at dksL_law_9 18 rfl rfl)
theorem dL_law_360 : decode cL_law 360 = .ok (.iaload, 1) := dk_46 (dk_at dksL_law_9 19 rfl rfl)
theorem dL_law_361 : decode cL_law 361 = .ok (.aload_n 0, 1) := dk_42 (dk_at dksL_law_9 20 rfl rfl)
theorem dL_law_362 : decode cL_law 362 = .ok (.iload_n 3, 1) := dk_29 (dk_at dksL_law_9 21 rfl rfl)
theorem dL_law_363 : decode cL_law 363 = .ok (.iconst 2, 1) := dk_5 (dk_at dksL_law_9 22 rfl rfl)
theorem dL_law_364 : decode cL_law 364 = .ok (.iadd, 1) := dk_96 (dk_at dksL_law_9 23 rfl rfl)
theorem dL_law_365 : decode cL_law 365 = .ok (.iaload, 1) := dk_46 (dk_at dksL_law_10 0 rfl rfl)
theorem dL_law_366 : decode cL_law 366 = .ok (.invokevirtual 37, 3) := dk_182 0 37 (dk_at dksL_law_10 1 rfl rfl)
theorem dL_law_369 : decode cL_law 369 = .ok (.aload_n 2, 1) := dk_44 (dk_at dksL_law_10 4 rfl rfl)
theorem dL_law_370 : decode cL_law 370 = .ok (.aload_n 0, 1) := dk_42 (dk_at dksL_law_10 5 rfl rfl)
theorem dL_law_371 : decode cL_law 371 = .ok (.iload_n 3, 1) := dk_29 (dk_at dksL_law_10 6 rfl rfl)
theorem dL_law_372 : decode cL_law 372 = .ok (.iconst 1, 1) := dk_4 (dk_at dksL_law_10 7 rfl rfl)
theorem dL_law_373 : decode cL_law 373 = .ok (.iadd, 1) := dk_96 (dk_at dksL_law_10 8 rfl rfl)
theorem dL_law_374 : decode cL_law 374 = .ok (.iaload, 1) := dk_46 (dk_at dksL_law_10 9 rfl rfl)
theorem dL_law_375 : decode cL_law 375 = .ok (.aload_n 0, 1) := dk_42 (dk_at dksL_law_10 10 rfl rfl)
theorem dL_law_376 : decode cL_law 376 = .ok (.iload_n 3, 1) := dk_29 (dk_at dksL_law_10 11 rfl rfl)
theorem dL_law_377 : decode cL_law 377 = .ok (.iconst 2, 1) := dk_5 (dk_at dksL_law_10 12 rfl rfl)
theorem dL_law_378 : decode cL_law 378 = .ok (.iadd, 1) := dk_96 (dk_at dksL_law_10 13 rfl rfl)
theorem dL_law_379 : decode cL_law 379 = .ok (.iaload, 1) := dk_46 (dk_at dksL_law_10 14 rfl rfl)
theorem dL_law_380 : decode cL_law 380 = .ok (.invokevirtual 40, 3) := dk_182 0 40 (dk_at dksL_law_10 15 rfl rfl)
theorem dL_law_383 : decode cL_law 383 = .ok (.if_icmp .eq 858, 3) := dk_159 3 90 (dk_at dksL_law_10 18 rfl rfl)
theorem dL_law_386 : decode cL_law 386 = .ok (.iconst 0, 1) := dk_3 (dk_at dksL_law_10 21 rfl rfl)
theorem dL_law_387 : decode cL_law 387 = .ok (.ireturn, 1) := dk_172 (dk_at dksL_law_10 22 rfl rfl)
theorem dL_law_388 : decode cL_law 388 = .ok (.aload_n 1, 1) := dk_43 (dk_at dksL_law_10 23 rfl rfl)
theorem dL_law_389 : decode cL_law 389 = .ok (.invokevirtual 41, 3) := dk_182 0 41 (dk_at dksL_law_11 0 rfl rfl)
theorem dL_law_392 : decode cL_law 392 = .ok (.aload_n 2, 1) := dk_44 (dk_at dksL_law_11 3 rfl rfl)
theorem dL_law_393 : decode cL_law 393 = .ok (.invokevirtual 44, 3) := dk_182 0 44 (dk_at dksL_law_11 4 rfl rfl)
theorem dL_law_396 : decode cL_law 396 = .ok (.if_icmp .eq 845, 3) := dk_159 3 77 (dk_at dksL_law_11 7 rfl rfl)
theorem dL_law_399 : decode cL_law 399 = .ok (.iconst 0, 1) := dk_3 (dk_at dksL_law_11 10 rfl rfl)
theorem dL_law_400 : decode cL_law 400 = .ok (.ireturn, 1) := dk_172 (dk_at dksL_law_11 11 rfl rfl)
theorem dL_law_401 : decode cL_law 401 = .ok (.aload_n 1, 1) := dk_43 (dk_at dksL_law_11 12 rfl rfl)
theorem dL_law_402 : decode cL_law 402 = .ok (.aload_n 0, 1) := dk_42 (dk_at dksL_law_11 13 rfl rfl)
theorem dL_law_403 : decode cL_law 403 = .ok (.iload_n 3, 1) := dk_29 (dk_at dksL_law_11 14 rfl rfl)
theorem dL_law_404 : decode cL_law 404 = .ok (.iconst 1, 1) := dk_4 (dk_at dksL_law_11 15 rfl rfl)
theorem dL_law_405 : decode cL_law 405 = .ok (.iadd, 1) := dk_96 (dk_at dksL_law_11 16 rfl rfl)
theorem dL_law_406 : decode cL_law 406 = .ok (.iaload, 1) := dk_46 (dk_at dksL_law_11 17 rfl rfl)
theorem dL_law_407 : decode cL_law 407 = .ok (.aload_n 0, 1) := dk_42 (dk_at dksL_law_11 18 rfl rfl)
theorem dL_law_408 : decode cL_law 408 = .ok (.iload_n 3, 1) := dk_29 (dk_at dksL_law_11 19 rfl rfl)
theorem dL_law_409 : decode cL_law 409 = .ok (.iconst 2, 1) := dk_5 (dk_at dksL_law_11 20 rfl rfl)
theorem dL_law_410 : decode cL_law 410 = .ok (.iadd, 1) := dk_96 (dk_at dksL_law_11 21 rfl rfl)
theorem dL_law_411 : decode cL_law 411 = .ok (.iaload, 1) := dk_46 (dk_at dksL_law_11 22 rfl rfl)
theorem dL_law_412 : decode cL_law 412 = .ok (.invokevirtual 45, 3) := dk_182 0 45 (dk_at dksL_law_12 0 rfl rfl)
theorem dL_law_415 : decode cL_law 415 = .ok (.aload_n 2, 1) := dk_44 (dk_at dksL_law_12 3 rfl rfl)
theorem dL_law_416 : decode cL_law 416 = .ok (.aload_n 0, 1) := dk_42 (dk_at dksL_law_12 4 rfl rfl)
theorem dL_law_417 : decode cL_law 417 = .ok (.iload_n 3, 1) := dk_29 (dk_at dksL_law_12 5 rfl rfl)
theorem dL_law_418 : decode cL_law 418 = .ok (.iconst 1, 1) := dk_4 (dk_at dksL_law_12 6 rfl rfl)
theorem dL_law_419 : decode cL_law 419 = .ok (.iadd, 1) := dk_96 (dk_at dksL_law_12 7 rfl rfl)
theorem dL_law_420 : decode cL_law 420 = .ok (.iaload, 1) := dk_46 (dk_at dksL_law_12 8 rfl rfl)
theorem dL_law_421 : decode cL_law 421 = .ok (.aload_n 0, 1) := dk_42 (dk_at dksL_law_12 9 rfl rfl)
theorem dL_law_422 : decode cL_law 422 = .ok (.iload_n 3, 1) := dk_29 (dk_at dksL_law_12 10 rfl rfl)
theorem dL_law_423 : decode cL_law 423 = .ok (.iconst 2, 1) := dk_5 (dk_at dksL_law_12 11 rfl rfl)
theorem dL_law_424 : decode cL_law 424 = .ok (.iadd, 1) := dk_96 (dk_at dksL_law_12 12 rfl rfl)
theorem dL_law_425 : decode cL_law 425 = .ok (.iaload, 1) := dk_46 (dk_at dksL_law_12 13 rfl rfl)
theorem dL_law_426 : decode cL_law 426 = .ok (.invokevirtual 48, 3) := dk_182 0 48 (dk_at dksL_law_12 14 rfl rfl)
theorem dL_law_429 : decode cL_law 429 = .ok (.if_icmp .eq 812, 3) := dk_159 3 44 (dk_at dksL_law_12 17 rfl rfl)
theorem dL_law_432 : decode cL_law 432 = .ok (.iconst 0, 1) := dk_3 (dk_at dksL_law_12 20 rfl rfl)
theorem dL_law_433 : decode cL_law 433 = .ok (.ireturn, 1) := dk_172 (dk_at dksL_law_12 21 rfl rfl)
theorem dL_law_434 : decode cL_law 434 = .ok (.aload_n 1, 1) := dk_43 (dk_at dksL_law_12 22 rfl rfl)
theorem dL_law_435 : decode cL_law 435 = .ok (.aload_n 0, 1) := dk_42 (dk_at dksL_law_12 23 rfl rfl)
theorem dL_law_436 : decode cL_law 436 = .ok (.iload_n 3, 1) := dk_29 (dk_at dksL_law_13 0 rfl rfl)
theorem dL_law_437 : decode cL_law 437 = .ok (.iconst 1, 1) := dk_4 (dk_at dksL_law_13 1 rfl rfl)
theorem dL_law_438 : decode cL_law 438 = .ok (.iadd, 1) := dk_96 (dk_at dksL_law_13 2 rfl rfl)
theorem dL_law_439 : decode cL_law 439 = .ok (.iaload, 1) := dk_46 (dk_at dksL_law_13 3 rfl rfl)
theorem dL_law_440 : decode cL_law 440 = .ok (.invokevirtual 49, 3) := dk_182 0 49 (dk_at dksL_law_13 4 rfl rfl)
theorem dL_law_443 : decode cL_law 443 = .ok (.aload_n 2, 1) := dk_44 (dk_at dksL_law_13 7 rfl rfl)
theorem dL_law_444 : decode cL_law 444 = .ok (.aload_n 0, 1) := dk_42 (dk_at dksL_law_13 8 rfl rfl)
theorem dL_law_445 : decode cL_law 445 = .ok (.iload_n 3, 1) := dk_29 (dk_at dksL_law_13 9 rfl rfl)
theorem dL_law_446 : decode cL_law 446 = .ok (.iconst 1, 1) := dk_4 (dk_at dksL_law_13 10 rfl rfl)
theorem dL_law_447 : decode cL_law 447 = .ok (.iadd, 1) := dk_96 (dk_at dksL_law_13 11 rfl rfl)
theorem dL_law_448 : decode cL_law 448 = .ok (.iaload, 1) := dk_46 (dk_at dksL_law_13 12 rfl rfl)
theorem dL_law_449 : decode cL_law 449 = .ok (.invokevirtual 52, 3) := dk_182 0 52 (dk_at dksL_law_13 13 rfl rfl)
theorem dL_law_452 : decode cL_law 452 = .ok (.if_icmp .eq 789, 3) := dk_159 3 21 (dk_at dksL_law_13 16 rfl rfl)
theorem dL_law_455 : decode cL_law 455 = .ok (.iconst 0, 1) := dk_3 (dk_at dksL_law_13 19 rfl rfl)
theorem dL_law_456 : decode cL_law 456 = .ok (.ireturn, 1) := dk_172 (dk_at dksL_law_13 20 rfl rfl)
theorem dL_law_457 : decode cL_law 457 = .ok (.aload_n 1, 1) := dk_43 (dk_at dksL_law_13 21 rfl rfl)
theorem dL_law_458 : decode cL_law 458 = .ok (.aload_n 0, 1) := dk_42 (dk_at dksL_law_13 22 rfl rfl)
theorem dL_law_459 : decode cL_law 459 = .ok (.iload_n 3, 1) := dk_29 (dk_at dksL_law_13 23 rfl rfl)
theorem dL_law_460 : decode cL_law 460 = .ok (.iconst 1, 1) := dk_4 (dk_at dksL_law_14 0 rfl rfl)
theorem dL_law_461 : decode cL_law 461 = .ok (.iadd, 1) := dk_96 (dk_at dksL_law_14 1 rfl rfl)
theorem dL_law_462 : decode cL_law 462 = .ok (.iaload, 1) := dk_46 (dk_at dksL_law_14 2 rfl rfl)
theorem dL_law_463 : decode cL_law 463 = .ok (.aload_n 0, 1) := dk_42 (dk_at dksL_law_14 3 rfl rfl)
theorem dL_law_464 : decode cL_law 464 = .ok (.iload_n 3, 1) := dk_29 (dk_at dksL_law_14 4 rfl rfl)
theorem dL_law_465 : decode cL_law 465 = .ok (.iconst 2, 1) := dk_5 (dk_at dksL_law_14 5 rfl rfl)
theorem dL_law_466 : decode cL_law 466 = .ok (.iadd, 1) := dk_96 (dk_at dksL_law_14 6 rfl rfl)
theorem dL_law_467 : decode cL_law 467 = .ok (.iaload, 1) := dk_46 (dk_at dksL_law_14 7 rfl rfl)
theorem dL_law_468 : decode cL_law 468 = .ok (.invokevirtual 53, 3) := dk_182 0 53 (dk_at dksL_law_14 8 rfl rfl)
theorem dL_law_471 : decode cL_law 471 = .ok (.aload_n 2, 1) := dk_44 (dk_at dksL_law_14 11 rfl rfl)
theorem dL_law_472 : decode cL_law 472 = .ok (.aload_n 0, 1) := dk_42 (dk_at dksL_law_14 12 rfl rfl)
theorem dL_law_473 : decode cL_law 473 = .ok (.iload_n 3, 1) := dk_29 (dk_at dksL_law_14 13 rfl rfl)
theorem dL_law_474 : decode cL_law 474 = .ok (.iconst 1, 1) := dk_4 (dk_at dksL_law_14 14 rfl rfl)
theorem dL_law_475 : decode cL_law 475 = .ok (.iadd, 1) := dk_96 (dk_at dksL_law_14 15 rfl rfl)
theorem dL_law_476 : decode cL_law 476 = .ok (.iaload, 1) := dk_46 (dk_at dksL_law_14 16 rfl rfl)
theorem dL_law_477 : decode cL_law 477 = .ok (.aload_n 0, 1) := dk_42 (dk_at dksL_law_14 17 rfl rfl)
theorem dL_law_478 : decode cL_law 478 = .ok (.iload_n 3, 1) := dk_29 (dk_at dksL_law_14 18 rfl rfl)
theorem dL_law_479 : decode cL_law 479 = .ok (.iconst 2, 1) := dk_5 (dk_at dksL_law_14 19 rfl rfl)
theorem dL_law_480 : decode cL_law 480 = .ok (.iadd, 1) := dk_96 (dk_at dksL_law_14 20 rfl rfl)
theorem dL_law_481 : decode cL_law 481 = .ok (.iaload, 1) := dk_46 (dk_at dksL_law_14 21 rfl rfl)
theorem dL_law_482 : decode cL_law 482 = .ok (.invokevirtual 56, 3) := dk_182 0 56 (dk_at dksL_law_15 0 rfl rfl)
theorem dL_law_485 : decode cL_law 485 = .ok (.if_icmp .eq 756, 3) := dk_159 2 244 (dk_at dksL_law_15 3 rfl rfl)
theorem dL_law_488 : decode cL_law 488 = .ok (.iconst 0, 1) := dk_3 (dk_at dksL_law_15 6 rfl rfl)
theorem dL_law_489 : decode cL_law 489 = .ok (.ireturn, 1) := dk_172 (dk_at dksL_law_15 7 rfl rfl)
theorem dL_law_490 : decode cL_law 490 = .ok (.aload_n 1, 1) := dk_43 (dk_at dksL_law_15 8 rfl rfl)
theorem dL_law_491 : decode cL_law 491 = .ok (.aload_n 0, 1) := dk_42 (dk_at dksL_law_15 9 rfl rfl)
theorem dL_law_492 : decode cL_law 492 = .ok (.iload_n 3, 1) := dk_29 (dk_at dksL_law_15 10 rfl rfl)
theorem dL_law_493 : decode cL_law 493 = .ok (.iconst 1, 1) := dk_4 (dk_at dksL_law_15 11 rfl rfl)
theorem dL_law_494 : decode cL_law 494 = .ok (.iadd, 1) := dk_96 (dk_at dksL_law_15 12 rfl rfl)
theorem dL_law_495 : decode cL_law 495 = .ok (.iaload, 1) := dk_46 (dk_at dksL_law_15 13 rfl rfl)
theorem dL_law_496 : decode cL_law 496 = .ok (.invokevirtual 57, 3) := dk_182 0 57 (dk_at dksL_law_15 14 rfl rfl)
theorem dL_law_499 : decode cL_law 499 = .ok (.aload_n 2, 1) := dk_44 (dk_at dksL_law_15 17 rfl rfl)
theorem dL_law_500 : decode cL_law 500 = .ok (.aload_n 0, 1) := dk_42 (dk_at dksL_law_15 18 rfl rfl)
theorem dL_law_501 : decode cL_law 501 = .ok (.iload_n 3, 1) := dk_29 (dk_at dksL_law_15 19 rfl rfl)
theorem dL_law_502 : decode cL_law 502 = .ok (.iconst 1, 1) := dk_4 (dk_at dksL_law_15 20 rfl rfl)
theorem dL_law_503 : decode cL_law 503 = .ok (.iadd, 1) := dk_96 (dk_at dksL_law_15 21 rfl rfl)
theorem dL_law_504 : decode cL_law 504 = .ok (.iaload, 1) := dk_46 (dk_at dksL_law_15 22 rfl rfl)
theorem dL_law_505 : decode cL_law 505 = .ok (.invokevirtual 61, 3) := dk_182 0 61 (dk_at dksL_law_16 0 rfl rfl)
theorem dL_law_508 : decode cL_law 508 = .ok (.if_icmp .eq 733, 3) := dk_159 2 221 (dk_at dksL_law_16 3 rfl rfl)
theorem dL_law_511 : decode cL_law 511 = .ok (.iconst 0, 1) := dk_3 (dk_at dksL_law_16 6 rfl rfl)
theorem dL_law_512 : decode cL_law 512 = .ok (.ireturn, 1) := dk_172 (dk_at dksL_law_16 7 rfl rfl)
theorem dL_law_513 : decode cL_law 513 = .ok (.aload_n 1, 1) := dk_43 (dk_at dksL_law_16 8 rfl rfl)
theorem dL_law_514 : decode cL_law 514 = .ok (.aload_n 0, 1) := dk_42 (dk_at dksL_law_16 9 rfl rfl)
theorem dL_law_515 : decode cL_law 515 = .ok (.iload_n 3, 1) := dk_29 (dk_at dksL_law_16 10 rfl rfl)
theorem dL_law_516 : decode cL_law 516 = .ok (.iconst 1, 1) := dk_4 (dk_at dksL_law_16 11 rfl rfl)
theorem dL_law_517 : decode cL_law 517 = .ok (.iadd, 1) := dk_96 (dk_at dksL_law_16 12 rfl rfl)
theorem dL_law_518 : decode cL_law 518 = .ok (.iaload, 1) := dk_46 (dk_at dksL_law_16 13 rfl rfl)
theorem dL_law_519 : decode cL_law 519 = .ok (.invokevirtual 62, 3) := dk_182 0 62 (dk_at dksL_law_16 14 rfl rfl)
theorem dL_law_522 : decode cL_law 522 = .ok (.aload_n 2, 1) := dk_44 (dk_at dksL_law_16 17 rfl rfl)
theorem dL_law_523 : decode cL_law 523 = .ok (.aload_n 0, 1) := dk_42 (dk_at dksL_law_16 18 rfl rfl)
theorem dL_law_524 : decode cL_law 524 = .ok (.iload_n 3, 1) := dk_29 (dk_at dksL_law_16 19 rfl rfl)
theorem dL_law_525 : decode cL_law 525 = .ok (.iconst 1, 1) := dk_4 (dk_at dksL_law_16 20 rfl rfl)
theorem dL_law_526 : decode cL_law 526 = .ok (.iadd, 1) := dk_96 (dk_at dksL_law_16 21 rfl rfl)
theorem dL_law_527 : decode cL_law 527 = .ok (.iaload, 1) := dk_46 (dk_at dksL_law_16 22 rfl rfl)
theorem dL_law_528 : decode cL_law 528 = .ok (.invokevirtual 65, 3) := dk_182 0 65 (dk_at dksL_law_17 0 rfl rfl)
theorem dL_law_531 : decode cL_law 531 = .ok (.if_icmp .eq 710, 3) := dk_159 2 198 (dk_at dksL_law_17 3 rfl rfl)
theorem dL_law_534 : decode cL_law 534 = .ok (.iconst 0, 1) := dk_3 (dk_at dksL_law_17 6 rfl rfl)
theorem dL_law_535 : decode cL_law 535 = .ok (.ireturn, 1) := dk_172 (dk_at dksL_law_17 7 rfl rfl)
theorem dL_law_536 : decode cL_law 536 = .ok (.aload_n 1, 1) := dk_43 (dk_at dksL_law_17 8 rfl rfl)
theorem dL_law_537 : decode cL_law 537 = .ok (.aload_n 0, 1) := dk_42 (dk_at dksL_law_17 9 rfl rfl)
theorem dL_law_538 : decode cL_law 538 = .ok (.iload_n 3, 1) := dk_29 (dk_at dksL_law_17 10 rfl rfl)
theorem dL_law_539 : decode cL_law 539 = .ok (.iconst 1, 1) := dk_4 (dk_at dksL_law_17 11 rfl rfl)
theorem dL_law_540 : decode cL_law 540 = .ok (.iadd, 1) := dk_96 (dk_at dksL_law_17 12 rfl rfl)
theorem dL_law_541 : decode cL_law 541 = .ok (.iaload, 1) := dk_46 (dk_at dksL_law_17 13 rfl rfl)
theorem dL_law_542 : decode cL_law 542 = .ok (.invokevirtual 66, 3) := dk_182 0 66 (dk_at dksL_law_17 14 rfl rfl)
theorem dL_law_545 : decode cL_law 545 = .ok (.aload_n 2, 1) := dk_44 (dk_at dksL_law_17 17 rfl rfl)
theorem dL_law_546 : decode cL_law 546 = .ok (.aload_n 0, 1) := dk_42 (dk_at dksL_law_17 18 rfl rfl)
theorem dL_law_547 : decode cL_law 547 = .ok (.iload_n 3, 1) := dk_29 (dk_at dksL_law_17 19 rfl rfl)
theorem dL_law_548 : decode cL_law 548 = .ok (.iconst 1, 1) := dk_4 (dk_at dksL_law_17 20 rfl rfl)
theorem dL_law_549 : decode cL_law 549 = .ok (.iadd, 1) := dk_96 (dk_at dksL_law_17 21 rfl rfl)
theorem dL_law_550 : decode cL_law 550 = .ok (.iaload, 1) := dk_46 (dk_at dksL_law_17 22 rfl rfl)
theorem dL_law_551 : decode cL_law 551 = .ok (.invokevirtual 69, 3) := dk_182 0 69 (dk_at dksL_law_18 0 rfl rfl)
theorem dL_law_554 : decode cL_law 554 = .ok (.if_icmp .eq 687, 3) := dk_159 2 175 (dk_at dksL_law_18 3 rfl rfl)
theorem dL_law_557 : decode cL_law 557 = .ok (.iconst 0, 1) := dk_3 (dk_at dksL_law_18 6 rfl rfl)
theorem dL_law_558 : decode cL_law 558 = .ok (.ireturn, 1) := dk_172 (dk_at dksL_law_18 7 rfl rfl)
theorem dL_law_559 : decode cL_law 559 = .ok (.aload_n 1, 1) := dk_43 (dk_at dksL_law_18 8 rfl rfl)
theorem dL_law_560 : decode cL_law 560 = .ok (.invokevirtual 70, 3) := dk_182 0 70 (dk_at dksL_law_18 9 rfl rfl)
theorem dL_law_563 : decode cL_law 563 = .ok (.aload_n 2, 1) := dk_44 (dk_at dksL_law_18 12 rfl rfl)
theorem dL_law_564 : decode cL_law 564 = .ok (.invokevirtual 73, 3) := dk_182 0 73 (dk_at dksL_law_18 13 rfl rfl)
theorem dL_law_567 : decode cL_law 567 = .ok (.if_icmp .eq 674, 3) := dk_159 2 162 (dk_at dksL_law_18 16 rfl rfl)
theorem dL_law_570 : decode cL_law 570 = .ok (.iconst 0, 1) := dk_3 (dk_at dksL_law_18 19 rfl rfl)
theorem dL_law_571 : decode cL_law 571 = .ok (.ireturn, 1) := dk_172 (dk_at dksL_law_18 20 rfl rfl)
theorem dL_law_572 : decode cL_law 572 = .ok (.aload_n 1, 1) := dk_43 (dk_at dksL_law_18 21 rfl rfl)
theorem dL_law_573 : decode cL_law 573 = .ok (.invokevirtual 74, 3) := dk_182 0 74 (dk_at dksL_law_19 0 rfl rfl)
theorem dL_law_576 : decode cL_law 576 = .ok (.aload_n 2, 1) := dk_44 (dk_at dksL_law_19 3 rfl rfl)
theorem dL_law_577 : decode cL_law 577 = .ok (.invokevirtual 78, 3) := dk_182 0 78 (dk_at dksL_law_19 4 rfl rfl)
theorem dL_law_580 : decode cL_law 580 = .ok (.if_icmp .eq 661, 3) := dk_159 2 149 (dk_at dksL_law_19 7 rfl rfl)
theorem dL_law_583 : decode cL_law 583 = .ok (.iconst 0, 1) := dk_3 (dk_at dksL_law_19 10 rfl rfl)
theorem dL_law_584 : decode cL_law 584 = .ok (.ireturn, 1) := dk_172 (dk_at dksL_law_19 11 rfl rfl)
theorem dL_law_585 : decode cL_law 585 = .ok (.aload_n 1, 1) := dk_43 (dk_at dksL_law_19 12 rfl rfl)
theorem dL_law_586 : decode cL_law 586 = .ok (.invokevirtual 79, 3) := dk_182 0 79 (dk_at dksL_law_19 13 rfl rfl)
theorem dL_law_589 : decode cL_law 589 = .ok (.aload_n 2, 1) := dk_44 (dk_at dksL_law_19 16 rfl rfl)
theorem dL_law_590 : decode cL_law 590 = .ok (.invokevirtual 82, 3) := dk_182 0 82 (dk_at dksL_law_19 17 rfl rfl)
theorem dL_law_593 : decode cL_law 593 = .ok (.if_icmp .eq 648, 3) := dk_159 2 136 (dk_at dksL_law_19 20 rfl rfl)
theorem dL_law_596 : decode cL_law 596 = .ok (.iconst 0, 1) := dk_3 (dk_at dksL_law_19 23 rfl rfl)
theorem dL_law_597 : decode cL_law 597 = .ok (.ireturn, 1) := dk_172 (dk_at dksL_law_20 0 rfl rfl)
theorem dL_law_598 : decode cL_law 598 = .ok (.aload_n 1, 1) := dk_43 (dk_at dksL_law_20 1 rfl rfl)
theorem dL_law_599 : decode cL_law 599 = .ok (.aload_n 0, 1) := dk_42 (dk_at dksL_law_20 2 rfl rfl)
theorem dL_law_600 : decode cL_law 600 = .ok (.iload_n 3, 1) := dk_29 (dk_at dksL_law_20 3 rfl rfl)
theorem dL_law_601 : decode cL_law 601 = .ok (.iconst 1, 1) := dk_4 (dk_at dksL_law_20 4 rfl rfl)
theorem dL_law_602 : decode cL_law 602 = .ok (.iadd, 1) := dk_96 (dk_at dksL_law_20 5 rfl rfl)
theorem dL_law_603 : decode cL_law 603 = .ok (.iaload, 1) := dk_46 (dk_at dksL_law_20 6 rfl rfl)
theorem dL_law_604 : decode cL_law 604 = .ok (.aload_n 0, 1) := dk_42 (dk_at dksL_law_20 7 rfl rfl)
theorem dL_law_605 : decode cL_law 605 = .ok (.iload_n 3, 1) := dk_29 (dk_at dksL_law_20 8 rfl rfl)
theorem dL_law_606 : decode cL_law 606 = .ok (.iconst 2, 1) := dk_5 (dk_at dksL_law_20 9 rfl rfl)
theorem dL_law_607 : decode cL_law 607 = .ok (.iadd, 1) := dk_96 (dk_at dksL_law_20 10 rfl rfl)
theorem dL_law_608 : decode cL_law 608 = .ok (.iaload, 1) := dk_46 (dk_at dksL_law_20 11 rfl rfl)
theorem dL_law_609 : decode cL_law 609 = .ok (.invokevirtual 83, 3) := dk_182 0 83 (dk_at dksL_law_20 12 rfl rfl)
theorem dL_law_612 : decode cL_law 612 = .ok (.aload_n 2, 1) := dk_44 (dk_at dksL_law_20 15 rfl rfl)
theorem dL_law_613 : decode cL_law 613 = .ok (.aload_n 0, 1) := dk_42 (dk_at dksL_law_20 16 rfl rfl)
theorem dL_law_614 : decode cL_law 614 = .ok (.iload_n 3, 1) := dk_29 (dk_at dksL_law_20 17 rfl rfl)
theorem dL_law_615 : decode cL_law 615 = .ok (.iconst 1, 1) := dk_4 (dk_at dksL_law_20 18 rfl rfl)
theorem dL_law_616 : decode cL_law 616 = .ok (.iadd, 1) := dk_96 (dk_at dksL_law_20 19 rfl rfl)
theorem dL_law_617 : decode cL_law 617 = .ok (.iaload, 1) := dk_46 (dk_at dksL_law_20 20 rfl rfl)
theorem dL_law_618 : decode cL_law 618 = .ok (.aload_n 0, 1) := dk_42 (dk_at dksL_law_20 21 rfl rfl)
theorem dL_law_619 : decode cL_law 619 = .ok (.iload_n 3, 1) := dk_29 (dk_at dksL_law_20 22 rfl rfl)
theorem dL_law_620 : decode cL_law 620 = .ok (.iconst 2, 1) := dk_5 (dk_at dksL_law_20 23 rfl rfl)
theorem dL_law_621 : decode cL_law 621 = .ok (.iadd, 1) := dk_96 (dk_at dksL_law_21 0 rfl rfl)
theorem dL_law_622 : decode cL_law 622 = .ok (.iaload, 1) := dk_46 (dk_at dksL_law_21 1 rfl rfl)
theorem dL_law_623 : decode cL_law 623 = .ok (.invokevirtual 86, 3) := dk_182 0 86 (dk_at dksL_law_21 2 rfl rfl)
theorem dL_law_626 : decode cL_law 626 = .ok (.if_icmp .eq 615, 3) := dk_159 2 103 (dk_at dksL_law_21 5 rfl rfl)
theorem dL_law_629 : decode cL_law 629 = .ok (.iconst 0, 1) := dk_3 (dk_at dksL_law_21 8 rfl rfl)
theorem dL_law_630 : decode cL_law 630 = .ok (.ireturn, 1) := dk_172 (dk_at dksL_law_21 9 rfl rfl)
theorem dL_law_631 : decode cL_law 631 = .ok (.aload_n 1, 1) := dk_43 (dk_at dksL_law_21 10 rfl rfl)
theorem dL_law_632 : decode cL_law 632 = .ok (.aload_n 0, 1) := dk_42 (dk_at dksL_law_21 11 rfl rfl)
theorem dL_law_633 : decode cL_law 633 = .ok (.iload_n 3, 1) := dk_29 (dk_at dksL_law_21 12 rfl rfl)
theorem dL_law_634 : decode cL_law 634 = .ok (.iconst 1, 1) := dk_4 (dk_at dksL_law_21 13 rfl rfl)
theorem dL_law_635 : decode cL_law 635 = .ok (.iadd, 1) := dk_96 (dk_at dksL_law_21 14 rfl rfl)
theorem dL_law_636 : decode cL_law 636 = .ok (.iaload, 1) := dk_46 (dk_at dksL_law_21 15 rfl rfl)
theorem dL_law_637 : decode cL_law 637 = .ok (.invokevirtual 87, 3) := dk_182 0 87 (dk_at dksL_law_21 16 rfl rfl)
theorem dL_law_640 : decode cL_law 640 = .ok (.aload_n 2, 1) := dk_44 (dk_at dksL_law_21 19 rfl rfl)
theorem dL_law_641 : decode cL_law 641 = .ok (.aload_n 0, 1) := dk_42 (dk_at dksL_law_21 20 rfl rfl)
theorem dL_law_642 : decode cL_law 642 = .ok (.iload_n 3, 1) := dk_29 (dk_at dksL_law_21 21 rfl rfl)
theorem dL_law_643 : decode cL_law 643 = .ok (.iconst 1, 1) := dk_4 (dk_at dksL_law_21 22 rfl rfl)
theorem dL_law_644 : decode cL_law 644 = .ok (.iadd, 1) := dk_96 (dk_at dksL_law_21 23 rfl rfl)
theorem dL_law_645 : decode cL_law 645 = .ok (.iaload, 1) := dk_46 (dk_at dksL_law_22 0 rfl rfl)
theorem dL_law_646 : decode cL_law 646 = .ok (.invokevirtual 90, 3) := dk_182 0 90 (dk_at dksL_law_22 1 rfl rfl)
theorem dL_law_649 : decode cL_law 649 = .ok (.if_icmp .eq 592, 3) := dk_159 2 80 (dk_at dksL_law_22 4 rfl rfl)
theorem dL_law_652 : decode cL_law 652 = .ok (.iconst 0, 1) := dk_3 (dk_at dksL_law_22 7 rfl rfl)
theorem dL_law_653 : decode cL_law 653 = .ok (.ireturn, 1) := dk_172 (dk_at dksL_law_22 8 rfl rfl)
theorem dL_law_654 : decode cL_law 654 = .ok (.aload_n 1, 1) := dk_43 (dk_at dksL_law_22 9 rfl rfl)
theorem dL_law_655 : decode cL_law 655 = .ok (.aload_n 0, 1) := dk_42 (dk_at dksL_law_22 10 rfl rfl)
theorem dL_law_656 : decode cL_law 656 = .ok (.iload_n 3, 1) := dk_29 (dk_at dksL_law_22 11 rfl rfl)
theorem dL_law_657 : decode cL_law 657 = .ok (.iconst 1, 1) := dk_4 (dk_at dksL_law_22 12 rfl rfl)
theorem dL_law_658 : decode cL_law 658 = .ok (.iadd, 1) := dk_96 (dk_at dksL_law_22 13 rfl rfl)
theorem dL_law_659 : decode cL_law 659 = .ok (.iaload, 1) := dk_46 (dk_at dksL_law_22 14 rfl rfl)
theorem dL_law_660 : decode cL_law 660 = .ok (.aload_n 0, 1) := dk_42 (dk_at dksL_law_22 15 rfl rfl)
theorem dL_law_661 : decode cL_law 661 = .ok (.iload_n 3, 1) := dk_29 (dk_at dksL_law_22 16 rfl rfl)
theorem dL_law_662 : decode cL_law 662 = .ok (.iconst 2, 1) := dk_5 (dk_at dksL_law_22 17 rfl rfl)
theorem dL_law_663 : decode cL_law 663 = .ok (.iadd, 1) := dk_96 (dk_at dksL_law_22 18 rfl rfl)
theorem dL_law_664 : decode cL_law 664 = .ok (.iaload, 1) := dk_46 (dk_at dksL_law_22 19 rfl rfl)
theorem dL_law_665 : decode cL_law 665 = .ok (.invokevirtual 91, 3) := dk_182 0 91 (dk_at dksL_law_22 20 rfl rfl)
theorem dL_law_668 : decode cL_law 668 = .ok (.aload_n 2, 1) := dk_44 (dk_at dksL_law_22 23 rfl rfl)
theorem dL_law_669 : decode cL_law 669 = .ok (.aload_n 0, 1) := dk_42 (dk_at dksL_law_23 0 rfl rfl)
theorem dL_law_670 : decode cL_law 670 = .ok (.iload_n 3, 1) := dk_29 (dk_at dksL_law_23 1 rfl rfl)
theorem dL_law_671 : decode cL_law 671 = .ok (.iconst 1, 1) := dk_4 (dk_at dksL_law_23 2 rfl rfl)
theorem dL_law_672 : decode cL_law 672 = .ok (.iadd, 1) := dk_96 (dk_at dksL_law_23 3 rfl rfl)
theorem dL_law_673 : decode cL_law 673 = .ok (.iaload, 1) := dk_46 (dk_at dksL_law_23 4 rfl rfl)
theorem dL_law_674 : decode cL_law 674 = .ok (.aload_n 0, 1) := dk_42 (dk_at dksL_law_23 5 rfl rfl)
theorem dL_law_675 : decode cL_law 675 = .ok (.iload_n 3, 1) := dk_29 (dk_at dksL_law_23 6 rfl rfl)
theorem dL_law_676 : decode cL_law 676 = .ok (.iconst 2, 1) := dk_5 (dk_at dksL_law_23 7 rfl rfl)
theorem dL_law_677 : decode cL_law 677 = .ok (.iadd, 1) := dk_96 (dk_at dksL_law_23 8 rfl rfl)
theorem dL_law_678 : decode cL_law 678 = .ok (.iaload, 1) := dk_46 (dk_at dksL_law_23 9 rfl rfl)
theorem dL_law_679 : decode cL_law 679 = .ok (.invokevirtual 94, 3) := dk_182 0 94 (dk_at dksL_law_23 10 rfl rfl)
theorem dL_law_682 : decode cL_law 682 = .ok (.if_icmp .eq 559, 3) := dk_159 2 47 (dk_at dksL_law_23 13 rfl rfl)
theorem dL_law_685 : decode cL_law 685 = .ok (.iconst 0, 1) := dk_3 (dk_at dksL_law_23 16 rfl rfl)
theorem dL_law_686 : decode cL_law 686 = .ok (.ireturn, 1) := dk_172 (dk_at dksL_law_23 17 rfl rfl)
theorem dL_law_687 : decode cL_law 687 = .ok (.aload_n 1, 1) := dk_43 (dk_at dksL_law_23 18 rfl rfl)
theorem dL_law_688 : decode cL_law 688 = .ok (.aload_n 0, 1) := dk_42 (dk_at dksL_law_23 19 rfl rfl)
theorem dL_law_689 : decode cL_law 689 = .ok (.iload_n 3, 1) := dk_29 (dk_at dksL_law_23 20 rfl rfl)
theorem dL_law_690 : decode cL_law 690 = .ok (.iconst 1, 1) := dk_4 (dk_at dksL_law_23 21 rfl rfl)
theorem dL_law_691 : decode cL_law 691 = .ok (.iadd, 1) := dk_96 (dk_at dksL_law_23 22 rfl rfl)
theorem dL_law_692 : decode cL_law 692 = .ok (.iaload, 1) := dk_46 (dk_at dksL_law_23 23 rfl rfl)
theorem dL_law_693 : decode cL_law 693 = .ok (.aload_n 0, 1) := dk_42 (dk_at dksL_law_24 0 rfl rfl)
theorem dL_law_694 : decode cL_law 694 = .ok (.iload_n 3, 1) := dk_29 (dk_at dksL_law_24 1 rfl rfl)
theorem dL_law_695 : decode cL_law 695 = .ok (.iconst 2, 1) := dk_5 (dk_at dksL_law_24 2 rfl rfl)
theorem dL_law_696 : decode cL_law 696 = .ok (.iadd, 1) := dk_96 (dk_at dksL_law_24 3 rfl rfl)
theorem dL_law_697 : decode cL_law 697 = .ok (.iaload, 1) := dk_46 (dk_at dksL_law_24 4 rfl rfl)
theorem dL_law_698 : decode cL_law 698 = .ok (.invokevirtual 95, 3) := dk_182 0 95 (dk_at dksL_law_24 5 rfl rfl)
theorem dL_law_701 : decode cL_law 701 = .ok (.aload_n 2, 1) := dk_44 (dk_at dksL_law_24 8 rfl rfl)
theorem dL_law_702 : decode cL_law 702 = .ok (.aload_n 0, 1) := dk_42 (dk_at dksL_law_24 9 rfl rfl)
theorem dL_law_703 : decode cL_law 703 = .ok (.iload_n 3, 1) := dk_29 (dk_at dksL_law_24 10 rfl rfl)
theorem dL_law_704 : decode cL_law 704 = .ok (.iconst 1, 1) := dk_4 (dk_at dksL_law_24 11 rfl rfl)
theorem dL_law_705 : decode cL_law 705 = .ok (.iadd, 1) := dk_96 (dk_at dksL_law_24 12 rfl rfl)
theorem dL_law_706 : decode cL_law 706 = .ok (.iaload, 1) := dk_46 (dk_at dksL_law_24 13 rfl rfl)
theorem dL_law_707 : decode cL_law 707 = .ok (.aload_n 0, 1) := dk_42 (dk_at dksL_law_24 14 rfl rfl)
theorem dL_law_708 : decode cL_law 708 = .ok (.iload_n 3, 1) := dk_29 (dk_at dksL_law_24 15 rfl rfl)
theorem dL_law_709 : decode cL_law 709 = .ok (.iconst 2, 1) := dk_5 (dk_at dksL_law_24 16 rfl rfl)
theorem dL_law_710 : decode cL_law 710 = .ok (.iadd, 1) := dk_96 (dk_at dksL_law_24 17 rfl rfl)
theorem dL_law_711 : decode cL_law 711 = .ok (.iaload, 1) := dk_46 (dk_at dksL_law_24 18 rfl rfl)
theorem dL_law_712 : decode cL_law 712 = .ok (.invokevirtual 98, 3) := dk_182 0 98 (dk_at dksL_law_24 19 rfl rfl)
theorem dL_law_715 : decode cL_law 715 = .ok (.if_icmp .eq 526, 3) := dk_159 2 14 (dk_at dksL_law_25 0 rfl rfl)
theorem dL_law_718 : decode cL_law 718 = .ok (.iconst 0, 1) := dk_3 (dk_at dksL_law_25 3 rfl rfl)
theorem dL_law_719 : decode cL_law 719 = .ok (.ireturn, 1) := dk_172 (dk_at dksL_law_25 4 rfl rfl)
theorem dL_law_720 : decode cL_law 720 = .ok (.aload_n 1, 1) := dk_43 (dk_at dksL_law_25 5 rfl rfl)
theorem dL_law_721 : decode cL_law 721 = .ok (.aload_n 0, 1) := dk_42 (dk_at dksL_law_25 6 rfl rfl)
theorem dL_law_722 : decode cL_law 722 = .ok (.iload_n 3, 1) := dk_29 (dk_at dksL_law_25 7 rfl rfl)
theorem dL_law_723 : decode cL_law 723 = .ok (.iconst 1, 1) := dk_4 (dk_at dksL_law_25 8 rfl rfl)
theorem dL_law_724 : decode cL_law 724 = .ok (.iadd, 1) := dk_96 (dk_at dksL_law_25 9 rfl rfl)
theorem dL_law_725 : decode cL_law 725 = .ok (.iaload, 1) := dk_46 (dk_at dksL_law_25 10 rfl rfl)
theorem dL_law_726 : decode cL_law 726 = .ok (.aload_n 0, 1) := dk_42 (dk_at dksL_law_25 11 rfl rfl)
theorem dL_law_727 : decode cL_law 727 = .ok (.iload_n 3, 1) := dk_29 (dk_at dksL_law_25 12 rfl rfl)
theorem dL_law_728 : decode cL_law 728 = .ok (.iconst 2, 1) := dk_5 (dk_at dksL_law_25 13 rfl rfl)
theorem dL_law_729 : decode cL_law 729 = .ok (.iadd, 1) := dk_96 (dk_at dksL_law_25 14 rfl rfl)
theorem dL_law_730 : decode cL_law 730 = .ok (.iaload, 1) := dk_46 (dk_at dksL_law_25 15 rfl rfl)
theorem dL_law_731 : decode cL_law 731 = .ok (.invokevirtual 99, 3) := dk_182 0 99 (dk_at dksL_law_25 16 rfl rfl)
theorem dL_law_734 : decode cL_law 734 = .ok (.aload_n 2, 1) := dk_44 (dk_at dksL_law_25 19 rfl rfl)
theorem dL_law_735 : decode cL_law 735 = .ok (.aload_n 0, 1) := dk_42 (dk_at dksL_law_25 20 rfl rfl)
theorem dL_law_736 : decode cL_law 736 = .ok (.iload_n 3, 1) := dk_29 (dk_at dksL_law_25 21 rfl rfl)
theorem dL_law_737 : decode cL_law 737 = .ok (.iconst 1, 1) := dk_4 (dk_at dksL_law_25 22 rfl rfl)
theorem dL_law_738 : decode cL_law 738 = .ok (.iadd, 1) := dk_96 (dk_at dksL_law_25 23 rfl rfl)
theorem dL_law_739 : decode cL_law 739 = .ok (.iaload, 1) := dk_46 (dk_at dksL_law_26 0 rfl rfl)
theorem dL_law_740 : decode cL_law 740 = .ok (.aload_n 0, 1) := dk_42 (dk_at dksL_law_26 1 rfl rfl)
theorem dL_law_741 : decode cL_law 741 = .ok (.iload_n 3, 1) := dk_29 (dk_at dksL_law_26 2 rfl rfl)
theorem dL_law_742 : decode cL_law 742 = .ok (.iconst 2, 1) := dk_5 (dk_at dksL_law_26 3 rfl rfl)
theorem dL_law_743 : decode cL_law 743 = .ok (.iadd, 1) := dk_96 (dk_at dksL_law_26 4 rfl rfl)
theorem dL_law_744 : decode cL_law 744 = .ok (.iaload, 1) := dk_46 (dk_at dksL_law_26 5 rfl rfl)
theorem dL_law_745 : decode cL_law 745 = .ok (.invokevirtual 102, 3) := dk_182 0 102 (dk_at dksL_law_26 6 rfl rfl)
theorem dL_law_748 : decode cL_law 748 = .ok (.if_icmp .eq 493, 3) := dk_159 1 237 (dk_at dksL_law_26 9 rfl rfl)
theorem dL_law_751 : decode cL_law 751 = .ok (.iconst 0, 1) := dk_3 (dk_at dksL_law_26 12 rfl rfl)
theorem dL_law_752 : decode cL_law 752 = .ok (.ireturn, 1) := dk_172 (dk_at dksL_law_26 13 rfl rfl)
theorem dL_law_753 : decode cL_law 753 = .ok (.aload_n 1, 1) := dk_43 (dk_at dksL_law_26 14 rfl rfl)
theorem dL_law_754 : decode cL_law 754 = .ok (.aload_n 0, 1) := dk_42 (dk_at dksL_law_26 15 rfl rfl)
theorem dL_law_755 : decode cL_law 755 = .ok (.iload_n 3, 1) := dk_29 (dk_at dksL_law_26 16 rfl rfl)
theorem dL_law_756 : decode cL_law 756 = .ok (.iconst 1, 1) := dk_4 (dk_at dksL_law_26 17 rfl rfl)
theorem dL_law_757 : decode cL_law 757 = .ok (.iadd, 1) := dk_96 (dk_at dksL_law_26 18 rfl rfl)
theorem dL_law_758 : decode cL_law 758 = .ok (.iaload, 1) := dk_46 (dk_at dksL_law_26 19 rfl rfl)
theorem dL_law_759 : decode cL_law 759 = .ok (.aload_n 0, 1) := dk_42 (dk_at dksL_law_26 20 rfl rfl)
theorem dL_law_760 : decode cL_law 760 = .ok (.iload_n 3, 1) := dk_29 (dk_at dksL_law_26 21 rfl rfl)
theorem dL_law_761 : decode cL_law 761 = .ok (.iconst 2, 1) := dk_5 (dk_at dksL_law_26 22 rfl rfl)
theorem dL_law_762 : decode cL_law 762 = .ok (.iadd, 1) := dk_96 (dk_at dksL_law_26 23 rfl rfl)
theorem dL_law_763 : decode cL_law 763 = .ok (.iaload, 1) := dk_46 (dk_at dksL_law_27 0 rfl rfl)
theorem dL_law_764 : decode cL_law 764 = .ok (.invokevirtual 103, 3) := dk_182 0 103 (dk_at dksL_law_27 1 rfl rfl)
theorem dL_law_767 : decode cL_law 767 = .ok (.aload_n 2, 1) := dk_44 (dk_at dksL_law_27 4 rfl rfl)
theorem dL_law_768 : decode cL_law 768 = .ok (.aload_n 0, 1) := dk_42 (dk_at dksL_law_27 5 rfl rfl)
theorem dL_law_769 : decode cL_law 769 = .ok (.iload_n 3, 1) := dk_29 (dk_at dksL_law_27 6 rfl rfl)
theorem dL_law_770 : decode cL_law 770 = .ok (.iconst 1, 1) := dk_4 (dk_at dksL_law_27 7 rfl rfl)
theorem dL_law_771 : decode cL_law 771 = .ok (.iadd, 1) := dk_96 (dk_at dksL_law_27 8 rfl rfl)
theorem dL_law_772 : decode cL_law 772 = .ok (.iaload, 1) := dk_46 (dk_at dksL_law_27 9 rfl rfl)
theorem dL_law_773 : decode cL_law 773 = .ok (.aload_n 0, 1) := dk_42 (dk_at dksL_law_27 10 rfl rfl)
theorem dL_law_774 : decode cL_law 774 = .ok (.iload_n 3, 1) := dk_29 (dk_at dksL_law_27 11 rfl rfl)
theorem dL_law_775 : decode cL_law 775 = .ok (.iconst 2, 1) := dk_5 (dk_at dksL_law_27 12 rfl rfl)
theorem dL_law_776 : decode cL_law 776 = .ok (.iadd, 1) := dk_96 (dk_at dksL_law_27 13 rfl rfl)
theorem dL_law_777 : decode cL_law 777 = .ok (.iaload, 1) := dk_46 (dk_at dksL_law_27 14 rfl rfl)
theorem dL_law_778 : decode cL_law 778 = .ok (.invokevirtual 106, 3) := dk_182 0 106 (dk_at dksL_law_27 15 rfl rfl)
theorem dL_law_781 : decode cL_law 781 = .ok (.if_icmp .eq 460, 3) := dk_159 1 204 (dk_at dksL_law_27 18 rfl rfl)
theorem dL_law_784 : decode cL_law 784 = .ok (.iconst 0, 1) := dk_3 (dk_at dksL_law_27 21 rfl rfl)
theorem dL_law_785 : decode cL_law 785 = .ok (.ireturn, 1) := dk_172 (dk_at dksL_law_27 22 rfl rfl)
theorem dL_law_786 : decode cL_law 786 = .ok (.aload_n 1, 1) := dk_43 (dk_at dksL_law_27 23 rfl rfl)
theorem dL_law_787 : decode cL_law 787 = .ok (.aload_n 0, 1) := dk_42 (dk_at dksL_law_28 0 rfl rfl)
theorem dL_law_788 : decode cL_law 788 = .ok (.iload_n 3, 1) := dk_29 (dk_at dksL_law_28 1 rfl rfl)
theorem dL_law_789 : decode cL_law 789 = .ok (.iconst 1, 1) := dk_4 (dk_at dksL_law_28 2 rfl rfl)
theorem dL_law_790 : decode cL_law 790 = .ok (.iadd, 1) := dk_96 (dk_at dksL_law_28 3 rfl rfl)
theorem dL_law_791 : decode cL_law 791 = .ok (.iaload, 1) := dk_46 (dk_at dksL_law_28 4 rfl rfl)
theorem dL_law_792 : decode cL_law 792 = .ok (.aload_n 0, 1) := dk_42 (dk_at dksL_law_28 5 rfl rfl)
theorem dL_law_793 : decode cL_law 793 = .ok (.iload_n 3, 1) := dk_29 (dk_at dksL_law_28 6 rfl rfl)
theorem dL_law_794 : decode cL_law 794 = .ok (.iconst 2, 1) := dk_5 (dk_at dksL_law_28 7 rfl rfl)
theorem dL_law_795 : decode cL_law 795 = .ok (.iadd, 1) := dk_96 (dk_at dksL_law_28 8 rfl rfl)
theorem dL_law_796 : decode cL_law 796 = .ok (.iaload, 1) := dk_46 (dk_at dksL_law_28 9 rfl rfl)
theorem dL_law_797 : decode cL_law 797 = .ok (.aload_n 0, 1) := dk_42 (dk_at dksL_law_28 10 rfl rfl)
theorem dL_law_798 : decode cL_law 798 = .ok (.iload_n 3, 1) := dk_29 (dk_at dksL_law_28 11 rfl rfl)
theorem dL_law_799 : decode cL_law 799 = .ok (.iconst 3, 1) := dk_6 (dk_at dksL_law_28 12 rfl rfl)
theorem dL_law_800 : decode cL_law 800 = .ok (.iadd, 1) := dk_96 (dk_at dksL_law_28 13 rfl rfl)
theorem dL_law_801 : decode cL_law 801 = .ok (.iaload, 1) := dk_46 (dk_at dksL_law_28 14 rfl rfl)
theorem dL_law_802 : decode cL_law 802 = .ok (.invokevirtual 107, 3) := dk_182 0 107 (dk_at dksL_law_28 15 rfl rfl)
theorem dL_law_805 : decode cL_law 805 = .ok (.aload_n 2, 1) := dk_44 (dk_at dksL_law_28 18 rfl rfl)
theorem dL_law_806 : decode cL_law 806 = .ok (.aload_n 0, 1) := dk_42 (dk_at dksL_law_28 19 rfl rfl)
theorem dL_law_807 : decode cL_law 807 = .ok (.iload_n 3, 1) := dk_29 (dk_at dksL_law_28 20 rfl rfl)
theorem dL_law_808 : decode cL_law 808 = .ok (.iconst 1, 1) := dk_4 (dk_at dksL_law_28 21 rfl rfl)
theorem dL_law_809 : decode cL_law 809 = .ok (.iadd, 1) := dk_96 (dk_at dksL_law_28 22 rfl rfl)
theorem dL_law_810 : decode cL_law 810 = .ok (.iaload, 1) := dk_46 (dk_at dksL_law_28 23 rfl rfl)
theorem dL_law_811 : decode cL_law 811 = .ok (.aload_n 0, 1) := dk_42 (dk_at dksL_law_29 0 rfl rfl)
theorem dL_law_812 : decode cL_law 812 = .ok (.iload_n 3, 1) := dk_29 (dk_at dksL_law_29 1 rfl rfl)
theorem dL_law_813 : decode cL_law 813 = .ok (.iconst 2, 1) := dk_5 (dk_at dksL_law_29 2 rfl rfl)
theorem dL_law_814 : decode cL_law 814 = .ok (.iadd, 1) := dk_96 (dk_at dksL_law_29 3 rfl rfl)
theorem dL_law_815 : decode cL_law 815 = .ok (.iaload, 1) := dk_46 (dk_at dksL_law_29 4 rfl rfl)
theorem dL_law_816 : decode cL_law 816 = .ok (.aload_n 0, 1) := dk_42 (dk_at dksL_law_29 5 rfl rfl)
theorem dL_law_817 : decode cL_law 817 = .ok (.iload_n 3, 1) := dk_29 (dk_at dksL_law_29 6 rfl rfl)
theorem dL_law_818 : decode cL_law 818 = .ok (.iconst 3, 1) := dk_6 (dk_at dksL_law_29 7 rfl rfl)
theorem dL_law_819 : decode cL_law 819 = .ok (.iadd, 1) := dk_96 (dk_at dksL_law_29 8 rfl rfl)
theorem dL_law_820 : decode cL_law 820 = .ok (.iaload, 1) := dk_46 (dk_at dksL_law_29 9 rfl rfl)
theorem dL_law_821 : decode cL_law 821 = .ok (.invokevirtual 111, 3) := dk_182 0 111 (dk_at dksL_law_29 10 rfl rfl)
theorem dL_law_824 : decode cL_law 824 = .ok (.if_icmp .eq 417, 3) := dk_159 1 161 (dk_at dksL_law_29 13 rfl rfl)
theorem dL_law_827 : decode cL_law 827 = .ok (.iconst 0, 1) := dk_3 (dk_at dksL_law_29 16 rfl rfl)
theorem dL_law_828 : decode cL_law 828 = .ok (.ireturn, 1) := dk_172 (dk_at dksL_law_29 17 rfl rfl)
theorem dL_law_829 : decode cL_law 829 = .ok (.aload_n 1, 1) := dk_43 (dk_at dksL_law_29 18 rfl rfl)
theorem dL_law_830 : decode cL_law 830 = .ok (.aload_n 0, 1) := dk_42 (dk_at dksL_law_29 19 rfl rfl)
theorem dL_law_831 : decode cL_law 831 = .ok (.iload_n 3, 1) := dk_29 (dk_at dksL_law_29 20 rfl rfl)
theorem dL_law_832 : decode cL_law 832 = .ok (.iconst 1, 1) := dk_4 (dk_at dksL_law_29 21 rfl rfl)
theorem dL_law_833 : decode cL_law 833 = .ok (.iadd, 1) := dk_96 (dk_at dksL_law_29 22 rfl rfl)
theorem dL_law_834 : decode cL_law 834 = .ok (.iaload, 1) := dk_46 (dk_at dksL_law_29 23 rfl rfl)
theorem dL_law_835 : decode cL_law 835 = .ok (.aload_n 0, 1) := dk_42 (dk_at dksL_law_30 0 rfl rfl)
theorem dL_law_836 : decode cL_law 836 = .ok (.iload_n 3, 1) := dk_29 (dk_at dksL_law_30 1 rfl rfl)
theorem dL_law_837 : decode cL_law 837 = .ok (.iconst 2, 1) := dk_5 (dk_at dksL_law_30 2 rfl rfl)
theorem dL_law_838 : decode cL_law 838 = .ok (.iadd, 1) := dk_96 (dk_at dksL_law_30 3 rfl rfl)
theorem dL_law_839 : decode cL_law 839 = .ok (.iaload, 1) := dk_46 (dk_at dksL_law_30 4 rfl rfl)
theorem dL_law_840 : decode cL_law 840 = .ok (.aload_n 0, 1) := dk_42 (dk_at dksL_law_30 5 rfl rfl)
theorem dL_law_841 : decode cL_law 841 = .ok (.iload_n 3, 1) := dk_29 (dk_at dksL_law_30 6 rfl rfl)
theorem dL_law_842 : decode cL_law 842 = .ok (.iconst 3, 1) := dk_6 (dk_at dksL_law_30 7 rfl rfl)
theorem dL_law_843 : decode cL_law 843 = .ok (.iadd, 1) := dk_96 (dk_at dksL_law_30 8 rfl rfl)
theorem dL_law_844 : decode cL_law 844 = .ok (.iaload, 1) := dk_46 (dk_at dksL_law_30 9 rfl rfl)
theorem dL_law_845 : decode cL_law 845 = .ok (.invokevirtual 112, 3) := dk_182 0 112 (dk_at dksL_law_30 10 rfl rfl)
theorem dL_law_848 : decode cL_law 848 = .ok (.aload_n 2, 1) := dk_44 (dk_at dksL_law_30 13 rfl rfl)
theorem dL_law_849 : decode cL_law 849 = .ok (.aload_n 0, 1) := dk_42 (dk_at dksL_law_30 14 rfl rfl)
theorem dL_law_850 : decode cL_law 850 = .ok (.iload_n 3, 1) := dk_29 (dk_at dksL_law_30 15 rfl rfl)
theorem dL_law_851 : decode cL_law 851 = .ok (.iconst 1, 1) := dk_4 (dk_at dksL_law_30 16 rfl rfl)
theorem dL_law_852 : decode cL_law 852 = .ok (.iadd, 1) := dk_96 (dk_at dksL_law_30 17 rfl rfl)
theorem dL_law_853 : decode cL_law 853 = .ok (.iaload, 1) := dk_46 (dk_at dksL_law_30 18 rfl rfl)
theorem dL_law_854 : decode cL_law 854 = .ok (.aload_n 0, 1) := dk_42 (dk_at dksL_law_30 19 rfl rfl)
theorem dL_law_855 : decode cL_law 855 = .ok (.iload_n 3, 1) := dk_29 (dk_at dksL_law_30 20 rfl rfl)
theorem dL_law_856 : decode cL_law 856 = .ok (.iconst 2, 1) := dk_5 (dk_at dksL_law_30 21 rfl rfl)
theorem dL_law_857 : decode cL_law 857 = .ok (.iadd, 1) := dk_96 (dk_at dksL_law_30 22 rfl rfl)
theorem dL_law_858 : decode cL_law 858 = .ok (.iaload, 1) := dk_46 (dk_at dksL_law_30 23 rfl rfl)
theorem dL_law_859 : decode cL_law 859 = .ok (.aload_n 0, 1) := dk_42 (dk_at dksL_law_31 0 rfl rfl)
theorem dL_law_860 : decode cL_law 860 = .ok (.iload_n 3, 1) := dk_29 (dk_at dksL_law_31 1 rfl rfl)
theorem dL_law_861 : decode cL_law 861 = .ok (.iconst 3, 1) := dk_6 (dk_at dksL_law_31 2 rfl rfl)
theorem dL_law_862 : decode cL_law 862 = .ok (.iadd, 1) := dk_96 (dk_at dksL_law_31 3 rfl rfl)
theorem dL_law_863 : decode cL_law 863 = .ok (.iaload, 1) := dk_46 (dk_at dksL_law_31 4 rfl rfl)
theorem dL_law_864 : decode cL_law 864 = .ok (.invokevirtual 116, 3) := dk_182 0 116 (dk_at dksL_law_31 5 rfl rfl)
theorem dL_law_867 : decode cL_law 867 = .ok (.lcmp, 1) := dk_148 (dk_at dksL_law_31 8 rfl rfl)
theorem dL_law_868 : decode cL_law 868 = .ok (.ifCond .eq 373, 3) := dk_153 1 117 (dk_at dksL_law_31 9 rfl rfl)
theorem dL_law_871 : decode cL_law 871 = .ok (.iconst 0, 1) := dk_3 (dk_at dksL_law_31 12 rfl rfl)
theorem dL_law_872 : decode cL_law 872 = .ok (.ireturn, 1) := dk_172 (dk_at dksL_law_31 13 rfl rfl)
theorem dL_law_873 : decode cL_law 873 = .ok (.aload_n 1, 1) := dk_43 (dk_at dksL_law_31 14 rfl rfl)
theorem dL_law_874 : decode cL_law 874 = .ok (.aload_n 0, 1) := dk_42 (dk_at dksL_law_31 15 rfl rfl)
theorem dL_law_875 : decode cL_law 875 = .ok (.iload_n 3, 1) := dk_29 (dk_at dksL_law_31 16 rfl rfl)
theorem dL_law_876 : decode cL_law 876 = .ok (.iconst 1, 1) := dk_4 (dk_at dksL_law_31 17 rfl rfl)
theorem dL_law_877 : decode cL_law 877 = .ok (.iadd, 1) := dk_96 (dk_at dksL_law_31 18 rfl rfl)
theorem dL_law_878 : decode cL_law 878 = .ok (.iaload, 1) := dk_46 (dk_at dksL_law_31 19 rfl rfl)
theorem dL_law_879 : decode cL_law 879 = .ok (.invokevirtual 117, 3) := dk_182 0 117 (dk_at dksL_law_31 20 rfl rfl)
theorem dL_law_882 : decode cL_law 882 = .ok (.aload_n 2, 1) := dk_44 (dk_at dksL_law_31 23 rfl rfl)
theorem dL_law_883 : decode cL_law 883 = .ok (.aload_n 0, 1) := dk_42 (dk_at dksL_law_32 0 rfl rfl)
theorem dL_law_884 : decode cL_law 884 = .ok (.iload_n 3, 1) := dk_29 (dk_at dksL_law_32 1 rfl rfl)
theorem dL_law_885 : decode cL_law 885 = .ok (.iconst 1, 1) := dk_4 (dk_at dksL_law_32 2 rfl rfl)
theorem dL_law_886 : decode cL_law 886 = .ok (.iadd, 1) := dk_96 (dk_at dksL_law_32 3 rfl rfl)
theorem dL_law_887 : decode cL_law 887 = .ok (.iaload, 1) := dk_46 (dk_at dksL_law_32 4 rfl rfl)
theorem dL_law_888 : decode cL_law 888 = .ok (.invokevirtual 120, 3) := dk_182 0 120 (dk_at dksL_law_32 5 rfl rfl)
theorem dL_law_891 : decode cL_law 891 = .ok (.if_icmp .eq 350, 3) := dk_159 1 94 (dk_at dksL_law_32 8 rfl rfl)
theorem dL_law_894 : decode cL_law 894 = .ok (.iconst 0, 1) := dk_3 (dk_at dksL_law_32 11 rfl rfl)
theorem dL_law_895 : decode cL_law 895 = .ok (.ireturn, 1) := dk_172 (dk_at dksL_law_32 12 rfl rfl)
theorem dL_law_896 : decode cL_law 896 = .ok (.aload_n 1, 1) := dk_43 (dk_at dksL_law_32 13 rfl rfl)
theorem dL_law_897 : decode cL_law 897 = .ok (.aload_n 0, 1) := dk_42 (dk_at dksL_law_32 14 rfl rfl)
theorem dL_law_898 : decode cL_law 898 = .ok (.iload_n 3, 1) := dk_29 (dk_at dksL_law_32 15 rfl rfl)
theorem dL_law_899 : decode cL_law 899 = .ok (.iconst 1, 1) := dk_4 (dk_at dksL_law_32 16 rfl rfl)
theorem dL_law_900 : decode cL_law 900 = .ok (.iadd, 1) := dk_96 (dk_at dksL_law_32 17 rfl rfl)
theorem dL_law_901 : decode cL_law 901 = .ok (.iaload, 1) := dk_46 (dk_at dksL_law_32 18 rfl rfl)
theorem dL_law_902 : decode cL_law 902 = .ok (.aload_n 0, 1) := dk_42 (dk_at dksL_law_32 19 rfl rfl)
theorem dL_law_903 : decode cL_law 903 = .ok (.iload_n 3, 1) := dk_29 (dk_at dksL_law_32 20 rfl rfl)
theorem dL_law_904 : decode cL_law 904 = .ok (.iconst 2, 1) := dk_5 (dk_at dksL_law_32 21 rfl rfl)
theorem dL_law_905 : decode cL_law 905 = .ok (.iadd, 1) := dk_96 (dk_at dksL_law_32 22 rfl rfl)
theorem dL_law_906 : decode cL_law 906 = .ok (.iaload, 1) := dk_46 (dk_at dksL_law_32 23 rfl rfl)
theorem dL_law_907 : decode cL_law 907 = .ok (.invokevirtual 121, 3) := dk_182 0 121 (dk_at dksL_law_33 0 rfl rfl)
theorem dL_law_910 : decode cL_law 910 = .ok (.aload_n 2, 1) := dk_44 (dk_at dksL_law_33 3 rfl rfl)
theorem dL_law_911 : decode cL_law 911 = .ok (.aload_n 0, 1) := dk_42 (dk_at dksL_law_33 4 rfl rfl)
theorem dL_law_912 : decode cL_law 912 = .ok (.iload_n 3, 1) := dk_29 (dk_at dksL_law_33 5 rfl rfl)
theorem dL_law_913 : decode cL_law 913 = .ok (.iconst 1, 1) := dk_4 (dk_at dksL_law_33 6 rfl rfl)
theorem dL_law_914 : decode cL_law 914 = .ok (.iadd, 1) := dk_96 (dk_at dksL_law_33 7 rfl rfl)
theorem dL_law_915 : decode cL_law 915 = .ok (.iaload, 1) := dk_46 (dk_at dksL_law_33 8 rfl rfl)
theorem dL_law_916 : decode cL_law 916 = .ok (.aload_n 0, 1) := dk_42 (dk_at dksL_law_33 9 rfl rfl)
theorem dL_law_917 : decode cL_law 917 = .ok (.iload_n 3, 1) := dk_29 (dk_at dksL_law_33 10 rfl rfl)
theorem dL_law_918 : decode cL_law 918 = .ok (.iconst 2, 1) := dk_5 (dk_at dksL_law_33 11 rfl rfl)
theorem dL_law_919 : decode cL_law 919 = .ok (.iadd, 1) := dk_96 (dk_at dksL_law_33 12 rfl rfl)
theorem dL_law_920 : decode cL_law 920 = .ok (.iaload, 1) := dk_46 (dk_at dksL_law_33 13 rfl rfl)
theorem dL_law_921 : decode cL_law 921 = .ok (.invokevirtual 124, 3) := dk_182 0 124 (dk_at dksL_law_33 14 rfl rfl)
theorem dL_law_924 : decode cL_law 924 = .ok (.if_icmp .eq 317, 3) := dk_159 1 61 (dk_at dksL_law_33 17 rfl rfl)
theorem dL_law_927 : decode cL_law 927 = .ok (.iconst 0, 1) := dk_3 (dk_at dksL_law_33 20 rfl rfl)
theorem dL_law_928 : decode cL_law 928 = .ok (.ireturn, 1) := dk_172 (dk_at dksL_law_33 21 rfl rfl)
theorem dL_law_929 : decode cL_law 929 = .ok (.aload_n 1, 1) := dk_43 (dk_at dksL_law_33 22 rfl rfl)
theorem dL_law_930 : decode cL_law 930 = .ok (.invokevirtual 125, 3) := dk_182 0 125 (dk_at dksL_law_34 0 rfl rfl)
theorem dL_law_933 : decode cL_law 933 = .ok (.aload_n 2, 1) := dk_44 (dk_at dksL_law_34 3 rfl rfl)
theorem dL_law_934 : decode cL_law 934 = .ok (.invokevirtual 128, 3) := dk_182 0 128 (dk_at dksL_law_34 4 rfl rfl)
theorem dL_law_937 : decode cL_law 937 = .ok (.if_icmp .eq 304, 3) := dk_159 1 48 (dk_at dksL_law_34 7 rfl rfl)
theorem dL_law_940 : decode cL_law 940 = .ok (.iconst 0, 1) := dk_3 (dk_at dksL_law_34 10 rfl rfl)
theorem dL_law_941 : decode cL_law 941 = .ok (.ireturn, 1) := dk_172 (dk_at dksL_law_34 11 rfl rfl)
theorem dL_law_942 : decode cL_law 942 = .ok (.aload_n 1, 1) := dk_43 (dk_at dksL_law_34 12 rfl rfl)
theorem dL_law_943 : decode cL_law 943 = .ok (.invokevirtual 129, 3) := dk_182 0 129 (dk_at dksL_law_34 13 rfl rfl)
theorem dL_law_946 : decode cL_law 946 = .ok (.aload_n 2, 1) := dk_44 (dk_at dksL_law_34 16 rfl rfl)
theorem dL_law_947 : decode cL_law 947 = .ok (.invokevirtual 132, 3) := dk_182 0 132 (dk_at dksL_law_34 17 rfl rfl)
theorem dL_law_950 : decode cL_law 950 = .ok (.if_icmp .eq 291, 3) := dk_159 1 35 (dk_at dksL_law_34 20 rfl rfl)
theorem dL_law_953 : decode cL_law 953 = .ok (.iconst 0, 1) := dk_3 (dk_at dksL_law_34 23 rfl rfl)
theorem dL_law_954 : decode cL_law 954 = .ok (.ireturn, 1) := dk_172 (dk_at dksL_law_35 0 rfl rfl)
theorem dL_law_955 : decode cL_law 955 = .ok (.aload_n 1, 1) := dk_43 (dk_at dksL_law_35 1 rfl rfl)
theorem dL_law_956 : decode cL_law 956 = .ok (.aload_n 0, 1) := dk_42 (dk_at dksL_law_35 2 rfl rfl)
theorem dL_law_957 : decode cL_law 957 = .ok (.iload_n 3, 1) := dk_29 (dk_at dksL_law_35 3 rfl rfl)
theorem dL_law_958 : decode cL_law 958 = .ok (.iconst 1, 1) := dk_4 (dk_at dksL_law_35 4 rfl rfl)
theorem dL_law_959 : decode cL_law 959 = .ok (.iadd, 1) := dk_96 (dk_at dksL_law_35 5 rfl rfl)
theorem dL_law_960 : decode cL_law 960 = .ok (.iaload, 1) := dk_46 (dk_at dksL_law_35 6 rfl rfl)
theorem dL_law_961 : decode cL_law 961 = .ok (.aload_n 0, 1) := dk_42 (dk_at dksL_law_35 7 rfl rfl)
theorem dL_law_962 : decode cL_law 962 = .ok (.iload_n 3, 1) := dk_29 (dk_at dksL_law_35 8 rfl rfl)
theorem dL_law_963 : decode cL_law 963 = .ok (.iconst 2, 1) := dk_5 (dk_at dksL_law_35 9 rfl rfl)
theorem dL_law_964 : decode cL_law 964 = .ok (.iadd, 1) := dk_96 (dk_at dksL_law_35 10 rfl rfl)
theorem dL_law_965 : decode cL_law 965 = .ok (.iaload, 1) := dk_46 (dk_at dksL_law_35 11 rfl rfl)
theorem dL_law_966 : decode cL_law 966 = .ok (.invokevirtual 133, 3) := dk_182 0 133 (dk_at dksL_law_35 12 rfl rfl)
theorem dL_law_969 : decode cL_law 969 = .ok (.aload_n 2, 1) := dk_44 (dk_at dksL_law_35 15 rfl rfl)
theorem dL_law_970 : decode cL_law 970 = .ok (.aload_n 0, 1) := dk_42 (dk_at dksL_law_35 16 rfl rfl)
theorem dL_law_971 : decode cL_law 971 = .ok (.iload_n 3, 1) := dk_29 (dk_at dksL_law_35 17 rfl rfl)
theorem dL_law_972 : decode cL_law 972 = .ok (.iconst 1, 1) := dk_4 (dk_at dksL_law_35 18 rfl rfl)
theorem dL_law_973 : decode cL_law 973 = .ok (.iadd, 1) := dk_96 (dk_at dksL_law_35 19 rfl rfl)
theorem dL_law_974 : decode cL_law 974 = .ok (.iaload, 1) := dk_46 (dk_at dksL_law_35 20 rfl rfl)
theorem dL_law_975 : decode cL_law 975 = .ok (.aload_n 0, 1) := dk_42 (dk_at dksL_law_35 21 rfl rfl)
theorem dL_law_976 : decode cL_law 976 = .ok (.iload_n 3, 1) := dk_29 (dk_at dksL_law_35 22 rfl rfl)
theorem dL_law_977 : decode cL_law 977 = .ok (.iconst 2, 1) := dk_5 (dk_at dksL_law_35 23 rfl rfl)
theorem dL_law_978 : decode cL_law 978 = .ok (.iadd, 1) := dk_96 (dk_at dksL_law_36 0 rfl rfl)
theorem dL_law_979 : decode cL_law 979 = .ok (.iaload, 1) := dk_46 (dk_at dksL_law_36 1 rfl rfl)
theorem dL_law_980 : decode cL_law 980 = .ok (.invokevirtual 136, 3) := dk_182 0 136 (dk_at dksL_law_36 2 rfl rfl)
theorem dL_law_983 : decode cL_law 983 = .ok (.if_icmp .eq 258, 3) := dk_159 1 2 (dk_at dksL_law_36 5 rfl rfl)
theorem dL_law_986 : decode cL_law 986 = .ok (.iconst 0, 1) := dk_3 (dk_at dksL_law_36 8 rfl rfl)
theorem dL_law_987 : decode cL_law 987 = .ok (.ireturn, 1) := dk_172 (dk_at dksL_law_36 9 rfl rfl)
theorem dL_law_988 : decode cL_law 988 = .ok (.aload_n 1, 1) := dk_43 (dk_at dksL_law_36 10 rfl rfl)
theorem dL_law_989 : decode cL_law 989 = .ok (.aload_n 0, 1) := dk_42 (dk_at dksL_law_36 11 rfl rfl)
theorem dL_law_990 : decode cL_law 990 = .ok (.iload_n 3, 1) := dk_29 (dk_at dksL_law_36 12 rfl rfl)
theorem dL_law_991 : decode cL_law 991 = .ok (.iconst 1, 1) := dk_4 (dk_at dksL_law_36 13 rfl rfl)
theorem dL_law_992 : decode cL_law 992 = .ok (.iadd, 1) := dk_96 (dk_at dksL_law_36 14 rfl rfl)
theorem dL_law_993 : decode cL_law 993 = .ok (.iaload, 1) := dk_46 (dk_at dksL_law_36 15 rfl rfl)
theorem dL_law_994 : decode cL_law 994 = .ok (.invokevirtual 137, 3) := dk_182 0 137 (dk_at dksL_law_36 16 rfl rfl)
theorem dL_law_997 : decode cL_law 997 = .ok (.aload_n 2, 1) := dk_44 (dk_at dksL_law_36 19 rfl rfl)
theorem dL_law_998 : decode cL_law 998 = .ok (.aload_n 0, 1) := dk_42 (dk_at dksL_law_36 20 rfl rfl)
theorem dL_law_999 : decode cL_law 999 = .ok (.iload_n 3, 1) := dk_29 (dk_at dksL_law_36 21 rfl rfl)
theorem dL_law_1000 : decode cL_law 1000 = .ok (.iconst 1, 1) := dk_4 (dk_at dksL_law_36 22 rfl rfl)
theorem dL_law_1001 : decode cL_law 1001 = .ok (.iadd, 1) := dk_96 (dk_at dksL_law_36 23 rfl rfl)
theorem dL_law_1002 : decode cL_law 1002 = .ok (.iaload, 1) := dk_46 (dk_at dksL_law_37 0 rfl rfl)
theorem dL_law_1003 : decode cL_law 1003 = .ok (.invokevirtual 140, 3) := dk_182 0 140 (dk_at dksL_law_37 1 rfl rfl)
theorem dL_law_1006 : decode cL_law 1006 = .ok (.if_icmp .eq 235, 3) := dk_159 0 235 (dk_at dksL_law_37 4 rfl rfl)
theorem dL_law_1009 : decode cL_law 1009 = .ok (.iconst 0, 1) := dk_3 (dk_at dksL_law_37 7 rfl rfl)
theorem dL_law_1010 : decode cL_law 1010 = .ok (.ireturn, 1) := dk_172 (dk_at dksL_law_37 8 rfl rfl)
theorem dL_law_1011 : decode cL_law 1011 = .ok (.aload_n 1, 1) := dk_43 (dk_at dksL_law_37 9 rfl rfl)
theorem dL_law_1012 : decode cL_law 1012 = .ok (.aload_n 0, 1) := dk_42 (dk_at dksL_law_37 10 rfl rfl)
theorem dL_law_1013 : decode cL_law 1013 = .ok (.iload_n 3, 1) := dk_29 (dk_at dksL_law_37 11 rfl rfl)
theorem dL_law_1014 : decode cL_law 1014 = .ok (.iconst 1, 1) := dk_4 (dk_at dksL_law_37 12 rfl rfl)
theorem dL_law_1015 : decode cL_law 1015 = .ok (.iadd, 1) := dk_96 (dk_at dksL_law_37 13 rfl rfl)
theorem dL_law_1016 : decode cL_law 1016 = .ok (.iaload, 1) := dk_46 (dk_at dksL_law_37 14 rfl rfl)
theorem dL_law_1017 : decode cL_law 1017 = .ok (.aload_n 0, 1) := dk_42 (dk_at dksL_law_37 15 rfl rfl)
theorem dL_law_1018 : decode cL_law 1018 = .ok (.iload_n 3, 1) := dk_29 (dk_at dksL_law_37 16 rfl rfl)
theorem dL_law_1019 : decode cL_law 1019 = .ok (.iconst 2, 1) := dk_5 (dk_at dksL_law_37 17 rfl rfl)
theorem dL_law_1020 : decode cL_law 1020 = .ok (.iadd, 1) := dk_96 (dk_at dksL_law_37 18 rfl rfl)
theorem dL_law_1021 : decode cL_law 1021 = .ok (.iaload, 1) := dk_46 (dk_at dksL_law_37 19 rfl rfl)
theorem dL_law_1022 : decode cL_law 1022 = .ok (.aload_n 0, 1) := dk_42 (dk_at dksL_law_37 20 rfl rfl)
theorem dL_law_1023 : decode cL_law 1023 = .ok (.iload_n 3, 1) := dk_29 (dk_at dksL_law_37 21 rfl rfl)
theorem dL_law_1024 : decode cL_law 1024 = .ok (.iconst 3, 1) := dk_6 (dk_at dksL_law_37 22 rfl rfl)
theorem dL_law_1025 : decode cL_law 1025 = .ok (.iadd, 1) := dk_96 (dk_at dksL_law_37 23 rfl rfl)
theorem dL_law_1026 : decode cL_law 1026 = .ok (.iaload, 1) := dk_46 (dk_at dksL_law_38 0 rfl rfl)
theorem dL_law_1027 : decode cL_law 1027 = .ok (.ifCond .eq 7, 3) := dk_153 0 7 (dk_at dksL_law_38 1 rfl rfl)
theorem dL_law_1030 : decode cL_law 1030 = .ok (.iconst 1, 1) := dk_4 (dk_at dksL_law_38 4 rfl rfl)
theorem dL_law_1031 : decode cL_law 1031 = .ok (.goto 4, 3) := dk_167 0 4 (dk_at dksL_law_38 5 rfl rfl)
theorem dL_law_1034 : decode cL_law 1034 = .ok (.iconst 0, 1) := dk_3 (dk_at dksL_law_38 8 rfl rfl)
theorem dL_law_1035 : decode cL_law 1035 = .ok (.invokevirtual 141, 3) := dk_182 0 141 (dk_at dksL_law_38 9 rfl rfl)
theorem dL_law_1038 : decode cL_law 1038 = .ok (.aload_n 2, 1) := dk_44 (dk_at dksL_law_38 12 rfl rfl)
theorem dL_law_1039 : decode cL_law 1039 = .ok (.aload_n 0, 1) := dk_42 (dk_at dksL_law_38 13 rfl rfl)
theorem dL_law_1040 : decode cL_law 1040 = .ok (.iload_n 3, 1) := dk_29 (dk_at dksL_law_38 14 rfl rfl)
theorem dL_law_1041 : decode cL_law 1041 = .ok (.iconst 1, 1) := dk_4 (dk_at dksL_law_38 15 rfl rfl)
theorem dL_law_1042 : decode cL_law 1042 = .ok (.iadd, 1) := dk_96 (dk_at dksL_law_38 16 rfl rfl)
theorem dL_law_1043 : decode cL_law 1043 = .ok (.iaload, 1) := dk_46 (dk_at dksL_law_38 17 rfl rfl)
theorem dL_law_1044 : decode cL_law 1044 = .ok (.aload_n 0, 1) := dk_42 (dk_at dksL_law_38 18 rfl rfl)
theorem dL_law_1045 : decode cL_law 1045 = .ok (.iload_n 3, 1) := dk_29 (dk_at dksL_law_38 19 rfl rfl)
theorem dL_law_1046 : decode cL_law 1046 = .ok (.iconst 2, 1) := dk_5 (dk_at dksL_law_38 20 rfl rfl)
theorem dL_law_1047 : decode cL_law 1047 = .ok (.iadd, 1) := dk_96 (dk_at dksL_law_38 21 rfl rfl)
theorem dL_law_1048 : decode cL_law 1048 = .ok (.iaload, 1) := dk_46 (dk_at dksL_law_38 22 rfl rfl)
theorem dL_law_1049 : decode cL_law 1049 = .ok (.aload_n 0, 1) := dk_42 (dk_at dksL_law_38 23 rfl rfl)
theorem dL_law_1050 : decode cL_law 1050 = .ok (.iload_n 3, 1) := dk_29 (dk_at dksL_law_39 0 rfl rfl)
theorem dL_law_1051 : decode cL_law 1051 = .ok (.iconst 3, 1) := dk_6 (dk_at dksL_law_39 1 rfl rfl)
theorem dL_law_1052 : decode cL_law 1052 = .ok (.iadd, 1) := dk_96 (dk_at dksL_law_39 2 rfl rfl)
theorem dL_law_1053 : decode cL_law 1053 = .ok (.iaload, 1) := dk_46 (dk_at dksL_law_39 3 rfl rfl)
theorem dL_law_1054 : decode cL_law 1054 = .ok (.ifCond .eq 7, 3) := dk_153 0 7 (dk_at dksL_law_39 4 rfl rfl)
theorem dL_law_1057 : decode cL_law 1057 = .ok (.iconst 1, 1) := dk_4 (dk_at dksL_law_39 7 rfl rfl)
theorem dL_law_1058 : decode cL_law 1058 = .ok (.goto 4, 3) := dk_167 0 4 (dk_at dksL_law_39 8 rfl rfl)
theorem dL_law_1061 : decode cL_law 1061 = .ok (.iconst 0, 1) := dk_3 (dk_at dksL_law_39 11 rfl rfl)
theorem dL_law_1062 : decode cL_law 1062 = .ok (.invokevirtual 145, 3) := dk_182 0 145 (dk_at dksL_law_39 12 rfl rfl)
theorem dL_law_1065 : decode cL_law 1065 = .ok (.if_icmp .eq 176, 3) := dk_159 0 176 (dk_at dksL_law_39 15 rfl rfl)
theorem dL_law_1068 : decode cL_law 1068 = .ok (.iconst 0, 1) := dk_3 (dk_at dksL_law_39 18 rfl rfl)
theorem dL_law_1069 : decode cL_law 1069 = .ok (.ireturn, 1) := dk_172 (dk_at dksL_law_39 19 rfl rfl)
theorem dL_law_1070 : decode cL_law 1070 = .ok (.aload_n 1, 1) := dk_43 (dk_at dksL_law_39 20 rfl rfl)
theorem dL_law_1071 : decode cL_law 1071 = .ok (.aload_n 0, 1) := dk_42 (dk_at dksL_law_39 21 rfl rfl)
theorem dL_law_1072 : decode cL_law 1072 = .ok (.iload_n 3, 1) := dk_29 (dk_at dksL_law_39 22 rfl rfl)
theorem dL_law_1073 : decode cL_law 1073 = .ok (.iconst 1, 1) := dk_4 (dk_at dksL_law_39 23 rfl rfl)
theorem dL_law_1074 : decode cL_law 1074 = .ok (.iadd, 1) := dk_96 (dk_at dksL_law_40 0 rfl rfl)
theorem dL_law_1075 : decode cL_law 1075 = .ok (.iaload, 1) := dk_46 (dk_at dksL_law_40 1 rfl rfl)
theorem dL_law_1076 : decode cL_law 1076 = .ok (.invokevirtual 146, 3) := dk_182 0 146 (dk_at dksL_law_40 2 rfl rfl)
theorem dL_law_1079 : decode cL_law 1079 = .ok (.aload_n 2, 1) := dk_44 (dk_at dksL_law_40 5 rfl rfl)
theorem dL_law_1080 : decode cL_law 1080 = .ok (.aload_n 0, 1) := dk_42 (dk_at dksL_law_40 6 rfl rfl)
theorem dL_law_1081 : decode cL_law 1081 = .ok (.iload_n 3, 1) := dk_29 (dk_at dksL_law_40 7 rfl rfl)
theorem dL_law_1082 : decode cL_law 1082 = .ok (.iconst 1, 1) := dk_4 (dk_at dksL_law_40 8 rfl rfl)
theorem dL_law_1083 : decode cL_law 1083 = .ok (.iadd, 1) := dk_96 (dk_at dksL_law_40 9 rfl rfl)
theorem dL_law_1084 : decode cL_law 1084 = .ok (.iaload, 1) := dk_46 (dk_at dksL_law_40 10 rfl rfl)
theorem dL_law_1085 : decode cL_law 1085 = .ok (.invokevirtual 149, 3) := dk_182 0 149 (dk_at dksL_law_40 11 rfl rfl)
theorem dL_law_1088 : decode cL_law 1088 = .ok (.if_icmp .eq 153, 3) := dk_159 0 153 (dk_at dksL_law_40 14 rfl rfl)
theorem dL_law_1091 : decode cL_law 1091 = .ok (.iconst 0, 1) := dk_3 (dk_at dksL_law_40 17 rfl rfl)
theorem dL_law_1092 : decode cL_law 1092 = .ok (.ireturn, 1) := dk_172 (dk_at dksL_law_40 18 rfl rfl)
theorem dL_law_1093 : decode cL_law 1093 = .ok (.aload_n 1, 1) := dk_43 (dk_at dksL_law_40 19 rfl rfl)
theorem dL_law_1094 : decode cL_law 1094 = .ok (.aload_n 0, 1) := dk_42 (dk_at dksL_law_40 20 rfl rfl)
theorem dL_law_1095 : decode cL_law 1095 = .ok (.iload_n 3, 1) := dk_29 (dk_at dksL_law_40 21 rfl rfl)
theorem dL_law_1096 : decode cL_law 1096 = .ok (.iconst 1, 1) := dk_4 (dk_at dksL_law_40 22 rfl rfl)
theorem dL_law_1097 : decode cL_law 1097 = .ok (.iadd, 1) := dk_96 (dk_at dksL_law_40 23 rfl rfl)
theorem dL_law_1098 : decode cL_law 1098 = .ok (.iaload, 1) := dk_46 (dk_at dksL_law_41 0 rfl rfl)
theorem dL_law_1099 : decode cL_law 1099 = .ok (.invokevirtual 150, 3) := dk_182 0 150 (dk_at dksL_law_41 1 rfl rfl)
theorem dL_law_1102 : decode cL_law 1102 = .ok (.aload_n 2, 1) := dk_44 (dk_at dksL_law_41 4 rfl rfl)
theorem dL_law_1103 : decode cL_law 1103 = .ok (.aload_n 0, 1) := dk_42 (dk_at dksL_law_41 5 rfl rfl)
theorem dL_law_1104 : decode cL_law 1104 = .ok (.iload_n 3, 1) := dk_29 (dk_at dksL_law_41 6 rfl rfl)
theorem dL_law_1105 : decode cL_law 1105 = .ok (.iconst 1, 1) := dk_4 (dk_at dksL_law_41 7 rfl rfl)
theorem dL_law_1106 : decode cL_law 1106 = .ok (.iadd, 1) := dk_96 (dk_at dksL_law_41 8 rfl rfl)
theorem dL_law_1107 : decode cL_law 1107 = .ok (.iaload, 1) := dk_46 (dk_at dksL_law_41 9 rfl rfl)
theorem dL_law_1108 : decode cL_law 1108 = .ok (.invokevirtual 153, 3) := dk_182 0 153 (dk_at dksL_law_41 10 rfl rfl)
theorem dL_law_1111 : decode cL_law 1111 = .ok (.if_icmp .eq 130, 3) := dk_159 0 130 (dk_at dksL_law_41 13 rfl rfl)
theorem dL_law_1114 : decode cL_law 1114 = .ok (.iconst 0, 1) := dk_3 (dk_at dksL_law_41 16 rfl rfl)
theorem dL_law_1115 : decode cL_law 1115 = .ok (.ireturn, 1) := dk_172 (dk_at dksL_law_41 17 rfl rfl)
theorem dL_law_1116 : decode cL_law 1116 = .ok (.aload_n 1, 1) := dk_43 (dk_at dksL_law_41 18 rfl rfl)
theorem dL_law_1117 : decode cL_law 1117 = .ok (.aload_n 0, 1) := dk_42 (dk_at dksL_law_41 19 rfl rfl)
theorem dL_law_1118 : decode cL_law 1118 = .ok (.iload_n 3, 1) := dk_29 (dk_at dksL_law_41 20 rfl rfl)
theorem dL_law_1119 : decode cL_law 1119 = .ok (.iconst 1, 1) := dk_4 (dk_at dksL_law_41 21 rfl rfl)
theorem dL_law_1120 : decode cL_law 1120 = .ok (.iadd, 1) := dk_96 (dk_at dksL_law_41 22 rfl rfl)
theorem dL_law_1121 : decode cL_law 1121 = .ok (.iaload, 1) := dk_46 (dk_at dksL_law_41 23 rfl rfl)
theorem dL_law_1122 : decode cL_law 1122 = .ok (.invokevirtual 154, 3) := dk_182 0 154 (dk_at dksL_law_42 0 rfl rfl)
theorem dL_law_1125 : decode cL_law 1125 = .ok (.aload_n 2, 1) := dk_44 (dk_at dksL_law_42 3 rfl rfl)
theorem dL_law_1126 : decode cL_law 1126 = .ok (.aload_n 0, 1) := dk_42 (dk_at dksL_law_42 4 rfl rfl)
theorem dL_law_1127 : decode cL_law 1127 = .ok (.iload_n 3, 1) := dk_29 (dk_at dksL_law_42 5 rfl rfl)
theorem dL_law_1128 : decode cL_law 1128 = .ok (.iconst 1, 1) := dk_4 (dk_at dksL_law_42 6 rfl rfl)
theorem dL_law_1129 : decode cL_law 1129 = .ok (.iadd, 1) := dk_96 (dk_at dksL_law_42 7 rfl rfl)
theorem dL_law_1130 : decode cL_law 1130 = .ok (.iaload, 1) := dk_46 (dk_at dksL_law_42 8 rfl rfl)
theorem dL_law_1131 : decode cL_law 1131 = .ok (.invokevirtual 157, 3) := dk_182 0 157 (dk_at dksL_law_42 9 rfl rfl)
theorem dL_law_1134 : decode cL_law 1134 = .ok (.if_icmp .eq 107, 3) := dk_159 0 107 (dk_at dksL_law_42 12 rfl rfl)
theorem dL_law_1137 : decode cL_law 1137 = .ok (.iconst 0, 1) := dk_3 (dk_at dksL_law_42 15 rfl rfl)
theorem dL_law_1138 : decode cL_law 1138 = .ok (.ireturn, 1) := dk_172 (dk_at dksL_law_42 16 rfl rfl)
theorem dL_law_1139 : decode cL_law 1139 = .ok (.aload_n 1, 1) := dk_43 (dk_at dksL_law_42 17 rfl rfl)
theorem dL_law_1140 : decode cL_law 1140 = .ok (.aload_n 0, 1) := dk_42 (dk_at dksL_law_42 18 rfl rfl)
theorem dL_law_1141 : decode cL_law 1141 = .ok (.iload_n 3, 1) := dk_29 (dk_at dksL_law_42 19 rfl rfl)
theorem dL_law_1142 : decode cL_law 1142 = .ok (.iconst 1, 1) := dk_4 (dk_at dksL_law_42 20 rfl rfl)
theorem dL_law_1143 : decode cL_law 1143 = .ok (.iadd, 1) := dk_96 (dk_at dksL_law_42 21 rfl rfl)
theorem dL_law_1144 : decode cL_law 1144 = .ok (.iaload, 1) := dk_46 (dk_at dksL_law_42 22 rfl rfl)
theorem dL_law_1145 : decode cL_law 1145 = .ok (.aload_n 0, 1) := dk_42 (dk_at dksL_law_42 23 rfl rfl)
theorem dL_law_1146 : decode cL_law 1146 = .ok (.iload_n 3, 1) := dk_29 (dk_at dksL_law_43 0 rfl rfl)
theorem dL_law_1147 : decode cL_law 1147 = .ok (.iconst 2, 1) := dk_5 (dk_at dksL_law_43 1 rfl rfl)
theorem dL_law_1148 : decode cL_law 1148 = .ok (.iadd, 1) := dk_96 (dk_at dksL_law_43 2 rfl rfl)
theorem dL_law_1149 : decode cL_law 1149 = .ok (.iaload, 1) := dk_46 (dk_at dksL_law_43 3 rfl rfl)
theorem dL_law_1150 : decode cL_law 1150 = .ok (.invokevirtual 158, 3) := dk_182 0 158 (dk_at dksL_law_43 4 rfl rfl)
theorem dL_law_1153 : decode cL_law 1153 = .ok (.aload_n 2, 1) := dk_44 (dk_at dksL_law_43 7 rfl rfl)
theorem dL_law_1154 : decode cL_law 1154 = .ok (.aload_n 0, 1) := dk_42 (dk_at dksL_law_43 8 rfl rfl)
theorem dL_law_1155 : decode cL_law 1155 = .ok (.iload_n 3, 1) := dk_29 (dk_at dksL_law_43 9 rfl rfl)
theorem dL_law_1156 : decode cL_law 1156 = .ok (.iconst 1, 1) := dk_4 (dk_at dksL_law_43 10 rfl rfl)
theorem dL_law_1157 : decode cL_law 1157 = .ok (.iadd, 1) := dk_96 (dk_at dksL_law_43 11 rfl rfl)
theorem dL_law_1158 : decode cL_law 1158 = .ok (.iaload, 1) := dk_46 (dk_at dksL_law_43 12 rfl rfl)
theorem dL_law_1159 : decode cL_law 1159 = .ok (.aload_n 0, 1) := dk_42 (dk_at dksL_law_43 13 rfl rfl)
theorem dL_law_1160 : decode cL_law 1160 = .ok (.iload_n 3, 1) := dk_29 (dk_at dksL_law_43 14 rfl rfl)
theorem dL_law_1161 : decode cL_law 1161 = .ok (.iconst 2, 1) := dk_5 (dk_at dksL_law_43 15 rfl rfl)
theorem dL_law_1162 : decode cL_law 1162 = .ok (.iadd, 1) := dk_96 (dk_at dksL_law_43 16 rfl rfl)
theorem dL_law_1163 : decode cL_law 1163 = .ok (.iaload, 1) := dk_46 (dk_at dksL_law_43 17 rfl rfl)
theorem dL_law_1164 : decode cL_law 1164 = .ok (.invokevirtual 161, 3) := dk_182 0 161 (dk_at dksL_law_43 18 rfl rfl)
theorem dL_law_1167 : decode cL_law 1167 = .ok (.if_icmp .eq 74, 3) := dk_159 0 74 (dk_at dksL_law_43 21 rfl rfl)
theorem dL_law_1170 : decode cL_law 1170 = .ok (.iconst 0, 1) := dk_3 (dk_at dksL_law_44 0 rfl rfl)
theorem dL_law_1171 : decode cL_law 1171 = .ok (.ireturn, 1) := dk_172 (dk_at dksL_law_44 1 rfl rfl)
theorem dL_law_1172 : decode cL_law 1172 = .ok (.aload_n 1, 1) := dk_43 (dk_at dksL_law_44 2 rfl rfl)
theorem dL_law_1173 : decode cL_law 1173 = .ok (.aload_n 0, 1) := dk_42 (dk_at dksL_law_44 3 rfl rfl)
theorem dL_law_1174 : decode cL_law 1174 = .ok (.iload_n 3, 1) := dk_29 (dk_at dksL_law_44 4 rfl rfl)
theorem dL_law_1175 : decode cL_law 1175 = .ok (.iconst 1, 1) := dk_4 (dk_at dksL_law_44 5 rfl rfl)
theorem dL_law_1176 : decode cL_law 1176 = .ok (.iadd, 1) := dk_96 (dk_at dksL_law_44 6 rfl rfl)
theorem dL_law_1177 : decode cL_law 1177 = .ok (.iaload, 1) := dk_46 (dk_at dksL_law_44 7 rfl rfl)
theorem dL_law_1178 : decode cL_law 1178 = .ok (.invokevirtual 162, 3) := dk_182 0 162 (dk_at dksL_law_44 8 rfl rfl)
theorem dL_law_1181 : decode cL_law 1181 = .ok (.aload_n 2, 1) := dk_44 (dk_at dksL_law_44 11 rfl rfl)
theorem dL_law_1182 : decode cL_law 1182 = .ok (.aload_n 0, 1) := dk_42 (dk_at dksL_law_44 12 rfl rfl)
theorem dL_law_1183 : decode cL_law 1183 = .ok (.iload_n 3, 1) := dk_29 (dk_at dksL_law_44 13 rfl rfl)
theorem dL_law_1184 : decode cL_law 1184 = .ok (.iconst 1, 1) := dk_4 (dk_at dksL_law_44 14 rfl rfl)
theorem dL_law_1185 : decode cL_law 1185 = .ok (.iadd, 1) := dk_96 (dk_at dksL_law_44 15 rfl rfl)
theorem dL_law_1186 : decode cL_law 1186 = .ok (.iaload, 1) := dk_46 (dk_at dksL_law_44 16 rfl rfl)
theorem dL_law_1187 : decode cL_law 1187 = .ok (.invokevirtual 165, 3) := dk_182 0 165 (dk_at dksL_law_44 17 rfl rfl)
theorem dL_law_1190 : decode cL_law 1190 = .ok (.if_icmp .eq 51, 3) := dk_159 0 51 (dk_at dksL_law_44 20 rfl rfl)
theorem dL_law_1193 : decode cL_law 1193 = .ok (.iconst 0, 1) := dk_3 (dk_at dksL_law_44 23 rfl rfl)
theorem dL_law_1194 : decode cL_law 1194 = .ok (.ireturn, 1) := dk_172 (dk_at dksL_law_45 0 rfl rfl)
theorem dL_law_1195 : decode cL_law 1195 = .ok (.aload_n 1, 1) := dk_43 (dk_at dksL_law_45 1 rfl rfl)
theorem dL_law_1196 : decode cL_law 1196 = .ok (.aload_n 0, 1) := dk_42 (dk_at dksL_law_45 2 rfl rfl)
theorem dL_law_1197 : decode cL_law 1197 = .ok (.iload_n 3, 1) := dk_29 (dk_at dksL_law_45 3 rfl rfl)
theorem dL_law_1198 : decode cL_law 1198 = .ok (.iconst 1, 1) := dk_4 (dk_at dksL_law_45 4 rfl rfl)
theorem dL_law_1199 : decode cL_law 1199 = .ok (.iadd, 1) := dk_96 (dk_at dksL_law_45 5 rfl rfl)
theorem dL_law_1200 : decode cL_law 1200 = .ok (.iaload, 1) := dk_46 (dk_at dksL_law_45 6 rfl rfl)
theorem dL_law_1201 : decode cL_law 1201 = .ok (.invokevirtual 166, 3) := dk_182 0 166 (dk_at dksL_law_45 7 rfl rfl)
theorem dL_law_1204 : decode cL_law 1204 = .ok (.aload_n 2, 1) := dk_44 (dk_at dksL_law_45 10 rfl rfl)
theorem dL_law_1205 : decode cL_law 1205 = .ok (.aload_n 0, 1) := dk_42 (dk_at dksL_law_45 11 rfl rfl)
theorem dL_law_1206 : decode cL_law 1206 = .ok (.iload_n 3, 1) := dk_29 (dk_at dksL_law_45 12 rfl rfl)
theorem dL_law_1207 : decode cL_law 1207 = .ok (.iconst 1, 1) := dk_4 (dk_at dksL_law_45 13 rfl rfl)
theorem dL_law_1208 : decode cL_law 1208 = .ok (.iadd, 1) := dk_96 (dk_at dksL_law_45 14 rfl rfl)
theorem dL_law_1209 : decode cL_law 1209 = .ok (.iaload, 1) := dk_46 (dk_at dksL_law_45 15 rfl rfl)
theorem dL_law_1210 : decode cL_law 1210 = .ok (.invokevirtual 169, 3) := dk_182 0 169 (dk_at dksL_law_45 16 rfl rfl)
theorem dL_law_1213 : decode cL_law 1213 = .ok (.if_icmp .eq 28, 3) := dk_159 0 28 (dk_at dksL_law_45 19 rfl rfl)
theorem dL_law_1216 : decode cL_law 1216 = .ok (.iconst 0, 1) := dk_3 (dk_at dksL_law_45 22 rfl rfl)
theorem dL_law_1217 : decode cL_law 1217 = .ok (.ireturn, 1) := dk_172 (dk_at dksL_law_45 23 rfl rfl)
theorem dL_law_1218 : decode cL_law 1218 = .ok (.aload_n 1, 1) := dk_43 (dk_at dksL_law_46 0 rfl rfl)
theorem dL_law_1219 : decode cL_law 1219 = .ok (.aload_n 0, 1) := dk_42 (dk_at dksL_law_46 1 rfl rfl)
theorem dL_law_1220 : decode cL_law 1220 = .ok (.iload_n 3, 1) := dk_29 (dk_at dksL_law_46 2 rfl rfl)
theorem dL_law_1221 : decode cL_law 1221 = .ok (.iconst 1, 1) := dk_4 (dk_at dksL_law_46 3 rfl rfl)
theorem dL_law_1222 : decode cL_law 1222 = .ok (.iadd, 1) := dk_96 (dk_at dksL_law_46 4 rfl rfl)
theorem dL_law_1223 : decode cL_law 1223 = .ok (.iaload, 1) := dk_46 (dk_at dksL_law_46 5 rfl rfl)
theorem dL_law_1224 : decode cL_law 1224 = .ok (.invokevirtual 170, 3) := dk_182 0 170 (dk_at dksL_law_46 6 rfl rfl)
theorem dL_law_1227 : decode cL_law 1227 = .ok (.aload_n 2, 1) := dk_44 (dk_at dksL_law_46 9 rfl rfl)
theorem dL_law_1228 : decode cL_law 1228 = .ok (.aload_n 0, 1) := dk_42 (dk_at dksL_law_46 10 rfl rfl)
theorem dL_law_1229 : decode cL_law 1229 = .ok (.iload_n 3, 1) := dk_29 (dk_at dksL_law_46 11 rfl rfl)
theorem dL_law_1230 : decode cL_law 1230 = .ok (.iconst 1, 1) := dk_4 (dk_at dksL_law_46 12 rfl rfl)
theorem dL_law_1231 : decode cL_law 1231 = .ok (.iadd, 1) := dk_96 (dk_at dksL_law_46 13 rfl rfl)
theorem dL_law_1232 : decode cL_law 1232 = .ok (.iaload, 1) := dk_46 (dk_at dksL_law_46 14 rfl rfl)
theorem dL_law_1233 : decode cL_law 1233 = .ok (.invokevirtual 173, 3) := dk_182 0 173 (dk_at dksL_law_46 15 rfl rfl)
theorem dL_law_1236 : decode cL_law 1236 = .ok (.if_icmp .eq 5, 3) := dk_159 0 5 (dk_at dksL_law_46 18 rfl rfl)
theorem dL_law_1239 : decode cL_law 1239 = .ok (.iconst 0, 1) := dk_3 (dk_at dksL_law_46 21 rfl rfl)
theorem dL_law_1240 : decode cL_law 1240 = .ok (.ireturn, 1) := dk_172 (dk_at dksL_law_46 22 rfl rfl)
theorem dL_law_1241 : decode cL_law 1241 = .ok (.iinc 3 6, 3) := dk_132 3 6 (dk_at dksL_law_47 0 rfl rfl)
theorem dL_law_1244 : decode cL_law 1244 = .ok (.goto (-1226), 3) := dk_167 251 54 (dk_at dksL_law_47 3 rfl rfl)
theorem dL_law_1247 : decode cL_law 1247 = .ok (.iconst 1, 1) := dk_4 (dk_at dksL_law_47 6 rfl rfl)
theorem dL_law_1248 : decode cL_law 1248 = .ok (.ireturn, 1) := dk_172 (dk_at dksL_law_47 7 rfl rfl)
