/-! OathButtons$Reader -/
set_option maxRecDepth 100000
def RX10 : String := "OathButtons$Reade\x72"
def TX10 : u_T := fun k => match k with
  | 0 => ("OathButtons$Reade\x72", "text", "[B", true)
  | 1 => ("OathButtons$Reade\x72", "size", "I", true)
  | 2 => ("OathButtons$Reade\x72", "fault", "LOathButtons$Wrong;", true)
  | 3 => ("OathButtons$Reade\x72", "\x72", "LOathButtons$Regiment;", true)
  | 4 => ("OathButtons$Reade\x72", "at", "I", false)
  | 5 => ("OathButtons$Reade\x72", "end", "I", false)
  | 6 => ("OathButtons$Reade\x72", "token", "I", false)
  | 7 => ("OathButtons$Reade\x72", "numbe\x72", "I", false)
  | 8 => ("OathButtons$Reade\x72", "name", "J", false)
  | 9 => ("OathButtons$Reade\x72", "deep", "I", false)
  | _ => ("OathButtons$Reade\x72", "mine", "I", false)
def tyX10 : Nat → FieldType := fun k => match k with
  | 0 => .array .byte
  | 1 => .int
  | 2 => .object "OathButtons$Wrong"
  | 3 => .object "OathButtons$Regiment"
  | 4 => .int
  | 5 => .int
  | 6 => .int
  | 7 => .int
  | 8 => .long
  | 9 => .int
  | _ => .int
abbrev wsX100 : List Cond := u_ws RX10 TX10 11
theorem nmX10 : ∀ a, a < 11 → ∀ b, b < 11 → a ≠ b → (TX10 a).2.1 ≠ (TX10 b).2.1 := by decide +kernel
theorem tyX10_ok : ∀ k, k < 11 → parseFieldDescriptor (TX10 k).2.2.1 = some (tyX10 k) := by decide +kernel
abbrev cX10_init : ByteArray := prog_18_method_1_code
def yX10_init : MethodName := ⟨RX10, "<init>", "([BILOathButtons$Wrong;)V"⟩
def dkwX10_init_1 : List UInt8 := [181, 0, 22, 42, 45, 181, 0, 26, 177]
abbrev dktX10_init_1 : List UInt8 := dkwX10_init_1 ++ []
def dkwX10_init_0 : List UInt8 := [42, 183, 0, 3, 42, 187, 0, 9, 89, 183, 0, 11, 181, 0, 12, 42, 43, 181, 0, 18, 42, 28]
abbrev dktX10_init_0 : List UInt8 := dkwX10_init_0 ++ dktX10_init_1
theorem dksX10_init_0 : cX10_init.data.toList.drop 0 = dktX10_init_0 := by decide +kernel
theorem dksX10_init_1 : cX10_init.data.toList.drop 22 = dktX10_init_1 := dk_seg dksX10_init_0 22 rfl rfl
theorem dX10_init_0 : decode cX10_init 0 = .ok (.aload_n 0, 1) := dk_42 (dk_at dksX10_init_0 0 rfl rfl)
theorem dX10_init_1 : decode cX10_init 1 = .ok (.invokespecial 3, 3) := dk_183 0 3 (dk_at dksX10_init_0 1 rfl rfl)
theorem dX10_init_4 : decode cX10_init 4 = .ok (.aload_n 0, 1) := dk_42 (dk_at dksX10_init_0 4 rfl rfl)
theorem dX10_init_5 : decode cX10_init 5 = .ok (.new 9, 3) := dk_187 0 9 (dk_at dksX10_init_0 5 rfl rfl)
theorem dX10_init_8 : decode cX10_init 8 = .ok (.dup, 1) := dk_89 (dk_at dksX10_init_0 8 rfl rfl)
theorem dX10_init_9 : decode cX10_init 9 = .ok (.invokespecial 11, 3) := dk_183 0 11 (dk_at dksX10_init_0 9 rfl rfl)
theorem dX10_init_12 : decode cX10_init 12 = .ok (.putfield 12, 3) := dk_181 0 12 (dk_at dksX10_init_0 12 rfl rfl)
theorem dX10_init_15 : decode cX10_init 15 = .ok (.aload_n 0, 1) := dk_42 (dk_at dksX10_init_0 15 rfl rfl)
theorem dX10_init_16 : decode cX10_init 16 = .ok (.aload_n 1, 1) := dk_43 (dk_at dksX10_init_0 16 rfl rfl)
theorem dX10_init_17 : decode cX10_init 17 = .ok (.putfield 18, 3) := dk_181 0 18 (dk_at dksX10_init_0 17 rfl rfl)
theorem dX10_init_20 : decode cX10_init 20 = .ok (.aload_n 0, 1) := dk_42 (dk_at dksX10_init_0 20 rfl rfl)
theorem dX10_init_21 : decode cX10_init 21 = .ok (.iload_n 2, 1) := dk_28 (dk_at dksX10_init_0 21 rfl rfl)
theorem dX10_init_22 : decode cX10_init 22 = .ok (.putfield 22, 3) := dk_181 0 22 (dk_at dksX10_init_1 0 rfl rfl)
theorem dX10_init_25 : decode cX10_init 25 = .ok (.aload_n 0, 1) := dk_42 (dk_at dksX10_init_1 3 rfl rfl)
theorem dX10_init_26 : decode cX10_init 26 = .ok (.aload_n 3, 1) := dk_45 (dk_at dksX10_init_1 4 rfl rfl)
theorem dX10_init_27 : decode cX10_init 27 = .ok (.putfield 26, 3) := dk_181 0 26 (dk_at dksX10_init_1 5 rfl rfl)
theorem dX10_init_30 : decode cX10_init 30 = .ok (.return_, 1) := dk_177 (dk_at dksX10_init_1 8 rfl rfl)
abbrev cX10_read : ByteArray := prog_18_method_37_code
def yX10_read : MethodName := ⟨RX10, "read", "()LOathButtons$Regiment;"⟩
def dkwX10_read_1 : List UInt8 := [182, 0, 101, 167, 255, 235, 42, 180, 0, 12, 176]
abbrev dktX10_read_1 : List UInt8 := dkwX10_read_1 ++ []
def dkwX10_read_0 : List UInt8 := [42, 182, 0, 98, 42, 180, 0, 40, 153, 0, 20, 42, 182, 1, 76, 42, 42, 16, 59, 182, 0, 108]
abbrev dktX10_read_0 : List UInt8 := dkwX10_read_0 ++ dktX10_read_1
theorem dksX10_read_0 : cX10_read.data.toList.drop 0 = dktX10_read_0 := by decide +kernel
theorem dksX10_read_1 : cX10_read.data.toList.drop 22 = dktX10_read_1 := dk_seg dksX10_read_0 22 rfl rfl
theorem dX10_read_0 : decode cX10_read 0 = .ok (.aload_n 0, 1) := dk_42 (dk_at dksX10_read_0 0 rfl rfl)
theorem dX10_read_1 : decode cX10_read 1 = .ok (.invokevirtual 98, 3) := dk_182 0 98 (dk_at dksX10_read_0 1 rfl rfl)
theorem dX10_read_4 : decode cX10_read 4 = .ok (.aload_n 0, 1) := dk_42 (dk_at dksX10_read_0 4 rfl rfl)
theorem dX10_read_5 : decode cX10_read 5 = .ok (.getfield 40, 3) := dk_180 0 40 (dk_at dksX10_read_0 5 rfl rfl)
theorem dX10_read_8 : decode cX10_read 8 = .ok (.ifCond .eq 20, 3) := dk_153 0 20 (dk_at dksX10_read_0 8 rfl rfl)
theorem dX10_read_11 : decode cX10_read 11 = .ok (.aload_n 0, 1) := dk_42 (dk_at dksX10_read_0 11 rfl rfl)
theorem dX10_read_12 : decode cX10_read 12 = .ok (.invokevirtual 332, 3) := dk_182 1 76 (dk_at dksX10_read_0 12 rfl rfl)
theorem dX10_read_15 : decode cX10_read 15 = .ok (.aload_n 0, 1) := dk_42 (dk_at dksX10_read_0 15 rfl rfl)
theorem dX10_read_16 : decode cX10_read 16 = .ok (.aload_n 0, 1) := dk_42 (dk_at dksX10_read_0 16 rfl rfl)
theorem dX10_read_17 : decode cX10_read 17 = .ok (.bipush 59, 2) := dk_16 59 (dk_at dksX10_read_0 17 rfl rfl)
theorem dX10_read_19 : decode cX10_read 19 = .ok (.invokevirtual 108, 3) := dk_182 0 108 (dk_at dksX10_read_0 19 rfl rfl)
theorem dX10_read_22 : decode cX10_read 22 = .ok (.invokevirtual 101, 3) := dk_182 0 101 (dk_at dksX10_read_1 0 rfl rfl)
theorem dX10_read_25 : decode cX10_read 25 = .ok (.goto (-21), 3) := dk_167 255 235 (dk_at dksX10_read_1 3 rfl rfl)
theorem dX10_read_28 : decode cX10_read 28 = .ok (.aload_n 0, 1) := dk_42 (dk_at dksX10_read_1 6 rfl rfl)
theorem dX10_read_29 : decode cX10_read 29 = .ok (.getfield 12, 3) := dk_180 0 12 (dk_at dksX10_read_1 7 rfl rfl)
theorem dX10_read_32 : decode cX10_read 32 = .ok (.areturn, 1) := dk_176 (dk_at dksX10_read_1 10 rfl rfl)
abbrev cX10_next : ByteArray := prog_18_method_6_code
def yX10_next : MethodName := ⟨RX10, "next", "()V"⟩
def dkwX10_next_6 : List UInt8 := [167, 0, 19, 42, 27, 184, 0, 56, 153, 0, 7, 6, 167, 0, 4, 7, 181, 0, 40, 177]
abbrev dktX10_next_6 : List UInt8 := dkwX10_next_6 ++ []
def dkwX10_next_5 : List UInt8 := [184, 0, 43, 153, 0, 10, 42, 182, 0, 47, 167, 0, 33, 27, 184, 0, 50, 153, 0, 10, 42, 182, 0, 53]
abbrev dktX10_next_5 : List UInt8 := dkwX10_next_5 ++ dktX10_next_6
def dkwX10_next_4 : List UInt8 := [181, 0, 30, 42, 180, 0, 33, 42, 180, 0, 22, 161, 0, 11, 42, 3, 181, 0, 40, 167, 0, 47, 27]
abbrev dktX10_next_4 : List UInt8 := dkwX10_next_4 ++ dktX10_next_5
def dkwX10_next_3 : List UInt8 := [180, 0, 33, 42, 180, 0, 22, 162, 0, 12, 42, 180, 0, 33, 4, 96, 167, 0, 7, 42, 180, 0, 33]
abbrev dktX10_next_3 : List UInt8 := dkwX10_next_3 ++ dktX10_next_4
def dkwX10_next_2 : List UInt8 := [180, 0, 33, 4, 96, 181, 0, 33, 167, 255, 209, 42, 42, 180, 0, 33, 182, 0, 36, 60, 42, 42]
abbrev dktX10_next_2 : List UInt8 := dkwX10_next_2 ++ dktX10_next_3
def dkwX10_next_1 : List UInt8 := [182, 0, 36, 16, 32, 159, 0, 16, 42, 42, 180, 0, 33, 182, 0, 36, 16, 10, 160, 0, 16, 42, 89]
abbrev dktX10_next_1 : List UInt8 := dkwX10_next_1 ++ dktX10_next_2
def dkwX10_next_0 : List UInt8 := [42, 42, 180, 0, 30, 181, 0, 33, 42, 180, 0, 33, 42, 180, 0, 22, 162, 0, 42, 42, 42, 180, 0, 33]
abbrev dktX10_next_0 : List UInt8 := dkwX10_next_0 ++ dktX10_next_1
theorem dksX10_next_0 : cX10_next.data.toList.drop 0 = dktX10_next_0 := by decide +kernel
theorem dksX10_next_1 : cX10_next.data.toList.drop 24 = dktX10_next_1 := dk_seg dksX10_next_0 24 rfl rfl
theorem dksX10_next_2 : cX10_next.data.toList.drop 47 = dktX10_next_2 := dk_seg dksX10_next_1 23 rfl rfl
theorem dksX10_next_3 : cX10_next.data.toList.drop 69 = dktX10_next_3 := dk_seg dksX10_next_2 22 rfl rfl
theorem dksX10_next_4 : cX10_next.data.toList.drop 92 = dktX10_next_4 := dk_seg dksX10_next_3 23 rfl rfl
theorem dksX10_next_5 : cX10_next.data.toList.drop 115 = dktX10_next_5 := dk_seg dksX10_next_4 23 rfl rfl
theorem dksX10_next_6 : cX10_next.data.toList.drop 139 = dktX10_next_6 := dk_seg dksX10_next_5 24 rfl rfl
theorem dX10_next_0 : decode cX10_next 0 = .ok (.aload_n 0, 1) := dk_42 (dk_at dksX10_next_0 0 rfl rfl)
theorem dX10_next_1 : decode cX10_next 1 = .ok (.aload_n 0, 1) := dk_42 (dk_at dksX10_next_0 1 rfl rfl)
theorem dX10_next_2 : decode cX10_next 2 = .ok (.getfield 30, 3) := dk_180 0 30 (dk_at dksX10_next_0 2 rfl rfl)
theorem dX10_next_5 : decode cX10_next 5 = .ok (.putfield 33, 3) := dk_181 0 33 (dk_at dksX10_next_0 5 rfl rfl)
theorem dX10_next_8 : decode cX10_next 8 = .ok (.aload_n 0, 1) := dk_42 (dk_at dksX10_next_0 8 rfl rfl)
theorem dX10_next_9 : decode cX10_next 9 = .ok (.getfield 33, 3) := dk_180 0 33 (dk_at dksX10_next_0 9 rfl rfl)
theorem dX10_next_12 : decode cX10_next 12 = .ok (.aload_n 0, 1) := dk_42 (dk_at dksX10_next_0 12 rfl rfl)
theorem dX10_next_13 : decode cX10_next 13 = .ok (.getfield 22, 3) := dk_180 0 22 (dk_at dksX10_next_0 13 rfl rfl)
theorem dX10_next_16 : decode cX10_next 16 = .ok (.if_icmp .ge 42, 3) := dk_162 0 42 (dk_at dksX10_next_0 16 rfl rfl)
theorem dX10_next_19 : decode cX10_next 19 = .ok (.aload_n 0, 1) := dk_42 (dk_at dksX10_next_0 19 rfl rfl)
theorem dX10_next_20 : decode cX10_next 20 = .ok (.aload_n 0, 1) := dk_42 (dk_at dksX10_next_0 20 rfl rfl)
theorem dX10_next_21 : decode cX10_next 21 = .ok (.getfield 33, 3) := dk_180 0 33 (dk_at dksX10_next_0 21 rfl rfl)
theorem dX10_next_24 : decode cX10_next 24 = .ok (.invokevirtual 36, 3) := dk_182 0 36 (dk_at dksX10_next_1 0 rfl rfl)
theorem dX10_next_27 : decode cX10_next 27 = .ok (.bipush 32, 2) := dk_16 32 (dk_at dksX10_next_1 3 rfl rfl)
theorem dX10_next_29 : decode cX10_next 29 = .ok (.if_icmp .eq 16, 3) := dk_159 0 16 (dk_at dksX10_next_1 5 rfl rfl)
theorem dX10_next_32 : decode cX10_next 32 = .ok (.aload_n 0, 1) := dk_42 (dk_at dksX10_next_1 8 rfl rfl)
theorem dX10_next_33 : decode cX10_next 33 = .ok (.aload_n 0, 1) := dk_42 (dk_at dksX10_next_1 9 rfl rfl)
theorem dX10_next_34 : decode cX10_next 34 = .ok (.getfield 33, 3) := dk_180 0 33 (dk_at dksX10_next_1 10 rfl rfl)
theorem dX10_next_37 : decode cX10_next 37 = .ok (.invokevirtual 36, 3) := dk_182 0 36 (dk_at dksX10_next_1 13 rfl rfl)
theorem dX10_next_40 : decode cX10_next 40 = .ok (.bipush 10, 2) := dk_16 10 (dk_at dksX10_next_1 16 rfl rfl)
theorem dX10_next_42 : decode cX10_next 42 = .ok (.if_icmp .ne 16, 3) := dk_160 0 16 (dk_at dksX10_next_1 18 rfl rfl)
theorem dX10_next_45 : decode cX10_next 45 = .ok (.aload_n 0, 1) := dk_42 (dk_at dksX10_next_1 21 rfl rfl)
theorem dX10_next_46 : decode cX10_next 46 = .ok (.dup, 1) := dk_89 (dk_at dksX10_next_1 22 rfl rfl)
theorem dX10_next_47 : decode cX10_next 47 = .ok (.getfield 33, 3) := dk_180 0 33 (dk_at dksX10_next_2 0 rfl rfl)
theorem dX10_next_50 : decode cX10_next 50 = .ok (.iconst 1, 1) := dk_4 (dk_at dksX10_next_2 3 rfl rfl)
theorem dX10_next_51 : decode cX10_next 51 = .ok (.iadd, 1) := dk_96 (dk_at dksX10_next_2 4 rfl rfl)
theorem dX10_next_52 : decode cX10_next 52 = .ok (.putfield 33, 3) := dk_181 0 33 (dk_at dksX10_next_2 5 rfl rfl)
theorem dX10_next_55 : decode cX10_next 55 = .ok (.goto (-47), 3) := dk_167 255 209 (dk_at dksX10_next_2 8 rfl rfl)
theorem dX10_next_58 : decode cX10_next 58 = .ok (.aload_n 0, 1) := dk_42 (dk_at dksX10_next_2 11 rfl rfl)
theorem dX10_next_59 : decode cX10_next 59 = .ok (.aload_n 0, 1) := dk_42 (dk_at dksX10_next_2 12 rfl rfl)
theorem dX10_next_60 : decode cX10_next 60 = .ok (.getfield 33, 3) := dk_180 0 33 (dk_at dksX10_next_2 13 rfl rfl)
theorem dX10_next_63 : decode cX10_next 63 = .ok (.invokevirtual 36, 3) := dk_182 0 36 (dk_at dksX10_next_2 16 rfl rfl)
theorem dX10_next_66 : decode cX10_next 66 = .ok (.istore_n 1, 1) := dk_60 (dk_at dksX10_next_2 19 rfl rfl)
theorem dX10_next_67 : decode cX10_next 67 = .ok (.aload_n 0, 1) := dk_42 (dk_at dksX10_next_2 20 rfl rfl)
theorem dX10_next_68 : decode cX10_next 68 = .ok (.aload_n 0, 1) := dk_42 (dk_at dksX10_next_2 21 rfl rfl)
theorem dX10_next_69 : decode cX10_next 69 = .ok (.getfield 33, 3) := dk_180 0 33 (dk_at dksX10_next_3 0 rfl rfl)
theorem dX10_next_72 : decode cX10_next 72 = .ok (.aload_n 0, 1) := dk_42 (dk_at dksX10_next_3 3 rfl rfl)
theorem dX10_next_73 : decode cX10_next 73 = .ok (.getfield 22, 3) := dk_180 0 22 (dk_at dksX10_next_3 4 rfl rfl)
theorem dX10_next_76 : decode cX10_next 76 = .ok (.if_icmp .ge 12, 3) := dk_162 0 12 (dk_at dksX10_next_3 7 rfl rfl)
theorem dX10_next_79 : decode cX10_next 79 = .ok (.aload_n 0, 1) := dk_42 (dk_at dksX10_next_3 10 rfl rfl)
theorem dX10_next_80 : decode cX10_next 80 = .ok (.getfield 33, 3) := dk_180 0 33 (dk_at dksX10_next_3 11 rfl rfl)
theorem dX10_next_83 : decode cX10_next 83 = .ok (.iconst 1, 1) := dk_4 (dk_at dksX10_next_3 14 rfl rfl)
theorem dX10_next_84 : decode cX10_next 84 = .ok (.iadd, 1) := dk_96 (dk_at dksX10_next_3 15 rfl rfl)
theorem dX10_next_85 : decode cX10_next 85 = .ok (.goto 7, 3) := dk_167 0 7 (dk_at dksX10_next_3 16 rfl rfl)
theorem dX10_next_88 : decode cX10_next 88 = .ok (.aload_n 0, 1) := dk_42 (dk_at dksX10_next_3 19 rfl rfl)
theorem dX10_next_89 : decode cX10_next 89 = .ok (.getfield 33, 3) := dk_180 0 33 (dk_at dksX10_next_3 20 rfl rfl)
theorem dX10_next_92 : decode cX10_next 92 = .ok (.putfield 30, 3) := dk_181 0 30 (dk_at dksX10_next_4 0 rfl rfl)
theorem dX10_next_95 : decode cX10_next 95 = .ok (.aload_n 0, 1) := dk_42 (dk_at dksX10_next_4 3 rfl rfl)
theorem dX10_next_96 : decode cX10_next 96 = .ok (.getfield 33, 3) := dk_180 0 33 (dk_at dksX10_next_4 4 rfl rfl)
theorem dX10_next_99 : decode cX10_next 99 = .ok (.aload_n 0, 1) := dk_42 (dk_at dksX10_next_4 7 rfl rfl)
theorem dX10_next_100 : decode cX10_next 100 = .ok (.getfield 22, 3) := dk_180 0 22 (dk_at dksX10_next_4 8 rfl rfl)
theorem dX10_next_103 : decode cX10_next 103 = .ok (.if_icmp .lt 11, 3) := dk_161 0 11 (dk_at dksX10_next_4 11 rfl rfl)
theorem dX10_next_106 : decode cX10_next 106 = .ok (.aload_n 0, 1) := dk_42 (dk_at dksX10_next_4 14 rfl rfl)
theorem dX10_next_107 : decode cX10_next 107 = .ok (.iconst 0, 1) := dk_3 (dk_at dksX10_next_4 15 rfl rfl)
theorem dX10_next_108 : decode cX10_next 108 = .ok (.putfield 40, 3) := dk_181 0 40 (dk_at dksX10_next_4 16 rfl rfl)
theorem dX10_next_111 : decode cX10_next 111 = .ok (.goto 47, 3) := dk_167 0 47 (dk_at dksX10_next_4 19 rfl rfl)
theorem dX10_next_114 : decode cX10_next 114 = .ok (.iload_n 1, 1) := dk_27 (dk_at dksX10_next_4 22 rfl rfl)
theorem dX10_next_115 : decode cX10_next 115 = .ok (.invokestatic 43, 3) := dk_184 0 43 (dk_at dksX10_next_5 0 rfl rfl)
theorem dX10_next_118 : decode cX10_next 118 = .ok (.ifCond .eq 10, 3) := dk_153 0 10 (dk_at dksX10_next_5 3 rfl rfl)
theorem dX10_next_121 : decode cX10_next 121 = .ok (.aload_n 0, 1) := dk_42 (dk_at dksX10_next_5 6 rfl rfl)
theorem dX10_next_122 : decode cX10_next 122 = .ok (.invokevirtual 47, 3) := dk_182 0 47 (dk_at dksX10_next_5 7 rfl rfl)
theorem dX10_next_125 : decode cX10_next 125 = .ok (.goto 33, 3) := dk_167 0 33 (dk_at dksX10_next_5 10 rfl rfl)
theorem dX10_next_128 : decode cX10_next 128 = .ok (.iload_n 1, 1) := dk_27 (dk_at dksX10_next_5 13 rfl rfl)
theorem dX10_next_129 : decode cX10_next 129 = .ok (.invokestatic 50, 3) := dk_184 0 50 (dk_at dksX10_next_5 14 rfl rfl)
theorem dX10_next_132 : decode cX10_next 132 = .ok (.ifCond .eq 10, 3) := dk_153 0 10 (dk_at dksX10_next_5 17 rfl rfl)
theorem dX10_next_135 : decode cX10_next 135 = .ok (.aload_n 0, 1) := dk_42 (dk_at dksX10_next_5 20 rfl rfl)
theorem dX10_next_136 : decode cX10_next 136 = .ok (.invokevirtual 53, 3) := dk_182 0 53 (dk_at dksX10_next_5 21 rfl rfl)
theorem dX10_next_139 : decode cX10_next 139 = .ok (.goto 19, 3) := dk_167 0 19 (dk_at dksX10_next_6 0 rfl rfl)
theorem dX10_next_142 : decode cX10_next 142 = .ok (.aload_n 0, 1) := dk_42 (dk_at dksX10_next_6 3 rfl rfl)
theorem dX10_next_143 : decode cX10_next 143 = .ok (.iload_n 1, 1) := dk_27 (dk_at dksX10_next_6 4 rfl rfl)
theorem dX10_next_144 : decode cX10_next 144 = .ok (.invokestatic 56, 3) := dk_184 0 56 (dk_at dksX10_next_6 5 rfl rfl)
theorem dX10_next_147 : decode cX10_next 147 = .ok (.ifCond .eq 7, 3) := dk_153 0 7 (dk_at dksX10_next_6 8 rfl rfl)
theorem dX10_next_150 : decode cX10_next 150 = .ok (.iconst 3, 1) := dk_6 (dk_at dksX10_next_6 11 rfl rfl)
theorem dX10_next_151 : decode cX10_next 151 = .ok (.goto 4, 3) := dk_167 0 4 (dk_at dksX10_next_6 12 rfl rfl)
theorem dX10_next_154 : decode cX10_next 154 = .ok (.iconst 4, 1) := dk_7 (dk_at dksX10_next_6 15 rfl rfl)
theorem dX10_next_155 : decode cX10_next 155 = .ok (.putfield 40, 3) := dk_181 0 40 (dk_at dksX10_next_6 16 rfl rfl)
theorem dX10_next_158 : decode cX10_next 158 = .ok (.return_, 1) := dk_177 (dk_at dksX10_next_6 19 rfl rfl)
abbrev cX10_sign : ByteArray := prog_18_method_2_code
def yX10_sign : MethodName := ⟨RX10, "sign", "(I)I"⟩
def dkwX10_sign_0 : List UInt8 := [27, 42, 180, 0, 22, 162, 0, 16, 42, 180, 0, 18, 27, 51, 17, 0, 255, 126, 167, 0, 4, 3, 172]
abbrev dktX10_sign_0 : List UInt8 := dkwX10_sign_0 ++ []
theorem dksX10_sign_0 : cX10_sign.data.toList.drop 0 = dktX10_sign_0 := by decide +kernel
theorem dX10_sign_0 : decode cX10_sign 0 = .ok (.iload_n 1, 1) := dk_27 (dk_at dksX10_sign_0 0 rfl rfl)
theorem dX10_sign_1 : decode cX10_sign 1 = .ok (.aload_n 0, 1) := dk_42 (dk_at dksX10_sign_0 1 rfl rfl)
theorem dX10_sign_2 : decode cX10_sign 2 = .ok (.getfield 22, 3) := dk_180 0 22 (dk_at dksX10_sign_0 2 rfl rfl)
theorem dX10_sign_5 : decode cX10_sign 5 = .ok (.if_icmp .ge 16, 3) := dk_162 0 16 (dk_at dksX10_sign_0 5 rfl rfl)
theorem dX10_sign_8 : decode cX10_sign 8 = .ok (.aload_n 0, 1) := dk_42 (dk_at dksX10_sign_0 8 rfl rfl)
theorem dX10_sign_9 : decode cX10_sign 9 = .ok (.getfield 18, 3) := dk_180 0 18 (dk_at dksX10_sign_0 9 rfl rfl)
theorem dX10_sign_12 : decode cX10_sign 12 = .ok (.iload_n 1, 1) := dk_27 (dk_at dksX10_sign_0 12 rfl rfl)
theorem dX10_sign_13 : decode cX10_sign 13 = .ok (.baload, 1) := dk_51 (dk_at dksX10_sign_0 13 rfl rfl)
theorem dX10_sign_14 : decode cX10_sign 14 = .ok (.sipush 255, 3) := dk_17 0 255 (dk_at dksX10_sign_0 14 rfl rfl)
theorem dX10_sign_17 : decode cX10_sign 17 = .ok (.iand, 1) := dk_126 (dk_at dksX10_sign_0 17 rfl rfl)
theorem dX10_sign_18 : decode cX10_sign 18 = .ok (.goto 4, 3) := dk_167 0 4 (dk_at dksX10_sign_0 18 rfl rfl)
theorem dX10_sign_21 : decode cX10_sign 21 = .ok (.iconst 0, 1) := dk_3 (dk_at dksX10_sign_0 21 rfl rfl)
theorem dX10_sign_22 : decode cX10_sign 22 = .ok (.ireturn, 1) := dk_172 (dk_at dksX10_sign_0 22 rfl rfl)
abbrev cX10_isLetter : ByteArray := prog_18_method_3_code
def yX10_isLetter : MethodName := ⟨RX10, "isLette\x72", "(I)Z"⟩
def dkwX10_isLetter_0 : List UInt8 := [26, 16, 97, 161, 0, 13, 26, 16, 122, 163, 0, 7, 4, 167, 0, 4, 3, 172]
abbrev dktX10_isLetter_0 : List UInt8 := dkwX10_isLetter_0 ++ []
theorem dksX10_isLetter_0 : cX10_isLetter.data.toList.drop 0 = dktX10_isLetter_0 := by decide +kernel
theorem dX10_isLetter_0 : decode cX10_isLetter 0 = .ok (.iload_n 0, 1) := dk_26 (dk_at dksX10_isLetter_0 0 rfl rfl)
theorem dX10_isLetter_1 : decode cX10_isLetter 1 = .ok (.bipush 97, 2) := dk_16 97 (dk_at dksX10_isLetter_0 1 rfl rfl)
theorem dX10_isLetter_3 : decode cX10_isLetter 3 = .ok (.if_icmp .lt 13, 3) := dk_161 0 13 (dk_at dksX10_isLetter_0 3 rfl rfl)
theorem dX10_isLetter_6 : decode cX10_isLetter 6 = .ok (.iload_n 0, 1) := dk_26 (dk_at dksX10_isLetter_0 6 rfl rfl)
theorem dX10_isLetter_7 : decode cX10_isLetter 7 = .ok (.bipush 122, 2) := dk_16 122 (dk_at dksX10_isLetter_0 7 rfl rfl)
theorem dX10_isLetter_9 : decode cX10_isLetter 9 = .ok (.if_icmp .gt 7, 3) := dk_163 0 7 (dk_at dksX10_isLetter_0 9 rfl rfl)
theorem dX10_isLetter_12 : decode cX10_isLetter 12 = .ok (.iconst 1, 1) := dk_4 (dk_at dksX10_isLetter_0 12 rfl rfl)
theorem dX10_isLetter_13 : decode cX10_isLetter 13 = .ok (.goto 4, 3) := dk_167 0 4 (dk_at dksX10_isLetter_0 13 rfl rfl)
theorem dX10_isLetter_16 : decode cX10_isLetter 16 = .ok (.iconst 0, 1) := dk_3 (dk_at dksX10_isLetter_0 16 rfl rfl)
theorem dX10_isLetter_17 : decode cX10_isLetter 17 = .ok (.ireturn, 1) := dk_172 (dk_at dksX10_isLetter_0 17 rfl rfl)
abbrev cX10_readWord : ByteArray := prog_18_method_7_code
def yX10_readWord : MethodName := ⟨RX10, "readWord", "()V"⟩
def dkwX10_readWord_4 : List UInt8 := [100, 16, 8, 164, 0, 8, 42, 7, 181, 0, 40, 177]
abbrev dktX10_readWord_4 : List UInt8 := dkwX10_readWord_4 ++ []
def dkwX10_readWord_3 : List UInt8 := [181, 0, 59, 42, 89, 180, 0, 30, 4, 96, 181, 0, 30, 167, 255, 190, 42, 180, 0, 30, 42, 180, 0, 33]
abbrev dktX10_readWord_3 : List UInt8 := dkwX10_readWord_3 ++ dktX10_readWord_4
def dkwX10_readWord_2 : List UInt8 := [42, 180, 0, 59, 16, 8, 121, 42, 42, 180, 0, 30, 182, 0, 36, 133, 129, 167, 0, 7, 42, 180, 0, 59]
abbrev dktX10_readWord_2 : List UInt8 := dkwX10_readWord_2 ++ dktX10_readWord_3
def dkwX10_readWord_1 : List UInt8 := [182, 0, 36, 184, 0, 43, 153, 0, 58, 42, 42, 180, 0, 30, 42, 180, 0, 33, 100, 16, 8, 162, 0, 23]
abbrev dktX10_readWord_1 : List UInt8 := dkwX10_readWord_1 ++ dktX10_readWord_2
def dkwX10_readWord_0 : List UInt8 := [42, 4, 181, 0, 40, 42, 9, 181, 0, 59, 42, 42, 180, 0, 33, 181, 0, 30, 42, 42, 180, 0, 30]
abbrev dktX10_readWord_0 : List UInt8 := dkwX10_readWord_0 ++ dktX10_readWord_1
theorem dksX10_readWord_0 : cX10_readWord.data.toList.drop 0 = dktX10_readWord_0 := by decide +kernel
theorem dksX10_readWord_1 : cX10_readWord.data.toList.drop 23 = dktX10_readWord_1 := dk_seg dksX10_readWord_0 23 rfl rfl
theorem dksX10_readWord_2 : cX10_readWord.data.toList.drop 47 = dktX10_readWord_2 := dk_seg dksX10_readWord_1 24 rfl rfl
theorem dksX10_readWord_3 : cX10_readWord.data.toList.drop 71 = dktX10_readWord_3 := dk_seg dksX10_readWord_2 24 rfl rfl
theorem dksX10_readWord_4 : cX10_readWord.data.toList.drop 95 = dktX10_readWord_4 := dk_seg dksX10_readWord_3 24 rfl rfl
theorem dX10_readWord_0 : decode cX10_readWord 0 = .ok (.aload_n 0, 1) := dk_42 (dk_at dksX10_readWord_0 0 rfl rfl)
theorem dX10_readWord_1 : decode cX10_readWord 1 = .ok (.iconst 1, 1) := dk_4 (dk_at dksX10_readWord_0 1 rfl rfl)
theorem dX10_readWord_2 : decode cX10_readWord 2 = .ok (.putfield 40, 3) := dk_181 0 40 (dk_at dksX10_readWord_0 2 rfl rfl)
theorem dX10_readWord_5 : decode cX10_readWord 5 = .ok (.aload_n 0, 1) := dk_42 (dk_at dksX10_readWord_0 5 rfl rfl)
theorem dX10_readWord_6 : decode cX10_readWord 6 = .ok (.lconst 0, 1) := dk_9 (dk_at dksX10_readWord_0 6 rfl rfl)
theorem dX10_readWord_7 : decode cX10_readWord 7 = .ok (.putfield 59, 3) := dk_181 0 59 (dk_at dksX10_readWord_0 7 rfl rfl)
theorem dX10_readWord_10 : decode cX10_readWord 10 = .ok (.aload_n 0, 1) := dk_42 (dk_at dksX10_readWord_0 10 rfl rfl)
theorem dX10_readWord_11 : decode cX10_readWord 11 = .ok (.aload_n 0, 1) := dk_42 (dk_at dksX10_readWord_0 11 rfl rfl)
theorem dX10_readWord_12 : decode cX10_readWord 12 = .ok (.getfield 33, 3) := dk_180 0 33 (dk_at dksX10_readWord_0 12 rfl rfl)
theorem dX10_readWord_15 : decode cX10_readWord 15 = .ok (.putfield 30, 3) := dk_181 0 30 (dk_at dksX10_readWord_0 15 rfl rfl)
theorem dX10_readWord_18 : decode cX10_readWord 18 = .ok (.aload_n 0, 1) := dk_42 (dk_at dksX10_readWord_0 18 rfl rfl)
theorem dX10_readWord_19 : decode cX10_readWord 19 = .ok (.aload_n 0, 1) := dk_42 (dk_at dksX10_readWord_0 19 rfl rfl)
theorem dX10_readWord_20 : decode cX10_readWord 20 = .ok (.getfield 30, 3) := dk_180 0 30 (dk_at dksX10_readWord_0 20 rfl rfl)
theorem dX10_readWord_23 : decode cX10_readWord 23 = .ok (.invokevirtual 36, 3) := dk_182 0 36 (dk_at dksX10_readWord_1 0 rfl rfl)
theorem dX10_readWord_26 : decode cX10_readWord 26 = .ok (.invokestatic 43, 3) := dk_184 0 43 (dk_at dksX10_readWord_1 3 rfl rfl)
theorem dX10_readWord_29 : decode cX10_readWord 29 = .ok (.ifCond .eq 58, 3) := dk_153 0 58 (dk_at dksX10_readWord_1 6 rfl rfl)
theorem dX10_readWord_32 : decode cX10_readWord 32 = .ok (.aload_n 0, 1) := dk_42 (dk_at dksX10_readWord_1 9 rfl rfl)
theorem dX10_readWord_33 : decode cX10_readWord 33 = .ok (.aload_n 0, 1) := dk_42 (dk_at dksX10_readWord_1 10 rfl rfl)
theorem dX10_readWord_34 : decode cX10_readWord 34 = .ok (.getfield 30, 3) := dk_180 0 30 (dk_at dksX10_readWord_1 11 rfl rfl)
theorem dX10_readWord_37 : decode cX10_readWord 37 = .ok (.aload_n 0, 1) := dk_42 (dk_at dksX10_readWord_1 14 rfl rfl)
theorem dX10_readWord_38 : decode cX10_readWord 38 = .ok (.getfield 33, 3) := dk_180 0 33 (dk_at dksX10_readWord_1 15 rfl rfl)
theorem dX10_readWord_41 : decode cX10_readWord 41 = .ok (.isub, 1) := dk_100 (dk_at dksX10_readWord_1 18 rfl rfl)
theorem dX10_readWord_42 : decode cX10_readWord 42 = .ok (.bipush 8, 2) := dk_16 8 (dk_at dksX10_readWord_1 19 rfl rfl)
theorem dX10_readWord_44 : decode cX10_readWord 44 = .ok (.if_icmp .ge 23, 3) := dk_162 0 23 (dk_at dksX10_readWord_1 21 rfl rfl)
theorem dX10_readWord_47 : decode cX10_readWord 47 = .ok (.aload_n 0, 1) := dk_42 (dk_at dksX10_readWord_2 0 rfl rfl)
theorem dX10_readWord_48 : decode cX10_readWord 48 = .ok (.getfield 59, 3) := dk_180 0 59 (dk_at dksX10_readWord_2 1 rfl rfl)
theorem dX10_readWord_51 : decode cX10_readWord 51 = .ok (.bipush 8, 2) := dk_16 8 (dk_at dksX10_readWord_2 4 rfl rfl)
theorem dX10_readWord_53 : decode cX10_readWord 53 = .ok (.lshl, 1) := dk_121 (dk_at dksX10_readWord_2 6 rfl rfl)
theorem dX10_readWord_54 : decode cX10_readWord 54 = .ok (.aload_n 0, 1) := dk_42 (dk_at dksX10_readWord_2 7 rfl rfl)
theorem dX10_readWord_55 : decode cX10_readWord 55 = .ok (.aload_n 0, 1) := dk_42 (dk_at dksX10_readWord_2 8 rfl rfl)
theorem dX10_readWord_56 : decode cX10_readWord 56 = .ok (.getfield 30, 3) := dk_180 0 30 (dk_at dksX10_readWord_2 9 rfl rfl)
theorem dX10_readWord_59 : decode cX10_readWord 59 = .ok (.invokevirtual 36, 3) := dk_182 0 36 (dk_at dksX10_readWord_2 12 rfl rfl)
theorem dX10_readWord_62 : decode cX10_readWord 62 = .ok (.i2l, 1) := dk_133 (dk_at dksX10_readWord_2 15 rfl rfl)
theorem dX10_readWord_63 : decode cX10_readWord 63 = .ok (.lor, 1) := dk_129 (dk_at dksX10_readWord_2 16 rfl rfl)
theorem dX10_readWord_64 : decode cX10_readWord 64 = .ok (.goto 7, 3) := dk_167 0 7 (dk_at dksX10_readWord_2 17 rfl rfl)
theorem dX10_readWord_67 : decode cX10_readWord 67 = .ok (.aload_n 0, 1) := dk_42 (dk_at dksX10_readWord_2 20 rfl rfl)
theorem dX10_readWord_68 : decode cX10_readWord 68 = .ok (.getfield 59, 3) := dk_180 0 59 (dk_at dksX10_readWord_2 21 rfl rfl)
theorem dX10_readWord_71 : decode cX10_readWord 71 = .ok (.putfield 59, 3) := dk_181 0 59 (dk_at dksX10_readWord_3 0 rfl rfl)
theorem dX10_readWord_74 : decode cX10_readWord 74 = .ok (.aload_n 0, 1) := dk_42 (dk_at dksX10_readWord_3 3 rfl rfl)
theorem dX10_readWord_75 : decode cX10_readWord 75 = .ok (.dup, 1) := dk_89 (dk_at dksX10_readWord_3 4 rfl rfl)
theorem dX10_readWord_76 : decode cX10_readWord 76 = .ok (.getfield 30, 3) := dk_180 0 30 (dk_at dksX10_readWord_3 5 rfl rfl)
theorem dX10_readWord_79 : decode cX10_readWord 79 = .ok (.iconst 1, 1) := dk_4 (dk_at dksX10_readWord_3 8 rfl rfl)
theorem dX10_readWord_80 : decode cX10_readWord 80 = .ok (.iadd, 1) := dk_96 (dk_at dksX10_readWord_3 9 rfl rfl)
theorem dX10_readWord_81 : decode cX10_readWord 81 = .ok (.putfield 30, 3) := dk_181 0 30 (dk_at dksX10_readWord_3 10 rfl rfl)
theorem dX10_readWord_84 : decode cX10_readWord 84 = .ok (.goto (-66), 3) := dk_167 255 190 (dk_at dksX10_readWord_3 13 rfl rfl)
theorem dX10_readWord_87 : decode cX10_readWord 87 = .ok (.aload_n 0, 1) := dk_42 (dk_at dksX10_readWord_3 16 rfl rfl)
theorem dX10_readWord_88 : decode cX10_readWord 88 = .ok (.getfield 30, 3) := dk_180 0 30 (dk_at dksX10_readWord_3 17 rfl rfl)
theorem dX10_readWord_91 : decode cX10_readWord 91 = .ok (.aload_n 0, 1) := dk_42 (dk_at dksX10_readWord_3 20 rfl rfl)
theorem dX10_readWord_92 : decode cX10_readWord 92 = .ok (.getfield 33, 3) := dk_180 0 33 (dk_at dksX10_readWord_3 21 rfl rfl)
theorem dX10_readWord_95 : decode cX10_readWord 95 = .ok (.isub, 1) := dk_100 (dk_at dksX10_readWord_4 0 rfl rfl)
theorem dX10_readWord_96 : decode cX10_readWord 96 = .ok (.bipush 8, 2) := dk_16 8 (dk_at dksX10_readWord_4 1 rfl rfl)
theorem dX10_readWord_98 : decode cX10_readWord 98 = .ok (.if_icmp .le 8, 3) := dk_164 0 8 (dk_at dksX10_readWord_4 3 rfl rfl)
theorem dX10_readWord_101 : decode cX10_readWord 101 = .ok (.aload_n 0, 1) := dk_42 (dk_at dksX10_readWord_4 6 rfl rfl)
theorem dX10_readWord_102 : decode cX10_readWord 102 = .ok (.iconst 4, 1) := dk_7 (dk_at dksX10_readWord_4 7 rfl rfl)
theorem dX10_readWord_103 : decode cX10_readWord 103 = .ok (.putfield 40, 3) := dk_181 0 40 (dk_at dksX10_readWord_4 8 rfl rfl)
theorem dX10_readWord_106 : decode cX10_readWord 106 = .ok (.return_, 1) := dk_177 (dk_at dksX10_readWord_4 11 rfl rfl)
abbrev cX10_isDigit : ByteArray := prog_18_method_4_code
def yX10_isDigit : MethodName := ⟨RX10, "isDigit", "(I)Z"⟩
def dkwX10_isDigit_0 : List UInt8 := [26, 16, 48, 161, 0, 13, 26, 16, 57, 163, 0, 7, 4, 167, 0, 4, 3, 172]
abbrev dktX10_isDigit_0 : List UInt8 := dkwX10_isDigit_0 ++ []
theorem dksX10_isDigit_0 : cX10_isDigit.data.toList.drop 0 = dktX10_isDigit_0 := by decide +kernel
theorem dX10_isDigit_0 : decode cX10_isDigit 0 = .ok (.iload_n 0, 1) := dk_26 (dk_at dksX10_isDigit_0 0 rfl rfl)
theorem dX10_isDigit_1 : decode cX10_isDigit 1 = .ok (.bipush 48, 2) := dk_16 48 (dk_at dksX10_isDigit_0 1 rfl rfl)
theorem dX10_isDigit_3 : decode cX10_isDigit 3 = .ok (.if_icmp .lt 13, 3) := dk_161 0 13 (dk_at dksX10_isDigit_0 3 rfl rfl)
theorem dX10_isDigit_6 : decode cX10_isDigit 6 = .ok (.iload_n 0, 1) := dk_26 (dk_at dksX10_isDigit_0 6 rfl rfl)
theorem dX10_isDigit_7 : decode cX10_isDigit 7 = .ok (.bipush 57, 2) := dk_16 57 (dk_at dksX10_isDigit_0 7 rfl rfl)
theorem dX10_isDigit_9 : decode cX10_isDigit 9 = .ok (.if_icmp .gt 7, 3) := dk_163 0 7 (dk_at dksX10_isDigit_0 9 rfl rfl)
theorem dX10_isDigit_12 : decode cX10_isDigit 12 = .ok (.iconst 1, 1) := dk_4 (dk_at dksX10_isDigit_0 12 rfl rfl)
theorem dX10_isDigit_13 : decode cX10_isDigit 13 = .ok (.goto 4, 3) := dk_167 0 4 (dk_at dksX10_isDigit_0 13 rfl rfl)
theorem dX10_isDigit_16 : decode cX10_isDigit 16 = .ok (.iconst 0, 1) := dk_3 (dk_at dksX10_isDigit_0 16 rfl rfl)
theorem dX10_isDigit_17 : decode cX10_isDigit 17 = .ok (.ireturn, 1) := dk_172 (dk_at dksX10_isDigit_0 17 rfl rfl)
abbrev cX10_readNumber : ByteArray := prog_18_method_8_code
def yX10_readNumber : MethodName := ⟨RX10, "readNumbe\x72", "()V"⟩
def dkwX10_readNumber_5 : List UInt8 := [181, 0, 40, 177]
abbrev dktX10_readNumber_5 : List UInt8 := dkwX10_readNumber_5 ++ []
def dkwX10_readNumber_4 : List UInt8 := [180, 0, 33, 100, 7, 163, 0, 17, 42, 42, 180, 0, 30, 182, 0, 36, 184, 0, 43, 153, 0, 8, 42, 7]
abbrev dktX10_readNumber_4 : List UInt8 := dkwX10_readNumber_4 ++ dktX10_readNumber_5
def dkwX10_readNumber_3 : List UInt8 := [180, 0, 63, 181, 0, 63, 42, 89, 180, 0, 30, 4, 96, 181, 0, 30, 167, 255, 189, 42, 180, 0, 30, 42]
abbrev dktX10_readNumber_3 : List UInt8 := dkwX10_readNumber_3 ++ dktX10_readNumber_4
def dkwX10_readNumber_2 : List UInt8 := [16, 10, 42, 180, 0, 63, 104, 42, 42, 180, 0, 30, 182, 0, 36, 96, 16, 48, 100, 167, 0, 7, 42]
abbrev dktX10_readNumber_2 : List UInt8 := dkwX10_readNumber_2 ++ dktX10_readNumber_3
def dkwX10_readNumber_1 : List UInt8 := [182, 0, 36, 184, 0, 50, 153, 0, 59, 42, 42, 180, 0, 30, 42, 180, 0, 33, 100, 7, 162, 0, 25]
abbrev dktX10_readNumber_1 : List UInt8 := dkwX10_readNumber_1 ++ dktX10_readNumber_2
def dkwX10_readNumber_0 : List UInt8 := [42, 5, 181, 0, 40, 42, 3, 181, 0, 63, 42, 42, 180, 0, 33, 181, 0, 30, 42, 42, 180, 0, 30]
abbrev dktX10_readNumber_0 : List UInt8 := dkwX10_readNumber_0 ++ dktX10_readNumber_1
theorem dksX10_readNumber_0 : cX10_readNumber.data.toList.drop 0 = dktX10_readNumber_0 := by decide +kernel
theorem dksX10_readNumber_1 : cX10_readNumber.data.toList.drop 23 = dktX10_readNumber_1 := dk_seg dksX10_readNumber_0 23 rfl rfl
theorem dksX10_readNumber_2 : cX10_readNumber.data.toList.drop 46 = dktX10_readNumber_2 := dk_seg dksX10_readNumber_1 23 rfl rfl
theorem dksX10_readNumber_3 : cX10_readNumber.data.toList.drop 69 = dktX10_readNumber_3 := dk_seg dksX10_readNumber_2 23 rfl rfl
theorem dksX10_readNumber_4 : cX10_readNumber.data.toList.drop 93 = dktX10_readNumber_4 := dk_seg dksX10_readNumber_3 24 rfl rfl
theorem dksX10_readNumber_5 : cX10_readNumber.data.toList.drop 117 = dktX10_readNumber_5 := dk_seg dksX10_readNumber_4 24 rfl rfl
theorem dX10_readNumber_0 : decode cX10_readNumber 0 = .ok (.aload_n 0, 1) := dk_42 (dk_at dksX10_readNumber_0 0 rfl rfl)
theorem dX10_readNumber_1 : decode cX10_readNumber 1 = .ok (.iconst 2, 1) := dk_5 (dk_at dksX10_readNumber_0 1 rfl rfl)
theorem dX10_readNumber_2 : decode cX10_readNumber 2 = .ok (.putfield 40, 3) := dk_181 0 40 (dk_at dksX10_readNumber_0 2 rfl rfl)
theorem dX10_readNumber_5 : decode cX10_readNumber 5 = .ok (.aload_n 0, 1) := dk_42 (dk_at dksX10_readNumber_0 5 rfl rfl)
theorem dX10_readNumber_6 : decode cX10_readNumber 6 = .ok (.iconst 0, 1) := dk_3 (dk_at dksX10_readNumber_0 6 rfl rfl)
theorem dX10_readNumber_7 : decode cX10_readNumber 7 = .ok (.putfield 63, 3) := dk_181 0 63 (dk_at dksX10_readNumber_0 7 rfl rfl)
theorem dX10_readNumber_10 : decode cX10_readNumber 10 = .ok (.aload_n 0, 1) := dk_42 (dk_at dksX10_readNumber_0 10 rfl rfl)
theorem dX10_readNumber_11 : decode cX10_readNumber 11 = .ok (.aload_n 0, 1) := dk_42 (dk_at dksX10_readNumber_0 11 rfl rfl)
theorem dX10_readNumber_12 : decode cX10_readNumber 12 = .ok (.getfield 33, 3) := dk_180 0 33 (dk_at dksX10_readNumber_0 12 rfl rfl)
theorem dX10_readNumber_15 : decode cX10_readNumber 15 = .ok (.putfield 30, 3) := dk_181 0 30 (dk_at dksX10_readNumber_0 15 rfl rfl)
theorem dX10_readNumber_18 : decode cX10_readNumber 18 = .ok (.aload_n 0, 1) := dk_42 (dk_at dksX10_readNumber_0 18 rfl rfl)
theorem dX10_readNumber_19 : decode cX10_readNumber 19 = .ok (.aload_n 0, 1) := dk_42 (dk_at dksX10_readNumber_0 19 rfl rfl)
theorem dX10_readNumber_20 : decode cX10_readNumber 20 = .ok (.getfield 30, 3) := dk_180 0 30 (dk_at dksX10_readNumber_0 20 rfl rfl)
theorem dX10_readNumber_23 : decode cX10_readNumber 23 = .ok (.invokevirtual 36, 3) := dk_182 0 36 (dk_at dksX10_readNumber_1 0 rfl rfl)
theorem dX10_readNumber_26 : decode cX10_readNumber 26 = .ok (.invokestatic 50, 3) := dk_184 0 50 (dk_at dksX10_readNumber_1 3 rfl rfl)
theorem dX10_readNumber_29 : decode cX10_readNumber 29 = .ok (.ifCond .eq 59, 3) := dk_153 0 59 (dk_at dksX10_readNumber_1 6 rfl rfl)
theorem dX10_readNumber_32 : decode cX10_readNumber 32 = .ok (.aload_n 0, 1) := dk_42 (dk_at dksX10_readNumber_1 9 rfl rfl)
theorem dX10_readNumber_33 : decode cX10_readNumber 33 = .ok (.aload_n 0, 1) := dk_42 (dk_at dksX10_readNumber_1 10 rfl rfl)
theorem dX10_readNumber_34 : decode cX10_readNumber 34 = .ok (.getfield 30, 3) := dk_180 0 30 (dk_at dksX10_readNumber_1 11 rfl rfl)
theorem dX10_readNumber_37 : decode cX10_readNumber 37 = .ok (.aload_n 0, 1) := dk_42 (dk_at dksX10_readNumber_1 14 rfl rfl)
theorem dX10_readNumber_38 : decode cX10_readNumber 38 = .ok (.getfield 33, 3) := dk_180 0 33 (dk_at dksX10_readNumber_1 15 rfl rfl)
theorem dX10_readNumber_41 : decode cX10_readNumber 41 = .ok (.isub, 1) := dk_100 (dk_at dksX10_readNumber_1 18 rfl rfl)
theorem dX10_readNumber_42 : decode cX10_readNumber 42 = .ok (.iconst 4, 1) := dk_7 (dk_at dksX10_readNumber_1 19 rfl rfl)
theorem dX10_readNumber_43 : decode cX10_readNumber 43 = .ok (.if_icmp .ge 25, 3) := dk_162 0 25 (dk_at dksX10_readNumber_1 20 rfl rfl)
theorem dX10_readNumber_46 : decode cX10_readNumber 46 = .ok (.bipush 10, 2) := dk_16 10 (dk_at dksX10_readNumber_2 0 rfl rfl)
theorem dX10_readNumber_48 : decode cX10_readNumber 48 = .ok (.aload_n 0, 1) := dk_42 (dk_at dksX10_readNumber_2 2 rfl rfl)
theorem dX10_readNumber_49 : decode cX10_readNumber 49 = .ok (.getfield 63, 3) := dk_180 0 63 (dk_at dksX10_readNumber_2 3 rfl rfl)
theorem dX10_readNumber_52 : decode cX10_readNumber 52 = .ok (.imul, 1) := dk_104 (dk_at dksX10_readNumber_2 6 rfl rfl)
theorem dX10_readNumber_53 : decode cX10_readNumber 53 = .ok (.aload_n 0, 1) := dk_42 (dk_at dksX10_readNumber_2 7 rfl rfl)
theorem dX10_readNumber_54 : decode cX10_readNumber 54 = .ok (.aload_n 0, 1) := dk_42 (dk_at dksX10_readNumber_2 8 rfl rfl)
theorem dX10_readNumber_55 : decode cX10_readNumber 55 = .ok (.getfield 30, 3) := dk_180 0 30 (dk_at dksX10_readNumber_2 9 rfl rfl)
theorem dX10_readNumber_58 : decode cX10_readNumber 58 = .ok (.invokevirtual 36, 3) := dk_182 0 36 (dk_at dksX10_readNumber_2 12 rfl rfl)
theorem dX10_readNumber_61 : decode cX10_readNumber 61 = .ok (.iadd, 1) := dk_96 (dk_at dksX10_readNumber_2 15 rfl rfl)
theorem dX10_readNumber_62 : decode cX10_readNumber 62 = .ok (.bipush 48, 2) := dk_16 48 (dk_at dksX10_readNumber_2 16 rfl rfl)
theorem dX10_readNumber_64 : decode cX10_readNumber 64 = .ok (.isub, 1) := dk_100 (dk_at dksX10_readNumber_2 18 rfl rfl)
theorem dX10_readNumber_65 : decode cX10_readNumber 65 = .ok (.goto 7, 3) := dk_167 0 7 (dk_at dksX10_readNumber_2 19 rfl rfl)
theorem dX10_readNumber_68 : decode cX10_readNumber 68 = .ok (.aload_n 0, 1) := dk_42 (dk_at dksX10_readNumber_2 22 rfl rfl)
theorem dX10_readNumber_69 : decode cX10_readNumber 69 = .ok (.getfield 63, 3) := dk_180 0 63 (dk_at dksX10_readNumber_3 0 rfl rfl)
theorem dX10_readNumber_72 : decode cX10_readNumber 72 = .ok (.putfield 63, 3) := dk_181 0 63 (dk_at dksX10_readNumber_3 3 rfl rfl)
theorem dX10_readNumber_75 : decode cX10_readNumber 75 = .ok (.aload_n 0, 1) := dk_42 (dk_at dksX10_readNumber_3 6 rfl rfl)
theorem dX10_readNumber_76 : decode cX10_readNumber 76 = .ok (.dup, 1) := dk_89 (dk_at dksX10_readNumber_3 7 rfl rfl)
theorem dX10_readNumber_77 : decode cX10_readNumber 77 = .ok (.getfield 30, 3) := dk_180 0 30 (dk_at dksX10_readNumber_3 8 rfl rfl)
theorem dX10_readNumber_80 : decode cX10_readNumber 80 = .ok (.iconst 1, 1) := dk_4 (dk_at dksX10_readNumber_3 11 rfl rfl)
theorem dX10_readNumber_81 : decode cX10_readNumber 81 = .ok (.iadd, 1) := dk_96 (dk_at dksX10_readNumber_3 12 rfl rfl)
theorem dX10_readNumber_82 : decode cX10_readNumber 82 = .ok (.putfield 30, 3) := dk_181 0 30 (dk_at dksX10_readNumber_3 13 rfl rfl)
theorem dX10_readNumber_85 : decode cX10_readNumber 85 = .ok (.goto (-67), 3) := dk_167 255 189 (dk_at dksX10_readNumber_3 16 rfl rfl)
theorem dX10_readNumber_88 : decode cX10_readNumber 88 = .ok (.aload_n 0, 1) := dk_42 (dk_at dksX10_readNumber_3 19 rfl rfl)
theorem dX10_readNumber_89 : decode cX10_readNumber 89 = .ok (.getfield 30, 3) := dk_180 0 30 (dk_at dksX10_readNumber_3 20 rfl rfl)
theorem dX10_readNumber_92 : decode cX10_readNumber 92 = .ok (.aload_n 0, 1) := dk_42 (dk_at dksX10_readNumber_3 23 rfl rfl)
theorem dX10_readNumber_93 : decode cX10_readNumber 93 = .ok (.getfield 33, 3) := dk_180 0 33 (dk_at dksX10_readNumber_4 0 rfl rfl)
theorem dX10_readNumber_96 : decode cX10_readNumber 96 = .ok (.isub, 1) := dk_100 (dk_at dksX10_readNumber_4 3 rfl rfl)
theorem dX10_readNumber_97 : decode cX10_readNumber 97 = .ok (.iconst 4, 1) := dk_7 (dk_at dksX10_readNumber_4 4 rfl rfl)
theorem dX10_readNumber_98 : decode cX10_readNumber 98 = .ok (.if_icmp .gt 17, 3) := dk_163 0 17 (dk_at dksX10_readNumber_4 5 rfl rfl)
theorem dX10_readNumber_101 : decode cX10_readNumber 101 = .ok (.aload_n 0, 1) := dk_42 (dk_at dksX10_readNumber_4 8 rfl rfl)
theorem dX10_readNumber_102 : decode cX10_readNumber 102 = .ok (.aload_n 0, 1) := dk_42 (dk_at dksX10_readNumber_4 9 rfl rfl)
theorem dX10_readNumber_103 : decode cX10_readNumber 103 = .ok (.getfield 30, 3) := dk_180 0 30 (dk_at dksX10_readNumber_4 10 rfl rfl)
theorem dX10_readNumber_106 : decode cX10_readNumber 106 = .ok (.invokevirtual 36, 3) := dk_182 0 36 (dk_at dksX10_readNumber_4 13 rfl rfl)
theorem dX10_readNumber_109 : decode cX10_readNumber 109 = .ok (.invokestatic 43, 3) := dk_184 0 43 (dk_at dksX10_readNumber_4 16 rfl rfl)
theorem dX10_readNumber_112 : decode cX10_readNumber 112 = .ok (.ifCond .eq 8, 3) := dk_153 0 8 (dk_at dksX10_readNumber_4 19 rfl rfl)
theorem dX10_readNumber_115 : decode cX10_readNumber 115 = .ok (.aload_n 0, 1) := dk_42 (dk_at dksX10_readNumber_4 22 rfl rfl)
theorem dX10_readNumber_116 : decode cX10_readNumber 116 = .ok (.iconst 4, 1) := dk_7 (dk_at dksX10_readNumber_4 23 rfl rfl)
theorem dX10_readNumber_117 : decode cX10_readNumber 117 = .ok (.putfield 40, 3) := dk_181 0 40 (dk_at dksX10_readNumber_5 0 rfl rfl)
theorem dX10_readNumber_120 : decode cX10_readNumber 120 = .ok (.return_, 1) := dk_177 (dk_at dksX10_readNumber_5 3 rfl rfl)
abbrev cX10_isSign : ByteArray := prog_18_method_5_code
def yX10_isSign : MethodName := ⟨RX10, "isSign", "(I)Z"⟩
def dkwX10_isSign_2 : List UInt8 := [26, 16, 42, 159, 0, 15, 26, 16, 47, 159, 0, 9, 26, 16, 37, 160, 0, 7, 4, 167, 0, 4, 3, 172]
abbrev dktX10_isSign_2 : List UInt8 := dkwX10_isSign_2 ++ []
def dkwX10_isSign_1 : List UInt8 := [26, 16, 62, 159, 0, 39, 26, 16, 61, 159, 0, 33, 26, 16, 43, 159, 0, 27, 26, 16, 45, 159, 0, 21]
abbrev dktX10_isSign_1 : List UInt8 := dkwX10_isSign_1 ++ dktX10_isSign_2
def dkwX10_isSign_0 : List UInt8 := [26, 16, 59, 159, 0, 63, 26, 16, 40, 159, 0, 57, 26, 16, 41, 159, 0, 51, 26, 16, 60, 159, 0, 45]
abbrev dktX10_isSign_0 : List UInt8 := dkwX10_isSign_0 ++ dktX10_isSign_1
theorem dksX10_isSign_0 : cX10_isSign.data.toList.drop 0 = dktX10_isSign_0 := by decide +kernel
theorem dksX10_isSign_1 : cX10_isSign.data.toList.drop 24 = dktX10_isSign_1 := dk_seg dksX10_isSign_0 24 rfl rfl
theorem dksX10_isSign_2 : cX10_isSign.data.toList.drop 48 = dktX10_isSign_2 := dk_seg dksX10_isSign_1 24 rfl rfl
theorem dX10_isSign_0 : decode cX10_isSign 0 = .ok (.iload_n 0, 1) := dk_26 (dk_at dksX10_isSign_0 0 rfl rfl)
theorem dX10_isSign_1 : decode cX10_isSign 1 = .ok (.bipush 59, 2) := dk_16 59 (dk_at dksX10_isSign_0 1 rfl rfl)
theorem dX10_isSign_3 : decode cX10_isSign 3 = .ok (.if_icmp .eq 63, 3) := dk_159 0 63 (dk_at dksX10_isSign_0 3 rfl rfl)
theorem dX10_isSign_6 : decode cX10_isSign 6 = .ok (.iload_n 0, 1) := dk_26 (dk_at dksX10_isSign_0 6 rfl rfl)
theorem dX10_isSign_7 : decode cX10_isSign 7 = .ok (.bipush 40, 2) := dk_16 40 (dk_at dksX10_isSign_0 7 rfl rfl)
theorem dX10_isSign_9 : decode cX10_isSign 9 = .ok (.if_icmp .eq 57, 3) := dk_159 0 57 (dk_at dksX10_isSign_0 9 rfl rfl)
theorem dX10_isSign_12 : decode cX10_isSign 12 = .ok (.iload_n 0, 1) := dk_26 (dk_at dksX10_isSign_0 12 rfl rfl)
theorem dX10_isSign_13 : decode cX10_isSign 13 = .ok (.bipush 41, 2) := dk_16 41 (dk_at dksX10_isSign_0 13 rfl rfl)
theorem dX10_isSign_15 : decode cX10_isSign 15 = .ok (.if_icmp .eq 51, 3) := dk_159 0 51 (dk_at dksX10_isSign_0 15 rfl rfl)
theorem dX10_isSign_18 : decode cX10_isSign 18 = .ok (.iload_n 0, 1) := dk_26 (dk_at dksX10_isSign_0 18 rfl rfl)
theorem dX10_isSign_19 : decode cX10_isSign 19 = .ok (.bipush 60, 2) := dk_16 60 (dk_at dksX10_isSign_0 19 rfl rfl)
theorem dX10_isSign_21 : decode cX10_isSign 21 = .ok (.if_icmp .eq 45, 3) := dk_159 0 45 (dk_at dksX10_isSign_0 21 rfl rfl)
theorem dX10_isSign_24 : decode cX10_isSign 24 = .ok (.iload_n 0, 1) := dk_26 (dk_at dksX10_isSign_1 0 rfl rfl)
theorem dX10_isSign_25 : decode cX10_isSign 25 = .ok (.bipush 62, 2) := dk_16 62 (dk_at dksX10_isSign_1 1 rfl rfl)
theorem dX10_isSign_27 : decode cX10_isSign 27 = .ok (.if_icmp .eq 39, 3) := dk_159 0 39 (dk_at dksX10_isSign_1 3 rfl rfl)
theorem dX10_isSign_30 : decode cX10_isSign 30 = .ok (.iload_n 0, 1) := dk_26 (dk_at dksX10_isSign_1 6 rfl rfl)
theorem dX10_isSign_31 : decode cX10_isSign 31 = .ok (.bipush 61, 2) := dk_16 61 (dk_at dksX10_isSign_1 7 rfl rfl)
theorem dX10_isSign_33 : decode cX10_isSign 33 = .ok (.if_icmp .eq 33, 3) := dk_159 0 33 (dk_at dksX10_isSign_1 9 rfl rfl)
theorem dX10_isSign_36 : decode cX10_isSign 36 = .ok (.iload_n 0, 1) := dk_26 (dk_at dksX10_isSign_1 12 rfl rfl)
theorem dX10_isSign_37 : decode cX10_isSign 37 = .ok (.bipush 43, 2) := dk_16 43 (dk_at dksX10_isSign_1 13 rfl rfl)
theorem dX10_isSign_39 : decode cX10_isSign 39 = .ok (.if_icmp .eq 27, 3) := dk_159 0 27 (dk_at dksX10_isSign_1 15 rfl rfl)
theorem dX10_isSign_42 : decode cX10_isSign 42 = .ok (.iload_n 0, 1) := dk_26 (dk_at dksX10_isSign_1 18 rfl rfl)
theorem dX10_isSign_43 : decode cX10_isSign 43 = .ok (.bipush 45, 2) := dk_16 45 (dk_at dksX10_isSign_1 19 rfl rfl)
theorem dX10_isSign_45 : decode cX10_isSign 45 = .ok (.if_icmp .eq 21, 3) := dk_159 0 21 (dk_at dksX10_isSign_1 21 rfl rfl)
theorem dX10_isSign_48 : decode cX10_isSign 48 = .ok (.iload_n 0, 1) := dk_26 (dk_at dksX10_isSign_2 0 rfl rfl)
theorem dX10_isSign_49 : decode cX10_isSign 49 = .ok (.bipush 42, 2) := dk_16 42 (dk_at dksX10_isSign_2 1 rfl rfl)
theorem dX10_isSign_51 : decode cX10_isSign 51 = .ok (.if_icmp .eq 15, 3) := dk_159 0 15 (dk_at dksX10_isSign_2 3 rfl rfl)
theorem dX10_isSign_54 : decode cX10_isSign 54 = .ok (.iload_n 0, 1) := dk_26 (dk_at dksX10_isSign_2 6 rfl rfl)
theorem dX10_isSign_55 : decode cX10_isSign 55 = .ok (.bipush 47, 2) := dk_16 47 (dk_at dksX10_isSign_2 7 rfl rfl)
theorem dX10_isSign_57 : decode cX10_isSign 57 = .ok (.if_icmp .eq 9, 3) := dk_159 0 9 (dk_at dksX10_isSign_2 9 rfl rfl)
theorem dX10_isSign_60 : decode cX10_isSign 60 = .ok (.iload_n 0, 1) := dk_26 (dk_at dksX10_isSign_2 12 rfl rfl)
theorem dX10_isSign_61 : decode cX10_isSign 61 = .ok (.bipush 37, 2) := dk_16 37 (dk_at dksX10_isSign_2 13 rfl rfl)
theorem dX10_isSign_63 : decode cX10_isSign 63 = .ok (.if_icmp .ne 7, 3) := dk_160 0 7 (dk_at dksX10_isSign_2 15 rfl rfl)
theorem dX10_isSign_66 : decode cX10_isSign 66 = .ok (.iconst 1, 1) := dk_4 (dk_at dksX10_isSign_2 18 rfl rfl)
theorem dX10_isSign_67 : decode cX10_isSign 67 = .ok (.goto 4, 3) := dk_167 0 4 (dk_at dksX10_isSign_2 19 rfl rfl)
theorem dX10_isSign_70 : decode cX10_isSign 70 = .ok (.iconst 0, 1) := dk_3 (dk_at dksX10_isSign_2 22 rfl rfl)
theorem dX10_isSign_71 : decode cX10_isSign 71 = .ok (.ireturn, 1) := dk_172 (dk_at dksX10_isSign_2 23 rfl rfl)
abbrev cX10_line : ByteArray := prog_18_method_35_code
def yX10_line : MethodName := ⟨RX10, "line", "()V"⟩
def dkwX10_line_4 : List UInt8 := [42, 182, 1, 65, 181, 1, 35, 167, 0, 7, 42, 182, 1, 68, 177]
abbrev dktX10_line_4 : List UInt8 := dkwX10_line_4 ++ []
def dkwX10_line_3 : List UInt8 := [153, 0, 10, 42, 182, 1, 63, 167, 0, 31, 42, 19, 1, 33, 182, 0, 157, 153, 0, 17, 42, 180, 0, 12]
abbrev dktX10_line_3 : List UInt8 := dkwX10_line_3 ++ dktX10_line_4
def dkwX10_line_2 : List UInt8 := [19, 1, 29, 182, 0, 157, 153, 0, 10, 42, 182, 1, 61, 167, 0, 48, 42, 19, 1, 31, 182, 0, 157]
abbrev dktX10_line_2 : List UInt8 := dkwX10_line_2 ++ dktX10_line_3
def dkwX10_line_1 : List UInt8 := [182, 1, 57, 167, 0, 82, 42, 19, 1, 27, 182, 0, 157, 153, 0, 10, 42, 182, 1, 59, 167, 0, 65, 42]
abbrev dktX10_line_1 : List UInt8 := dkwX10_line_1 ++ dktX10_line_2
def dkwX10_line_0 : List UInt8 := [42, 182, 1, 54, 154, 0, 8, 42, 182, 0, 94, 191, 42, 19, 1, 25, 182, 0, 157, 153, 0, 10, 42]
abbrev dktX10_line_0 : List UInt8 := dkwX10_line_0 ++ dktX10_line_1
theorem dksX10_line_0 : cX10_line.data.toList.drop 0 = dktX10_line_0 := by decide +kernel
theorem dksX10_line_1 : cX10_line.data.toList.drop 23 = dktX10_line_1 := dk_seg dksX10_line_0 23 rfl rfl
theorem dksX10_line_2 : cX10_line.data.toList.drop 47 = dktX10_line_2 := dk_seg dksX10_line_1 24 rfl rfl
theorem dksX10_line_3 : cX10_line.data.toList.drop 70 = dktX10_line_3 := dk_seg dksX10_line_2 23 rfl rfl
theorem dksX10_line_4 : cX10_line.data.toList.drop 94 = dktX10_line_4 := dk_seg dksX10_line_3 24 rfl rfl
theorem dX10_line_0 : decode cX10_line 0 = .ok (.aload_n 0, 1) := dk_42 (dk_at dksX10_line_0 0 rfl rfl)
theorem dX10_line_1 : decode cX10_line 1 = .ok (.invokevirtual 310, 3) := dk_182 1 54 (dk_at dksX10_line_0 1 rfl rfl)
theorem dX10_line_4 : decode cX10_line 4 = .ok (.ifCond .ne 8, 3) := dk_154 0 8 (dk_at dksX10_line_0 4 rfl rfl)
theorem dX10_line_7 : decode cX10_line 7 = .ok (.aload_n 0, 1) := dk_42 (dk_at dksX10_line_0 7 rfl rfl)
theorem dX10_line_8 : decode cX10_line 8 = .ok (.invokevirtual 94, 3) := dk_182 0 94 (dk_at dksX10_line_0 8 rfl rfl)
theorem dX10_line_11 : decode cX10_line 11 = .ok (.athrow, 1) := dk_191 (dk_at dksX10_line_0 11 rfl rfl)
theorem dX10_line_12 : decode cX10_line 12 = .ok (.aload_n 0, 1) := dk_42 (dk_at dksX10_line_0 12 rfl rfl)
theorem dX10_line_13 : decode cX10_line 13 = .ok (.ldc_w 281, 3) := dk_19 1 25 (dk_at dksX10_line_0 13 rfl rfl)
theorem dX10_line_16 : decode cX10_line 16 = .ok (.invokevirtual 157, 3) := dk_182 0 157 (dk_at dksX10_line_0 16 rfl rfl)
theorem dX10_line_19 : decode cX10_line 19 = .ok (.ifCond .eq 10, 3) := dk_153 0 10 (dk_at dksX10_line_0 19 rfl rfl)
theorem dX10_line_22 : decode cX10_line 22 = .ok (.aload_n 0, 1) := dk_42 (dk_at dksX10_line_0 22 rfl rfl)
theorem dX10_line_23 : decode cX10_line 23 = .ok (.invokevirtual 313, 3) := dk_182 1 57 (dk_at dksX10_line_1 0 rfl rfl)
theorem dX10_line_26 : decode cX10_line 26 = .ok (.goto 82, 3) := dk_167 0 82 (dk_at dksX10_line_1 3 rfl rfl)
theorem dX10_line_29 : decode cX10_line 29 = .ok (.aload_n 0, 1) := dk_42 (dk_at dksX10_line_1 6 rfl rfl)
theorem dX10_line_30 : decode cX10_line 30 = .ok (.ldc_w 283, 3) := dk_19 1 27 (dk_at dksX10_line_1 7 rfl rfl)
theorem dX10_line_33 : decode cX10_line 33 = .ok (.invokevirtual 157, 3) := dk_182 0 157 (dk_at dksX10_line_1 10 rfl rfl)
theorem dX10_line_36 : decode cX10_line 36 = .ok (.ifCond .eq 10, 3) := dk_153 0 10 (dk_at dksX10_line_1 13 rfl rfl)
theorem dX10_line_39 : decode cX10_line 39 = .ok (.aload_n 0, 1) := dk_42 (dk_at dksX10_line_1 16 rfl rfl)
theorem dX10_line_40 : decode cX10_line 40 = .ok (.invokevirtual 315, 3) := dk_182 1 59 (dk_at dksX10_line_1 17 rfl rfl)
theorem dX10_line_43 : decode cX10_line 43 = .ok (.goto 65, 3) := dk_167 0 65 (dk_at dksX10_line_1 20 rfl rfl)
theorem dX10_line_46 : decode cX10_line 46 = .ok (.aload_n 0, 1) := dk_42 (dk_at dksX10_line_1 23 rfl rfl)
theorem dX10_line_47 : decode cX10_line 47 = .ok (.ldc_w 285, 3) := dk_19 1 29 (dk_at dksX10_line_2 0 rfl rfl)
theorem dX10_line_50 : decode cX10_line 50 = .ok (.invokevirtual 157, 3) := dk_182 0 157 (dk_at dksX10_line_2 3 rfl rfl)
theorem dX10_line_53 : decode cX10_line 53 = .ok (.ifCond .eq 10, 3) := dk_153 0 10 (dk_at dksX10_line_2 6 rfl rfl)
theorem dX10_line_56 : decode cX10_line 56 = .ok (.aload_n 0, 1) := dk_42 (dk_at dksX10_line_2 9 rfl rfl)
theorem dX10_line_57 : decode cX10_line 57 = .ok (.invokevirtual 317, 3) := dk_182 1 61 (dk_at dksX10_line_2 10 rfl rfl)
theorem dX10_line_60 : decode cX10_line 60 = .ok (.goto 48, 3) := dk_167 0 48 (dk_at dksX10_line_2 13 rfl rfl)
theorem dX10_line_63 : decode cX10_line 63 = .ok (.aload_n 0, 1) := dk_42 (dk_at dksX10_line_2 16 rfl rfl)
theorem dX10_line_64 : decode cX10_line 64 = .ok (.ldc_w 287, 3) := dk_19 1 31 (dk_at dksX10_line_2 17 rfl rfl)
theorem dX10_line_67 : decode cX10_line 67 = .ok (.invokevirtual 157, 3) := dk_182 0 157 (dk_at dksX10_line_2 20 rfl rfl)
theorem dX10_line_70 : decode cX10_line 70 = .ok (.ifCond .eq 10, 3) := dk_153 0 10 (dk_at dksX10_line_3 0 rfl rfl)
theorem dX10_line_73 : decode cX10_line 73 = .ok (.aload_n 0, 1) := dk_42 (dk_at dksX10_line_3 3 rfl rfl)
theorem dX10_line_74 : decode cX10_line 74 = .ok (.invokevirtual 319, 3) := dk_182 1 63 (dk_at dksX10_line_3 4 rfl rfl)
theorem dX10_line_77 : decode cX10_line 77 = .ok (.goto 31, 3) := dk_167 0 31 (dk_at dksX10_line_3 7 rfl rfl)
theorem dX10_line_80 : decode cX10_line 80 = .ok (.aload_n 0, 1) := dk_42 (dk_at dksX10_line_3 10 rfl rfl)
theorem dX10_line_81 : decode cX10_line 81 = .ok (.ldc_w 289, 3) := dk_19 1 33 (dk_at dksX10_line_3 11 rfl rfl)
theorem dX10_line_84 : decode cX10_line 84 = .ok (.invokevirtual 157, 3) := dk_182 0 157 (dk_at dksX10_line_3 14 rfl rfl)
theorem dX10_line_87 : decode cX10_line 87 = .ok (.ifCond .eq 17, 3) := dk_153 0 17 (dk_at dksX10_line_3 17 rfl rfl)
theorem dX10_line_90 : decode cX10_line 90 = .ok (.aload_n 0, 1) := dk_42 (dk_at dksX10_line_3 20 rfl rfl)
theorem dX10_line_91 : decode cX10_line 91 = .ok (.getfield 12, 3) := dk_180 0 12 (dk_at dksX10_line_3 21 rfl rfl)
theorem dX10_line_94 : decode cX10_line 94 = .ok (.aload_n 0, 1) := dk_42 (dk_at dksX10_line_4 0 rfl rfl)
theorem dX10_line_95 : decode cX10_line 95 = .ok (.invokevirtual 321, 3) := dk_182 1 65 (dk_at dksX10_line_4 1 rfl rfl)
theorem dX10_line_98 : decode cX10_line 98 = .ok (.putfield 291, 3) := dk_181 1 35 (dk_at dksX10_line_4 4 rfl rfl)
theorem dX10_line_101 : decode cX10_line 101 = .ok (.goto 7, 3) := dk_167 0 7 (dk_at dksX10_line_4 7 rfl rfl)
theorem dX10_line_104 : decode cX10_line 104 = .ok (.aload_n 0, 1) := dk_42 (dk_at dksX10_line_4 10 rfl rfl)
theorem dX10_line_105 : decode cX10_line 105 = .ok (.invokevirtual 324, 3) := dk_182 1 68 (dk_at dksX10_line_4 11 rfl rfl)
theorem dX10_line_108 : decode cX10_line 108 = .ok (.return_, 1) := dk_177 (dk_at dksX10_line_4 14 rfl rfl)
abbrev cX10_canLine : ByteArray := prog_18_method_34_code
def yX10_canLine : MethodName := ⟨RX10, "canLine", "()Z"⟩
def dkwX10_canLine_9 : List UInt8 := [153, 0, 17, 42, 180, 0, 12, 180, 1, 51, 154, 0, 7, 4, 167, 0, 4, 3, 172]
abbrev dktX10_canLine_9 : List UInt8 := dkwX10_canLine_9 ++ []
def dkwX10_canLine_8 : List UInt8 := [180, 0, 12, 180, 1, 46, 154, 0, 7, 4, 167, 0, 32, 3, 167, 0, 28, 42, 19, 1, 49, 182, 0, 76]
abbrev dktX10_canLine_8 : List UInt8 := dkwX10_canLine_8 ++ dktX10_canLine_9
def dkwX10_canLine_7 : List UInt8 := [180, 1, 40, 154, 0, 7, 4, 167, 0, 4, 3, 172, 42, 19, 1, 44, 182, 0, 76, 153, 0, 21, 42]
abbrev dktX10_canLine_7 : List UInt8 := dkwX10_canLine_7 ++ dktX10_canLine_8
def dkwX10_canLine_6 : List UInt8 := [199, 0, 7, 4, 167, 0, 4, 3, 172, 42, 19, 1, 38, 182, 0, 76, 153, 0, 19, 42, 180, 0, 12]
abbrev dktX10_canLine_6 : List UInt8 := dkwX10_canLine_6 ++ dktX10_canLine_7
def dkwX10_canLine_5 : List UInt8 := [167, 0, 4, 3, 172, 42, 19, 1, 33, 182, 0, 76, 153, 0, 19, 42, 180, 0, 12, 180, 1, 35]
abbrev dktX10_canLine_5 : List UInt8 := dkwX10_canLine_5 ++ dktX10_canLine_6
def dkwX10_canLine_4 : List UInt8 := [42, 19, 1, 31, 182, 0, 76, 153, 0, 21, 42, 180, 0, 12, 180, 0, 220, 16, 15, 162, 0, 7, 4]
abbrev dktX10_canLine_4 : List UInt8 := dkwX10_canLine_4 ++ dktX10_canLine_5
def dkwX10_canLine_3 : List UInt8 := [153, 0, 24, 42, 180, 0, 12, 180, 0, 176, 182, 0, 111, 16, 10, 162, 0, 7, 4, 167, 0, 4, 3, 172]
abbrev dktX10_canLine_3 : List UInt8 := dkwX10_canLine_3 ++ dktX10_canLine_4
def dkwX10_canLine_2 : List UInt8 := [180, 0, 168, 182, 0, 111, 16, 6, 162, 0, 7, 4, 167, 0, 4, 3, 172, 42, 19, 1, 29, 182, 0, 76]
abbrev dktX10_canLine_2 : List UInt8 := dkwX10_canLine_2 ++ dktX10_canLine_3
def dkwX10_canLine_1 : List UInt8 := [162, 0, 7, 4, 167, 0, 4, 3, 172, 42, 19, 1, 27, 182, 0, 76, 153, 0, 24, 42, 180, 0, 12]
abbrev dktX10_canLine_1 : List UInt8 := dkwX10_canLine_1 ++ dktX10_canLine_2
def dkwX10_canLine_0 : List UInt8 := [42, 19, 1, 25, 182, 0, 76, 153, 0, 24, 42, 180, 0, 12, 180, 0, 132, 182, 0, 111, 16, 6]
abbrev dktX10_canLine_0 : List UInt8 := dkwX10_canLine_0 ++ dktX10_canLine_1
theorem dksX10_canLine_0 : cX10_canLine.data.toList.drop 0 = dktX10_canLine_0 := by decide +kernel
theorem dksX10_canLine_1 : cX10_canLine.data.toList.drop 22 = dktX10_canLine_1 := dk_seg dksX10_canLine_0 22 rfl rfl
theorem dksX10_canLine_2 : cX10_canLine.data.toList.drop 45 = dktX10_canLine_2 := dk_seg dksX10_canLine_1 23 rfl rfl
theorem dksX10_canLine_3 : cX10_canLine.data.toList.drop 69 = dktX10_canLine_3 := dk_seg dksX10_canLine_2 24 rfl rfl
theorem dksX10_canLine_4 : cX10_canLine.data.toList.drop 93 = dktX10_canLine_4 := dk_seg dksX10_canLine_3 24 rfl rfl
theorem dksX10_canLine_5 : cX10_canLine.data.toList.drop 116 = dktX10_canLine_5 := dk_seg dksX10_canLine_4 23 rfl rfl
theorem dksX10_canLine_6 : cX10_canLine.data.toList.drop 138 = dktX10_canLine_6 := dk_seg dksX10_canLine_5 22 rfl rfl
theorem dksX10_canLine_7 : cX10_canLine.data.toList.drop 161 = dktX10_canLine_7 := dk_seg dksX10_canLine_6 23 rfl rfl
theorem dksX10_canLine_8 : cX10_canLine.data.toList.drop 184 = dktX10_canLine_8 := dk_seg dksX10_canLine_7 23 rfl rfl
theorem dksX10_canLine_9 : cX10_canLine.data.toList.drop 208 = dktX10_canLine_9 := dk_seg dksX10_canLine_8 24 rfl rfl
theorem dX10_canLine_0 : decode cX10_canLine 0 = .ok (.aload_n 0, 1) := dk_42 (dk_at dksX10_canLine_0 0 rfl rfl)
theorem dX10_canLine_1 : decode cX10_canLine 1 = .ok (.ldc_w 281, 3) := dk_19 1 25 (dk_at dksX10_canLine_0 1 rfl rfl)
theorem dX10_canLine_4 : decode cX10_canLine 4 = .ok (.invokevirtual 76, 3) := dk_182 0 76 (dk_at dksX10_canLine_0 4 rfl rfl)
theorem dX10_canLine_7 : decode cX10_canLine 7 = .ok (.ifCond .eq 24, 3) := dk_153 0 24 (dk_at dksX10_canLine_0 7 rfl rfl)
theorem dX10_canLine_10 : decode cX10_canLine 10 = .ok (.aload_n 0, 1) := dk_42 (dk_at dksX10_canLine_0 10 rfl rfl)
theorem dX10_canLine_11 : decode cX10_canLine 11 = .ok (.getfield 12, 3) := dk_180 0 12 (dk_at dksX10_canLine_0 11 rfl rfl)
theorem dX10_canLine_14 : decode cX10_canLine 14 = .ok (.getfield 132, 3) := dk_180 0 132 (dk_at dksX10_canLine_0 14 rfl rfl)
theorem dX10_canLine_17 : decode cX10_canLine 17 = .ok (.invokevirtual 111, 3) := dk_182 0 111 (dk_at dksX10_canLine_0 17 rfl rfl)
theorem dX10_canLine_20 : decode cX10_canLine 20 = .ok (.bipush 6, 2) := dk_16 6 (dk_at dksX10_canLine_0 20 rfl rfl)
theorem dX10_canLine_22 : decode cX10_canLine 22 = .ok (.if_icmp .ge 7, 3) := dk_162 0 7 (dk_at dksX10_canLine_1 0 rfl rfl)
theorem dX10_canLine_25 : decode cX10_canLine 25 = .ok (.iconst 1, 1) := dk_4 (dk_at dksX10_canLine_1 3 rfl rfl)
theorem dX10_canLine_26 : decode cX10_canLine 26 = .ok (.goto 4, 3) := dk_167 0 4 (dk_at dksX10_canLine_1 4 rfl rfl)
theorem dX10_canLine_29 : decode cX10_canLine 29 = .ok (.iconst 0, 1) := dk_3 (dk_at dksX10_canLine_1 7 rfl rfl)
theorem dX10_canLine_30 : decode cX10_canLine 30 = .ok (.ireturn, 1) := dk_172 (dk_at dksX10_canLine_1 8 rfl rfl)
theorem dX10_canLine_31 : decode cX10_canLine 31 = .ok (.aload_n 0, 1) := dk_42 (dk_at dksX10_canLine_1 9 rfl rfl)
theorem dX10_canLine_32 : decode cX10_canLine 32 = .ok (.ldc_w 283, 3) := dk_19 1 27 (dk_at dksX10_canLine_1 10 rfl rfl)
theorem dX10_canLine_35 : decode cX10_canLine 35 = .ok (.invokevirtual 76, 3) := dk_182 0 76 (dk_at dksX10_canLine_1 13 rfl rfl)
theorem dX10_canLine_38 : decode cX10_canLine 38 = .ok (.ifCond .eq 24, 3) := dk_153 0 24 (dk_at dksX10_canLine_1 16 rfl rfl)
theorem dX10_canLine_41 : decode cX10_canLine 41 = .ok (.aload_n 0, 1) := dk_42 (dk_at dksX10_canLine_1 19 rfl rfl)
theorem dX10_canLine_42 : decode cX10_canLine 42 = .ok (.getfield 12, 3) := dk_180 0 12 (dk_at dksX10_canLine_1 20 rfl rfl)
theorem dX10_canLine_45 : decode cX10_canLine 45 = .ok (.getfield 168, 3) := dk_180 0 168 (dk_at dksX10_canLine_2 0 rfl rfl)
theorem dX10_canLine_48 : decode cX10_canLine 48 = .ok (.invokevirtual 111, 3) := dk_182 0 111 (dk_at dksX10_canLine_2 3 rfl rfl)
theorem dX10_canLine_51 : decode cX10_canLine 51 = .ok (.bipush 6, 2) := dk_16 6 (dk_at dksX10_canLine_2 6 rfl rfl)
theorem dX10_canLine_53 : decode cX10_canLine 53 = .ok (.if_icmp .ge 7, 3) := dk_162 0 7 (dk_at dksX10_canLine_2 8 rfl rfl)
theorem dX10_canLine_56 : decode cX10_canLine 56 = .ok (.iconst 1, 1) := dk_4 (dk_at dksX10_canLine_2 11 rfl rfl)
theorem dX10_canLine_57 : decode cX10_canLine 57 = .ok (.goto 4, 3) := dk_167 0 4 (dk_at dksX10_canLine_2 12 rfl rfl)
theorem dX10_canLine_60 : decode cX10_canLine 60 = .ok (.iconst 0, 1) := dk_3 (dk_at dksX10_canLine_2 15 rfl rfl)
theorem dX10_canLine_61 : decode cX10_canLine 61 = .ok (.ireturn, 1) := dk_172 (dk_at dksX10_canLine_2 16 rfl rfl)
theorem dX10_canLine_62 : decode cX10_canLine 62 = .ok (.aload_n 0, 1) := dk_42 (dk_at dksX10_canLine_2 17 rfl rfl)
theorem dX10_canLine_63 : decode cX10_canLine 63 = .ok (.ldc_w 285, 3) := dk_19 1 29 (dk_at dksX10_canLine_2 18 rfl rfl)
theorem dX10_canLine_66 : decode cX10_canLine 66 = .ok (.invokevirtual 76, 3) := dk_182 0 76 (dk_at dksX10_canLine_2 21 rfl rfl)
theorem dX10_canLine_69 : decode cX10_canLine 69 = .ok (.ifCond .eq 24, 3) := dk_153 0 24 (dk_at dksX10_canLine_3 0 rfl rfl)
theorem dX10_canLine_72 : decode cX10_canLine 72 = .ok (.aload_n 0, 1) := dk_42 (dk_at dksX10_canLine_3 3 rfl rfl)
theorem dX10_canLine_73 : decode cX10_canLine 73 = .ok (.getfield 12, 3) := dk_180 0 12 (dk_at dksX10_canLine_3 4 rfl rfl)
theorem dX10_canLine_76 : decode cX10_canLine 76 = .ok (.getfield 176, 3) := dk_180 0 176 (dk_at dksX10_canLine_3 7 rfl rfl)
theorem dX10_canLine_79 : decode cX10_canLine 79 = .ok (.invokevirtual 111, 3) := dk_182 0 111 (dk_at dksX10_canLine_3 10 rfl rfl)
theorem dX10_canLine_82 : decode cX10_canLine 82 = .ok (.bipush 10, 2) := dk_16 10 (dk_at dksX10_canLine_3 13 rfl rfl)
theorem dX10_canLine_84 : decode cX10_canLine 84 = .ok (.if_icmp .ge 7, 3) := dk_162 0 7 (dk_at dksX10_canLine_3 15 rfl rfl)
theorem dX10_canLine_87 : decode cX10_canLine 87 = .ok (.iconst 1, 1) := dk_4 (dk_at dksX10_canLine_3 18 rfl rfl)
theorem dX10_canLine_88 : decode cX10_canLine 88 = .ok (.goto 4, 3) := dk_167 0 4 (dk_at dksX10_canLine_3 19 rfl rfl)
theorem dX10_canLine_91 : decode cX10_canLine 91 = .ok (.iconst 0, 1) := dk_3 (dk_at dksX10_canLine_3 22 rfl rfl)
theorem dX10_canLine_92 : decode cX10_canLine 92 = .ok (.ireturn, 1) := dk_172 (dk_at dksX10_canLine_3 23 rfl rfl)
theorem dX10_canLine_93 : decode cX10_canLine 93 = .ok (.aload_n 0, 1) := dk_42 (dk_at dksX10_canLine_4 0 rfl rfl)
theorem dX10_canLine_94 : decode cX10_canLine 94 = .ok (.ldc_w 287, 3) := dk_19 1 31 (dk_at dksX10_canLine_4 1 rfl rfl)
theorem dX10_canLine_97 : decode cX10_canLine 97 = .ok (.invokevirtual 76, 3) := dk_182 0 76 (dk_at dksX10_canLine_4 4 rfl rfl)
theorem dX10_canLine_100 : decode cX10_canLine 100 = .ok (.ifCond .eq 21, 3) := dk_153 0 21 (dk_at dksX10_canLine_4 7 rfl rfl)
theorem dX10_canLine_103 : decode cX10_canLine 103 = .ok (.aload_n 0, 1) := dk_42 (dk_at dksX10_canLine_4 10 rfl rfl)
theorem dX10_canLine_104 : decode cX10_canLine 104 = .ok (.getfield 12, 3) := dk_180 0 12 (dk_at dksX10_canLine_4 11 rfl rfl)
theorem dX10_canLine_107 : decode cX10_canLine 107 = .ok (.getfield 220, 3) := dk_180 0 220 (dk_at dksX10_canLine_4 14 rfl rfl)
theorem dX10_canLine_110 : decode cX10_canLine 110 = .ok (.bipush 15, 2) := dk_16 15 (dk_at dksX10_canLine_4 17 rfl rfl)
theorem dX10_canLine_112 : decode cX10_canLine 112 = .ok (.if_icmp .ge 7, 3) := dk_162 0 7 (dk_at dksX10_canLine_4 19 rfl rfl)
theorem dX10_canLine_115 : decode cX10_canLine 115 = .ok (.iconst 1, 1) := dk_4 (dk_at dksX10_canLine_4 22 rfl rfl)
theorem dX10_canLine_116 : decode cX10_canLine 116 = .ok (.goto 4, 3) := dk_167 0 4 (dk_at dksX10_canLine_5 0 rfl rfl)
theorem dX10_canLine_119 : decode cX10_canLine 119 = .ok (.iconst 0, 1) := dk_3 (dk_at dksX10_canLine_5 3 rfl rfl)
theorem dX10_canLine_120 : decode cX10_canLine 120 = .ok (.ireturn, 1) := dk_172 (dk_at dksX10_canLine_5 4 rfl rfl)
theorem dX10_canLine_121 : decode cX10_canLine 121 = .ok (.aload_n 0, 1) := dk_42 (dk_at dksX10_canLine_5 5 rfl rfl)
theorem dX10_canLine_122 : decode cX10_canLine 122 = .ok (.ldc_w 289, 3) := dk_19 1 33 (dk_at dksX10_canLine_5 6 rfl rfl)
theorem dX10_canLine_125 : decode cX10_canLine 125 = .ok (.invokevirtual 76, 3) := dk_182 0 76 (dk_at dksX10_canLine_5 9 rfl rfl)
theorem dX10_canLine_128 : decode cX10_canLine 128 = .ok (.ifCond .eq 19, 3) := dk_153 0 19 (dk_at dksX10_canLine_5 12 rfl rfl)
theorem dX10_canLine_131 : decode cX10_canLine 131 = .ok (.aload_n 0, 1) := dk_42 (dk_at dksX10_canLine_5 15 rfl rfl)
theorem dX10_canLine_132 : decode cX10_canLine 132 = .ok (.getfield 12, 3) := dk_180 0 12 (dk_at dksX10_canLine_5 16 rfl rfl)
theorem dX10_canLine_135 : decode cX10_canLine 135 = .ok (.getfield 291, 3) := dk_180 1 35 (dk_at dksX10_canLine_5 19 rfl rfl)
theorem dX10_canLine_138 : decode cX10_canLine 138 = .ok (.ifnonnull 7, 3) := dk_199 0 7 (dk_at dksX10_canLine_6 0 rfl rfl)
theorem dX10_canLine_141 : decode cX10_canLine 141 = .ok (.iconst 1, 1) := dk_4 (dk_at dksX10_canLine_6 3 rfl rfl)
theorem dX10_canLine_142 : decode cX10_canLine 142 = .ok (.goto 4, 3) := dk_167 0 4 (dk_at dksX10_canLine_6 4 rfl rfl)
theorem dX10_canLine_145 : decode cX10_canLine 145 = .ok (.iconst 0, 1) := dk_3 (dk_at dksX10_canLine_6 7 rfl rfl)
theorem dX10_canLine_146 : decode cX10_canLine 146 = .ok (.ireturn, 1) := dk_172 (dk_at dksX10_canLine_6 8 rfl rfl)
theorem dX10_canLine_147 : decode cX10_canLine 147 = .ok (.aload_n 0, 1) := dk_42 (dk_at dksX10_canLine_6 9 rfl rfl)
theorem dX10_canLine_148 : decode cX10_canLine 148 = .ok (.ldc_w 294, 3) := dk_19 1 38 (dk_at dksX10_canLine_6 10 rfl rfl)
theorem dX10_canLine_151 : decode cX10_canLine 151 = .ok (.invokevirtual 76, 3) := dk_182 0 76 (dk_at dksX10_canLine_6 13 rfl rfl)
theorem dX10_canLine_154 : decode cX10_canLine 154 = .ok (.ifCond .eq 19, 3) := dk_153 0 19 (dk_at dksX10_canLine_6 16 rfl rfl)
theorem dX10_canLine_157 : decode cX10_canLine 157 = .ok (.aload_n 0, 1) := dk_42 (dk_at dksX10_canLine_6 19 rfl rfl)
theorem dX10_canLine_158 : decode cX10_canLine 158 = .ok (.getfield 12, 3) := dk_180 0 12 (dk_at dksX10_canLine_6 20 rfl rfl)
theorem dX10_canLine_161 : decode cX10_canLine 161 = .ok (.getfield 296, 3) := dk_180 1 40 (dk_at dksX10_canLine_7 0 rfl rfl)
theorem dX10_canLine_164 : decode cX10_canLine 164 = .ok (.ifCond .ne 7, 3) := dk_154 0 7 (dk_at dksX10_canLine_7 3 rfl rfl)
theorem dX10_canLine_167 : decode cX10_canLine 167 = .ok (.iconst 1, 1) := dk_4 (dk_at dksX10_canLine_7 6 rfl rfl)
theorem dX10_canLine_168 : decode cX10_canLine 168 = .ok (.goto 4, 3) := dk_167 0 4 (dk_at dksX10_canLine_7 7 rfl rfl)
theorem dX10_canLine_171 : decode cX10_canLine 171 = .ok (.iconst 0, 1) := dk_3 (dk_at dksX10_canLine_7 10 rfl rfl)
theorem dX10_canLine_172 : decode cX10_canLine 172 = .ok (.ireturn, 1) := dk_172 (dk_at dksX10_canLine_7 11 rfl rfl)
theorem dX10_canLine_173 : decode cX10_canLine 173 = .ok (.aload_n 0, 1) := dk_42 (dk_at dksX10_canLine_7 12 rfl rfl)
theorem dX10_canLine_174 : decode cX10_canLine 174 = .ok (.ldc_w 300, 3) := dk_19 1 44 (dk_at dksX10_canLine_7 13 rfl rfl)
theorem dX10_canLine_177 : decode cX10_canLine 177 = .ok (.invokevirtual 76, 3) := dk_182 0 76 (dk_at dksX10_canLine_7 16 rfl rfl)
theorem dX10_canLine_180 : decode cX10_canLine 180 = .ok (.ifCond .eq 21, 3) := dk_153 0 21 (dk_at dksX10_canLine_7 19 rfl rfl)
theorem dX10_canLine_183 : decode cX10_canLine 183 = .ok (.aload_n 0, 1) := dk_42 (dk_at dksX10_canLine_7 22 rfl rfl)
theorem dX10_canLine_184 : decode cX10_canLine 184 = .ok (.getfield 12, 3) := dk_180 0 12 (dk_at dksX10_canLine_8 0 rfl rfl)
theorem dX10_canLine_187 : decode cX10_canLine 187 = .ok (.getfield 302, 3) := dk_180 1 46 (dk_at dksX10_canLine_8 3 rfl rfl)
theorem dX10_canLine_190 : decode cX10_canLine 190 = .ok (.ifCond .ne 7, 3) := dk_154 0 7 (dk_at dksX10_canLine_8 6 rfl rfl)
theorem dX10_canLine_193 : decode cX10_canLine 193 = .ok (.iconst 1, 1) := dk_4 (dk_at dksX10_canLine_8 9 rfl rfl)
theorem dX10_canLine_194 : decode cX10_canLine 194 = .ok (.goto 32, 3) := dk_167 0 32 (dk_at dksX10_canLine_8 10 rfl rfl)
theorem dX10_canLine_197 : decode cX10_canLine 197 = .ok (.iconst 0, 1) := dk_3 (dk_at dksX10_canLine_8 13 rfl rfl)
theorem dX10_canLine_198 : decode cX10_canLine 198 = .ok (.goto 28, 3) := dk_167 0 28 (dk_at dksX10_canLine_8 14 rfl rfl)
theorem dX10_canLine_201 : decode cX10_canLine 201 = .ok (.aload_n 0, 1) := dk_42 (dk_at dksX10_canLine_8 17 rfl rfl)
theorem dX10_canLine_202 : decode cX10_canLine 202 = .ok (.ldc_w 305, 3) := dk_19 1 49 (dk_at dksX10_canLine_8 18 rfl rfl)
theorem dX10_canLine_205 : decode cX10_canLine 205 = .ok (.invokevirtual 76, 3) := dk_182 0 76 (dk_at dksX10_canLine_8 21 rfl rfl)
theorem dX10_canLine_208 : decode cX10_canLine 208 = .ok (.ifCond .eq 17, 3) := dk_153 0 17 (dk_at dksX10_canLine_9 0 rfl rfl)
theorem dX10_canLine_211 : decode cX10_canLine 211 = .ok (.aload_n 0, 1) := dk_42 (dk_at dksX10_canLine_9 3 rfl rfl)
theorem dX10_canLine_212 : decode cX10_canLine 212 = .ok (.getfield 12, 3) := dk_180 0 12 (dk_at dksX10_canLine_9 4 rfl rfl)
theorem dX10_canLine_215 : decode cX10_canLine 215 = .ok (.getfield 307, 3) := dk_180 1 51 (dk_at dksX10_canLine_9 7 rfl rfl)
theorem dX10_canLine_218 : decode cX10_canLine 218 = .ok (.ifCond .ne 7, 3) := dk_154 0 7 (dk_at dksX10_canLine_9 10 rfl rfl)
theorem dX10_canLine_221 : decode cX10_canLine 221 = .ok (.iconst 1, 1) := dk_4 (dk_at dksX10_canLine_9 13 rfl rfl)
theorem dX10_canLine_222 : decode cX10_canLine 222 = .ok (.goto 4, 3) := dk_167 0 4 (dk_at dksX10_canLine_9 14 rfl rfl)
theorem dX10_canLine_225 : decode cX10_canLine 225 = .ok (.iconst 0, 1) := dk_3 (dk_at dksX10_canLine_9 17 rfl rfl)
theorem dX10_canLine_226 : decode cX10_canLine 226 = .ok (.ireturn, 1) := dk_172 (dk_at dksX10_canLine_9 18 rfl rfl)
abbrev cX10_isWord : ByteArray := prog_18_method_9_code
def yX10_isWord : MethodName := ⟨RX10, "isWord", "(Ljava/lang/String;)Z"⟩
def dkwX10_isWord_3 : List UInt8 := [3, 172]
abbrev dktX10_isWord_3 : List UInt8 := dkwX10_isWord_3 ++ []
def dkwX10_isWord_2 : List UInt8 := [182, 0, 72, 160, 0, 9, 132, 2, 1, 167, 255, 227, 28, 43, 182, 0, 66, 160, 0, 7, 4, 167, 0, 4]
abbrev dktX10_isWord_2 : List UInt8 := dkwX10_isWord_2 ++ dktX10_isWord_3
def dkwX10_isWord_1 : List UInt8 := [3, 172, 3, 61, 28, 43, 182, 0, 66, 162, 0, 27, 42, 42, 180, 0, 33, 28, 96, 182, 0, 36, 43, 28]
abbrev dktX10_isWord_1 : List UInt8 := dkwX10_isWord_1 ++ dktX10_isWord_2
def dkwX10_isWord_0 : List UInt8 := [42, 180, 0, 40, 4, 160, 0, 19, 42, 180, 0, 30, 42, 180, 0, 33, 100, 43, 182, 0, 66, 159, 0, 5]
abbrev dktX10_isWord_0 : List UInt8 := dkwX10_isWord_0 ++ dktX10_isWord_1
theorem dksX10_isWord_0 : cX10_isWord.data.toList.drop 0 = dktX10_isWord_0 := by decide +kernel
theorem dksX10_isWord_1 : cX10_isWord.data.toList.drop 24 = dktX10_isWord_1 := dk_seg dksX10_isWord_0 24 rfl rfl
theorem dksX10_isWord_2 : cX10_isWord.data.toList.drop 48 = dktX10_isWord_2 := dk_seg dksX10_isWord_1 24 rfl rfl
theorem dksX10_isWord_3 : cX10_isWord.data.toList.drop 72 = dktX10_isWord_3 := dk_seg dksX10_isWord_2 24 rfl rfl
theorem dX10_isWord_0 : decode cX10_isWord 0 = .ok (.aload_n 0, 1) := dk_42 (dk_at dksX10_isWord_0 0 rfl rfl)
theorem dX10_isWord_1 : decode cX10_isWord 1 = .ok (.getfield 40, 3) := dk_180 0 40 (dk_at dksX10_isWord_0 1 rfl rfl)
theorem dX10_isWord_4 : decode cX10_isWord 4 = .ok (.iconst 1, 1) := dk_4 (dk_at dksX10_isWord_0 4 rfl rfl)
theorem dX10_isWord_5 : decode cX10_isWord 5 = .ok (.if_icmp .ne 19, 3) := dk_160 0 19 (dk_at dksX10_isWord_0 5 rfl rfl)
theorem dX10_isWord_8 : decode cX10_isWord 8 = .ok (.aload_n 0, 1) := dk_42 (dk_at dksX10_isWord_0 8 rfl rfl)
theorem dX10_isWord_9 : decode cX10_isWord 9 = .ok (.getfield 30, 3) := dk_180 0 30 (dk_at dksX10_isWord_0 9 rfl rfl)
theorem dX10_isWord_12 : decode cX10_isWord 12 = .ok (.aload_n 0, 1) := dk_42 (dk_at dksX10_isWord_0 12 rfl rfl)
theorem dX10_isWord_13 : decode cX10_isWord 13 = .ok (.getfield 33, 3) := dk_180 0 33 (dk_at dksX10_isWord_0 13 rfl rfl)
theorem dX10_isWord_16 : decode cX10_isWord 16 = .ok (.isub, 1) := dk_100 (dk_at dksX10_isWord_0 16 rfl rfl)
theorem dX10_isWord_17 : decode cX10_isWord 17 = .ok (.aload_n 1, 1) := dk_43 (dk_at dksX10_isWord_0 17 rfl rfl)
theorem dX10_isWord_18 : decode cX10_isWord 18 = .ok (.invokevirtual 66, 3) := dk_182 0 66 (dk_at dksX10_isWord_0 18 rfl rfl)
theorem dX10_isWord_21 : decode cX10_isWord 21 = .ok (.if_icmp .eq 5, 3) := dk_159 0 5 (dk_at dksX10_isWord_0 21 rfl rfl)
theorem dX10_isWord_24 : decode cX10_isWord 24 = .ok (.iconst 0, 1) := dk_3 (dk_at dksX10_isWord_1 0 rfl rfl)
theorem dX10_isWord_25 : decode cX10_isWord 25 = .ok (.ireturn, 1) := dk_172 (dk_at dksX10_isWord_1 1 rfl rfl)
theorem dX10_isWord_26 : decode cX10_isWord 26 = .ok (.iconst 0, 1) := dk_3 (dk_at dksX10_isWord_1 2 rfl rfl)
theorem dX10_isWord_27 : decode cX10_isWord 27 = .ok (.istore_n 2, 1) := dk_61 (dk_at dksX10_isWord_1 3 rfl rfl)
theorem dX10_isWord_28 : decode cX10_isWord 28 = .ok (.iload_n 2, 1) := dk_28 (dk_at dksX10_isWord_1 4 rfl rfl)
theorem dX10_isWord_29 : decode cX10_isWord 29 = .ok (.aload_n 1, 1) := dk_43 (dk_at dksX10_isWord_1 5 rfl rfl)
theorem dX10_isWord_30 : decode cX10_isWord 30 = .ok (.invokevirtual 66, 3) := dk_182 0 66 (dk_at dksX10_isWord_1 6 rfl rfl)
theorem dX10_isWord_33 : decode cX10_isWord 33 = .ok (.if_icmp .ge 27, 3) := dk_162 0 27 (dk_at dksX10_isWord_1 9 rfl rfl)
theorem dX10_isWord_36 : decode cX10_isWord 36 = .ok (.aload_n 0, 1) := dk_42 (dk_at dksX10_isWord_1 12 rfl rfl)
theorem dX10_isWord_37 : decode cX10_isWord 37 = .ok (.aload_n 0, 1) := dk_42 (dk_at dksX10_isWord_1 13 rfl rfl)
theorem dX10_isWord_38 : decode cX10_isWord 38 = .ok (.getfield 33, 3) := dk_180 0 33 (dk_at dksX10_isWord_1 14 rfl rfl)
theorem dX10_isWord_41 : decode cX10_isWord 41 = .ok (.iload_n 2, 1) := dk_28 (dk_at dksX10_isWord_1 17 rfl rfl)
theorem dX10_isWord_42 : decode cX10_isWord 42 = .ok (.iadd, 1) := dk_96 (dk_at dksX10_isWord_1 18 rfl rfl)
theorem dX10_isWord_43 : decode cX10_isWord 43 = .ok (.invokevirtual 36, 3) := dk_182 0 36 (dk_at dksX10_isWord_1 19 rfl rfl)
theorem dX10_isWord_46 : decode cX10_isWord 46 = .ok (.aload_n 1, 1) := dk_43 (dk_at dksX10_isWord_1 22 rfl rfl)
theorem dX10_isWord_47 : decode cX10_isWord 47 = .ok (.iload_n 2, 1) := dk_28 (dk_at dksX10_isWord_1 23 rfl rfl)
theorem dX10_isWord_48 : decode cX10_isWord 48 = .ok (.invokevirtual 72, 3) := dk_182 0 72 (dk_at dksX10_isWord_2 0 rfl rfl)
theorem dX10_isWord_51 : decode cX10_isWord 51 = .ok (.if_icmp .ne 9, 3) := dk_160 0 9 (dk_at dksX10_isWord_2 3 rfl rfl)
theorem dX10_isWord_54 : decode cX10_isWord 54 = .ok (.iinc 2 1, 3) := dk_132 2 1 (dk_at dksX10_isWord_2 6 rfl rfl)
theorem dX10_isWord_57 : decode cX10_isWord 57 = .ok (.goto (-29), 3) := dk_167 255 227 (dk_at dksX10_isWord_2 9 rfl rfl)
theorem dX10_isWord_60 : decode cX10_isWord 60 = .ok (.iload_n 2, 1) := dk_28 (dk_at dksX10_isWord_2 12 rfl rfl)
theorem dX10_isWord_61 : decode cX10_isWord 61 = .ok (.aload_n 1, 1) := dk_43 (dk_at dksX10_isWord_2 13 rfl rfl)
theorem dX10_isWord_62 : decode cX10_isWord 62 = .ok (.invokevirtual 66, 3) := dk_182 0 66 (dk_at dksX10_isWord_2 14 rfl rfl)
theorem dX10_isWord_65 : decode cX10_isWord 65 = .ok (.if_icmp .ne 7, 3) := dk_160 0 7 (dk_at dksX10_isWord_2 17 rfl rfl)
theorem dX10_isWord_68 : decode cX10_isWord 68 = .ok (.iconst 1, 1) := dk_4 (dk_at dksX10_isWord_2 20 rfl rfl)
theorem dX10_isWord_69 : decode cX10_isWord 69 = .ok (.goto 4, 3) := dk_167 0 4 (dk_at dksX10_isWord_2 21 rfl rfl)
theorem dX10_isWord_72 : decode cX10_isWord 72 = .ok (.iconst 0, 1) := dk_3 (dk_at dksX10_isWord_3 0 rfl rfl)
theorem dX10_isWord_73 : decode cX10_isWord 73 = .ok (.ireturn, 1) := dk_172 (dk_at dksX10_isWord_3 1 rfl rfl)
abbrev cX10_wrong : ByteArray := prog_18_method_13_code
def yX10_wrong : MethodName := ⟨RX10, "wrong", "()LOathButtons$Wrong;"⟩
def dkwX10_wrong_1 : List UInt8 := [176]
abbrev dktX10_wrong_1 : List UInt8 := dkwX10_wrong_1 ++ []
def dkwX10_wrong_0 : List UInt8 := [42, 180, 0, 26, 42, 180, 0, 40, 7, 160, 0, 7, 4, 167, 0, 4, 5, 42, 180, 0, 33, 182, 0, 88]
abbrev dktX10_wrong_0 : List UInt8 := dkwX10_wrong_0 ++ dktX10_wrong_1
theorem dksX10_wrong_0 : cX10_wrong.data.toList.drop 0 = dktX10_wrong_0 := by decide +kernel
theorem dksX10_wrong_1 : cX10_wrong.data.toList.drop 24 = dktX10_wrong_1 := dk_seg dksX10_wrong_0 24 rfl rfl
theorem dX10_wrong_0 : decode cX10_wrong 0 = .ok (.aload_n 0, 1) := dk_42 (dk_at dksX10_wrong_0 0 rfl rfl)
theorem dX10_wrong_1 : decode cX10_wrong 1 = .ok (.getfield 26, 3) := dk_180 0 26 (dk_at dksX10_wrong_0 1 rfl rfl)
theorem dX10_wrong_4 : decode cX10_wrong 4 = .ok (.aload_n 0, 1) := dk_42 (dk_at dksX10_wrong_0 4 rfl rfl)
theorem dX10_wrong_5 : decode cX10_wrong 5 = .ok (.getfield 40, 3) := dk_180 0 40 (dk_at dksX10_wrong_0 5 rfl rfl)
theorem dX10_wrong_8 : decode cX10_wrong 8 = .ok (.iconst 4, 1) := dk_7 (dk_at dksX10_wrong_0 8 rfl rfl)
theorem dX10_wrong_9 : decode cX10_wrong 9 = .ok (.if_icmp .ne 7, 3) := dk_160 0 7 (dk_at dksX10_wrong_0 9 rfl rfl)
theorem dX10_wrong_12 : decode cX10_wrong 12 = .ok (.iconst 1, 1) := dk_4 (dk_at dksX10_wrong_0 12 rfl rfl)
theorem dX10_wrong_13 : decode cX10_wrong 13 = .ok (.goto 4, 3) := dk_167 0 4 (dk_at dksX10_wrong_0 13 rfl rfl)
theorem dX10_wrong_16 : decode cX10_wrong 16 = .ok (.iconst 2, 1) := dk_5 (dk_at dksX10_wrong_0 16 rfl rfl)
theorem dX10_wrong_17 : decode cX10_wrong 17 = .ok (.aload_n 0, 1) := dk_42 (dk_at dksX10_wrong_0 17 rfl rfl)
theorem dX10_wrong_18 : decode cX10_wrong 18 = .ok (.getfield 33, 3) := dk_180 0 33 (dk_at dksX10_wrong_0 18 rfl rfl)
theorem dX10_wrong_21 : decode cX10_wrong 21 = .ok (.invokevirtual 88, 3) := dk_182 0 88 (dk_at dksX10_wrong_0 21 rfl rfl)
theorem dX10_wrong_24 : decode cX10_wrong 24 = .ok (.areturn, 1) := dk_176 (dk_at dksX10_wrong_1 0 rfl rfl)
abbrev cX10_has : ByteArray := prog_18_method_18_code
def yX10_has : MethodName := ⟨RX10, "has", "(Ljava/lang/String;)Z"⟩
def dkwX10_has_0 : List UInt8 := [42, 43, 182, 0, 76, 61, 28, 153, 0, 7, 42, 182, 0, 98, 28, 172]
abbrev dktX10_has_0 : List UInt8 := dkwX10_has_0 ++ []
theorem dksX10_has_0 : cX10_has.data.toList.drop 0 = dktX10_has_0 := by decide +kernel
theorem dX10_has_0 : decode cX10_has 0 = .ok (.aload_n 0, 1) := dk_42 (dk_at dksX10_has_0 0 rfl rfl)
theorem dX10_has_1 : decode cX10_has 1 = .ok (.aload_n 1, 1) := dk_43 (dk_at dksX10_has_0 1 rfl rfl)
theorem dX10_has_2 : decode cX10_has 2 = .ok (.invokevirtual 76, 3) := dk_182 0 76 (dk_at dksX10_has_0 2 rfl rfl)
theorem dX10_has_5 : decode cX10_has 5 = .ok (.istore_n 2, 1) := dk_61 (dk_at dksX10_has_0 5 rfl rfl)
theorem dX10_has_6 : decode cX10_has 6 = .ok (.iload_n 2, 1) := dk_28 (dk_at dksX10_has_0 6 rfl rfl)
theorem dX10_has_7 : decode cX10_has 7 = .ok (.ifCond .eq 7, 3) := dk_153 0 7 (dk_at dksX10_has_0 7 rfl rfl)
theorem dX10_has_10 : decode cX10_has 10 = .ok (.aload_n 0, 1) := dk_42 (dk_at dksX10_has_0 10 rfl rfl)
theorem dX10_has_11 : decode cX10_has 11 = .ok (.invokevirtual 98, 3) := dk_182 0 98 (dk_at dksX10_has_0 11 rfl rfl)
theorem dX10_has_14 : decode cX10_has 14 = .ok (.iload_n 2, 1) := dk_28 (dk_at dksX10_has_0 14 rfl rfl)
theorem dX10_has_15 : decode cX10_has 15 = .ok (.ireturn, 1) := dk_172 (dk_at dksX10_has_0 15 rfl rfl)
abbrev cX10_man : ByteArray := prog_18_method_22_code
def yX10_man : MethodName := ⟨RX10, "man", "()V"⟩
def dkwX10_man_3 : List UInt8 := [153, 0, 8, 43, 4, 181, 0, 160, 42, 180, 0, 12, 180, 0, 132, 43, 182, 0, 162, 87, 177]
abbrev dktX10_man_3 : List UInt8 := dkwX10_man_3 ++ []
def dkwX10_man_2 : List UInt8 := [182, 0, 76, 153, 0, 15, 43, 42, 18, 151, 4, 7, 182, 0, 145, 181, 0, 153, 42, 18, 155, 182, 0, 157]
abbrev dktX10_man_2 : List UInt8 := dkwX10_man_2 ++ dktX10_man_3
def dkwX10_man_1 : List UInt8 := [182, 0, 76, 153, 0, 16, 43, 42, 18, 143, 3, 16, 9, 182, 0, 145, 181, 0, 149, 42, 18, 151]
abbrev dktX10_man_1 : List UInt8 := dkwX10_man_1 ++ dktX10_man_2
def dkwX10_man_0 : List UInt8 := [187, 0, 130, 89, 42, 42, 180, 0, 12, 180, 0, 132, 182, 0, 136, 183, 0, 140, 76, 42, 18, 143]
abbrev dktX10_man_0 : List UInt8 := dkwX10_man_0 ++ dktX10_man_1
theorem dksX10_man_0 : cX10_man.data.toList.drop 0 = dktX10_man_0 := by decide +kernel
theorem dksX10_man_1 : cX10_man.data.toList.drop 22 = dktX10_man_1 := dk_seg dksX10_man_0 22 rfl rfl
theorem dksX10_man_2 : cX10_man.data.toList.drop 44 = dktX10_man_2 := dk_seg dksX10_man_1 22 rfl rfl
theorem dksX10_man_3 : cX10_man.data.toList.drop 68 = dktX10_man_3 := dk_seg dksX10_man_2 24 rfl rfl
theorem dX10_man_0 : decode cX10_man 0 = .ok (.new 130, 3) := dk_187 0 130 (dk_at dksX10_man_0 0 rfl rfl)
theorem dX10_man_3 : decode cX10_man 3 = .ok (.dup, 1) := dk_89 (dk_at dksX10_man_0 3 rfl rfl)
theorem dX10_man_4 : decode cX10_man 4 = .ok (.aload_n 0, 1) := dk_42 (dk_at dksX10_man_0 4 rfl rfl)
theorem dX10_man_5 : decode cX10_man 5 = .ok (.aload_n 0, 1) := dk_42 (dk_at dksX10_man_0 5 rfl rfl)
theorem dX10_man_6 : decode cX10_man 6 = .ok (.getfield 12, 3) := dk_180 0 12 (dk_at dksX10_man_0 6 rfl rfl)
theorem dX10_man_9 : decode cX10_man 9 = .ok (.getfield 132, 3) := dk_180 0 132 (dk_at dksX10_man_0 9 rfl rfl)
theorem dX10_man_12 : decode cX10_man 12 = .ok (.invokevirtual 136, 3) := dk_182 0 136 (dk_at dksX10_man_0 12 rfl rfl)
theorem dX10_man_15 : decode cX10_man 15 = .ok (.invokespecial 140, 3) := dk_183 0 140 (dk_at dksX10_man_0 15 rfl rfl)
theorem dX10_man_18 : decode cX10_man 18 = .ok (.astore_n 1, 1) := dk_76 (dk_at dksX10_man_0 18 rfl rfl)
theorem dX10_man_19 : decode cX10_man 19 = .ok (.aload_n 0, 1) := dk_42 (dk_at dksX10_man_0 19 rfl rfl)
theorem dX10_man_20 : decode cX10_man 20 = .ok (.ldc 143, 2) := dk_18 143 (dk_at dksX10_man_0 20 rfl rfl)
theorem dX10_man_22 : decode cX10_man 22 = .ok (.invokevirtual 76, 3) := dk_182 0 76 (dk_at dksX10_man_1 0 rfl rfl)
theorem dX10_man_25 : decode cX10_man 25 = .ok (.ifCond .eq 16, 3) := dk_153 0 16 (dk_at dksX10_man_1 3 rfl rfl)
theorem dX10_man_28 : decode cX10_man 28 = .ok (.aload_n 1, 1) := dk_43 (dk_at dksX10_man_1 6 rfl rfl)
theorem dX10_man_29 : decode cX10_man 29 = .ok (.aload_n 0, 1) := dk_42 (dk_at dksX10_man_1 7 rfl rfl)
theorem dX10_man_30 : decode cX10_man 30 = .ok (.ldc 143, 2) := dk_18 143 (dk_at dksX10_man_1 8 rfl rfl)
theorem dX10_man_32 : decode cX10_man 32 = .ok (.iconst 0, 1) := dk_3 (dk_at dksX10_man_1 10 rfl rfl)
theorem dX10_man_33 : decode cX10_man 33 = .ok (.bipush 9, 2) := dk_16 9 (dk_at dksX10_man_1 11 rfl rfl)
theorem dX10_man_35 : decode cX10_man 35 = .ok (.invokevirtual 145, 3) := dk_182 0 145 (dk_at dksX10_man_1 13 rfl rfl)
theorem dX10_man_38 : decode cX10_man 38 = .ok (.putfield 149, 3) := dk_181 0 149 (dk_at dksX10_man_1 16 rfl rfl)
theorem dX10_man_41 : decode cX10_man 41 = .ok (.aload_n 0, 1) := dk_42 (dk_at dksX10_man_1 19 rfl rfl)
theorem dX10_man_42 : decode cX10_man 42 = .ok (.ldc 151, 2) := dk_18 151 (dk_at dksX10_man_1 20 rfl rfl)
theorem dX10_man_44 : decode cX10_man 44 = .ok (.invokevirtual 76, 3) := dk_182 0 76 (dk_at dksX10_man_2 0 rfl rfl)
theorem dX10_man_47 : decode cX10_man 47 = .ok (.ifCond .eq 15, 3) := dk_153 0 15 (dk_at dksX10_man_2 3 rfl rfl)
theorem dX10_man_50 : decode cX10_man 50 = .ok (.aload_n 1, 1) := dk_43 (dk_at dksX10_man_2 6 rfl rfl)
theorem dX10_man_51 : decode cX10_man 51 = .ok (.aload_n 0, 1) := dk_42 (dk_at dksX10_man_2 7 rfl rfl)
theorem dX10_man_52 : decode cX10_man 52 = .ok (.ldc 151, 2) := dk_18 151 (dk_at dksX10_man_2 8 rfl rfl)
theorem dX10_man_54 : decode cX10_man 54 = .ok (.iconst 1, 1) := dk_4 (dk_at dksX10_man_2 10 rfl rfl)
theorem dX10_man_55 : decode cX10_man 55 = .ok (.iconst 4, 1) := dk_7 (dk_at dksX10_man_2 11 rfl rfl)
theorem dX10_man_56 : decode cX10_man 56 = .ok (.invokevirtual 145, 3) := dk_182 0 145 (dk_at dksX10_man_2 12 rfl rfl)
theorem dX10_man_59 : decode cX10_man 59 = .ok (.putfield 153, 3) := dk_181 0 153 (dk_at dksX10_man_2 15 rfl rfl)
theorem dX10_man_62 : decode cX10_man 62 = .ok (.aload_n 0, 1) := dk_42 (dk_at dksX10_man_2 18 rfl rfl)
theorem dX10_man_63 : decode cX10_man 63 = .ok (.ldc 155, 2) := dk_18 155 (dk_at dksX10_man_2 19 rfl rfl)
theorem dX10_man_65 : decode cX10_man 65 = .ok (.invokevirtual 157, 3) := dk_182 0 157 (dk_at dksX10_man_2 21 rfl rfl)
theorem dX10_man_68 : decode cX10_man 68 = .ok (.ifCond .eq 8, 3) := dk_153 0 8 (dk_at dksX10_man_3 0 rfl rfl)
theorem dX10_man_71 : decode cX10_man 71 = .ok (.aload_n 1, 1) := dk_43 (dk_at dksX10_man_3 3 rfl rfl)
theorem dX10_man_72 : decode cX10_man 72 = .ok (.iconst 1, 1) := dk_4 (dk_at dksX10_man_3 4 rfl rfl)
theorem dX10_man_73 : decode cX10_man 73 = .ok (.putfield 160, 3) := dk_181 0 160 (dk_at dksX10_man_3 5 rfl rfl)
theorem dX10_man_76 : decode cX10_man 76 = .ok (.aload_n 0, 1) := dk_42 (dk_at dksX10_man_3 8 rfl rfl)
theorem dX10_man_77 : decode cX10_man 77 = .ok (.getfield 12, 3) := dk_180 0 12 (dk_at dksX10_man_3 9 rfl rfl)
theorem dX10_man_80 : decode cX10_man 80 = .ok (.getfield 132, 3) := dk_180 0 132 (dk_at dksX10_man_3 12 rfl rfl)
theorem dX10_man_83 : decode cX10_man 83 = .ok (.aload_n 1, 1) := dk_43 (dk_at dksX10_man_3 15 rfl rfl)
theorem dX10_man_84 : decode cX10_man 84 = .ok (.invokevirtual 162, 3) := dk_182 0 162 (dk_at dksX10_man_3 16 rfl rfl)
theorem dX10_man_87 : decode cX10_man 87 = .ok (.pop, 1) := dk_87 (dk_at dksX10_man_3 19 rfl rfl)
theorem dX10_man_88 : decode cX10_man 88 = .ok (.return_, 1) := dk_177 (dk_at dksX10_man_3 20 rfl rfl)
abbrev cX10_fresh : ByteArray := prog_18_method_20_code
def yX10_fresh : MethodName := ⟨RX10, "fresh", "(Ljava/util/ArrayList;)J"⟩
def dkwX10_fresh_1 : List UInt8 := [6, 42, 180, 0, 33, 182, 0, 88, 191, 42, 180, 0, 59, 65, 42, 182, 0, 98, 32, 173]
abbrev dktX10_fresh_1 : List UInt8 := dkwX10_fresh_1 ++ []
def dkwX10_fresh_0 : List UInt8 := [42, 182, 0, 122, 154, 0, 8, 42, 182, 0, 94, 191, 42, 43, 182, 0, 126, 155, 0, 16, 42, 180, 0, 26]
abbrev dktX10_fresh_0 : List UInt8 := dkwX10_fresh_0 ++ dktX10_fresh_1
theorem dksX10_fresh_0 : cX10_fresh.data.toList.drop 0 = dktX10_fresh_0 := by decide +kernel
theorem dksX10_fresh_1 : cX10_fresh.data.toList.drop 24 = dktX10_fresh_1 := dk_seg dksX10_fresh_0 24 rfl rfl
theorem dX10_fresh_0 : decode cX10_fresh 0 = .ok (.aload_n 0, 1) := dk_42 (dk_at dksX10_fresh_0 0 rfl rfl)
theorem dX10_fresh_1 : decode cX10_fresh 1 = .ok (.invokevirtual 122, 3) := dk_182 0 122 (dk_at dksX10_fresh_0 1 rfl rfl)
theorem dX10_fresh_4 : decode cX10_fresh 4 = .ok (.ifCond .ne 8, 3) := dk_154 0 8 (dk_at dksX10_fresh_0 4 rfl rfl)
theorem dX10_fresh_7 : decode cX10_fresh 7 = .ok (.aload_n 0, 1) := dk_42 (dk_at dksX10_fresh_0 7 rfl rfl)
theorem dX10_fresh_8 : decode cX10_fresh 8 = .ok (.invokevirtual 94, 3) := dk_182 0 94 (dk_at dksX10_fresh_0 8 rfl rfl)
theorem dX10_fresh_11 : decode cX10_fresh 11 = .ok (.athrow, 1) := dk_191 (dk_at dksX10_fresh_0 11 rfl rfl)
theorem dX10_fresh_12 : decode cX10_fresh 12 = .ok (.aload_n 0, 1) := dk_42 (dk_at dksX10_fresh_0 12 rfl rfl)
theorem dX10_fresh_13 : decode cX10_fresh 13 = .ok (.aload_n 1, 1) := dk_43 (dk_at dksX10_fresh_0 13 rfl rfl)
theorem dX10_fresh_14 : decode cX10_fresh 14 = .ok (.invokevirtual 126, 3) := dk_182 0 126 (dk_at dksX10_fresh_0 14 rfl rfl)
theorem dX10_fresh_17 : decode cX10_fresh 17 = .ok (.ifCond .lt 16, 3) := dk_155 0 16 (dk_at dksX10_fresh_0 17 rfl rfl)
theorem dX10_fresh_20 : decode cX10_fresh 20 = .ok (.aload_n 0, 1) := dk_42 (dk_at dksX10_fresh_0 20 rfl rfl)
theorem dX10_fresh_21 : decode cX10_fresh 21 = .ok (.getfield 26, 3) := dk_180 0 26 (dk_at dksX10_fresh_0 21 rfl rfl)
theorem dX10_fresh_24 : decode cX10_fresh 24 = .ok (.iconst 3, 1) := dk_6 (dk_at dksX10_fresh_1 0 rfl rfl)
theorem dX10_fresh_25 : decode cX10_fresh 25 = .ok (.aload_n 0, 1) := dk_42 (dk_at dksX10_fresh_1 1 rfl rfl)
theorem dX10_fresh_26 : decode cX10_fresh 26 = .ok (.getfield 33, 3) := dk_180 0 33 (dk_at dksX10_fresh_1 2 rfl rfl)
theorem dX10_fresh_29 : decode cX10_fresh 29 = .ok (.invokevirtual 88, 3) := dk_182 0 88 (dk_at dksX10_fresh_1 5 rfl rfl)
theorem dX10_fresh_32 : decode cX10_fresh 32 = .ok (.athrow, 1) := dk_191 (dk_at dksX10_fresh_1 8 rfl rfl)
theorem dX10_fresh_33 : decode cX10_fresh 33 = .ok (.aload_n 0, 1) := dk_42 (dk_at dksX10_fresh_1 9 rfl rfl)
theorem dX10_fresh_34 : decode cX10_fresh 34 = .ok (.getfield 59, 3) := dk_180 0 59 (dk_at dksX10_fresh_1 10 rfl rfl)
theorem dX10_fresh_37 : decode cX10_fresh 37 = .ok (.lstore_n 2, 1) := dk_65 (dk_at dksX10_fresh_1 13 rfl rfl)
theorem dX10_fresh_38 : decode cX10_fresh 38 = .ok (.aload_n 0, 1) := dk_42 (dk_at dksX10_fresh_1 14 rfl rfl)
theorem dX10_fresh_39 : decode cX10_fresh 39 = .ok (.invokevirtual 98, 3) := dk_182 0 98 (dk_at dksX10_fresh_1 15 rfl rfl)
theorem dX10_fresh_42 : decode cX10_fresh 42 = .ok (.lload_n 2, 1) := dk_32 (dk_at dksX10_fresh_1 18 rfl rfl)
theorem dX10_fresh_43 : decode cX10_fresh 43 = .ok (.lreturn, 1) := dk_173 (dk_at dksX10_fresh_1 19 rfl rfl)
abbrev cX10_isName : ByteArray := prog_18_method_12_code
def yX10_isName : MethodName := ⟨RX10, "isName", "()Z"⟩
def dkwX10_isName_0 : List UInt8 := [42, 180, 0, 40, 4, 160, 0, 17, 42, 178, 0, 80, 182, 0, 84, 156, 0, 7, 4, 167, 0, 4, 3, 172]
abbrev dktX10_isName_0 : List UInt8 := dkwX10_isName_0 ++ []
theorem dksX10_isName_0 : cX10_isName.data.toList.drop 0 = dktX10_isName_0 := by decide +kernel
theorem dX10_isName_0 : decode cX10_isName 0 = .ok (.aload_n 0, 1) := dk_42 (dk_at dksX10_isName_0 0 rfl rfl)
theorem dX10_isName_1 : decode cX10_isName 1 = .ok (.getfield 40, 3) := dk_180 0 40 (dk_at dksX10_isName_0 1 rfl rfl)
theorem dX10_isName_4 : decode cX10_isName 4 = .ok (.iconst 1, 1) := dk_4 (dk_at dksX10_isName_0 4 rfl rfl)
theorem dX10_isName_5 : decode cX10_isName 5 = .ok (.if_icmp .ne 17, 3) := dk_160 0 17 (dk_at dksX10_isName_0 5 rfl rfl)
theorem dX10_isName_8 : decode cX10_isName 8 = .ok (.aload_n 0, 1) := dk_42 (dk_at dksX10_isName_0 8 rfl rfl)
theorem dX10_isName_9 : decode cX10_isName 9 = .ok (.getstatic 80, 3) := dk_178 0 80 (dk_at dksX10_isName_0 9 rfl rfl)
theorem dX10_isName_12 : decode cX10_isName 12 = .ok (.invokevirtual 84, 3) := dk_182 0 84 (dk_at dksX10_isName_0 12 rfl rfl)
theorem dX10_isName_15 : decode cX10_isName 15 = .ok (.ifCond .ge 7, 3) := dk_156 0 7 (dk_at dksX10_isName_0 15 rfl rfl)
theorem dX10_isName_18 : decode cX10_isName 18 = .ok (.iconst 1, 1) := dk_4 (dk_at dksX10_isName_0 18 rfl rfl)
theorem dX10_isName_19 : decode cX10_isName 19 = .ok (.goto 4, 3) := dk_167 0 4 (dk_at dksX10_isName_0 19 rfl rfl)
theorem dX10_isName_22 : decode cX10_isName 22 = .ok (.iconst 0, 1) := dk_3 (dk_at dksX10_isName_0 22 rfl rfl)
theorem dX10_isName_23 : decode cX10_isName 23 = .ok (.ireturn, 1) := dk_172 (dk_at dksX10_isName_0 23 rfl rfl)
abbrev cX10_which : ByteArray := prog_18_method_10_code
def yX10_which : MethodName := ⟨RX10, "which", "([Ljava/lang/String;)I"⟩
def dkwX10_which_1 : List UInt8 := [167, 255, 235, 2, 172]
abbrev dktX10_which_1 : List UInt8 := dkwX10_which_1 ++ []
def dkwX10_which_0 : List UInt8 := [3, 61, 28, 43, 190, 162, 0, 21, 42, 43, 28, 50, 182, 0, 76, 153, 0, 5, 28, 172, 132, 2, 1]
abbrev dktX10_which_0 : List UInt8 := dkwX10_which_0 ++ dktX10_which_1
theorem dksX10_which_0 : cX10_which.data.toList.drop 0 = dktX10_which_0 := by decide +kernel
theorem dksX10_which_1 : cX10_which.data.toList.drop 23 = dktX10_which_1 := dk_seg dksX10_which_0 23 rfl rfl
theorem dX10_which_0 : decode cX10_which 0 = .ok (.iconst 0, 1) := dk_3 (dk_at dksX10_which_0 0 rfl rfl)
theorem dX10_which_1 : decode cX10_which 1 = .ok (.istore_n 2, 1) := dk_61 (dk_at dksX10_which_0 1 rfl rfl)
theorem dX10_which_2 : decode cX10_which 2 = .ok (.iload_n 2, 1) := dk_28 (dk_at dksX10_which_0 2 rfl rfl)
theorem dX10_which_3 : decode cX10_which 3 = .ok (.aload_n 1, 1) := dk_43 (dk_at dksX10_which_0 3 rfl rfl)
theorem dX10_which_4 : decode cX10_which 4 = .ok (.arraylength, 1) := dk_190 (dk_at dksX10_which_0 4 rfl rfl)
theorem dX10_which_5 : decode cX10_which 5 = .ok (.if_icmp .ge 21, 3) := dk_162 0 21 (dk_at dksX10_which_0 5 rfl rfl)
theorem dX10_which_8 : decode cX10_which 8 = .ok (.aload_n 0, 1) := dk_42 (dk_at dksX10_which_0 8 rfl rfl)
theorem dX10_which_9 : decode cX10_which 9 = .ok (.aload_n 1, 1) := dk_43 (dk_at dksX10_which_0 9 rfl rfl)
theorem dX10_which_10 : decode cX10_which 10 = .ok (.iload_n 2, 1) := dk_28 (dk_at dksX10_which_0 10 rfl rfl)
theorem dX10_which_11 : decode cX10_which 11 = .ok (.aaload, 1) := dk_50 (dk_at dksX10_which_0 11 rfl rfl)
theorem dX10_which_12 : decode cX10_which 12 = .ok (.invokevirtual 76, 3) := dk_182 0 76 (dk_at dksX10_which_0 12 rfl rfl)
theorem dX10_which_15 : decode cX10_which 15 = .ok (.ifCond .eq 5, 3) := dk_153 0 5 (dk_at dksX10_which_0 15 rfl rfl)
theorem dX10_which_18 : decode cX10_which 18 = .ok (.iload_n 2, 1) := dk_28 (dk_at dksX10_which_0 18 rfl rfl)
theorem dX10_which_19 : decode cX10_which 19 = .ok (.ireturn, 1) := dk_172 (dk_at dksX10_which_0 19 rfl rfl)
theorem dX10_which_20 : decode cX10_which 20 = .ok (.iinc 2 1, 3) := dk_132 2 1 (dk_at dksX10_which_0 20 rfl rfl)
theorem dX10_which_23 : decode cX10_which 23 = .ok (.goto (-21), 3) := dk_167 255 235 (dk_at dksX10_which_1 0 rfl rfl)
theorem dX10_which_26 : decode cX10_which 26 = .ok (.iconst (-1), 1) := dk_2 (dk_at dksX10_which_1 3 rfl rfl)
theorem dX10_which_27 : decode cX10_which 27 = .ok (.ireturn, 1) := dk_172 (dk_at dksX10_which_1 4 rfl rfl)
abbrev cX10_here : ByteArray := prog_18_method_19_code
def yX10_here : MethodName := ⟨RX10, "here", "(Ljava/util/ArrayList;)I"⟩
def dkwX10_here_1 : List UInt8 := [180, 0, 59, 148, 154, 0, 5, 28, 172, 132, 2, 1, 167, 255, 224, 2, 172]
abbrev dktX10_here_1 : List UInt8 := dkwX10_here_1 ++ []
def dkwX10_here_0 : List UInt8 := [3, 61, 28, 43, 182, 0, 111, 162, 0, 30, 43, 28, 182, 0, 115, 192, 0, 119, 180, 0, 121, 42]
abbrev dktX10_here_0 : List UInt8 := dkwX10_here_0 ++ dktX10_here_1
theorem dksX10_here_0 : cX10_here.data.toList.drop 0 = dktX10_here_0 := by decide +kernel
theorem dksX10_here_1 : cX10_here.data.toList.drop 22 = dktX10_here_1 := dk_seg dksX10_here_0 22 rfl rfl
theorem dX10_here_0 : decode cX10_here 0 = .ok (.iconst 0, 1) := dk_3 (dk_at dksX10_here_0 0 rfl rfl)
theorem dX10_here_1 : decode cX10_here 1 = .ok (.istore_n 2, 1) := dk_61 (dk_at dksX10_here_0 1 rfl rfl)
theorem dX10_here_2 : decode cX10_here 2 = .ok (.iload_n 2, 1) := dk_28 (dk_at dksX10_here_0 2 rfl rfl)
theorem dX10_here_3 : decode cX10_here 3 = .ok (.aload_n 1, 1) := dk_43 (dk_at dksX10_here_0 3 rfl rfl)
theorem dX10_here_4 : decode cX10_here 4 = .ok (.invokevirtual 111, 3) := dk_182 0 111 (dk_at dksX10_here_0 4 rfl rfl)
theorem dX10_here_7 : decode cX10_here 7 = .ok (.if_icmp .ge 30, 3) := dk_162 0 30 (dk_at dksX10_here_0 7 rfl rfl)
theorem dX10_here_10 : decode cX10_here 10 = .ok (.aload_n 1, 1) := dk_43 (dk_at dksX10_here_0 10 rfl rfl)
theorem dX10_here_11 : decode cX10_here 11 = .ok (.iload_n 2, 1) := dk_28 (dk_at dksX10_here_0 11 rfl rfl)
theorem dX10_here_12 : decode cX10_here 12 = .ok (.invokevirtual 115, 3) := dk_182 0 115 (dk_at dksX10_here_0 12 rfl rfl)
theorem dX10_here_15 : decode cX10_here 15 = .ok (.checkcast 119, 3) := dk_192 0 119 (dk_at dksX10_here_0 15 rfl rfl)
theorem dX10_here_18 : decode cX10_here 18 = .ok (.getfield 121, 3) := dk_180 0 121 (dk_at dksX10_here_0 18 rfl rfl)
theorem dX10_here_21 : decode cX10_here 21 = .ok (.aload_n 0, 1) := dk_42 (dk_at dksX10_here_0 21 rfl rfl)
theorem dX10_here_22 : decode cX10_here 22 = .ok (.getfield 59, 3) := dk_180 0 59 (dk_at dksX10_here_1 0 rfl rfl)
theorem dX10_here_25 : decode cX10_here 25 = .ok (.lcmp, 1) := dk_148 (dk_at dksX10_here_1 3 rfl rfl)
theorem dX10_here_26 : decode cX10_here 26 = .ok (.ifCond .ne 5, 3) := dk_154 0 5 (dk_at dksX10_here_1 4 rfl rfl)
theorem dX10_here_29 : decode cX10_here 29 = .ok (.iload_n 2, 1) := dk_28 (dk_at dksX10_here_1 7 rfl rfl)
theorem dX10_here_30 : decode cX10_here 30 = .ok (.ireturn, 1) := dk_172 (dk_at dksX10_here_1 8 rfl rfl)
theorem dX10_here_31 : decode cX10_here 31 = .ok (.iinc 2 1, 3) := dk_132 2 1 (dk_at dksX10_here_1 9 rfl rfl)
theorem dX10_here_34 : decode cX10_here 34 = .ok (.goto (-32), 3) := dk_167 255 224 (dk_at dksX10_here_1 12 rfl rfl)
theorem dX10_here_37 : decode cX10_here 37 = .ok (.iconst (-1), 1) := dk_2 (dk_at dksX10_here_1 15 rfl rfl)
theorem dX10_here_38 : decode cX10_here 38 = .ok (.ireturn, 1) := dk_172 (dk_at dksX10_here_1 16 rfl rfl)
abbrev cX10_after : ByteArray := prog_18_method_16_code
def yX10_after : MethodName := ⟨RX10, "afte\x72", "(Ljava/lang/String;II)I"⟩
def dkwX10_after_0 : List UInt8 := [42, 42, 43, 182, 0, 76, 182, 0, 101, 42, 28, 29, 182, 0, 105, 172]
abbrev dktX10_after_0 : List UInt8 := dkwX10_after_0 ++ []
theorem dksX10_after_0 : cX10_after.data.toList.drop 0 = dktX10_after_0 := by decide +kernel
theorem dX10_after_0 : decode cX10_after 0 = .ok (.aload_n 0, 1) := dk_42 (dk_at dksX10_after_0 0 rfl rfl)
theorem dX10_after_1 : decode cX10_after 1 = .ok (.aload_n 0, 1) := dk_42 (dk_at dksX10_after_0 1 rfl rfl)
theorem dX10_after_2 : decode cX10_after 2 = .ok (.aload_n 1, 1) := dk_43 (dk_at dksX10_after_0 2 rfl rfl)
theorem dX10_after_3 : decode cX10_after 3 = .ok (.invokevirtual 76, 3) := dk_182 0 76 (dk_at dksX10_after_0 3 rfl rfl)
theorem dX10_after_6 : decode cX10_after 6 = .ok (.invokevirtual 101, 3) := dk_182 0 101 (dk_at dksX10_after_0 6 rfl rfl)
theorem dX10_after_9 : decode cX10_after 9 = .ok (.aload_n 0, 1) := dk_42 (dk_at dksX10_after_0 9 rfl rfl)
theorem dX10_after_10 : decode cX10_after 10 = .ok (.iload_n 2, 1) := dk_28 (dk_at dksX10_after_0 10 rfl rfl)
theorem dX10_after_11 : decode cX10_after 11 = .ok (.iload_n 3, 1) := dk_29 (dk_at dksX10_after_0 11 rfl rfl)
theorem dX10_after_12 : decode cX10_after 12 = .ok (.invokevirtual 105, 3) := dk_182 0 105 (dk_at dksX10_after_0 12 rfl rfl)
theorem dX10_after_15 : decode cX10_after 15 = .ok (.ireturn, 1) := dk_172 (dk_at dksX10_after_0 15 rfl rfl)
abbrev cX10_must : ByteArray := prog_18_method_14_code
def yX10_must : MethodName := ⟨RX10, "must", "(Z)V"⟩
def dkwX10_must_0 : List UInt8 := [27, 154, 0, 8, 42, 182, 0, 94, 191, 42, 182, 0, 98, 177]
abbrev dktX10_must_0 : List UInt8 := dkwX10_must_0 ++ []
theorem dksX10_must_0 : cX10_must.data.toList.drop 0 = dktX10_must_0 := by decide +kernel
theorem dX10_must_0 : decode cX10_must 0 = .ok (.iload_n 1, 1) := dk_27 (dk_at dksX10_must_0 0 rfl rfl)
theorem dX10_must_1 : decode cX10_must 1 = .ok (.ifCond .ne 8, 3) := dk_154 0 8 (dk_at dksX10_must_0 1 rfl rfl)
theorem dX10_must_4 : decode cX10_must 4 = .ok (.aload_n 0, 1) := dk_42 (dk_at dksX10_must_0 4 rfl rfl)
theorem dX10_must_5 : decode cX10_must 5 = .ok (.invokevirtual 94, 3) := dk_182 0 94 (dk_at dksX10_must_0 5 rfl rfl)
theorem dX10_must_8 : decode cX10_must 8 = .ok (.athrow, 1) := dk_191 (dk_at dksX10_must_0 8 rfl rfl)
theorem dX10_must_9 : decode cX10_must 9 = .ok (.aload_n 0, 1) := dk_42 (dk_at dksX10_must_0 9 rfl rfl)
theorem dX10_must_10 : decode cX10_must 10 = .ok (.invokevirtual 98, 3) := dk_182 0 98 (dk_at dksX10_must_0 10 rfl rfl)
theorem dX10_must_13 : decode cX10_must 13 = .ok (.return_, 1) := dk_177 (dk_at dksX10_must_0 13 rfl rfl)
abbrev cX10_number : ByteArray := prog_18_method_15_code
def yX10_number : MethodName := ⟨RX10, "numbe\x72", "(II)I"⟩
def dkwX10_number_2 : List UInt8 := [62, 42, 182, 0, 98, 29, 172]
abbrev dktX10_number_2 : List UInt8 := dkwX10_number_2 ++ []
def dkwX10_number_1 : List UInt8 := [180, 0, 63, 28, 164, 0, 16, 42, 180, 0, 26, 7, 42, 180, 0, 33, 182, 0, 88, 191, 42, 180, 0, 63]
abbrev dktX10_number_1 : List UInt8 := dkwX10_number_1 ++ dktX10_number_2
def dkwX10_number_0 : List UInt8 := [42, 180, 0, 40, 5, 159, 0, 8, 42, 182, 0, 94, 191, 42, 180, 0, 63, 27, 161, 0, 11, 42]
abbrev dktX10_number_0 : List UInt8 := dkwX10_number_0 ++ dktX10_number_1
theorem dksX10_number_0 : cX10_number.data.toList.drop 0 = dktX10_number_0 := by decide +kernel
theorem dksX10_number_1 : cX10_number.data.toList.drop 22 = dktX10_number_1 := dk_seg dksX10_number_0 22 rfl rfl
theorem dksX10_number_2 : cX10_number.data.toList.drop 46 = dktX10_number_2 := dk_seg dksX10_number_1 24 rfl rfl
theorem dX10_number_0 : decode cX10_number 0 = .ok (.aload_n 0, 1) := dk_42 (dk_at dksX10_number_0 0 rfl rfl)
theorem dX10_number_1 : decode cX10_number 1 = .ok (.getfield 40, 3) := dk_180 0 40 (dk_at dksX10_number_0 1 rfl rfl)
theorem dX10_number_4 : decode cX10_number 4 = .ok (.iconst 2, 1) := dk_5 (dk_at dksX10_number_0 4 rfl rfl)
theorem dX10_number_5 : decode cX10_number 5 = .ok (.if_icmp .eq 8, 3) := dk_159 0 8 (dk_at dksX10_number_0 5 rfl rfl)
theorem dX10_number_8 : decode cX10_number 8 = .ok (.aload_n 0, 1) := dk_42 (dk_at dksX10_number_0 8 rfl rfl)
theorem dX10_number_9 : decode cX10_number 9 = .ok (.invokevirtual 94, 3) := dk_182 0 94 (dk_at dksX10_number_0 9 rfl rfl)
theorem dX10_number_12 : decode cX10_number 12 = .ok (.athrow, 1) := dk_191 (dk_at dksX10_number_0 12 rfl rfl)
theorem dX10_number_13 : decode cX10_number 13 = .ok (.aload_n 0, 1) := dk_42 (dk_at dksX10_number_0 13 rfl rfl)
theorem dX10_number_14 : decode cX10_number 14 = .ok (.getfield 63, 3) := dk_180 0 63 (dk_at dksX10_number_0 14 rfl rfl)
theorem dX10_number_17 : decode cX10_number 17 = .ok (.iload_n 1, 1) := dk_27 (dk_at dksX10_number_0 17 rfl rfl)
theorem dX10_number_18 : decode cX10_number 18 = .ok (.if_icmp .lt 11, 3) := dk_161 0 11 (dk_at dksX10_number_0 18 rfl rfl)
theorem dX10_number_21 : decode cX10_number 21 = .ok (.aload_n 0, 1) := dk_42 (dk_at dksX10_number_0 21 rfl rfl)
theorem dX10_number_22 : decode cX10_number 22 = .ok (.getfield 63, 3) := dk_180 0 63 (dk_at dksX10_number_1 0 rfl rfl)
theorem dX10_number_25 : decode cX10_number 25 = .ok (.iload_n 2, 1) := dk_28 (dk_at dksX10_number_1 3 rfl rfl)
theorem dX10_number_26 : decode cX10_number 26 = .ok (.if_icmp .le 16, 3) := dk_164 0 16 (dk_at dksX10_number_1 4 rfl rfl)
theorem dX10_number_29 : decode cX10_number 29 = .ok (.aload_n 0, 1) := dk_42 (dk_at dksX10_number_1 7 rfl rfl)
theorem dX10_number_30 : decode cX10_number 30 = .ok (.getfield 26, 3) := dk_180 0 26 (dk_at dksX10_number_1 8 rfl rfl)
theorem dX10_number_33 : decode cX10_number 33 = .ok (.iconst 4, 1) := dk_7 (dk_at dksX10_number_1 11 rfl rfl)
theorem dX10_number_34 : decode cX10_number 34 = .ok (.aload_n 0, 1) := dk_42 (dk_at dksX10_number_1 12 rfl rfl)
theorem dX10_number_35 : decode cX10_number 35 = .ok (.getfield 33, 3) := dk_180 0 33 (dk_at dksX10_number_1 13 rfl rfl)
theorem dX10_number_38 : decode cX10_number 38 = .ok (.invokevirtual 88, 3) := dk_182 0 88 (dk_at dksX10_number_1 16 rfl rfl)
theorem dX10_number_41 : decode cX10_number 41 = .ok (.athrow, 1) := dk_191 (dk_at dksX10_number_1 19 rfl rfl)
theorem dX10_number_42 : decode cX10_number 42 = .ok (.aload_n 0, 1) := dk_42 (dk_at dksX10_number_1 20 rfl rfl)
theorem dX10_number_43 : decode cX10_number 43 = .ok (.getfield 63, 3) := dk_180 0 63 (dk_at dksX10_number_1 21 rfl rfl)
theorem dX10_number_46 : decode cX10_number 46 = .ok (.istore_n 3, 1) := dk_62 (dk_at dksX10_number_2 0 rfl rfl)
theorem dX10_number_47 : decode cX10_number 47 = .ok (.aload_n 0, 1) := dk_42 (dk_at dksX10_number_2 1 rfl rfl)
theorem dX10_number_48 : decode cX10_number 48 = .ok (.invokevirtual 98, 3) := dk_182 0 98 (dk_at dksX10_number_2 2 rfl rfl)
theorem dX10_number_51 : decode cX10_number 51 = .ok (.iload_n 3, 1) := dk_29 (dk_at dksX10_number_2 5 rfl rfl)
theorem dX10_number_52 : decode cX10_number 52 = .ok (.ireturn, 1) := dk_172 (dk_at dksX10_number_2 6 rfl rfl)
abbrev cX10_deed : ByteArray := prog_18_method_23_code
def yX10_deed : MethodName := ⟨RX10, "deed", "()V"⟩
def dkwX10_deed_1 : List UInt8 := [16, 24, 182, 0, 145, 181, 0, 174, 42, 180, 0, 12, 180, 0, 168, 43, 182, 0, 162, 87, 177]
abbrev dktX10_deed_1 : List UInt8 := dkwX10_deed_1 ++ []
def dkwX10_deed_0 : List UInt8 := [187, 0, 166, 89, 42, 42, 180, 0, 12, 180, 0, 168, 182, 0, 136, 183, 0, 171, 76, 43, 42, 18, 172, 4]
abbrev dktX10_deed_0 : List UInt8 := dkwX10_deed_0 ++ dktX10_deed_1
theorem dksX10_deed_0 : cX10_deed.data.toList.drop 0 = dktX10_deed_0 := by decide +kernel
theorem dksX10_deed_1 : cX10_deed.data.toList.drop 24 = dktX10_deed_1 := dk_seg dksX10_deed_0 24 rfl rfl
theorem dX10_deed_0 : decode cX10_deed 0 = .ok (.new 166, 3) := dk_187 0 166 (dk_at dksX10_deed_0 0 rfl rfl)
theorem dX10_deed_3 : decode cX10_deed 3 = .ok (.dup, 1) := dk_89 (dk_at dksX10_deed_0 3 rfl rfl)
theorem dX10_deed_4 : decode cX10_deed 4 = .ok (.aload_n 0, 1) := dk_42 (dk_at dksX10_deed_0 4 rfl rfl)
theorem dX10_deed_5 : decode cX10_deed 5 = .ok (.aload_n 0, 1) := dk_42 (dk_at dksX10_deed_0 5 rfl rfl)
theorem dX10_deed_6 : decode cX10_deed 6 = .ok (.getfield 12, 3) := dk_180 0 12 (dk_at dksX10_deed_0 6 rfl rfl)
theorem dX10_deed_9 : decode cX10_deed 9 = .ok (.getfield 168, 3) := dk_180 0 168 (dk_at dksX10_deed_0 9 rfl rfl)
theorem dX10_deed_12 : decode cX10_deed 12 = .ok (.invokevirtual 136, 3) := dk_182 0 136 (dk_at dksX10_deed_0 12 rfl rfl)
theorem dX10_deed_15 : decode cX10_deed 15 = .ok (.invokespecial 171, 3) := dk_183 0 171 (dk_at dksX10_deed_0 15 rfl rfl)
theorem dX10_deed_18 : decode cX10_deed 18 = .ok (.astore_n 1, 1) := dk_76 (dk_at dksX10_deed_0 18 rfl rfl)
theorem dX10_deed_19 : decode cX10_deed 19 = .ok (.aload_n 1, 1) := dk_43 (dk_at dksX10_deed_0 19 rfl rfl)
theorem dX10_deed_20 : decode cX10_deed 20 = .ok (.aload_n 0, 1) := dk_42 (dk_at dksX10_deed_0 20 rfl rfl)
theorem dX10_deed_21 : decode cX10_deed 21 = .ok (.ldc 172, 2) := dk_18 172 (dk_at dksX10_deed_0 21 rfl rfl)
theorem dX10_deed_23 : decode cX10_deed 23 = .ok (.iconst 1, 1) := dk_4 (dk_at dksX10_deed_0 23 rfl rfl)
theorem dX10_deed_24 : decode cX10_deed 24 = .ok (.bipush 24, 2) := dk_16 24 (dk_at dksX10_deed_1 0 rfl rfl)
theorem dX10_deed_26 : decode cX10_deed 26 = .ok (.invokevirtual 145, 3) := dk_182 0 145 (dk_at dksX10_deed_1 2 rfl rfl)
theorem dX10_deed_29 : decode cX10_deed 29 = .ok (.putfield 174, 3) := dk_181 0 174 (dk_at dksX10_deed_1 5 rfl rfl)
theorem dX10_deed_32 : decode cX10_deed 32 = .ok (.aload_n 0, 1) := dk_42 (dk_at dksX10_deed_1 8 rfl rfl)
theorem dX10_deed_33 : decode cX10_deed 33 = .ok (.getfield 12, 3) := dk_180 0 12 (dk_at dksX10_deed_1 9 rfl rfl)
theorem dX10_deed_36 : decode cX10_deed 36 = .ok (.getfield 168, 3) := dk_180 0 168 (dk_at dksX10_deed_1 12 rfl rfl)
theorem dX10_deed_39 : decode cX10_deed 39 = .ok (.aload_n 1, 1) := dk_43 (dk_at dksX10_deed_1 15 rfl rfl)
theorem dX10_deed_40 : decode cX10_deed 40 = .ok (.invokevirtual 162, 3) := dk_182 0 162 (dk_at dksX10_deed_1 16 rfl rfl)
theorem dX10_deed_43 : decode cX10_deed 43 = .ok (.pop, 1) := dk_87 (dk_at dksX10_deed_1 19 rfl rfl)
theorem dX10_deed_44 : decode cX10_deed 44 = .ok (.return_, 1) := dk_177 (dk_at dksX10_deed_1 20 rfl rfl)
abbrev cX10_button : ByteArray := prog_18_method_24_code
def yX10_button : MethodName := ⟨RX10, "button", "()V"⟩
def dkwX10_button_10 : List UInt8 := [180, 0, 12, 180, 0, 176, 25, 8, 182, 0, 162, 87, 177]
abbrev dktX10_button_10 : List UInt8 := dkwX10_button_10 ++ []
def dkwX10_button_9 : List UInt8 := [182, 0, 157, 153, 0, 19, 25, 8, 42, 42, 180, 0, 12, 180, 0, 176, 182, 0, 181, 181, 0, 208, 42]
abbrev dktX10_button_9 : List UInt8 := dkwX10_button_9 ++ dktX10_button_10
def dkwX10_button_8 : List UInt8 := [182, 0, 76, 153, 0, 17, 25, 8, 42, 18, 203, 4, 16, 99, 182, 0, 145, 181, 0, 205, 42, 18, 207]
abbrev dktX10_button_8 : List UInt8 := dkwX10_button_8 ++ dktX10_button_9
def dkwX10_button_7 : List UInt8 := [182, 0, 76, 153, 0, 17, 25, 8, 42, 18, 197, 4, 16, 60, 182, 0, 145, 181, 0, 199, 42, 18, 203]
abbrev dktX10_button_7 : List UInt8 := dkwX10_button_7 ++ dktX10_button_8
def dkwX10_button_6 : List UInt8 := [183, 0, 191, 167, 0, 16, 187, 0, 194, 89, 31, 29, 21, 5, 21, 7, 183, 0, 196, 58, 8, 42, 18, 197]
abbrev dktX10_button_6 : List UInt8 := dkwX10_button_6 ++ dktX10_button_7
def dkwX10_button_5 : List UInt8 := [180, 0, 168, 182, 0, 181, 54, 7, 21, 6, 153, 0, 19, 187, 0, 189, 89, 31, 29, 21, 5, 21, 7]
abbrev dktX10_button_5 : List UInt8 := dkwX10_button_5 ++ dktX10_button_6
def dkwX10_button_4 : List UInt8 := [42, 18, 187, 182, 0, 76, 153, 0, 7, 4, 167, 0, 4, 3, 182, 0, 101, 42, 42, 180, 0, 12]
abbrev dktX10_button_4 : List UInt8 := dkwX10_button_4 ++ dktX10_button_5
def dkwX10_button_3 : List UInt8 := [180, 0, 26, 6, 21, 4, 182, 0, 88, 191, 42, 18, 185, 182, 0, 76, 54, 6, 42, 21, 6, 154, 0, 12]
abbrev dktX10_button_3 : List UInt8 := dkwX10_button_3 ++ dktX10_button_4
def dkwX10_button_2 : List UInt8 := [54, 4, 42, 42, 180, 0, 12, 180, 0, 132, 182, 0, 181, 54, 5, 21, 5, 29, 160, 0, 14, 42]
abbrev dktX10_button_2 : List UInt8 := dkwX10_button_2 ++ dktX10_button_3
def dkwX10_button_1 : List UInt8 := [180, 0, 12, 180, 0, 132, 182, 0, 181, 62, 42, 42, 18, 184, 182, 0, 76, 182, 0, 101, 42, 180, 0, 33]
abbrev dktX10_button_1 : List UInt8 := dkwX10_button_1 ++ dktX10_button_2
def dkwX10_button_0 : List UInt8 := [42, 42, 180, 0, 12, 180, 0, 176, 182, 0, 136, 64, 42, 42, 18, 179, 182, 0, 76, 182, 0, 101, 42, 42]
abbrev dktX10_button_0 : List UInt8 := dkwX10_button_0 ++ dktX10_button_1
theorem dksX10_button_0 : cX10_button.data.toList.drop 0 = dktX10_button_0 := by decide +kernel
theorem dksX10_button_1 : cX10_button.data.toList.drop 24 = dktX10_button_1 := dk_seg dksX10_button_0 24 rfl rfl
theorem dksX10_button_2 : cX10_button.data.toList.drop 48 = dktX10_button_2 := dk_seg dksX10_button_1 24 rfl rfl
theorem dksX10_button_3 : cX10_button.data.toList.drop 70 = dktX10_button_3 := dk_seg dksX10_button_2 22 rfl rfl
theorem dksX10_button_4 : cX10_button.data.toList.drop 94 = dktX10_button_4 := dk_seg dksX10_button_3 24 rfl rfl
theorem dksX10_button_5 : cX10_button.data.toList.drop 116 = dktX10_button_5 := dk_seg dksX10_button_4 22 rfl rfl
theorem dksX10_button_6 : cX10_button.data.toList.drop 139 = dktX10_button_6 := dk_seg dksX10_button_5 23 rfl rfl
theorem dksX10_button_7 : cX10_button.data.toList.drop 163 = dktX10_button_7 := dk_seg dksX10_button_6 24 rfl rfl
theorem dksX10_button_8 : cX10_button.data.toList.drop 186 = dktX10_button_8 := dk_seg dksX10_button_7 23 rfl rfl
theorem dksX10_button_9 : cX10_button.data.toList.drop 209 = dktX10_button_9 := dk_seg dksX10_button_8 23 rfl rfl
theorem dksX10_button_10 : cX10_button.data.toList.drop 232 = dktX10_button_10 := dk_seg dksX10_button_9 23 rfl rfl
theorem dX10_button_0 : decode cX10_button 0 = .ok (.aload_n 0, 1) := dk_42 (dk_at dksX10_button_0 0 rfl rfl)
theorem dX10_button_1 : decode cX10_button 1 = .ok (.aload_n 0, 1) := dk_42 (dk_at dksX10_button_0 1 rfl rfl)
theorem dX10_button_2 : decode cX10_button 2 = .ok (.getfield 12, 3) := dk_180 0 12 (dk_at dksX10_button_0 2 rfl rfl)
theorem dX10_button_5 : decode cX10_button 5 = .ok (.getfield 176, 3) := dk_180 0 176 (dk_at dksX10_button_0 5 rfl rfl)
theorem dX10_button_8 : decode cX10_button 8 = .ok (.invokevirtual 136, 3) := dk_182 0 136 (dk_at dksX10_button_0 8 rfl rfl)
theorem dX10_button_11 : decode cX10_button 11 = .ok (.lstore_n 1, 1) := dk_64 (dk_at dksX10_button_0 11 rfl rfl)
theorem dX10_button_12 : decode cX10_button 12 = .ok (.aload_n 0, 1) := dk_42 (dk_at dksX10_button_0 12 rfl rfl)
theorem dX10_button_13 : decode cX10_button 13 = .ok (.aload_n 0, 1) := dk_42 (dk_at dksX10_button_0 13 rfl rfl)
theorem dX10_button_14 : decode cX10_button 14 = .ok (.ldc 179, 2) := dk_18 179 (dk_at dksX10_button_0 14 rfl rfl)
theorem dX10_button_16 : decode cX10_button 16 = .ok (.invokevirtual 76, 3) := dk_182 0 76 (dk_at dksX10_button_0 16 rfl rfl)
theorem dX10_button_19 : decode cX10_button 19 = .ok (.invokevirtual 101, 3) := dk_182 0 101 (dk_at dksX10_button_0 19 rfl rfl)
theorem dX10_button_22 : decode cX10_button 22 = .ok (.aload_n 0, 1) := dk_42 (dk_at dksX10_button_0 22 rfl rfl)
theorem dX10_button_23 : decode cX10_button 23 = .ok (.aload_n 0, 1) := dk_42 (dk_at dksX10_button_0 23 rfl rfl)
theorem dX10_button_24 : decode cX10_button 24 = .ok (.getfield 12, 3) := dk_180 0 12 (dk_at dksX10_button_1 0 rfl rfl)
theorem dX10_button_27 : decode cX10_button 27 = .ok (.getfield 132, 3) := dk_180 0 132 (dk_at dksX10_button_1 3 rfl rfl)
theorem dX10_button_30 : decode cX10_button 30 = .ok (.invokevirtual 181, 3) := dk_182 0 181 (dk_at dksX10_button_1 6 rfl rfl)
theorem dX10_button_33 : decode cX10_button 33 = .ok (.istore_n 3, 1) := dk_62 (dk_at dksX10_button_1 9 rfl rfl)
theorem dX10_button_34 : decode cX10_button 34 = .ok (.aload_n 0, 1) := dk_42 (dk_at dksX10_button_1 10 rfl rfl)
theorem dX10_button_35 : decode cX10_button 35 = .ok (.aload_n 0, 1) := dk_42 (dk_at dksX10_button_1 11 rfl rfl)
theorem dX10_button_36 : decode cX10_button 36 = .ok (.ldc 184, 2) := dk_18 184 (dk_at dksX10_button_1 12 rfl rfl)
theorem dX10_button_38 : decode cX10_button 38 = .ok (.invokevirtual 76, 3) := dk_182 0 76 (dk_at dksX10_button_1 14 rfl rfl)
theorem dX10_button_41 : decode cX10_button 41 = .ok (.invokevirtual 101, 3) := dk_182 0 101 (dk_at dksX10_button_1 17 rfl rfl)
theorem dX10_button_44 : decode cX10_button 44 = .ok (.aload_n 0, 1) := dk_42 (dk_at dksX10_button_1 20 rfl rfl)
theorem dX10_button_45 : decode cX10_button 45 = .ok (.getfield 33, 3) := dk_180 0 33 (dk_at dksX10_button_1 21 rfl rfl)
theorem dX10_button_48 : decode cX10_button 48 = .ok (.istore 4, 2) := dk_54 4 (dk_at dksX10_button_2 0 rfl rfl)
theorem dX10_button_50 : decode cX10_button 50 = .ok (.aload_n 0, 1) := dk_42 (dk_at dksX10_button_2 2 rfl rfl)
theorem dX10_button_51 : decode cX10_button 51 = .ok (.aload_n 0, 1) := dk_42 (dk_at dksX10_button_2 3 rfl rfl)
theorem dX10_button_52 : decode cX10_button 52 = .ok (.getfield 12, 3) := dk_180 0 12 (dk_at dksX10_button_2 4 rfl rfl)
theorem dX10_button_55 : decode cX10_button 55 = .ok (.getfield 132, 3) := dk_180 0 132 (dk_at dksX10_button_2 7 rfl rfl)
theorem dX10_button_58 : decode cX10_button 58 = .ok (.invokevirtual 181, 3) := dk_182 0 181 (dk_at dksX10_button_2 10 rfl rfl)
theorem dX10_button_61 : decode cX10_button 61 = .ok (.istore 5, 2) := dk_54 5 (dk_at dksX10_button_2 13 rfl rfl)
theorem dX10_button_63 : decode cX10_button 63 = .ok (.iload 5, 2) := dk_21 5 (dk_at dksX10_button_2 15 rfl rfl)
theorem dX10_button_65 : decode cX10_button 65 = .ok (.iload_n 3, 1) := dk_29 (dk_at dksX10_button_2 17 rfl rfl)
theorem dX10_button_66 : decode cX10_button 66 = .ok (.if_icmp .ne 14, 3) := dk_160 0 14 (dk_at dksX10_button_2 18 rfl rfl)
theorem dX10_button_69 : decode cX10_button 69 = .ok (.aload_n 0, 1) := dk_42 (dk_at dksX10_button_2 21 rfl rfl)
theorem dX10_button_70 : decode cX10_button 70 = .ok (.getfield 26, 3) := dk_180 0 26 (dk_at dksX10_button_3 0 rfl rfl)
theorem dX10_button_73 : decode cX10_button 73 = .ok (.iconst 3, 1) := dk_6 (dk_at dksX10_button_3 3 rfl rfl)
theorem dX10_button_74 : decode cX10_button 74 = .ok (.iload 4, 2) := dk_21 4 (dk_at dksX10_button_3 4 rfl rfl)
theorem dX10_button_76 : decode cX10_button 76 = .ok (.invokevirtual 88, 3) := dk_182 0 88 (dk_at dksX10_button_3 6 rfl rfl)
theorem dX10_button_79 : decode cX10_button 79 = .ok (.athrow, 1) := dk_191 (dk_at dksX10_button_3 9 rfl rfl)
theorem dX10_button_80 : decode cX10_button 80 = .ok (.aload_n 0, 1) := dk_42 (dk_at dksX10_button_3 10 rfl rfl)
theorem dX10_button_81 : decode cX10_button 81 = .ok (.ldc 185, 2) := dk_18 185 (dk_at dksX10_button_3 11 rfl rfl)
theorem dX10_button_83 : decode cX10_button 83 = .ok (.invokevirtual 76, 3) := dk_182 0 76 (dk_at dksX10_button_3 13 rfl rfl)
theorem dX10_button_86 : decode cX10_button 86 = .ok (.istore 6, 2) := dk_54 6 (dk_at dksX10_button_3 16 rfl rfl)
theorem dX10_button_88 : decode cX10_button 88 = .ok (.aload_n 0, 1) := dk_42 (dk_at dksX10_button_3 18 rfl rfl)
theorem dX10_button_89 : decode cX10_button 89 = .ok (.iload 6, 2) := dk_21 6 (dk_at dksX10_button_3 19 rfl rfl)
theorem dX10_button_91 : decode cX10_button 91 = .ok (.ifCond .ne 12, 3) := dk_154 0 12 (dk_at dksX10_button_3 21 rfl rfl)
theorem dX10_button_94 : decode cX10_button 94 = .ok (.aload_n 0, 1) := dk_42 (dk_at dksX10_button_4 0 rfl rfl)
theorem dX10_button_95 : decode cX10_button 95 = .ok (.ldc 187, 2) := dk_18 187 (dk_at dksX10_button_4 1 rfl rfl)
theorem dX10_button_97 : decode cX10_button 97 = .ok (.invokevirtual 76, 3) := dk_182 0 76 (dk_at dksX10_button_4 3 rfl rfl)
theorem dX10_button_100 : decode cX10_button 100 = .ok (.ifCond .eq 7, 3) := dk_153 0 7 (dk_at dksX10_button_4 6 rfl rfl)
theorem dX10_button_103 : decode cX10_button 103 = .ok (.iconst 1, 1) := dk_4 (dk_at dksX10_button_4 9 rfl rfl)
theorem dX10_button_104 : decode cX10_button 104 = .ok (.goto 4, 3) := dk_167 0 4 (dk_at dksX10_button_4 10 rfl rfl)
theorem dX10_button_107 : decode cX10_button 107 = .ok (.iconst 0, 1) := dk_3 (dk_at dksX10_button_4 13 rfl rfl)
theorem dX10_button_108 : decode cX10_button 108 = .ok (.invokevirtual 101, 3) := dk_182 0 101 (dk_at dksX10_button_4 14 rfl rfl)
theorem dX10_button_111 : decode cX10_button 111 = .ok (.aload_n 0, 1) := dk_42 (dk_at dksX10_button_4 17 rfl rfl)
theorem dX10_button_112 : decode cX10_button 112 = .ok (.aload_n 0, 1) := dk_42 (dk_at dksX10_button_4 18 rfl rfl)
theorem dX10_button_113 : decode cX10_button 113 = .ok (.getfield 12, 3) := dk_180 0 12 (dk_at dksX10_button_4 19 rfl rfl)
theorem dX10_button_116 : decode cX10_button 116 = .ok (.getfield 168, 3) := dk_180 0 168 (dk_at dksX10_button_5 0 rfl rfl)
theorem dX10_button_119 : decode cX10_button 119 = .ok (.invokevirtual 181, 3) := dk_182 0 181 (dk_at dksX10_button_5 3 rfl rfl)
theorem dX10_button_122 : decode cX10_button 122 = .ok (.istore 7, 2) := dk_54 7 (dk_at dksX10_button_5 6 rfl rfl)
theorem dX10_button_124 : decode cX10_button 124 = .ok (.iload 6, 2) := dk_21 6 (dk_at dksX10_button_5 8 rfl rfl)
theorem dX10_button_126 : decode cX10_button 126 = .ok (.ifCond .eq 19, 3) := dk_153 0 19 (dk_at dksX10_button_5 10 rfl rfl)
theorem dX10_button_129 : decode cX10_button 129 = .ok (.new 189, 3) := dk_187 0 189 (dk_at dksX10_button_5 13 rfl rfl)
theorem dX10_button_132 : decode cX10_button 132 = .ok (.dup, 1) := dk_89 (dk_at dksX10_button_5 16 rfl rfl)
theorem dX10_button_133 : decode cX10_button 133 = .ok (.lload_n 1, 1) := dk_31 (dk_at dksX10_button_5 17 rfl rfl)
theorem dX10_button_134 : decode cX10_button 134 = .ok (.iload_n 3, 1) := dk_29 (dk_at dksX10_button_5 18 rfl rfl)
theorem dX10_button_135 : decode cX10_button 135 = .ok (.iload 5, 2) := dk_21 5 (dk_at dksX10_button_5 19 rfl rfl)
theorem dX10_button_137 : decode cX10_button 137 = .ok (.iload 7, 2) := dk_21 7 (dk_at dksX10_button_5 21 rfl rfl)
theorem dX10_button_139 : decode cX10_button 139 = .ok (.invokespecial 191, 3) := dk_183 0 191 (dk_at dksX10_button_6 0 rfl rfl)
theorem dX10_button_142 : decode cX10_button 142 = .ok (.goto 16, 3) := dk_167 0 16 (dk_at dksX10_button_6 3 rfl rfl)
theorem dX10_button_145 : decode cX10_button 145 = .ok (.new 194, 3) := dk_187 0 194 (dk_at dksX10_button_6 6 rfl rfl)
theorem dX10_button_148 : decode cX10_button 148 = .ok (.dup, 1) := dk_89 (dk_at dksX10_button_6 9 rfl rfl)
theorem dX10_button_149 : decode cX10_button 149 = .ok (.lload_n 1, 1) := dk_31 (dk_at dksX10_button_6 10 rfl rfl)
theorem dX10_button_150 : decode cX10_button 150 = .ok (.iload_n 3, 1) := dk_29 (dk_at dksX10_button_6 11 rfl rfl)
theorem dX10_button_151 : decode cX10_button 151 = .ok (.iload 5, 2) := dk_21 5 (dk_at dksX10_button_6 12 rfl rfl)
theorem dX10_button_153 : decode cX10_button 153 = .ok (.iload 7, 2) := dk_21 7 (dk_at dksX10_button_6 14 rfl rfl)
theorem dX10_button_155 : decode cX10_button 155 = .ok (.invokespecial 196, 3) := dk_183 0 196 (dk_at dksX10_button_6 16 rfl rfl)
theorem dX10_button_158 : decode cX10_button 158 = .ok (.astore 8, 2) := dk_58 8 (dk_at dksX10_button_6 19 rfl rfl)
theorem dX10_button_160 : decode cX10_button 160 = .ok (.aload_n 0, 1) := dk_42 (dk_at dksX10_button_6 21 rfl rfl)
theorem dX10_button_161 : decode cX10_button 161 = .ok (.ldc 197, 2) := dk_18 197 (dk_at dksX10_button_6 22 rfl rfl)
theorem dX10_button_163 : decode cX10_button 163 = .ok (.invokevirtual 76, 3) := dk_182 0 76 (dk_at dksX10_button_7 0 rfl rfl)
theorem dX10_button_166 : decode cX10_button 166 = .ok (.ifCond .eq 17, 3) := dk_153 0 17 (dk_at dksX10_button_7 3 rfl rfl)
theorem dX10_button_169 : decode cX10_button 169 = .ok (.aload 8, 2) := dk_25 8 (dk_at dksX10_button_7 6 rfl rfl)
theorem dX10_button_171 : decode cX10_button 171 = .ok (.aload_n 0, 1) := dk_42 (dk_at dksX10_button_7 8 rfl rfl)
theorem dX10_button_172 : decode cX10_button 172 = .ok (.ldc 197, 2) := dk_18 197 (dk_at dksX10_button_7 9 rfl rfl)
theorem dX10_button_174 : decode cX10_button 174 = .ok (.iconst 1, 1) := dk_4 (dk_at dksX10_button_7 11 rfl rfl)
theorem dX10_button_175 : decode cX10_button 175 = .ok (.bipush 60, 2) := dk_16 60 (dk_at dksX10_button_7 12 rfl rfl)
theorem dX10_button_177 : decode cX10_button 177 = .ok (.invokevirtual 145, 3) := dk_182 0 145 (dk_at dksX10_button_7 14 rfl rfl)
theorem dX10_button_180 : decode cX10_button 180 = .ok (.putfield 199, 3) := dk_181 0 199 (dk_at dksX10_button_7 17 rfl rfl)
theorem dX10_button_183 : decode cX10_button 183 = .ok (.aload_n 0, 1) := dk_42 (dk_at dksX10_button_7 20 rfl rfl)
theorem dX10_button_184 : decode cX10_button 184 = .ok (.ldc 203, 2) := dk_18 203 (dk_at dksX10_button_7 21 rfl rfl)
theorem dX10_button_186 : decode cX10_button 186 = .ok (.invokevirtual 76, 3) := dk_182 0 76 (dk_at dksX10_button_8 0 rfl rfl)
theorem dX10_button_189 : decode cX10_button 189 = .ok (.ifCond .eq 17, 3) := dk_153 0 17 (dk_at dksX10_button_8 3 rfl rfl)
theorem dX10_button_192 : decode cX10_button 192 = .ok (.aload 8, 2) := dk_25 8 (dk_at dksX10_button_8 6 rfl rfl)
theorem dX10_button_194 : decode cX10_button 194 = .ok (.aload_n 0, 1) := dk_42 (dk_at dksX10_button_8 8 rfl rfl)
theorem dX10_button_195 : decode cX10_button 195 = .ok (.ldc 203, 2) := dk_18 203 (dk_at dksX10_button_8 9 rfl rfl)
theorem dX10_button_197 : decode cX10_button 197 = .ok (.iconst 1, 1) := dk_4 (dk_at dksX10_button_8 11 rfl rfl)
theorem dX10_button_198 : decode cX10_button 198 = .ok (.bipush 99, 2) := dk_16 99 (dk_at dksX10_button_8 12 rfl rfl)
theorem dX10_button_200 : decode cX10_button 200 = .ok (.invokevirtual 145, 3) := dk_182 0 145 (dk_at dksX10_button_8 14 rfl rfl)
theorem dX10_button_203 : decode cX10_button 203 = .ok (.putfield 205, 3) := dk_181 0 205 (dk_at dksX10_button_8 17 rfl rfl)
theorem dX10_button_206 : decode cX10_button 206 = .ok (.aload_n 0, 1) := dk_42 (dk_at dksX10_button_8 20 rfl rfl)
theorem dX10_button_207 : decode cX10_button 207 = .ok (.ldc 207, 2) := dk_18 207 (dk_at dksX10_button_8 21 rfl rfl)
theorem dX10_button_209 : decode cX10_button 209 = .ok (.invokevirtual 157, 3) := dk_182 0 157 (dk_at dksX10_button_9 0 rfl rfl)
theorem dX10_button_212 : decode cX10_button 212 = .ok (.ifCond .eq 19, 3) := dk_153 0 19 (dk_at dksX10_button_9 3 rfl rfl)
theorem dX10_button_215 : decode cX10_button 215 = .ok (.aload 8, 2) := dk_25 8 (dk_at dksX10_button_9 6 rfl rfl)
theorem dX10_button_217 : decode cX10_button 217 = .ok (.aload_n 0, 1) := dk_42 (dk_at dksX10_button_9 8 rfl rfl)
theorem dX10_button_218 : decode cX10_button 218 = .ok (.aload_n 0, 1) := dk_42 (dk_at dksX10_button_9 9 rfl rfl)
theorem dX10_button_219 : decode cX10_button 219 = .ok (.getfield 12, 3) := dk_180 0 12 (dk_at dksX10_button_9 10 rfl rfl)
theorem dX10_button_222 : decode cX10_button 222 = .ok (.getfield 176, 3) := dk_180 0 176 (dk_at dksX10_button_9 13 rfl rfl)
theorem dX10_button_225 : decode cX10_button 225 = .ok (.invokevirtual 181, 3) := dk_182 0 181 (dk_at dksX10_button_9 16 rfl rfl)
theorem dX10_button_228 : decode cX10_button 228 = .ok (.putfield 208, 3) := dk_181 0 208 (dk_at dksX10_button_9 19 rfl rfl)
theorem dX10_button_231 : decode cX10_button 231 = .ok (.aload_n 0, 1) := dk_42 (dk_at dksX10_button_9 22 rfl rfl)
theorem dX10_button_232 : decode cX10_button 232 = .ok (.getfield 12, 3) := dk_180 0 12 (dk_at dksX10_button_10 0 rfl rfl)
theorem dX10_button_235 : decode cX10_button 235 = .ok (.getfield 176, 3) := dk_180 0 176 (dk_at dksX10_button_10 3 rfl rfl)
theorem dX10_button_238 : decode cX10_button 238 = .ok (.aload 8, 2) := dk_25 8 (dk_at dksX10_button_10 6 rfl rfl)
theorem dX10_button_240 : decode cX10_button 240 = .ok (.invokevirtual 162, 3) := dk_182 0 162 (dk_at dksX10_button_10 8 rfl rfl)
theorem dX10_button_243 : decode cX10_button 243 = .ok (.pop, 1) := dk_87 (dk_at dksX10_button_10 11 rfl rfl)
theorem dX10_button_244 : decode cX10_button 244 = .ok (.return_, 1) := dk_177 (dk_at dksX10_button_10 12 rfl rfl)
abbrev cX10_known : ByteArray := prog_18_method_21_code
def yX10_known : MethodName := ⟨RX10, "known", "(Ljava/util/ArrayList;)I"⟩
def dkwX10_known_1 : List UInt8 := [180, 0, 26, 8, 42, 180, 0, 33, 182, 0, 88, 191, 42, 182, 0, 98, 28, 172]
abbrev dktX10_known_1 : List UInt8 := dkwX10_known_1 ++ []
def dkwX10_known_0 : List UInt8 := [42, 182, 0, 122, 154, 0, 8, 42, 182, 0, 94, 191, 42, 43, 182, 0, 126, 61, 28, 156, 0, 16, 42]
abbrev dktX10_known_0 : List UInt8 := dkwX10_known_0 ++ dktX10_known_1
theorem dksX10_known_0 : cX10_known.data.toList.drop 0 = dktX10_known_0 := by decide +kernel
theorem dksX10_known_1 : cX10_known.data.toList.drop 23 = dktX10_known_1 := dk_seg dksX10_known_0 23 rfl rfl
theorem dX10_known_0 : decode cX10_known 0 = .ok (.aload_n 0, 1) := dk_42 (dk_at dksX10_known_0 0 rfl rfl)
theorem dX10_known_1 : decode cX10_known 1 = .ok (.invokevirtual 122, 3) := dk_182 0 122 (dk_at dksX10_known_0 1 rfl rfl)
theorem dX10_known_4 : decode cX10_known 4 = .ok (.ifCond .ne 8, 3) := dk_154 0 8 (dk_at dksX10_known_0 4 rfl rfl)
theorem dX10_known_7 : decode cX10_known 7 = .ok (.aload_n 0, 1) := dk_42 (dk_at dksX10_known_0 7 rfl rfl)
theorem dX10_known_8 : decode cX10_known 8 = .ok (.invokevirtual 94, 3) := dk_182 0 94 (dk_at dksX10_known_0 8 rfl rfl)
theorem dX10_known_11 : decode cX10_known 11 = .ok (.athrow, 1) := dk_191 (dk_at dksX10_known_0 11 rfl rfl)
theorem dX10_known_12 : decode cX10_known 12 = .ok (.aload_n 0, 1) := dk_42 (dk_at dksX10_known_0 12 rfl rfl)
theorem dX10_known_13 : decode cX10_known 13 = .ok (.aload_n 1, 1) := dk_43 (dk_at dksX10_known_0 13 rfl rfl)
theorem dX10_known_14 : decode cX10_known 14 = .ok (.invokevirtual 126, 3) := dk_182 0 126 (dk_at dksX10_known_0 14 rfl rfl)
theorem dX10_known_17 : decode cX10_known 17 = .ok (.istore_n 2, 1) := dk_61 (dk_at dksX10_known_0 17 rfl rfl)
theorem dX10_known_18 : decode cX10_known 18 = .ok (.iload_n 2, 1) := dk_28 (dk_at dksX10_known_0 18 rfl rfl)
theorem dX10_known_19 : decode cX10_known 19 = .ok (.ifCond .ge 16, 3) := dk_156 0 16 (dk_at dksX10_known_0 19 rfl rfl)
theorem dX10_known_22 : decode cX10_known 22 = .ok (.aload_n 0, 1) := dk_42 (dk_at dksX10_known_0 22 rfl rfl)
theorem dX10_known_23 : decode cX10_known 23 = .ok (.getfield 26, 3) := dk_180 0 26 (dk_at dksX10_known_1 0 rfl rfl)
theorem dX10_known_26 : decode cX10_known 26 = .ok (.iconst 5, 1) := dk_8 (dk_at dksX10_known_1 3 rfl rfl)
theorem dX10_known_27 : decode cX10_known 27 = .ok (.aload_n 0, 1) := dk_42 (dk_at dksX10_known_1 4 rfl rfl)
theorem dX10_known_28 : decode cX10_known 28 = .ok (.getfield 33, 3) := dk_180 0 33 (dk_at dksX10_known_1 5 rfl rfl)
theorem dX10_known_31 : decode cX10_known 31 = .ok (.invokevirtual 88, 3) := dk_182 0 88 (dk_at dksX10_known_1 8 rfl rfl)
theorem dX10_known_34 : decode cX10_known 34 = .ok (.athrow, 1) := dk_191 (dk_at dksX10_known_1 11 rfl rfl)
theorem dX10_known_35 : decode cX10_known 35 = .ok (.aload_n 0, 1) := dk_42 (dk_at dksX10_known_1 12 rfl rfl)
theorem dX10_known_36 : decode cX10_known 36 = .ok (.invokevirtual 98, 3) := dk_182 0 98 (dk_at dksX10_known_1 13 rfl rfl)
theorem dX10_known_39 : decode cX10_known 39 = .ok (.iload_n 2, 1) := dk_28 (dk_at dksX10_known_1 16 rfl rfl)
theorem dX10_known_40 : decode cX10_known 40 = .ok (.ireturn, 1) := dk_172 (dk_at dksX10_known_1 17 rfl rfl)
abbrev cX10_friend : ByteArray := prog_18_method_25_code
def yX10_friend : MethodName := ⟨RX10, "friend", "()V"⟩
def dkwX10_friend_4 : List UInt8 := [29, 104, 27, 96, 21, 4, 79, 42, 180, 0, 12, 89, 180, 0, 220, 4, 96, 181, 0, 220, 177]
abbrev dktX10_friend_4 : List UInt8 := dkwX10_friend_4 ++ []
def dkwX10_friend_3 : List UInt8 := [180, 0, 12, 180, 0, 216, 16, 6, 27, 104, 29, 96, 21, 4, 79, 42, 180, 0, 12, 180, 0, 216, 16, 6]
abbrev dktX10_friend_3 : List UInt8 := dkwX10_friend_3 ++ dktX10_friend_4
def dkwX10_friend_2 : List UInt8 := [159, 0, 13, 42, 180, 0, 26, 6, 28, 182, 0, 88, 191, 42, 16, 9, 182, 0, 213, 54, 4, 42]
abbrev dktX10_friend_2 : List UInt8 := dkwX10_friend_2 ++ dktX10_friend_3
def dkwX10_friend_1 : List UInt8 := [180, 0, 132, 182, 0, 181, 62, 27, 29, 159, 0, 17, 42, 180, 0, 12, 27, 29, 182, 0, 210, 16, 156]
abbrev dktX10_friend_1 : List UInt8 := dkwX10_friend_1 ++ dktX10_friend_2
def dkwX10_friend_0 : List UInt8 := [42, 42, 180, 0, 12, 180, 0, 132, 182, 0, 181, 60, 42, 180, 0, 33, 61, 42, 42, 180, 0, 12]
abbrev dktX10_friend_0 : List UInt8 := dkwX10_friend_0 ++ dktX10_friend_1
theorem dksX10_friend_0 : cX10_friend.data.toList.drop 0 = dktX10_friend_0 := by decide +kernel
theorem dksX10_friend_1 : cX10_friend.data.toList.drop 22 = dktX10_friend_1 := dk_seg dksX10_friend_0 22 rfl rfl
theorem dksX10_friend_2 : cX10_friend.data.toList.drop 45 = dktX10_friend_2 := dk_seg dksX10_friend_1 23 rfl rfl
theorem dksX10_friend_3 : cX10_friend.data.toList.drop 67 = dktX10_friend_3 := dk_seg dksX10_friend_2 22 rfl rfl
theorem dksX10_friend_4 : cX10_friend.data.toList.drop 91 = dktX10_friend_4 := dk_seg dksX10_friend_3 24 rfl rfl
theorem dX10_friend_0 : decode cX10_friend 0 = .ok (.aload_n 0, 1) := dk_42 (dk_at dksX10_friend_0 0 rfl rfl)
theorem dX10_friend_1 : decode cX10_friend 1 = .ok (.aload_n 0, 1) := dk_42 (dk_at dksX10_friend_0 1 rfl rfl)
theorem dX10_friend_2 : decode cX10_friend 2 = .ok (.getfield 12, 3) := dk_180 0 12 (dk_at dksX10_friend_0 2 rfl rfl)
theorem dX10_friend_5 : decode cX10_friend 5 = .ok (.getfield 132, 3) := dk_180 0 132 (dk_at dksX10_friend_0 5 rfl rfl)
theorem dX10_friend_8 : decode cX10_friend 8 = .ok (.invokevirtual 181, 3) := dk_182 0 181 (dk_at dksX10_friend_0 8 rfl rfl)
theorem dX10_friend_11 : decode cX10_friend 11 = .ok (.istore_n 1, 1) := dk_60 (dk_at dksX10_friend_0 11 rfl rfl)
theorem dX10_friend_12 : decode cX10_friend 12 = .ok (.aload_n 0, 1) := dk_42 (dk_at dksX10_friend_0 12 rfl rfl)
theorem dX10_friend_13 : decode cX10_friend 13 = .ok (.getfield 33, 3) := dk_180 0 33 (dk_at dksX10_friend_0 13 rfl rfl)
theorem dX10_friend_16 : decode cX10_friend 16 = .ok (.istore_n 2, 1) := dk_61 (dk_at dksX10_friend_0 16 rfl rfl)
theorem dX10_friend_17 : decode cX10_friend 17 = .ok (.aload_n 0, 1) := dk_42 (dk_at dksX10_friend_0 17 rfl rfl)
theorem dX10_friend_18 : decode cX10_friend 18 = .ok (.aload_n 0, 1) := dk_42 (dk_at dksX10_friend_0 18 rfl rfl)
theorem dX10_friend_19 : decode cX10_friend 19 = .ok (.getfield 12, 3) := dk_180 0 12 (dk_at dksX10_friend_0 19 rfl rfl)
theorem dX10_friend_22 : decode cX10_friend 22 = .ok (.getfield 132, 3) := dk_180 0 132 (dk_at dksX10_friend_1 0 rfl rfl)
theorem dX10_friend_25 : decode cX10_friend 25 = .ok (.invokevirtual 181, 3) := dk_182 0 181 (dk_at dksX10_friend_1 3 rfl rfl)
theorem dX10_friend_28 : decode cX10_friend 28 = .ok (.istore_n 3, 1) := dk_62 (dk_at dksX10_friend_1 6 rfl rfl)
theorem dX10_friend_29 : decode cX10_friend 29 = .ok (.iload_n 1, 1) := dk_27 (dk_at dksX10_friend_1 7 rfl rfl)
theorem dX10_friend_30 : decode cX10_friend 30 = .ok (.iload_n 3, 1) := dk_29 (dk_at dksX10_friend_1 8 rfl rfl)
theorem dX10_friend_31 : decode cX10_friend 31 = .ok (.if_icmp .eq 17, 3) := dk_159 0 17 (dk_at dksX10_friend_1 9 rfl rfl)
theorem dX10_friend_34 : decode cX10_friend 34 = .ok (.aload_n 0, 1) := dk_42 (dk_at dksX10_friend_1 12 rfl rfl)
theorem dX10_friend_35 : decode cX10_friend 35 = .ok (.getfield 12, 3) := dk_180 0 12 (dk_at dksX10_friend_1 13 rfl rfl)
theorem dX10_friend_38 : decode cX10_friend 38 = .ok (.iload_n 1, 1) := dk_27 (dk_at dksX10_friend_1 16 rfl rfl)
theorem dX10_friend_39 : decode cX10_friend 39 = .ok (.iload_n 3, 1) := dk_29 (dk_at dksX10_friend_1 17 rfl rfl)
theorem dX10_friend_40 : decode cX10_friend 40 = .ok (.invokevirtual 210, 3) := dk_182 0 210 (dk_at dksX10_friend_1 18 rfl rfl)
theorem dX10_friend_43 : decode cX10_friend 43 = .ok (.bipush (-100), 2) := dk_16 156 (dk_at dksX10_friend_1 21 rfl rfl)
theorem dX10_friend_45 : decode cX10_friend 45 = .ok (.if_icmp .eq 13, 3) := dk_159 0 13 (dk_at dksX10_friend_2 0 rfl rfl)
theorem dX10_friend_48 : decode cX10_friend 48 = .ok (.aload_n 0, 1) := dk_42 (dk_at dksX10_friend_2 3 rfl rfl)
theorem dX10_friend_49 : decode cX10_friend 49 = .ok (.getfield 26, 3) := dk_180 0 26 (dk_at dksX10_friend_2 4 rfl rfl)
theorem dX10_friend_52 : decode cX10_friend 52 = .ok (.iconst 3, 1) := dk_6 (dk_at dksX10_friend_2 7 rfl rfl)
theorem dX10_friend_53 : decode cX10_friend 53 = .ok (.iload_n 2, 1) := dk_28 (dk_at dksX10_friend_2 8 rfl rfl)
theorem dX10_friend_54 : decode cX10_friend 54 = .ok (.invokevirtual 88, 3) := dk_182 0 88 (dk_at dksX10_friend_2 9 rfl rfl)
theorem dX10_friend_57 : decode cX10_friend 57 = .ok (.athrow, 1) := dk_191 (dk_at dksX10_friend_2 12 rfl rfl)
theorem dX10_friend_58 : decode cX10_friend 58 = .ok (.aload_n 0, 1) := dk_42 (dk_at dksX10_friend_2 13 rfl rfl)
theorem dX10_friend_59 : decode cX10_friend 59 = .ok (.bipush 9, 2) := dk_16 9 (dk_at dksX10_friend_2 14 rfl rfl)
theorem dX10_friend_61 : decode cX10_friend 61 = .ok (.invokevirtual 213, 3) := dk_182 0 213 (dk_at dksX10_friend_2 16 rfl rfl)
theorem dX10_friend_64 : decode cX10_friend 64 = .ok (.istore 4, 2) := dk_54 4 (dk_at dksX10_friend_2 19 rfl rfl)
theorem dX10_friend_66 : decode cX10_friend 66 = .ok (.aload_n 0, 1) := dk_42 (dk_at dksX10_friend_2 21 rfl rfl)
theorem dX10_friend_67 : decode cX10_friend 67 = .ok (.getfield 12, 3) := dk_180 0 12 (dk_at dksX10_friend_3 0 rfl rfl)
theorem dX10_friend_70 : decode cX10_friend 70 = .ok (.getfield 216, 3) := dk_180 0 216 (dk_at dksX10_friend_3 3 rfl rfl)
theorem dX10_friend_73 : decode cX10_friend 73 = .ok (.bipush 6, 2) := dk_16 6 (dk_at dksX10_friend_3 6 rfl rfl)
theorem dX10_friend_75 : decode cX10_friend 75 = .ok (.iload_n 1, 1) := dk_27 (dk_at dksX10_friend_3 8 rfl rfl)
theorem dX10_friend_76 : decode cX10_friend 76 = .ok (.imul, 1) := dk_104 (dk_at dksX10_friend_3 9 rfl rfl)
theorem dX10_friend_77 : decode cX10_friend 77 = .ok (.iload_n 3, 1) := dk_29 (dk_at dksX10_friend_3 10 rfl rfl)
theorem dX10_friend_78 : decode cX10_friend 78 = .ok (.iadd, 1) := dk_96 (dk_at dksX10_friend_3 11 rfl rfl)
theorem dX10_friend_79 : decode cX10_friend 79 = .ok (.iload 4, 2) := dk_21 4 (dk_at dksX10_friend_3 12 rfl rfl)
theorem dX10_friend_81 : decode cX10_friend 81 = .ok (.iastore, 1) := dk_79 (dk_at dksX10_friend_3 14 rfl rfl)
theorem dX10_friend_82 : decode cX10_friend 82 = .ok (.aload_n 0, 1) := dk_42 (dk_at dksX10_friend_3 15 rfl rfl)
theorem dX10_friend_83 : decode cX10_friend 83 = .ok (.getfield 12, 3) := dk_180 0 12 (dk_at dksX10_friend_3 16 rfl rfl)
theorem dX10_friend_86 : decode cX10_friend 86 = .ok (.getfield 216, 3) := dk_180 0 216 (dk_at dksX10_friend_3 19 rfl rfl)
theorem dX10_friend_89 : decode cX10_friend 89 = .ok (.bipush 6, 2) := dk_16 6 (dk_at dksX10_friend_3 22 rfl rfl)
theorem dX10_friend_91 : decode cX10_friend 91 = .ok (.iload_n 3, 1) := dk_29 (dk_at dksX10_friend_4 0 rfl rfl)
theorem dX10_friend_92 : decode cX10_friend 92 = .ok (.imul, 1) := dk_104 (dk_at dksX10_friend_4 1 rfl rfl)
theorem dX10_friend_93 : decode cX10_friend 93 = .ok (.iload_n 1, 1) := dk_27 (dk_at dksX10_friend_4 2 rfl rfl)
theorem dX10_friend_94 : decode cX10_friend 94 = .ok (.iadd, 1) := dk_96 (dk_at dksX10_friend_4 3 rfl rfl)
theorem dX10_friend_95 : decode cX10_friend 95 = .ok (.iload 4, 2) := dk_21 4 (dk_at dksX10_friend_4 4 rfl rfl)
theorem dX10_friend_97 : decode cX10_friend 97 = .ok (.iastore, 1) := dk_79 (dk_at dksX10_friend_4 6 rfl rfl)
theorem dX10_friend_98 : decode cX10_friend 98 = .ok (.aload_n 0, 1) := dk_42 (dk_at dksX10_friend_4 7 rfl rfl)
theorem dX10_friend_99 : decode cX10_friend 99 = .ok (.getfield 12, 3) := dk_180 0 12 (dk_at dksX10_friend_4 8 rfl rfl)
theorem dX10_friend_102 : decode cX10_friend 102 = .ok (.dup, 1) := dk_89 (dk_at dksX10_friend_4 11 rfl rfl)
theorem dX10_friend_103 : decode cX10_friend 103 = .ok (.getfield 220, 3) := dk_180 0 220 (dk_at dksX10_friend_4 12 rfl rfl)
theorem dX10_friend_106 : decode cX10_friend 106 = .ok (.iconst 1, 1) := dk_4 (dk_at dksX10_friend_4 15 rfl rfl)
theorem dX10_friend_107 : decode cX10_friend 107 = .ok (.iadd, 1) := dk_96 (dk_at dksX10_friend_4 16 rfl rfl)
theorem dX10_friend_108 : decode cX10_friend 108 = .ok (.putfield 220, 3) := dk_181 0 220 (dk_at dksX10_friend_4 17 rfl rfl)
theorem dX10_friend_111 : decode cX10_friend 111 = .ok (.return_, 1) := dk_177 (dk_at dksX10_friend_4 20 rfl rfl)
abbrev cX10_signed : ByteArray := prog_18_method_17_code
def yX10_signed : MethodName := ⟨RX10, "signed", "(I)I"⟩
def dkwX10_signed_3 : List UInt8 := [182, 0, 98, 21, 4, 172]
abbrev dktX10_signed_3 : List UInt8 := dkwX10_signed_3 ++ []
def dkwX10_signed_2 : List UInt8 := [182, 0, 88, 191, 29, 153, 0, 11, 42, 180, 0, 63, 116, 167, 0, 7, 42, 180, 0, 63, 54, 4, 42]
abbrev dktX10_signed_2 : List UInt8 := dkwX10_signed_2 ++ dktX10_signed_3
def dkwX10_signed_1 : List UInt8 := [5, 159, 0, 8, 42, 182, 0, 94, 191, 42, 180, 0, 63, 27, 164, 0, 13, 42, 180, 0, 26, 7, 28]
abbrev dktX10_signed_1 : List UInt8 := dkwX10_signed_1 ++ dktX10_signed_2
def dkwX10_signed_0 : List UInt8 := [42, 180, 0, 33, 61, 42, 16, 45, 182, 0, 108, 62, 29, 153, 0, 7, 42, 182, 0, 98, 42, 180, 0, 40]
abbrev dktX10_signed_0 : List UInt8 := dkwX10_signed_0 ++ dktX10_signed_1
theorem dksX10_signed_0 : cX10_signed.data.toList.drop 0 = dktX10_signed_0 := by decide +kernel
theorem dksX10_signed_1 : cX10_signed.data.toList.drop 24 = dktX10_signed_1 := dk_seg dksX10_signed_0 24 rfl rfl
theorem dksX10_signed_2 : cX10_signed.data.toList.drop 47 = dktX10_signed_2 := dk_seg dksX10_signed_1 23 rfl rfl
theorem dksX10_signed_3 : cX10_signed.data.toList.drop 70 = dktX10_signed_3 := dk_seg dksX10_signed_2 23 rfl rfl
theorem dX10_signed_0 : decode cX10_signed 0 = .ok (.aload_n 0, 1) := dk_42 (dk_at dksX10_signed_0 0 rfl rfl)
theorem dX10_signed_1 : decode cX10_signed 1 = .ok (.getfield 33, 3) := dk_180 0 33 (dk_at dksX10_signed_0 1 rfl rfl)
theorem dX10_signed_4 : decode cX10_signed 4 = .ok (.istore_n 2, 1) := dk_61 (dk_at dksX10_signed_0 4 rfl rfl)
theorem dX10_signed_5 : decode cX10_signed 5 = .ok (.aload_n 0, 1) := dk_42 (dk_at dksX10_signed_0 5 rfl rfl)
theorem dX10_signed_6 : decode cX10_signed 6 = .ok (.bipush 45, 2) := dk_16 45 (dk_at dksX10_signed_0 6 rfl rfl)
theorem dX10_signed_8 : decode cX10_signed 8 = .ok (.invokevirtual 108, 3) := dk_182 0 108 (dk_at dksX10_signed_0 8 rfl rfl)
theorem dX10_signed_11 : decode cX10_signed 11 = .ok (.istore_n 3, 1) := dk_62 (dk_at dksX10_signed_0 11 rfl rfl)
theorem dX10_signed_12 : decode cX10_signed 12 = .ok (.iload_n 3, 1) := dk_29 (dk_at dksX10_signed_0 12 rfl rfl)
theorem dX10_signed_13 : decode cX10_signed 13 = .ok (.ifCond .eq 7, 3) := dk_153 0 7 (dk_at dksX10_signed_0 13 rfl rfl)
theorem dX10_signed_16 : decode cX10_signed 16 = .ok (.aload_n 0, 1) := dk_42 (dk_at dksX10_signed_0 16 rfl rfl)
theorem dX10_signed_17 : decode cX10_signed 17 = .ok (.invokevirtual 98, 3) := dk_182 0 98 (dk_at dksX10_signed_0 17 rfl rfl)
theorem dX10_signed_20 : decode cX10_signed 20 = .ok (.aload_n 0, 1) := dk_42 (dk_at dksX10_signed_0 20 rfl rfl)
theorem dX10_signed_21 : decode cX10_signed 21 = .ok (.getfield 40, 3) := dk_180 0 40 (dk_at dksX10_signed_0 21 rfl rfl)
theorem dX10_signed_24 : decode cX10_signed 24 = .ok (.iconst 2, 1) := dk_5 (dk_at dksX10_signed_1 0 rfl rfl)
theorem dX10_signed_25 : decode cX10_signed 25 = .ok (.if_icmp .eq 8, 3) := dk_159 0 8 (dk_at dksX10_signed_1 1 rfl rfl)
theorem dX10_signed_28 : decode cX10_signed 28 = .ok (.aload_n 0, 1) := dk_42 (dk_at dksX10_signed_1 4 rfl rfl)
theorem dX10_signed_29 : decode cX10_signed 29 = .ok (.invokevirtual 94, 3) := dk_182 0 94 (dk_at dksX10_signed_1 5 rfl rfl)
theorem dX10_signed_32 : decode cX10_signed 32 = .ok (.athrow, 1) := dk_191 (dk_at dksX10_signed_1 8 rfl rfl)
theorem dX10_signed_33 : decode cX10_signed 33 = .ok (.aload_n 0, 1) := dk_42 (dk_at dksX10_signed_1 9 rfl rfl)
theorem dX10_signed_34 : decode cX10_signed 34 = .ok (.getfield 63, 3) := dk_180 0 63 (dk_at dksX10_signed_1 10 rfl rfl)
theorem dX10_signed_37 : decode cX10_signed 37 = .ok (.iload_n 1, 1) := dk_27 (dk_at dksX10_signed_1 13 rfl rfl)
theorem dX10_signed_38 : decode cX10_signed 38 = .ok (.if_icmp .le 13, 3) := dk_164 0 13 (dk_at dksX10_signed_1 14 rfl rfl)
theorem dX10_signed_41 : decode cX10_signed 41 = .ok (.aload_n 0, 1) := dk_42 (dk_at dksX10_signed_1 17 rfl rfl)
theorem dX10_signed_42 : decode cX10_signed 42 = .ok (.getfield 26, 3) := dk_180 0 26 (dk_at dksX10_signed_1 18 rfl rfl)
theorem dX10_signed_45 : decode cX10_signed 45 = .ok (.iconst 4, 1) := dk_7 (dk_at dksX10_signed_1 21 rfl rfl)
theorem dX10_signed_46 : decode cX10_signed 46 = .ok (.iload_n 2, 1) := dk_28 (dk_at dksX10_signed_1 22 rfl rfl)
theorem dX10_signed_47 : decode cX10_signed 47 = .ok (.invokevirtual 88, 3) := dk_182 0 88 (dk_at dksX10_signed_2 0 rfl rfl)
theorem dX10_signed_50 : decode cX10_signed 50 = .ok (.athrow, 1) := dk_191 (dk_at dksX10_signed_2 3 rfl rfl)
theorem dX10_signed_51 : decode cX10_signed 51 = .ok (.iload_n 3, 1) := dk_29 (dk_at dksX10_signed_2 4 rfl rfl)
theorem dX10_signed_52 : decode cX10_signed 52 = .ok (.ifCond .eq 11, 3) := dk_153 0 11 (dk_at dksX10_signed_2 5 rfl rfl)
theorem dX10_signed_55 : decode cX10_signed 55 = .ok (.aload_n 0, 1) := dk_42 (dk_at dksX10_signed_2 8 rfl rfl)
theorem dX10_signed_56 : decode cX10_signed 56 = .ok (.getfield 63, 3) := dk_180 0 63 (dk_at dksX10_signed_2 9 rfl rfl)
theorem dX10_signed_59 : decode cX10_signed 59 = .ok (.ineg, 1) := dk_116 (dk_at dksX10_signed_2 12 rfl rfl)
theorem dX10_signed_60 : decode cX10_signed 60 = .ok (.goto 7, 3) := dk_167 0 7 (dk_at dksX10_signed_2 13 rfl rfl)
theorem dX10_signed_63 : decode cX10_signed 63 = .ok (.aload_n 0, 1) := dk_42 (dk_at dksX10_signed_2 16 rfl rfl)
theorem dX10_signed_64 : decode cX10_signed 64 = .ok (.getfield 63, 3) := dk_180 0 63 (dk_at dksX10_signed_2 17 rfl rfl)
theorem dX10_signed_67 : decode cX10_signed 67 = .ok (.istore 4, 2) := dk_54 4 (dk_at dksX10_signed_2 20 rfl rfl)
theorem dX10_signed_69 : decode cX10_signed 69 = .ok (.aload_n 0, 1) := dk_42 (dk_at dksX10_signed_2 22 rfl rfl)
theorem dX10_signed_70 : decode cX10_signed 70 = .ok (.invokevirtual 98, 3) := dk_182 0 98 (dk_at dksX10_signed_3 0 rfl rfl)
theorem dX10_signed_73 : decode cX10_signed 73 = .ok (.iload 4, 2) := dk_21 4 (dk_at dksX10_signed_3 3 rfl rfl)
theorem dX10_signed_75 : decode cX10_signed 75 = .ok (.ireturn, 1) := dk_172 (dk_at dksX10_signed_3 5 rfl rfl)
abbrev cX10_isSignHere : ByteArray := prog_18_method_11_code
def yX10_isSignHere : MethodName := ⟨RX10, "isSignHere", "(I)Z"⟩
def dkwX10_isSignHere_1 : List UInt8 := [3, 172]
abbrev dktX10_isSignHere_1 : List UInt8 := dkwX10_isSignHere_1 ++ []
def dkwX10_isSignHere_0 : List UInt8 := [42, 180, 0, 40, 6, 160, 0, 19, 42, 42, 180, 0, 33, 182, 0, 36, 27, 160, 0, 7, 4, 167, 0, 4]
abbrev dktX10_isSignHere_0 : List UInt8 := dkwX10_isSignHere_0 ++ dktX10_isSignHere_1
theorem dksX10_isSignHere_0 : cX10_isSignHere.data.toList.drop 0 = dktX10_isSignHere_0 := by decide +kernel
theorem dksX10_isSignHere_1 : cX10_isSignHere.data.toList.drop 24 = dktX10_isSignHere_1 := dk_seg dksX10_isSignHere_0 24 rfl rfl
theorem dX10_isSignHere_0 : decode cX10_isSignHere 0 = .ok (.aload_n 0, 1) := dk_42 (dk_at dksX10_isSignHere_0 0 rfl rfl)
theorem dX10_isSignHere_1 : decode cX10_isSignHere 1 = .ok (.getfield 40, 3) := dk_180 0 40 (dk_at dksX10_isSignHere_0 1 rfl rfl)
theorem dX10_isSignHere_4 : decode cX10_isSignHere 4 = .ok (.iconst 3, 1) := dk_6 (dk_at dksX10_isSignHere_0 4 rfl rfl)
theorem dX10_isSignHere_5 : decode cX10_isSignHere 5 = .ok (.if_icmp .ne 19, 3) := dk_160 0 19 (dk_at dksX10_isSignHere_0 5 rfl rfl)
theorem dX10_isSignHere_8 : decode cX10_isSignHere 8 = .ok (.aload_n 0, 1) := dk_42 (dk_at dksX10_isSignHere_0 8 rfl rfl)
theorem dX10_isSignHere_9 : decode cX10_isSignHere 9 = .ok (.aload_n 0, 1) := dk_42 (dk_at dksX10_isSignHere_0 9 rfl rfl)
theorem dX10_isSignHere_10 : decode cX10_isSignHere 10 = .ok (.getfield 33, 3) := dk_180 0 33 (dk_at dksX10_isSignHere_0 10 rfl rfl)
theorem dX10_isSignHere_13 : decode cX10_isSignHere 13 = .ok (.invokevirtual 36, 3) := dk_182 0 36 (dk_at dksX10_isSignHere_0 13 rfl rfl)
theorem dX10_isSignHere_16 : decode cX10_isSignHere 16 = .ok (.iload_n 1, 1) := dk_27 (dk_at dksX10_isSignHere_0 16 rfl rfl)
theorem dX10_isSignHere_17 : decode cX10_isSignHere 17 = .ok (.if_icmp .ne 7, 3) := dk_160 0 7 (dk_at dksX10_isSignHere_0 17 rfl rfl)
theorem dX10_isSignHere_20 : decode cX10_isSignHere 20 = .ok (.iconst 1, 1) := dk_4 (dk_at dksX10_isSignHere_0 20 rfl rfl)
theorem dX10_isSignHere_21 : decode cX10_isSignHere 21 = .ok (.goto 4, 3) := dk_167 0 4 (dk_at dksX10_isSignHere_0 21 rfl rfl)
theorem dX10_isSignHere_24 : decode cX10_isSignHere 24 = .ok (.iconst 0, 1) := dk_3 (dk_at dksX10_isSignHere_1 0 rfl rfl)
theorem dX10_isSignHere_25 : decode cX10_isSignHere 25 = .ok (.ireturn, 1) := dk_172 (dk_at dksX10_isSignHere_1 1 rfl rfl)
abbrev cX10_formula : ByteArray := prog_18_method_26_code
def yX10_formula : MethodName := ⟨RX10, "formula", "()LOathButtons$Part;"⟩
def dkwX10_formula_0 : List UInt8 := [42, 3, 181, 0, 223, 42, 3, 181, 0, 226, 42, 182, 0, 229, 176]
abbrev dktX10_formula_0 : List UInt8 := dkwX10_formula_0 ++ []
theorem dksX10_formula_0 : cX10_formula.data.toList.drop 0 = dktX10_formula_0 := by decide +kernel
theorem dX10_formula_0 : decode cX10_formula 0 = .ok (.aload_n 0, 1) := dk_42 (dk_at dksX10_formula_0 0 rfl rfl)
theorem dX10_formula_1 : decode cX10_formula 1 = .ok (.iconst 0, 1) := dk_3 (dk_at dksX10_formula_0 1 rfl rfl)
theorem dX10_formula_2 : decode cX10_formula 2 = .ok (.putfield 223, 3) := dk_181 0 223 (dk_at dksX10_formula_0 2 rfl rfl)
theorem dX10_formula_5 : decode cX10_formula 5 = .ok (.aload_n 0, 1) := dk_42 (dk_at dksX10_formula_0 5 rfl rfl)
theorem dX10_formula_6 : decode cX10_formula 6 = .ok (.iconst 0, 1) := dk_3 (dk_at dksX10_formula_0 6 rfl rfl)
theorem dX10_formula_7 : decode cX10_formula 7 = .ok (.putfield 226, 3) := dk_181 0 226 (dk_at dksX10_formula_0 7 rfl rfl)
theorem dX10_formula_10 : decode cX10_formula 10 = .ok (.aload_n 0, 1) := dk_42 (dk_at dksX10_formula_0 10 rfl rfl)
theorem dX10_formula_11 : decode cX10_formula 11 = .ok (.invokevirtual 229, 3) := dk_182 0 229 (dk_at dksX10_formula_0 11 rfl rfl)
theorem dX10_formula_14 : decode cX10_formula 14 = .ok (.areturn, 1) := dk_176 (dk_at dksX10_formula_0 14 rfl rfl)
abbrev cX10_either : ByteArray := prog_18_method_27_code
def yX10_either : MethodName := ⟨RX10, "eithe\x72", "()LOathButtons$Part;"⟩
def dkwX10_either_1 : List UInt8 := [182, 0, 233, 183, 0, 240, 76, 167, 255, 232, 43, 176]
abbrev dktX10_either_1 : List UInt8 := dkwX10_either_1 ++ []
def dkwX10_either_0 : List UInt8 := [42, 182, 0, 233, 76, 42, 18, 236, 182, 0, 157, 153, 0, 21, 187, 0, 238, 89, 16, 124, 43, 42]
abbrev dktX10_either_0 : List UInt8 := dkwX10_either_0 ++ dktX10_either_1
theorem dksX10_either_0 : cX10_either.data.toList.drop 0 = dktX10_either_0 := by decide +kernel
theorem dksX10_either_1 : cX10_either.data.toList.drop 22 = dktX10_either_1 := dk_seg dksX10_either_0 22 rfl rfl
theorem dX10_either_0 : decode cX10_either 0 = .ok (.aload_n 0, 1) := dk_42 (dk_at dksX10_either_0 0 rfl rfl)
theorem dX10_either_1 : decode cX10_either 1 = .ok (.invokevirtual 233, 3) := dk_182 0 233 (dk_at dksX10_either_0 1 rfl rfl)
theorem dX10_either_4 : decode cX10_either 4 = .ok (.astore_n 1, 1) := dk_76 (dk_at dksX10_either_0 4 rfl rfl)
theorem dX10_either_5 : decode cX10_either 5 = .ok (.aload_n 0, 1) := dk_42 (dk_at dksX10_either_0 5 rfl rfl)
theorem dX10_either_6 : decode cX10_either 6 = .ok (.ldc 236, 2) := dk_18 236 (dk_at dksX10_either_0 6 rfl rfl)
theorem dX10_either_8 : decode cX10_either 8 = .ok (.invokevirtual 157, 3) := dk_182 0 157 (dk_at dksX10_either_0 8 rfl rfl)
theorem dX10_either_11 : decode cX10_either 11 = .ok (.ifCond .eq 21, 3) := dk_153 0 21 (dk_at dksX10_either_0 11 rfl rfl)
theorem dX10_either_14 : decode cX10_either 14 = .ok (.new 238, 3) := dk_187 0 238 (dk_at dksX10_either_0 14 rfl rfl)
theorem dX10_either_17 : decode cX10_either 17 = .ok (.dup, 1) := dk_89 (dk_at dksX10_either_0 17 rfl rfl)
theorem dX10_either_18 : decode cX10_either 18 = .ok (.bipush 124, 2) := dk_16 124 (dk_at dksX10_either_0 18 rfl rfl)
theorem dX10_either_20 : decode cX10_either 20 = .ok (.aload_n 1, 1) := dk_43 (dk_at dksX10_either_0 20 rfl rfl)
theorem dX10_either_21 : decode cX10_either 21 = .ok (.aload_n 0, 1) := dk_42 (dk_at dksX10_either_0 21 rfl rfl)
theorem dX10_either_22 : decode cX10_either 22 = .ok (.invokevirtual 233, 3) := dk_182 0 233 (dk_at dksX10_either_1 0 rfl rfl)
theorem dX10_either_25 : decode cX10_either 25 = .ok (.invokespecial 240, 3) := dk_183 0 240 (dk_at dksX10_either_1 3 rfl rfl)
theorem dX10_either_28 : decode cX10_either 28 = .ok (.astore_n 1, 1) := dk_76 (dk_at dksX10_either_1 6 rfl rfl)
theorem dX10_either_29 : decode cX10_either 29 = .ok (.goto (-24), 3) := dk_167 255 232 (dk_at dksX10_either_1 7 rfl rfl)
theorem dX10_either_32 : decode cX10_either 32 = .ok (.aload_n 1, 1) := dk_43 (dk_at dksX10_either_1 10 rfl rfl)
theorem dX10_either_33 : decode cX10_either 33 = .ok (.areturn, 1) := dk_176 (dk_at dksX10_either_1 11 rfl rfl)
abbrev cX10_both : ByteArray := prog_18_method_28_code
def yX10_both : MethodName := ⟨RX10, "both", "()LOathButtons$Part;"⟩
def dkwX10_both_1 : List UInt8 := [182, 0, 243, 183, 0, 240, 76, 167, 255, 232, 43, 176]
abbrev dktX10_both_1 : List UInt8 := dkwX10_both_1 ++ []
def dkwX10_both_0 : List UInt8 := [42, 182, 0, 243, 76, 42, 18, 246, 182, 0, 157, 153, 0, 21, 187, 0, 238, 89, 16, 38, 43, 42]
abbrev dktX10_both_0 : List UInt8 := dkwX10_both_0 ++ dktX10_both_1
theorem dksX10_both_0 : cX10_both.data.toList.drop 0 = dktX10_both_0 := by decide +kernel
theorem dksX10_both_1 : cX10_both.data.toList.drop 22 = dktX10_both_1 := dk_seg dksX10_both_0 22 rfl rfl
theorem dX10_both_0 : decode cX10_both 0 = .ok (.aload_n 0, 1) := dk_42 (dk_at dksX10_both_0 0 rfl rfl)
theorem dX10_both_1 : decode cX10_both 1 = .ok (.invokevirtual 243, 3) := dk_182 0 243 (dk_at dksX10_both_0 1 rfl rfl)
theorem dX10_both_4 : decode cX10_both 4 = .ok (.astore_n 1, 1) := dk_76 (dk_at dksX10_both_0 4 rfl rfl)
theorem dX10_both_5 : decode cX10_both 5 = .ok (.aload_n 0, 1) := dk_42 (dk_at dksX10_both_0 5 rfl rfl)
theorem dX10_both_6 : decode cX10_both 6 = .ok (.ldc 246, 2) := dk_18 246 (dk_at dksX10_both_0 6 rfl rfl)
theorem dX10_both_8 : decode cX10_both 8 = .ok (.invokevirtual 157, 3) := dk_182 0 157 (dk_at dksX10_both_0 8 rfl rfl)
theorem dX10_both_11 : decode cX10_both 11 = .ok (.ifCond .eq 21, 3) := dk_153 0 21 (dk_at dksX10_both_0 11 rfl rfl)
theorem dX10_both_14 : decode cX10_both 14 = .ok (.new 238, 3) := dk_187 0 238 (dk_at dksX10_both_0 14 rfl rfl)
theorem dX10_both_17 : decode cX10_both 17 = .ok (.dup, 1) := dk_89 (dk_at dksX10_both_0 17 rfl rfl)
theorem dX10_both_18 : decode cX10_both 18 = .ok (.bipush 38, 2) := dk_16 38 (dk_at dksX10_both_0 18 rfl rfl)
theorem dX10_both_20 : decode cX10_both 20 = .ok (.aload_n 1, 1) := dk_43 (dk_at dksX10_both_0 20 rfl rfl)
theorem dX10_both_21 : decode cX10_both 21 = .ok (.aload_n 0, 1) := dk_42 (dk_at dksX10_both_0 21 rfl rfl)
theorem dX10_both_22 : decode cX10_both 22 = .ok (.invokevirtual 243, 3) := dk_182 0 243 (dk_at dksX10_both_1 0 rfl rfl)
theorem dX10_both_25 : decode cX10_both 25 = .ok (.invokespecial 240, 3) := dk_183 0 240 (dk_at dksX10_both_1 3 rfl rfl)
theorem dX10_both_28 : decode cX10_both 28 = .ok (.astore_n 1, 1) := dk_76 (dk_at dksX10_both_1 6 rfl rfl)
theorem dX10_both_29 : decode cX10_both 29 = .ok (.goto (-24), 3) := dk_167 255 232 (dk_at dksX10_both_1 7 rfl rfl)
theorem dX10_both_32 : decode cX10_both 32 = .ok (.aload_n 1, 1) := dk_43 (dk_at dksX10_both_1 10 rfl rfl)
theorem dX10_both_33 : decode cX10_both 33 = .ok (.areturn, 1) := dk_176 (dk_at dksX10_both_1 11 rfl rfl)
abbrev cX10_one : ByteArray := prog_18_method_30_code
def yX10_one : MethodName := ⟨RX10, "one", "()LOathButtons$Part;"⟩
def dkwX10_one_4 : List UInt8 := [183, 0, 240, 176]
abbrev dktX10_one_4 : List UInt8 := dkwX10_one_4 ++ []
def dkwX10_one_3 : List UInt8 := [42, 180, 0, 33, 182, 0, 36, 61, 42, 182, 0, 98, 187, 0, 238, 89, 28, 43, 42, 182, 1, 2]
abbrev dktX10_one_3 : List UInt8 := dkwX10_one_3 ++ dktX10_one_4
def dkwX10_one_2 : List UInt8 := [154, 0, 23, 42, 16, 62, 182, 0, 108, 154, 0, 14, 42, 16, 61, 182, 0, 108, 154, 0, 5, 43, 176, 42]
abbrev dktX10_one_2 : List UInt8 := dkwX10_one_2 ++ dktX10_one_3
def dkwX10_one_1 : List UInt8 := [76, 42, 89, 180, 0, 226, 4, 100, 181, 0, 226, 43, 176, 42, 182, 1, 2, 76, 42, 16, 60, 182, 0, 108]
abbrev dktX10_one_1 : List UInt8 := dkwX10_one_1 ++ dktX10_one_2
def dkwX10_one_0 : List UInt8 := [42, 18, 248, 182, 0, 76, 153, 0, 31, 42, 182, 0, 250, 187, 0, 253, 89, 42, 182, 0, 243, 183, 0, 255]
abbrev dktX10_one_0 : List UInt8 := dkwX10_one_0 ++ dktX10_one_1
theorem dksX10_one_0 : cX10_one.data.toList.drop 0 = dktX10_one_0 := by decide +kernel
theorem dksX10_one_1 : cX10_one.data.toList.drop 24 = dktX10_one_1 := dk_seg dksX10_one_0 24 rfl rfl
theorem dksX10_one_2 : cX10_one.data.toList.drop 48 = dktX10_one_2 := dk_seg dksX10_one_1 24 rfl rfl
theorem dksX10_one_3 : cX10_one.data.toList.drop 72 = dktX10_one_3 := dk_seg dksX10_one_2 24 rfl rfl
theorem dksX10_one_4 : cX10_one.data.toList.drop 94 = dktX10_one_4 := dk_seg dksX10_one_3 22 rfl rfl
theorem dX10_one_0 : decode cX10_one 0 = .ok (.aload_n 0, 1) := dk_42 (dk_at dksX10_one_0 0 rfl rfl)
theorem dX10_one_1 : decode cX10_one 1 = .ok (.ldc 248, 2) := dk_18 248 (dk_at dksX10_one_0 1 rfl rfl)
theorem dX10_one_3 : decode cX10_one 3 = .ok (.invokevirtual 76, 3) := dk_182 0 76 (dk_at dksX10_one_0 3 rfl rfl)
theorem dX10_one_6 : decode cX10_one 6 = .ok (.ifCond .eq 31, 3) := dk_153 0 31 (dk_at dksX10_one_0 6 rfl rfl)
theorem dX10_one_9 : decode cX10_one 9 = .ok (.aload_n 0, 1) := dk_42 (dk_at dksX10_one_0 9 rfl rfl)
theorem dX10_one_10 : decode cX10_one 10 = .ok (.invokevirtual 250, 3) := dk_182 0 250 (dk_at dksX10_one_0 10 rfl rfl)
theorem dX10_one_13 : decode cX10_one 13 = .ok (.new 253, 3) := dk_187 0 253 (dk_at dksX10_one_0 13 rfl rfl)
theorem dX10_one_16 : decode cX10_one 16 = .ok (.dup, 1) := dk_89 (dk_at dksX10_one_0 16 rfl rfl)
theorem dX10_one_17 : decode cX10_one 17 = .ok (.aload_n 0, 1) := dk_42 (dk_at dksX10_one_0 17 rfl rfl)
theorem dX10_one_18 : decode cX10_one 18 = .ok (.invokevirtual 243, 3) := dk_182 0 243 (dk_at dksX10_one_0 18 rfl rfl)
theorem dX10_one_21 : decode cX10_one 21 = .ok (.invokespecial 255, 3) := dk_183 0 255 (dk_at dksX10_one_0 21 rfl rfl)
theorem dX10_one_24 : decode cX10_one 24 = .ok (.astore_n 1, 1) := dk_76 (dk_at dksX10_one_1 0 rfl rfl)
theorem dX10_one_25 : decode cX10_one 25 = .ok (.aload_n 0, 1) := dk_42 (dk_at dksX10_one_1 1 rfl rfl)
theorem dX10_one_26 : decode cX10_one 26 = .ok (.dup, 1) := dk_89 (dk_at dksX10_one_1 2 rfl rfl)
theorem dX10_one_27 : decode cX10_one 27 = .ok (.getfield 226, 3) := dk_180 0 226 (dk_at dksX10_one_1 3 rfl rfl)
theorem dX10_one_30 : decode cX10_one 30 = .ok (.iconst 1, 1) := dk_4 (dk_at dksX10_one_1 6 rfl rfl)
theorem dX10_one_31 : decode cX10_one 31 = .ok (.isub, 1) := dk_100 (dk_at dksX10_one_1 7 rfl rfl)
theorem dX10_one_32 : decode cX10_one 32 = .ok (.putfield 226, 3) := dk_181 0 226 (dk_at dksX10_one_1 8 rfl rfl)
theorem dX10_one_35 : decode cX10_one 35 = .ok (.aload_n 1, 1) := dk_43 (dk_at dksX10_one_1 11 rfl rfl)
theorem dX10_one_36 : decode cX10_one 36 = .ok (.areturn, 1) := dk_176 (dk_at dksX10_one_1 12 rfl rfl)
theorem dX10_one_37 : decode cX10_one 37 = .ok (.aload_n 0, 1) := dk_42 (dk_at dksX10_one_1 13 rfl rfl)
theorem dX10_one_38 : decode cX10_one 38 = .ok (.invokevirtual 258, 3) := dk_182 1 2 (dk_at dksX10_one_1 14 rfl rfl)
theorem dX10_one_41 : decode cX10_one 41 = .ok (.astore_n 1, 1) := dk_76 (dk_at dksX10_one_1 17 rfl rfl)
theorem dX10_one_42 : decode cX10_one 42 = .ok (.aload_n 0, 1) := dk_42 (dk_at dksX10_one_1 18 rfl rfl)
theorem dX10_one_43 : decode cX10_one 43 = .ok (.bipush 60, 2) := dk_16 60 (dk_at dksX10_one_1 19 rfl rfl)
theorem dX10_one_45 : decode cX10_one 45 = .ok (.invokevirtual 108, 3) := dk_182 0 108 (dk_at dksX10_one_1 21 rfl rfl)
theorem dX10_one_48 : decode cX10_one 48 = .ok (.ifCond .ne 23, 3) := dk_154 0 23 (dk_at dksX10_one_2 0 rfl rfl)
theorem dX10_one_51 : decode cX10_one 51 = .ok (.aload_n 0, 1) := dk_42 (dk_at dksX10_one_2 3 rfl rfl)
theorem dX10_one_52 : decode cX10_one 52 = .ok (.bipush 62, 2) := dk_16 62 (dk_at dksX10_one_2 4 rfl rfl)
theorem dX10_one_54 : decode cX10_one 54 = .ok (.invokevirtual 108, 3) := dk_182 0 108 (dk_at dksX10_one_2 6 rfl rfl)
theorem dX10_one_57 : decode cX10_one 57 = .ok (.ifCond .ne 14, 3) := dk_154 0 14 (dk_at dksX10_one_2 9 rfl rfl)
theorem dX10_one_60 : decode cX10_one 60 = .ok (.aload_n 0, 1) := dk_42 (dk_at dksX10_one_2 12 rfl rfl)
theorem dX10_one_61 : decode cX10_one 61 = .ok (.bipush 61, 2) := dk_16 61 (dk_at dksX10_one_2 13 rfl rfl)
theorem dX10_one_63 : decode cX10_one 63 = .ok (.invokevirtual 108, 3) := dk_182 0 108 (dk_at dksX10_one_2 15 rfl rfl)
theorem dX10_one_66 : decode cX10_one 66 = .ok (.ifCond .ne 5, 3) := dk_154 0 5 (dk_at dksX10_one_2 18 rfl rfl)
theorem dX10_one_69 : decode cX10_one 69 = .ok (.aload_n 1, 1) := dk_43 (dk_at dksX10_one_2 21 rfl rfl)
theorem dX10_one_70 : decode cX10_one 70 = .ok (.areturn, 1) := dk_176 (dk_at dksX10_one_2 22 rfl rfl)
theorem dX10_one_71 : decode cX10_one 71 = .ok (.aload_n 0, 1) := dk_42 (dk_at dksX10_one_2 23 rfl rfl)
theorem dX10_one_72 : decode cX10_one 72 = .ok (.aload_n 0, 1) := dk_42 (dk_at dksX10_one_3 0 rfl rfl)
theorem dX10_one_73 : decode cX10_one 73 = .ok (.getfield 33, 3) := dk_180 0 33 (dk_at dksX10_one_3 1 rfl rfl)
theorem dX10_one_76 : decode cX10_one 76 = .ok (.invokevirtual 36, 3) := dk_182 0 36 (dk_at dksX10_one_3 4 rfl rfl)
theorem dX10_one_79 : decode cX10_one 79 = .ok (.istore_n 2, 1) := dk_61 (dk_at dksX10_one_3 7 rfl rfl)
theorem dX10_one_80 : decode cX10_one 80 = .ok (.aload_n 0, 1) := dk_42 (dk_at dksX10_one_3 8 rfl rfl)
theorem dX10_one_81 : decode cX10_one 81 = .ok (.invokevirtual 98, 3) := dk_182 0 98 (dk_at dksX10_one_3 9 rfl rfl)
theorem dX10_one_84 : decode cX10_one 84 = .ok (.new 238, 3) := dk_187 0 238 (dk_at dksX10_one_3 12 rfl rfl)
theorem dX10_one_87 : decode cX10_one 87 = .ok (.dup, 1) := dk_89 (dk_at dksX10_one_3 15 rfl rfl)
theorem dX10_one_88 : decode cX10_one 88 = .ok (.iload_n 2, 1) := dk_28 (dk_at dksX10_one_3 16 rfl rfl)
theorem dX10_one_89 : decode cX10_one 89 = .ok (.aload_n 1, 1) := dk_43 (dk_at dksX10_one_3 17 rfl rfl)
theorem dX10_one_90 : decode cX10_one 90 = .ok (.aload_n 0, 1) := dk_42 (dk_at dksX10_one_3 18 rfl rfl)
theorem dX10_one_91 : decode cX10_one 91 = .ok (.invokevirtual 258, 3) := dk_182 1 2 (dk_at dksX10_one_3 19 rfl rfl)
theorem dX10_one_94 : decode cX10_one 94 = .ok (.invokespecial 240, 3) := dk_183 0 240 (dk_at dksX10_one_4 0 rfl rfl)
theorem dX10_one_97 : decode cX10_one 97 = .ok (.areturn, 1) := dk_176 (dk_at dksX10_one_4 3 rfl rfl)
abbrev cX10_open : ByteArray := prog_18_method_29_code
def yX10_open : MethodName := ⟨RX10, "open", "()V"⟩
def dkwX10_open_1 : List UInt8 := [42, 182, 0, 98, 177]
abbrev dktX10_open_1 : List UInt8 := dkwX10_open_1 ++ []
def dkwX10_open_0 : List UInt8 := [42, 180, 0, 226, 16, 7, 160, 0, 8, 42, 182, 0, 94, 191, 42, 89, 180, 0, 226, 4, 96, 181, 0, 226]
abbrev dktX10_open_0 : List UInt8 := dkwX10_open_0 ++ dktX10_open_1
theorem dksX10_open_0 : cX10_open.data.toList.drop 0 = dktX10_open_0 := by decide +kernel
theorem dksX10_open_1 : cX10_open.data.toList.drop 24 = dktX10_open_1 := dk_seg dksX10_open_0 24 rfl rfl
theorem dX10_open_0 : decode cX10_open 0 = .ok (.aload_n 0, 1) := dk_42 (dk_at dksX10_open_0 0 rfl rfl)
theorem dX10_open_1 : decode cX10_open 1 = .ok (.getfield 226, 3) := dk_180 0 226 (dk_at dksX10_open_0 1 rfl rfl)
theorem dX10_open_4 : decode cX10_open 4 = .ok (.bipush 7, 2) := dk_16 7 (dk_at dksX10_open_0 4 rfl rfl)
theorem dX10_open_6 : decode cX10_open 6 = .ok (.if_icmp .ne 8, 3) := dk_160 0 8 (dk_at dksX10_open_0 6 rfl rfl)
theorem dX10_open_9 : decode cX10_open 9 = .ok (.aload_n 0, 1) := dk_42 (dk_at dksX10_open_0 9 rfl rfl)
theorem dX10_open_10 : decode cX10_open 10 = .ok (.invokevirtual 94, 3) := dk_182 0 94 (dk_at dksX10_open_0 10 rfl rfl)
theorem dX10_open_13 : decode cX10_open 13 = .ok (.athrow, 1) := dk_191 (dk_at dksX10_open_0 13 rfl rfl)
theorem dX10_open_14 : decode cX10_open 14 = .ok (.aload_n 0, 1) := dk_42 (dk_at dksX10_open_0 14 rfl rfl)
theorem dX10_open_15 : decode cX10_open 15 = .ok (.dup, 1) := dk_89 (dk_at dksX10_open_0 15 rfl rfl)
theorem dX10_open_16 : decode cX10_open 16 = .ok (.getfield 226, 3) := dk_180 0 226 (dk_at dksX10_open_0 16 rfl rfl)
theorem dX10_open_19 : decode cX10_open 19 = .ok (.iconst 1, 1) := dk_4 (dk_at dksX10_open_0 19 rfl rfl)
theorem dX10_open_20 : decode cX10_open 20 = .ok (.iadd, 1) := dk_96 (dk_at dksX10_open_0 20 rfl rfl)
theorem dX10_open_21 : decode cX10_open 21 = .ok (.putfield 226, 3) := dk_181 0 226 (dk_at dksX10_open_0 21 rfl rfl)
theorem dX10_open_24 : decode cX10_open 24 = .ok (.aload_n 0, 1) := dk_42 (dk_at dksX10_open_1 0 rfl rfl)
theorem dX10_open_25 : decode cX10_open 25 = .ok (.invokevirtual 98, 3) := dk_182 0 98 (dk_at dksX10_open_1 1 rfl rfl)
theorem dX10_open_28 : decode cX10_open 28 = .ok (.return_, 1) := dk_177 (dk_at dksX10_open_1 4 rfl rfl)
abbrev cX10_sum : ByteArray := prog_18_method_31_code
def yX10_sum : MethodName := ⟨RX10, "sum", "()LOathButtons$Part;"⟩
def dkwX10_sum_2 : List UInt8 := [183, 0, 240, 76, 167, 255, 211, 43, 176]
abbrev dktX10_sum_2 : List UInt8 := dkwX10_sum_2 ++ []
def dkwX10_sum_1 : List UInt8 := [42, 180, 0, 33, 182, 0, 36, 61, 42, 182, 0, 98, 187, 0, 238, 89, 28, 43, 42, 182, 1, 5]
abbrev dktX10_sum_1 : List UInt8 := dkwX10_sum_1 ++ dktX10_sum_2
def dkwX10_sum_0 : List UInt8 := [42, 182, 1, 5, 76, 42, 16, 43, 182, 0, 108, 154, 0, 12, 42, 16, 45, 182, 0, 108, 153, 0, 33, 42]
abbrev dktX10_sum_0 : List UInt8 := dkwX10_sum_0 ++ dktX10_sum_1
theorem dksX10_sum_0 : cX10_sum.data.toList.drop 0 = dktX10_sum_0 := by decide +kernel
theorem dksX10_sum_1 : cX10_sum.data.toList.drop 24 = dktX10_sum_1 := dk_seg dksX10_sum_0 24 rfl rfl
theorem dksX10_sum_2 : cX10_sum.data.toList.drop 46 = dktX10_sum_2 := dk_seg dksX10_sum_1 22 rfl rfl
theorem dX10_sum_0 : decode cX10_sum 0 = .ok (.aload_n 0, 1) := dk_42 (dk_at dksX10_sum_0 0 rfl rfl)
theorem dX10_sum_1 : decode cX10_sum 1 = .ok (.invokevirtual 261, 3) := dk_182 1 5 (dk_at dksX10_sum_0 1 rfl rfl)
theorem dX10_sum_4 : decode cX10_sum 4 = .ok (.astore_n 1, 1) := dk_76 (dk_at dksX10_sum_0 4 rfl rfl)
theorem dX10_sum_5 : decode cX10_sum 5 = .ok (.aload_n 0, 1) := dk_42 (dk_at dksX10_sum_0 5 rfl rfl)
theorem dX10_sum_6 : decode cX10_sum 6 = .ok (.bipush 43, 2) := dk_16 43 (dk_at dksX10_sum_0 6 rfl rfl)
theorem dX10_sum_8 : decode cX10_sum 8 = .ok (.invokevirtual 108, 3) := dk_182 0 108 (dk_at dksX10_sum_0 8 rfl rfl)
theorem dX10_sum_11 : decode cX10_sum 11 = .ok (.ifCond .ne 12, 3) := dk_154 0 12 (dk_at dksX10_sum_0 11 rfl rfl)
theorem dX10_sum_14 : decode cX10_sum 14 = .ok (.aload_n 0, 1) := dk_42 (dk_at dksX10_sum_0 14 rfl rfl)
theorem dX10_sum_15 : decode cX10_sum 15 = .ok (.bipush 45, 2) := dk_16 45 (dk_at dksX10_sum_0 15 rfl rfl)
theorem dX10_sum_17 : decode cX10_sum 17 = .ok (.invokevirtual 108, 3) := dk_182 0 108 (dk_at dksX10_sum_0 17 rfl rfl)
theorem dX10_sum_20 : decode cX10_sum 20 = .ok (.ifCond .eq 33, 3) := dk_153 0 33 (dk_at dksX10_sum_0 20 rfl rfl)
theorem dX10_sum_23 : decode cX10_sum 23 = .ok (.aload_n 0, 1) := dk_42 (dk_at dksX10_sum_0 23 rfl rfl)
theorem dX10_sum_24 : decode cX10_sum 24 = .ok (.aload_n 0, 1) := dk_42 (dk_at dksX10_sum_1 0 rfl rfl)
theorem dX10_sum_25 : decode cX10_sum 25 = .ok (.getfield 33, 3) := dk_180 0 33 (dk_at dksX10_sum_1 1 rfl rfl)
theorem dX10_sum_28 : decode cX10_sum 28 = .ok (.invokevirtual 36, 3) := dk_182 0 36 (dk_at dksX10_sum_1 4 rfl rfl)
theorem dX10_sum_31 : decode cX10_sum 31 = .ok (.istore_n 2, 1) := dk_61 (dk_at dksX10_sum_1 7 rfl rfl)
theorem dX10_sum_32 : decode cX10_sum 32 = .ok (.aload_n 0, 1) := dk_42 (dk_at dksX10_sum_1 8 rfl rfl)
theorem dX10_sum_33 : decode cX10_sum 33 = .ok (.invokevirtual 98, 3) := dk_182 0 98 (dk_at dksX10_sum_1 9 rfl rfl)
theorem dX10_sum_36 : decode cX10_sum 36 = .ok (.new 238, 3) := dk_187 0 238 (dk_at dksX10_sum_1 12 rfl rfl)
theorem dX10_sum_39 : decode cX10_sum 39 = .ok (.dup, 1) := dk_89 (dk_at dksX10_sum_1 15 rfl rfl)
theorem dX10_sum_40 : decode cX10_sum 40 = .ok (.iload_n 2, 1) := dk_28 (dk_at dksX10_sum_1 16 rfl rfl)
theorem dX10_sum_41 : decode cX10_sum 41 = .ok (.aload_n 1, 1) := dk_43 (dk_at dksX10_sum_1 17 rfl rfl)
theorem dX10_sum_42 : decode cX10_sum 42 = .ok (.aload_n 0, 1) := dk_42 (dk_at dksX10_sum_1 18 rfl rfl)
theorem dX10_sum_43 : decode cX10_sum 43 = .ok (.invokevirtual 261, 3) := dk_182 1 5 (dk_at dksX10_sum_1 19 rfl rfl)
theorem dX10_sum_46 : decode cX10_sum 46 = .ok (.invokespecial 240, 3) := dk_183 0 240 (dk_at dksX10_sum_2 0 rfl rfl)
theorem dX10_sum_49 : decode cX10_sum 49 = .ok (.astore_n 1, 1) := dk_76 (dk_at dksX10_sum_2 3 rfl rfl)
theorem dX10_sum_50 : decode cX10_sum 50 = .ok (.goto (-45), 3) := dk_167 255 211 (dk_at dksX10_sum_2 4 rfl rfl)
theorem dX10_sum_53 : decode cX10_sum 53 = .ok (.aload_n 1, 1) := dk_43 (dk_at dksX10_sum_2 7 rfl rfl)
theorem dX10_sum_54 : decode cX10_sum 54 = .ok (.areturn, 1) := dk_176 (dk_at dksX10_sum_2 8 rfl rfl)
abbrev cX10_term : ByteArray := prog_18_method_32_code
def yX10_term : MethodName := ⟨RX10, "term", "()LOathButtons$Part;"⟩
def dkwX10_term_2 : List UInt8 := [89, 28, 43, 42, 182, 1, 8, 183, 0, 240, 76, 167, 255, 202, 43, 176]
abbrev dktX10_term_2 : List UInt8 := dkwX10_term_2 ++ []
def dkwX10_term_1 : List UInt8 := [16, 37, 182, 0, 108, 153, 0, 33, 42, 42, 180, 0, 33, 182, 0, 36, 61, 42, 182, 0, 98, 187, 0, 238]
abbrev dktX10_term_1 : List UInt8 := dkwX10_term_1 ++ dktX10_term_2
def dkwX10_term_0 : List UInt8 := [42, 182, 1, 8, 76, 42, 16, 42, 182, 0, 108, 154, 0, 21, 42, 16, 47, 182, 0, 108, 154, 0, 12, 42]
abbrev dktX10_term_0 : List UInt8 := dkwX10_term_0 ++ dktX10_term_1
theorem dksX10_term_0 : cX10_term.data.toList.drop 0 = dktX10_term_0 := by decide +kernel
theorem dksX10_term_1 : cX10_term.data.toList.drop 24 = dktX10_term_1 := dk_seg dksX10_term_0 24 rfl rfl
theorem dksX10_term_2 : cX10_term.data.toList.drop 48 = dktX10_term_2 := dk_seg dksX10_term_1 24 rfl rfl
theorem dX10_term_0 : decode cX10_term 0 = .ok (.aload_n 0, 1) := dk_42 (dk_at dksX10_term_0 0 rfl rfl)
theorem dX10_term_1 : decode cX10_term 1 = .ok (.invokevirtual 264, 3) := dk_182 1 8 (dk_at dksX10_term_0 1 rfl rfl)
theorem dX10_term_4 : decode cX10_term 4 = .ok (.astore_n 1, 1) := dk_76 (dk_at dksX10_term_0 4 rfl rfl)
theorem dX10_term_5 : decode cX10_term 5 = .ok (.aload_n 0, 1) := dk_42 (dk_at dksX10_term_0 5 rfl rfl)
theorem dX10_term_6 : decode cX10_term 6 = .ok (.bipush 42, 2) := dk_16 42 (dk_at dksX10_term_0 6 rfl rfl)
theorem dX10_term_8 : decode cX10_term 8 = .ok (.invokevirtual 108, 3) := dk_182 0 108 (dk_at dksX10_term_0 8 rfl rfl)
theorem dX10_term_11 : decode cX10_term 11 = .ok (.ifCond .ne 21, 3) := dk_154 0 21 (dk_at dksX10_term_0 11 rfl rfl)
theorem dX10_term_14 : decode cX10_term 14 = .ok (.aload_n 0, 1) := dk_42 (dk_at dksX10_term_0 14 rfl rfl)
theorem dX10_term_15 : decode cX10_term 15 = .ok (.bipush 47, 2) := dk_16 47 (dk_at dksX10_term_0 15 rfl rfl)
theorem dX10_term_17 : decode cX10_term 17 = .ok (.invokevirtual 108, 3) := dk_182 0 108 (dk_at dksX10_term_0 17 rfl rfl)
theorem dX10_term_20 : decode cX10_term 20 = .ok (.ifCond .ne 12, 3) := dk_154 0 12 (dk_at dksX10_term_0 20 rfl rfl)
theorem dX10_term_23 : decode cX10_term 23 = .ok (.aload_n 0, 1) := dk_42 (dk_at dksX10_term_0 23 rfl rfl)
theorem dX10_term_24 : decode cX10_term 24 = .ok (.bipush 37, 2) := dk_16 37 (dk_at dksX10_term_1 0 rfl rfl)
theorem dX10_term_26 : decode cX10_term 26 = .ok (.invokevirtual 108, 3) := dk_182 0 108 (dk_at dksX10_term_1 2 rfl rfl)
theorem dX10_term_29 : decode cX10_term 29 = .ok (.ifCond .eq 33, 3) := dk_153 0 33 (dk_at dksX10_term_1 5 rfl rfl)
theorem dX10_term_32 : decode cX10_term 32 = .ok (.aload_n 0, 1) := dk_42 (dk_at dksX10_term_1 8 rfl rfl)
theorem dX10_term_33 : decode cX10_term 33 = .ok (.aload_n 0, 1) := dk_42 (dk_at dksX10_term_1 9 rfl rfl)
theorem dX10_term_34 : decode cX10_term 34 = .ok (.getfield 33, 3) := dk_180 0 33 (dk_at dksX10_term_1 10 rfl rfl)
theorem dX10_term_37 : decode cX10_term 37 = .ok (.invokevirtual 36, 3) := dk_182 0 36 (dk_at dksX10_term_1 13 rfl rfl)
theorem dX10_term_40 : decode cX10_term 40 = .ok (.istore_n 2, 1) := dk_61 (dk_at dksX10_term_1 16 rfl rfl)
theorem dX10_term_41 : decode cX10_term 41 = .ok (.aload_n 0, 1) := dk_42 (dk_at dksX10_term_1 17 rfl rfl)
theorem dX10_term_42 : decode cX10_term 42 = .ok (.invokevirtual 98, 3) := dk_182 0 98 (dk_at dksX10_term_1 18 rfl rfl)
theorem dX10_term_45 : decode cX10_term 45 = .ok (.new 238, 3) := dk_187 0 238 (dk_at dksX10_term_1 21 rfl rfl)
theorem dX10_term_48 : decode cX10_term 48 = .ok (.dup, 1) := dk_89 (dk_at dksX10_term_2 0 rfl rfl)
theorem dX10_term_49 : decode cX10_term 49 = .ok (.iload_n 2, 1) := dk_28 (dk_at dksX10_term_2 1 rfl rfl)
theorem dX10_term_50 : decode cX10_term 50 = .ok (.aload_n 1, 1) := dk_43 (dk_at dksX10_term_2 2 rfl rfl)
theorem dX10_term_51 : decode cX10_term 51 = .ok (.aload_n 0, 1) := dk_42 (dk_at dksX10_term_2 3 rfl rfl)
theorem dX10_term_52 : decode cX10_term 52 = .ok (.invokevirtual 264, 3) := dk_182 1 8 (dk_at dksX10_term_2 4 rfl rfl)
theorem dX10_term_55 : decode cX10_term 55 = .ok (.invokespecial 240, 3) := dk_183 0 240 (dk_at dksX10_term_2 7 rfl rfl)
theorem dX10_term_58 : decode cX10_term 58 = .ok (.astore_n 1, 1) := dk_76 (dk_at dksX10_term_2 10 rfl rfl)
theorem dX10_term_59 : decode cX10_term 59 = .ok (.goto (-54), 3) := dk_167 255 202 (dk_at dksX10_term_2 11 rfl rfl)
theorem dX10_term_62 : decode cX10_term 62 = .ok (.aload_n 1, 1) := dk_43 (dk_at dksX10_term_2 14 rfl rfl)
theorem dX10_term_63 : decode cX10_term 63 = .ok (.areturn, 1) := dk_176 (dk_at dksX10_term_2 15 rfl rfl)
abbrev cX10_unit : ByteArray := prog_18_method_33_code
def yX10_unit : MethodName := ⟨RX10, "unit", "()LOathButtons$Part;"⟩
def dkwX10_unit_6 : List UInt8 := [182, 0, 98, 45, 176]
abbrev dktX10_unit_6 : List UInt8 := dkwX10_unit_6 ++ []
def dkwX10_unit_5 : List UInt8 := [187, 1, 17, 89, 42, 180, 0, 63, 183, 1, 19, 167, 0, 11, 187, 1, 22, 89, 28, 183, 1, 24, 78, 42]
abbrev dktX10_unit_5 : List UInt8 := dkwX10_unit_5 ++ dktX10_unit_6
def dkwX10_unit_4 : List UInt8 := [180, 0, 226, 4, 100, 181, 0, 226, 42, 42, 16, 41, 182, 0, 108, 182, 0, 101, 45, 176, 28, 156, 0, 17]
abbrev dktX10_unit_4 : List UInt8 := dkwX10_unit_4 ++ dktX10_unit_5
def dkwX10_unit_3 : List UInt8 := [89, 180, 0, 223, 4, 96, 181, 0, 223, 27, 153, 0, 34, 42, 182, 0, 250, 42, 182, 0, 229, 78, 42, 89]
abbrev dktX10_unit_3 : List UInt8 := dkwX10_unit_3 ++ dktX10_unit_4
def dkwX10_unit_2 : List UInt8 := [16, 30, 160, 0, 8, 42, 182, 0, 94, 191, 42, 180, 0, 12, 89, 180, 1, 14, 4, 96, 181, 1, 14, 42]
abbrev dktX10_unit_2 : List UInt8 := dkwX10_unit_2 ++ dktX10_unit_3
def dkwX10_unit_1 : List UInt8 := [180, 0, 40, 5, 160, 0, 24, 42, 180, 0, 12, 180, 1, 14, 16, 60, 159, 0, 12, 42, 180, 0, 223]
abbrev dktX10_unit_1 : List UInt8 := dkwX10_unit_1 ++ dktX10_unit_2
def dkwX10_unit_0 : List UInt8 := [42, 16, 40, 182, 0, 108, 60, 42, 178, 1, 11, 182, 0, 84, 61, 27, 154, 0, 15, 28, 156, 0, 11, 42]
abbrev dktX10_unit_0 : List UInt8 := dkwX10_unit_0 ++ dktX10_unit_1
theorem dksX10_unit_0 : cX10_unit.data.toList.drop 0 = dktX10_unit_0 := by decide +kernel
theorem dksX10_unit_1 : cX10_unit.data.toList.drop 24 = dktX10_unit_1 := dk_seg dksX10_unit_0 24 rfl rfl
theorem dksX10_unit_2 : cX10_unit.data.toList.drop 47 = dktX10_unit_2 := dk_seg dksX10_unit_1 23 rfl rfl
theorem dksX10_unit_3 : cX10_unit.data.toList.drop 71 = dktX10_unit_3 := dk_seg dksX10_unit_2 24 rfl rfl
theorem dksX10_unit_4 : cX10_unit.data.toList.drop 95 = dktX10_unit_4 := dk_seg dksX10_unit_3 24 rfl rfl
theorem dksX10_unit_5 : cX10_unit.data.toList.drop 119 = dktX10_unit_5 := dk_seg dksX10_unit_4 24 rfl rfl
theorem dksX10_unit_6 : cX10_unit.data.toList.drop 143 = dktX10_unit_6 := dk_seg dksX10_unit_5 24 rfl rfl
theorem dX10_unit_0 : decode cX10_unit 0 = .ok (.aload_n 0, 1) := dk_42 (dk_at dksX10_unit_0 0 rfl rfl)
theorem dX10_unit_1 : decode cX10_unit 1 = .ok (.bipush 40, 2) := dk_16 40 (dk_at dksX10_unit_0 1 rfl rfl)
theorem dX10_unit_3 : decode cX10_unit 3 = .ok (.invokevirtual 108, 3) := dk_182 0 108 (dk_at dksX10_unit_0 3 rfl rfl)
theorem dX10_unit_6 : decode cX10_unit 6 = .ok (.istore_n 1, 1) := dk_60 (dk_at dksX10_unit_0 6 rfl rfl)
theorem dX10_unit_7 : decode cX10_unit 7 = .ok (.aload_n 0, 1) := dk_42 (dk_at dksX10_unit_0 7 rfl rfl)
theorem dX10_unit_8 : decode cX10_unit 8 = .ok (.getstatic 267, 3) := dk_178 1 11 (dk_at dksX10_unit_0 8 rfl rfl)
theorem dX10_unit_11 : decode cX10_unit 11 = .ok (.invokevirtual 84, 3) := dk_182 0 84 (dk_at dksX10_unit_0 11 rfl rfl)
theorem dX10_unit_14 : decode cX10_unit 14 = .ok (.istore_n 2, 1) := dk_61 (dk_at dksX10_unit_0 14 rfl rfl)
theorem dX10_unit_15 : decode cX10_unit 15 = .ok (.iload_n 1, 1) := dk_27 (dk_at dksX10_unit_0 15 rfl rfl)
theorem dX10_unit_16 : decode cX10_unit 16 = .ok (.ifCond .ne 15, 3) := dk_154 0 15 (dk_at dksX10_unit_0 16 rfl rfl)
theorem dX10_unit_19 : decode cX10_unit 19 = .ok (.iload_n 2, 1) := dk_28 (dk_at dksX10_unit_0 19 rfl rfl)
theorem dX10_unit_20 : decode cX10_unit 20 = .ok (.ifCond .ge 11, 3) := dk_156 0 11 (dk_at dksX10_unit_0 20 rfl rfl)
theorem dX10_unit_23 : decode cX10_unit 23 = .ok (.aload_n 0, 1) := dk_42 (dk_at dksX10_unit_0 23 rfl rfl)
theorem dX10_unit_24 : decode cX10_unit 24 = .ok (.getfield 40, 3) := dk_180 0 40 (dk_at dksX10_unit_1 0 rfl rfl)
theorem dX10_unit_27 : decode cX10_unit 27 = .ok (.iconst 2, 1) := dk_5 (dk_at dksX10_unit_1 3 rfl rfl)
theorem dX10_unit_28 : decode cX10_unit 28 = .ok (.if_icmp .ne 24, 3) := dk_160 0 24 (dk_at dksX10_unit_1 4 rfl rfl)
theorem dX10_unit_31 : decode cX10_unit 31 = .ok (.aload_n 0, 1) := dk_42 (dk_at dksX10_unit_1 7 rfl rfl)
theorem dX10_unit_32 : decode cX10_unit 32 = .ok (.getfield 12, 3) := dk_180 0 12 (dk_at dksX10_unit_1 8 rfl rfl)
theorem dX10_unit_35 : decode cX10_unit 35 = .ok (.getfield 270, 3) := dk_180 1 14 (dk_at dksX10_unit_1 11 rfl rfl)
theorem dX10_unit_38 : decode cX10_unit 38 = .ok (.bipush 60, 2) := dk_16 60 (dk_at dksX10_unit_1 14 rfl rfl)
theorem dX10_unit_40 : decode cX10_unit 40 = .ok (.if_icmp .eq 12, 3) := dk_159 0 12 (dk_at dksX10_unit_1 16 rfl rfl)
theorem dX10_unit_43 : decode cX10_unit 43 = .ok (.aload_n 0, 1) := dk_42 (dk_at dksX10_unit_1 19 rfl rfl)
theorem dX10_unit_44 : decode cX10_unit 44 = .ok (.getfield 223, 3) := dk_180 0 223 (dk_at dksX10_unit_1 20 rfl rfl)
theorem dX10_unit_47 : decode cX10_unit 47 = .ok (.bipush 30, 2) := dk_16 30 (dk_at dksX10_unit_2 0 rfl rfl)
theorem dX10_unit_49 : decode cX10_unit 49 = .ok (.if_icmp .ne 8, 3) := dk_160 0 8 (dk_at dksX10_unit_2 2 rfl rfl)
theorem dX10_unit_52 : decode cX10_unit 52 = .ok (.aload_n 0, 1) := dk_42 (dk_at dksX10_unit_2 5 rfl rfl)
theorem dX10_unit_53 : decode cX10_unit 53 = .ok (.invokevirtual 94, 3) := dk_182 0 94 (dk_at dksX10_unit_2 6 rfl rfl)
theorem dX10_unit_56 : decode cX10_unit 56 = .ok (.athrow, 1) := dk_191 (dk_at dksX10_unit_2 9 rfl rfl)
theorem dX10_unit_57 : decode cX10_unit 57 = .ok (.aload_n 0, 1) := dk_42 (dk_at dksX10_unit_2 10 rfl rfl)
theorem dX10_unit_58 : decode cX10_unit 58 = .ok (.getfield 12, 3) := dk_180 0 12 (dk_at dksX10_unit_2 11 rfl rfl)
theorem dX10_unit_61 : decode cX10_unit 61 = .ok (.dup, 1) := dk_89 (dk_at dksX10_unit_2 14 rfl rfl)
theorem dX10_unit_62 : decode cX10_unit 62 = .ok (.getfield 270, 3) := dk_180 1 14 (dk_at dksX10_unit_2 15 rfl rfl)
theorem dX10_unit_65 : decode cX10_unit 65 = .ok (.iconst 1, 1) := dk_4 (dk_at dksX10_unit_2 18 rfl rfl)
theorem dX10_unit_66 : decode cX10_unit 66 = .ok (.iadd, 1) := dk_96 (dk_at dksX10_unit_2 19 rfl rfl)
theorem dX10_unit_67 : decode cX10_unit 67 = .ok (.putfield 270, 3) := dk_181 1 14 (dk_at dksX10_unit_2 20 rfl rfl)
theorem dX10_unit_70 : decode cX10_unit 70 = .ok (.aload_n 0, 1) := dk_42 (dk_at dksX10_unit_2 23 rfl rfl)
theorem dX10_unit_71 : decode cX10_unit 71 = .ok (.dup, 1) := dk_89 (dk_at dksX10_unit_3 0 rfl rfl)
theorem dX10_unit_72 : decode cX10_unit 72 = .ok (.getfield 223, 3) := dk_180 0 223 (dk_at dksX10_unit_3 1 rfl rfl)
theorem dX10_unit_75 : decode cX10_unit 75 = .ok (.iconst 1, 1) := dk_4 (dk_at dksX10_unit_3 4 rfl rfl)
theorem dX10_unit_76 : decode cX10_unit 76 = .ok (.iadd, 1) := dk_96 (dk_at dksX10_unit_3 5 rfl rfl)
theorem dX10_unit_77 : decode cX10_unit 77 = .ok (.putfield 223, 3) := dk_181 0 223 (dk_at dksX10_unit_3 6 rfl rfl)
theorem dX10_unit_80 : decode cX10_unit 80 = .ok (.iload_n 1, 1) := dk_27 (dk_at dksX10_unit_3 9 rfl rfl)
theorem dX10_unit_81 : decode cX10_unit 81 = .ok (.ifCond .eq 34, 3) := dk_153 0 34 (dk_at dksX10_unit_3 10 rfl rfl)
theorem dX10_unit_84 : decode cX10_unit 84 = .ok (.aload_n 0, 1) := dk_42 (dk_at dksX10_unit_3 13 rfl rfl)
theorem dX10_unit_85 : decode cX10_unit 85 = .ok (.invokevirtual 250, 3) := dk_182 0 250 (dk_at dksX10_unit_3 14 rfl rfl)
theorem dX10_unit_88 : decode cX10_unit 88 = .ok (.aload_n 0, 1) := dk_42 (dk_at dksX10_unit_3 17 rfl rfl)
theorem dX10_unit_89 : decode cX10_unit 89 = .ok (.invokevirtual 229, 3) := dk_182 0 229 (dk_at dksX10_unit_3 18 rfl rfl)
theorem dX10_unit_92 : decode cX10_unit 92 = .ok (.astore_n 3, 1) := dk_78 (dk_at dksX10_unit_3 21 rfl rfl)
theorem dX10_unit_93 : decode cX10_unit 93 = .ok (.aload_n 0, 1) := dk_42 (dk_at dksX10_unit_3 22 rfl rfl)
theorem dX10_unit_94 : decode cX10_unit 94 = .ok (.dup, 1) := dk_89 (dk_at dksX10_unit_3 23 rfl rfl)
theorem dX10_unit_95 : decode cX10_unit 95 = .ok (.getfield 226, 3) := dk_180 0 226 (dk_at dksX10_unit_4 0 rfl rfl)
theorem dX10_unit_98 : decode cX10_unit 98 = .ok (.iconst 1, 1) := dk_4 (dk_at dksX10_unit_4 3 rfl rfl)
theorem dX10_unit_99 : decode cX10_unit 99 = .ok (.isub, 1) := dk_100 (dk_at dksX10_unit_4 4 rfl rfl)
theorem dX10_unit_100 : decode cX10_unit 100 = .ok (.putfield 226, 3) := dk_181 0 226 (dk_at dksX10_unit_4 5 rfl rfl)
theorem dX10_unit_103 : decode cX10_unit 103 = .ok (.aload_n 0, 1) := dk_42 (dk_at dksX10_unit_4 8 rfl rfl)
theorem dX10_unit_104 : decode cX10_unit 104 = .ok (.aload_n 0, 1) := dk_42 (dk_at dksX10_unit_4 9 rfl rfl)
theorem dX10_unit_105 : decode cX10_unit 105 = .ok (.bipush 41, 2) := dk_16 41 (dk_at dksX10_unit_4 10 rfl rfl)
theorem dX10_unit_107 : decode cX10_unit 107 = .ok (.invokevirtual 108, 3) := dk_182 0 108 (dk_at dksX10_unit_4 12 rfl rfl)
theorem dX10_unit_110 : decode cX10_unit 110 = .ok (.invokevirtual 101, 3) := dk_182 0 101 (dk_at dksX10_unit_4 15 rfl rfl)
theorem dX10_unit_113 : decode cX10_unit 113 = .ok (.aload_n 3, 1) := dk_45 (dk_at dksX10_unit_4 18 rfl rfl)
theorem dX10_unit_114 : decode cX10_unit 114 = .ok (.areturn, 1) := dk_176 (dk_at dksX10_unit_4 19 rfl rfl)
theorem dX10_unit_115 : decode cX10_unit 115 = .ok (.iload_n 2, 1) := dk_28 (dk_at dksX10_unit_4 20 rfl rfl)
theorem dX10_unit_116 : decode cX10_unit 116 = .ok (.ifCond .ge 17, 3) := dk_156 0 17 (dk_at dksX10_unit_4 21 rfl rfl)
theorem dX10_unit_119 : decode cX10_unit 119 = .ok (.new 273, 3) := dk_187 1 17 (dk_at dksX10_unit_5 0 rfl rfl)
theorem dX10_unit_122 : decode cX10_unit 122 = .ok (.dup, 1) := dk_89 (dk_at dksX10_unit_5 3 rfl rfl)
theorem dX10_unit_123 : decode cX10_unit 123 = .ok (.aload_n 0, 1) := dk_42 (dk_at dksX10_unit_5 4 rfl rfl)
theorem dX10_unit_124 : decode cX10_unit 124 = .ok (.getfield 63, 3) := dk_180 0 63 (dk_at dksX10_unit_5 5 rfl rfl)
theorem dX10_unit_127 : decode cX10_unit 127 = .ok (.invokespecial 275, 3) := dk_183 1 19 (dk_at dksX10_unit_5 8 rfl rfl)
theorem dX10_unit_130 : decode cX10_unit 130 = .ok (.goto 11, 3) := dk_167 0 11 (dk_at dksX10_unit_5 11 rfl rfl)
theorem dX10_unit_133 : decode cX10_unit 133 = .ok (.new 278, 3) := dk_187 1 22 (dk_at dksX10_unit_5 14 rfl rfl)
theorem dX10_unit_136 : decode cX10_unit 136 = .ok (.dup, 1) := dk_89 (dk_at dksX10_unit_5 17 rfl rfl)
theorem dX10_unit_137 : decode cX10_unit 137 = .ok (.iload_n 2, 1) := dk_28 (dk_at dksX10_unit_5 18 rfl rfl)
theorem dX10_unit_138 : decode cX10_unit 138 = .ok (.invokespecial 280, 3) := dk_183 1 24 (dk_at dksX10_unit_5 19 rfl rfl)
theorem dX10_unit_141 : decode cX10_unit 141 = .ok (.astore_n 3, 1) := dk_78 (dk_at dksX10_unit_5 22 rfl rfl)
theorem dX10_unit_142 : decode cX10_unit 142 = .ok (.aload_n 0, 1) := dk_42 (dk_at dksX10_unit_5 23 rfl rfl)
theorem dX10_unit_143 : decode cX10_unit 143 = .ok (.invokevirtual 98, 3) := dk_182 0 98 (dk_at dksX10_unit_6 0 rfl rfl)
theorem dX10_unit_146 : decode cX10_unit 146 = .ok (.aload_n 3, 1) := dk_45 (dk_at dksX10_unit_6 3 rfl rfl)
theorem dX10_unit_147 : decode cX10_unit 147 = .ok (.areturn, 1) := dk_176 (dk_at dksX10_unit_6 4 rfl rfl)
abbrev cX10_once : ByteArray := prog_18_method_36_code
def yX10_once : MethodName := ⟨RX10, "once", "()V"⟩
def dkwX10_once_4 : List UInt8 := [181, 1, 74, 177]
abbrev dktX10_once_4 : List UInt8 := dkwX10_once_4 ++ []
def dkwX10_once_3 : List UInt8 := [42, 182, 0, 98, 42, 180, 0, 12, 4, 181, 1, 51, 42, 180, 0, 12, 42, 3, 17, 3, 231, 182, 0, 105]
abbrev dktX10_once_3 : List UInt8 := dkwX10_once_3 ++ dktX10_once_4
def dkwX10_once_2 : List UInt8 := [180, 0, 12, 4, 181, 1, 46, 42, 180, 0, 12, 42, 3, 16, 100, 182, 0, 105, 181, 1, 72, 167, 0, 30]
abbrev dktX10_once_2 : List UInt8 := dkwX10_once_2 ++ dktX10_once_3
def dkwX10_once_1 : List UInt8 := [16, 24, 182, 0, 105, 181, 1, 71, 167, 0, 65, 42, 19, 1, 44, 182, 0, 157, 153, 0, 28, 42]
abbrev dktX10_once_1 : List UInt8 := dkwX10_once_1 ++ dktX10_once_2
def dkwX10_once_0 : List UInt8 := [42, 19, 1, 38, 182, 0, 157, 153, 0, 28, 42, 180, 0, 12, 4, 181, 1, 40, 42, 180, 0, 12, 42, 4]
abbrev dktX10_once_0 : List UInt8 := dkwX10_once_0 ++ dktX10_once_1
theorem dksX10_once_0 : cX10_once.data.toList.drop 0 = dktX10_once_0 := by decide +kernel
theorem dksX10_once_1 : cX10_once.data.toList.drop 24 = dktX10_once_1 := dk_seg dksX10_once_0 24 rfl rfl
theorem dksX10_once_2 : cX10_once.data.toList.drop 46 = dktX10_once_2 := dk_seg dksX10_once_1 22 rfl rfl
theorem dksX10_once_3 : cX10_once.data.toList.drop 70 = dktX10_once_3 := dk_seg dksX10_once_2 24 rfl rfl
theorem dksX10_once_4 : cX10_once.data.toList.drop 94 = dktX10_once_4 := dk_seg dksX10_once_3 24 rfl rfl
theorem dX10_once_0 : decode cX10_once 0 = .ok (.aload_n 0, 1) := dk_42 (dk_at dksX10_once_0 0 rfl rfl)
theorem dX10_once_1 : decode cX10_once 1 = .ok (.ldc_w 294, 3) := dk_19 1 38 (dk_at dksX10_once_0 1 rfl rfl)
theorem dX10_once_4 : decode cX10_once 4 = .ok (.invokevirtual 157, 3) := dk_182 0 157 (dk_at dksX10_once_0 4 rfl rfl)
theorem dX10_once_7 : decode cX10_once 7 = .ok (.ifCond .eq 28, 3) := dk_153 0 28 (dk_at dksX10_once_0 7 rfl rfl)
theorem dX10_once_10 : decode cX10_once 10 = .ok (.aload_n 0, 1) := dk_42 (dk_at dksX10_once_0 10 rfl rfl)
theorem dX10_once_11 : decode cX10_once 11 = .ok (.getfield 12, 3) := dk_180 0 12 (dk_at dksX10_once_0 11 rfl rfl)
theorem dX10_once_14 : decode cX10_once 14 = .ok (.iconst 1, 1) := dk_4 (dk_at dksX10_once_0 14 rfl rfl)
theorem dX10_once_15 : decode cX10_once 15 = .ok (.putfield 296, 3) := dk_181 1 40 (dk_at dksX10_once_0 15 rfl rfl)
theorem dX10_once_18 : decode cX10_once 18 = .ok (.aload_n 0, 1) := dk_42 (dk_at dksX10_once_0 18 rfl rfl)
theorem dX10_once_19 : decode cX10_once 19 = .ok (.getfield 12, 3) := dk_180 0 12 (dk_at dksX10_once_0 19 rfl rfl)
theorem dX10_once_22 : decode cX10_once 22 = .ok (.aload_n 0, 1) := dk_42 (dk_at dksX10_once_0 22 rfl rfl)
theorem dX10_once_23 : decode cX10_once 23 = .ok (.iconst 1, 1) := dk_4 (dk_at dksX10_once_0 23 rfl rfl)
theorem dX10_once_24 : decode cX10_once 24 = .ok (.bipush 24, 2) := dk_16 24 (dk_at dksX10_once_1 0 rfl rfl)
theorem dX10_once_26 : decode cX10_once 26 = .ok (.invokevirtual 105, 3) := dk_182 0 105 (dk_at dksX10_once_1 2 rfl rfl)
theorem dX10_once_29 : decode cX10_once 29 = .ok (.putfield 327, 3) := dk_181 1 71 (dk_at dksX10_once_1 5 rfl rfl)
theorem dX10_once_32 : decode cX10_once 32 = .ok (.goto 65, 3) := dk_167 0 65 (dk_at dksX10_once_1 8 rfl rfl)
theorem dX10_once_35 : decode cX10_once 35 = .ok (.aload_n 0, 1) := dk_42 (dk_at dksX10_once_1 11 rfl rfl)
theorem dX10_once_36 : decode cX10_once 36 = .ok (.ldc_w 300, 3) := dk_19 1 44 (dk_at dksX10_once_1 12 rfl rfl)
theorem dX10_once_39 : decode cX10_once 39 = .ok (.invokevirtual 157, 3) := dk_182 0 157 (dk_at dksX10_once_1 15 rfl rfl)
theorem dX10_once_42 : decode cX10_once 42 = .ok (.ifCond .eq 28, 3) := dk_153 0 28 (dk_at dksX10_once_1 18 rfl rfl)
theorem dX10_once_45 : decode cX10_once 45 = .ok (.aload_n 0, 1) := dk_42 (dk_at dksX10_once_1 21 rfl rfl)
theorem dX10_once_46 : decode cX10_once 46 = .ok (.getfield 12, 3) := dk_180 0 12 (dk_at dksX10_once_2 0 rfl rfl)
theorem dX10_once_49 : decode cX10_once 49 = .ok (.iconst 1, 1) := dk_4 (dk_at dksX10_once_2 3 rfl rfl)
theorem dX10_once_50 : decode cX10_once 50 = .ok (.putfield 302, 3) := dk_181 1 46 (dk_at dksX10_once_2 4 rfl rfl)
theorem dX10_once_53 : decode cX10_once 53 = .ok (.aload_n 0, 1) := dk_42 (dk_at dksX10_once_2 7 rfl rfl)
theorem dX10_once_54 : decode cX10_once 54 = .ok (.getfield 12, 3) := dk_180 0 12 (dk_at dksX10_once_2 8 rfl rfl)
theorem dX10_once_57 : decode cX10_once 57 = .ok (.aload_n 0, 1) := dk_42 (dk_at dksX10_once_2 11 rfl rfl)
theorem dX10_once_58 : decode cX10_once 58 = .ok (.iconst 0, 1) := dk_3 (dk_at dksX10_once_2 12 rfl rfl)
theorem dX10_once_59 : decode cX10_once 59 = .ok (.bipush 100, 2) := dk_16 100 (dk_at dksX10_once_2 13 rfl rfl)
theorem dX10_once_61 : decode cX10_once 61 = .ok (.invokevirtual 105, 3) := dk_182 0 105 (dk_at dksX10_once_2 15 rfl rfl)
theorem dX10_once_64 : decode cX10_once 64 = .ok (.putfield 328, 3) := dk_181 1 72 (dk_at dksX10_once_2 18 rfl rfl)
theorem dX10_once_67 : decode cX10_once 67 = .ok (.goto 30, 3) := dk_167 0 30 (dk_at dksX10_once_2 21 rfl rfl)
theorem dX10_once_70 : decode cX10_once 70 = .ok (.aload_n 0, 1) := dk_42 (dk_at dksX10_once_3 0 rfl rfl)
theorem dX10_once_71 : decode cX10_once 71 = .ok (.invokevirtual 98, 3) := dk_182 0 98 (dk_at dksX10_once_3 1 rfl rfl)
theorem dX10_once_74 : decode cX10_once 74 = .ok (.aload_n 0, 1) := dk_42 (dk_at dksX10_once_3 4 rfl rfl)
theorem dX10_once_75 : decode cX10_once 75 = .ok (.getfield 12, 3) := dk_180 0 12 (dk_at dksX10_once_3 5 rfl rfl)
theorem dX10_once_78 : decode cX10_once 78 = .ok (.iconst 1, 1) := dk_4 (dk_at dksX10_once_3 8 rfl rfl)
theorem dX10_once_79 : decode cX10_once 79 = .ok (.putfield 307, 3) := dk_181 1 51 (dk_at dksX10_once_3 9 rfl rfl)
theorem dX10_once_82 : decode cX10_once 82 = .ok (.aload_n 0, 1) := dk_42 (dk_at dksX10_once_3 12 rfl rfl)
theorem dX10_once_83 : decode cX10_once 83 = .ok (.getfield 12, 3) := dk_180 0 12 (dk_at dksX10_once_3 13 rfl rfl)
theorem dX10_once_86 : decode cX10_once 86 = .ok (.aload_n 0, 1) := dk_42 (dk_at dksX10_once_3 16 rfl rfl)
theorem dX10_once_87 : decode cX10_once 87 = .ok (.iconst 0, 1) := dk_3 (dk_at dksX10_once_3 17 rfl rfl)
theorem dX10_once_88 : decode cX10_once 88 = .ok (.sipush 999, 3) := dk_17 3 231 (dk_at dksX10_once_3 18 rfl rfl)
theorem dX10_once_91 : decode cX10_once 91 = .ok (.invokevirtual 105, 3) := dk_182 0 105 (dk_at dksX10_once_3 21 rfl rfl)
theorem dX10_once_94 : decode cX10_once 94 = .ok (.putfield 330, 3) := dk_181 1 74 (dk_at dksX10_once_4 0 rfl rfl)
theorem dX10_once_97 : decode cX10_once 97 = .ok (.return_, 1) := dk_177 (dk_at dksX10_once_4 3 rfl rfl)
theorem q134 : (Jvm.Cond.initialized "OathButtons$Reade\x72") ∈ lw_all := lw_g (lw_at lw_m1 18 rfl) rfl
theorem q200 : (Jvm.Cond.fieldLinkNest "OathButtons$Reade\x72" (132 : Nat) "OathButtons$Regiment" "men" "Ljava/util/ArrayList;" "OathButtons") ∈ lw_tbl := lw_at lw_m1 84 rfl
theorem q204 : (Jvm.Cond.fieldLinkNest "OathButtons$Reade\x72" (168 : Nat) "OathButtons$Regiment" "deeds" "Ljava/util/ArrayList;" "OathButtons") ∈ lw_tbl := lw_at lw_m1 88 rfl
theorem q209 : (Jvm.Cond.fieldLinkNest "OathButtons$Reade\x72" (176 : Nat) "OathButtons$Regiment" "oaths" "Ljava/util/ArrayList;" "OathButtons") ∈ lw_tbl := lw_at lw_m1 93 rfl
theorem q211 : (Jvm.Cond.fieldLinkNest "OathButtons$Reade\x72" (216 : Nat) "OathButtons$Regiment" "likes" "[I" "OathButtons") ∈ lw_tbl := lw_at lw_m1 95 rfl
theorem q213 : (Jvm.Cond.fieldLinkNest "OathButtons$Reade\x72" (291 : Nat) "OathButtons$Regiment" "wea\x72" "LOathButtons$Part;" "OathButtons") ∈ lw_tbl := lw_at lw_m1 97 rfl
theorem q214 : (Jvm.Cond.fieldLinkNest "OathButtons$Reade\x72" (220 : Nat) "OathButtons$Regiment" "friends" "I" "OathButtons") ∈ lw_tbl := lw_at lw_m1 98 rfl
theorem q216 : (Jvm.Cond.fieldLinkNest "OathButtons$Reade\x72" (270 : Nat) "OathButtons$Regiment" "units" "I" "OathButtons") ∈ lw_tbl := lw_at lw_m1 100 rfl
theorem q220 : (Jvm.Cond.fieldLinkNest "OathButtons$Reade\x72" (327 : Nat) "OathButtons$Regiment" "hours" "I" "OathButtons") ∈ lw_tbl := lw_at lw_m1 104 rfl
theorem q223 : (Jvm.Cond.fieldLinkNest "OathButtons$Reade\x72" (328 : Nat) "OathButtons$Regiment" "storm" "I" "OathButtons") ∈ lw_tbl := lw_at lw_m1 107 rfl
theorem q226 : (Jvm.Cond.fieldLinkNest "OathButtons$Reade\x72" (330 : Nat) "OathButtons$Regiment" "draw" "I" "OathButtons") ∈ lw_tbl := lw_at lw_m1 110 rfl
theorem q227 : (Jvm.Cond.fieldLinkNest "OathButtons$Reade\x72" (296 : Nat) "OathButtons$Regiment" "hasHours" "Z" "OathButtons") ∈ lw_tbl := lw_at lw_m1 111 rfl
theorem q228 : (Jvm.Cond.fieldLinkNest "OathButtons$Reade\x72" (302 : Nat) "OathButtons$Regiment" "hasStorm" "Z" "OathButtons") ∈ lw_tbl := lw_at lw_m1 112 rfl
theorem q229 : (Jvm.Cond.fieldLinkNest "OathButtons$Reade\x72" (307 : Nat) "OathButtons$Regiment" "hasDraw" "Z" "OathButtons") ∈ lw_tbl := lw_at lw_m1 113 rfl
theorem q571 : (Jvm.Cond.instantiable "OathButtons$Reade\x72" (11 : Nat)) ∈ lw_all := lw_g (lw_at lw_m2 215 rfl) rfl
theorem q573 : (Jvm.Cond.instanceMethod ({ cls := "OathButtons$Reade\x72", name := "<init>", desc := "([BILOathButtons$Wrong;)V" } : Jvm.MethodName)) ∈ lw_all := lw_g (lw_at lw_m2 217 rfl) rfl
theorem q574 : (Jvm.Cond.code ({ cls := "OathButtons$Reade\x72", name := "<init>", desc := "([BILOathButtons$Wrong;)V" } : Jvm.MethodName) prog_18_method_1_code (4 : Nat) (Option.none : Option Jvm.ClassFile.FieldType)) ∈ lw_all := lw_g (lw_at lw_m2 218 rfl) rfl
theorem q575 : (Jvm.Cond.methodLink "OathButtons$Reade\x72" (3 : Nat) ({ cls := "java/lang/Object", name := "<init>", desc := "()V" } : Jvm.MethodName)) ∈ lw_all := lw_g (lw_at lw_m2 219 rfl) rfl
theorem q576 : (Jvm.Cond.classLink "OathButtons$Reade\x72" (9 : Nat) "OathButtons$Regiment") ∈ lw_all := lw_g (lw_at lw_m2 220 rfl) rfl
theorem q577 : (Jvm.Cond.methodLink "OathButtons$Reade\x72" (11 : Nat) ({ cls := "OathButtons$Regiment", name := "<init>", desc := "()V" } : Jvm.MethodName)) ∈ lw_all := lw_g (lw_at lw_m2 221 rfl) rfl
theorem q578 : (Jvm.Cond.fieldLink "OathButtons$Reade\x72" (18 : Nat) "OathButtons$Reade\x72" "text" "[B") ∈ lw_all := lw_g (lw_at lw_m2 222 rfl) rfl
theorem q579 : (Jvm.Cond.fieldLink "OathButtons$Reade\x72" (22 : Nat) "OathButtons$Reade\x72" "size" "I") ∈ lw_all := lw_g (lw_at lw_m2 223 rfl) rfl
theorem q580 : (Jvm.Cond.fieldLink "OathButtons$Reade\x72" (26 : Nat) "OathButtons$Reade\x72" "fault" "LOathButtons$Wrong;") ∈ lw_all := lw_g (lw_at lw_m2 224 rfl) rfl
theorem q581 : (Jvm.Cond.fieldLink "OathButtons$Reade\x72" (12 : Nat) "OathButtons$Reade\x72" "\x72" "LOathButtons$Regiment;") ∈ lw_all := lw_g (lw_at lw_m2 225 rfl) rfl
theorem q582 : (Jvm.Cond.fieldLink "OathButtons$Reade\x72" (33 : Nat) "OathButtons$Reade\x72" "at" "I") ∈ lw_all := lw_g (lw_at lw_m2 226 rfl) rfl
theorem q583 : (Jvm.Cond.fieldLink "OathButtons$Reade\x72" (30 : Nat) "OathButtons$Reade\x72" "end" "I") ∈ lw_all := lw_g (lw_at lw_m2 227 rfl) rfl
theorem q584 : (Jvm.Cond.fieldLink "OathButtons$Reade\x72" (40 : Nat) "OathButtons$Reade\x72" "token" "I") ∈ lw_all := lw_g (lw_at lw_m2 228 rfl) rfl
theorem q585 : (Jvm.Cond.fieldLink "OathButtons$Reade\x72" (63 : Nat) "OathButtons$Reade\x72" "numbe\x72" "I") ∈ lw_all := lw_g (lw_at lw_m2 229 rfl) rfl
theorem q586 : (Jvm.Cond.fieldLink "OathButtons$Reade\x72" (59 : Nat) "OathButtons$Reade\x72" "name" "J") ∈ lw_all := lw_g (lw_at lw_m2 230 rfl) rfl
theorem q587 : (Jvm.Cond.fieldLink "OathButtons$Reade\x72" (226 : Nat) "OathButtons$Reade\x72" "deep" "I") ∈ lw_all := lw_g (lw_at lw_m2 231 rfl) rfl
theorem q588 : (Jvm.Cond.fieldLink "OathButtons$Reade\x72" (223 : Nat) "OathButtons$Reade\x72" "mine" "I") ∈ lw_all := lw_g (lw_at lw_m2 232 rfl) rfl
theorem q589 : (Jvm.Cond.laysFinal "OathButtons$Reade\x72" "OathButtons$Reade\x72" "text" "[B") ∈ lw_all := lw_g (lw_at lw_m2 233 rfl) rfl
theorem q590 : (Jvm.Cond.soleField "OathButtons$Reade\x72" "text") ∈ lw_all := lw_g (lw_at lw_m2 234 rfl) rfl
theorem q591 : (Jvm.Cond.laysFinal "OathButtons$Reade\x72" "OathButtons$Reade\x72" "size" "I") ∈ lw_all := lw_g (lw_at lw_m2 235 rfl) rfl
theorem q592 : (Jvm.Cond.soleField "OathButtons$Reade\x72" "size") ∈ lw_all := lw_g (lw_at lw_m2 236 rfl) rfl
theorem q593 : (Jvm.Cond.laysFinal "OathButtons$Reade\x72" "OathButtons$Reade\x72" "fault" "LOathButtons$Wrong;") ∈ lw_all := lw_g (lw_at lw_m2 237 rfl) rfl
theorem q594 : (Jvm.Cond.soleField "OathButtons$Reade\x72" "fault") ∈ lw_all := lw_g (lw_at lw_m2 238 rfl) rfl
theorem q595 : (Jvm.Cond.laysFinal "OathButtons$Reade\x72" "OathButtons$Reade\x72" "\x72" "LOathButtons$Regiment;") ∈ lw_all := lw_g (lw_at lw_m2 239 rfl) rfl
theorem q596 : (Jvm.Cond.soleField "OathButtons$Reade\x72" "\x72") ∈ lw_all := lw_g (lw_at lw_m3 0 rfl) rfl
theorem q597 : (Jvm.Cond.lays "OathButtons$Reade\x72" "OathButtons$Reade\x72" "at" "I") ∈ lw_all := lw_g (lw_at lw_m3 1 rfl) rfl
theorem q598 : (Jvm.Cond.soleField "OathButtons$Reade\x72" "at") ∈ lw_all := lw_g (lw_at lw_m3 2 rfl) rfl
theorem q599 : (Jvm.Cond.lays "OathButtons$Reade\x72" "OathButtons$Reade\x72" "end" "I") ∈ lw_all := lw_g (lw_at lw_m3 3 rfl) rfl
theorem q600 : (Jvm.Cond.soleField "OathButtons$Reade\x72" "end") ∈ lw_all := lw_g (lw_at lw_m3 4 rfl) rfl
theorem q601 : (Jvm.Cond.lays "OathButtons$Reade\x72" "OathButtons$Reade\x72" "token" "I") ∈ lw_all := lw_g (lw_at lw_m3 5 rfl) rfl
theorem q602 : (Jvm.Cond.soleField "OathButtons$Reade\x72" "token") ∈ lw_all := lw_g (lw_at lw_m3 6 rfl) rfl
theorem q603 : (Jvm.Cond.lays "OathButtons$Reade\x72" "OathButtons$Reade\x72" "numbe\x72" "I") ∈ lw_all := lw_g (lw_at lw_m3 7 rfl) rfl
theorem q604 : (Jvm.Cond.soleField "OathButtons$Reade\x72" "numbe\x72") ∈ lw_all := lw_g (lw_at lw_m3 8 rfl) rfl
theorem q605 : (Jvm.Cond.lays "OathButtons$Reade\x72" "OathButtons$Reade\x72" "name" "J") ∈ lw_all := lw_g (lw_at lw_m3 9 rfl) rfl
theorem q606 : (Jvm.Cond.soleField "OathButtons$Reade\x72" "name") ∈ lw_all := lw_g (lw_at lw_m3 10 rfl) rfl
theorem q607 : (Jvm.Cond.lays "OathButtons$Reade\x72" "OathButtons$Reade\x72" "deep" "I") ∈ lw_all := lw_g (lw_at lw_m3 11 rfl) rfl
theorem q608 : (Jvm.Cond.soleField "OathButtons$Reade\x72" "deep") ∈ lw_all := lw_g (lw_at lw_m3 12 rfl) rfl
theorem q609 : (Jvm.Cond.lays "OathButtons$Reade\x72" "OathButtons$Reade\x72" "mine" "I") ∈ lw_all := lw_g (lw_at lw_m3 13 rfl) rfl
theorem q610 : (Jvm.Cond.soleField "OathButtons$Reade\x72" "mine") ∈ lw_all := lw_g (lw_at lw_m3 14 rfl) rfl
theorem q611 : (Jvm.Cond.superclass "OathButtons$Reade\x72" "java/lang/Object") ∈ lw_all := lw_g (lw_at lw_m3 15 rfl) rfl
theorem q613 : (Jvm.Cond.instanceMethod ({ cls := "OathButtons$Reade\x72", name := "read", desc := "()LOathButtons$Regiment;" } : Jvm.MethodName)) ∈ lw_all := lw_g (lw_at lw_m3 17 rfl) rfl
theorem q614 : (Jvm.Cond.selects "OathButtons$Reade\x72" ({ cls := "OathButtons$Reade\x72", name := "read", desc := "()LOathButtons$Regiment;" } : Jvm.MethodName) ({ cls := "OathButtons$Reade\x72", name := "read", desc := "()LOathButtons$Regiment;" } : Jvm.MethodName)) ∈ lw_all := lw_g (lw_at lw_m3 18 rfl) rfl
theorem q615 : (Jvm.Cond.code ({ cls := "OathButtons$Reade\x72", name := "read", desc := "()LOathButtons$Regiment;" } : Jvm.MethodName) prog_18_method_37_code (1 : Nat) (Option.some (Jvm.ClassFile.FieldType.object "OathButtons$Regiment"))) ∈ lw_all := lw_g (lw_at lw_m3 19 rfl) rfl
theorem q616 : (Jvm.Cond.methodLink "OathButtons$Reade\x72" (98 : Nat) ({ cls := "OathButtons$Reade\x72", name := "next", desc := "()V" } : Jvm.MethodName)) ∈ lw_all := lw_g (lw_at lw_m3 20 rfl) rfl
theorem q617 : (Jvm.Cond.privateMethod ({ cls := "OathButtons$Reade\x72", name := "next", desc := "()V" } : Jvm.MethodName)) ∈ lw_tbl := lw_at lw_m3 21 rfl
theorem q618 : (Jvm.Cond.instanceMethod ({ cls := "OathButtons$Reade\x72", name := "next", desc := "()V" } : Jvm.MethodName)) ∈ lw_all := lw_g (lw_at lw_m3 22 rfl) rfl
theorem q619 : (Jvm.Cond.code ({ cls := "OathButtons$Reade\x72", name := "next", desc := "()V" } : Jvm.MethodName) prog_18_method_6_code (2 : Nat) (Option.none : Option Jvm.ClassFile.FieldType)) ∈ lw_all := lw_g (lw_at lw_m3 23 rfl) rfl
theorem q620 : (Jvm.Cond.methodLink "OathButtons$Reade\x72" (36 : Nat) ({ cls := "OathButtons$Reade\x72", name := "sign", desc := "(I)I" } : Jvm.MethodName)) ∈ lw_all := lw_g (lw_at lw_m3 24 rfl) rfl
theorem q621 : (Jvm.Cond.privateMethod ({ cls := "OathButtons$Reade\x72", name := "sign", desc := "(I)I" } : Jvm.MethodName)) ∈ lw_tbl := lw_at lw_m3 25 rfl
theorem q622 : (Jvm.Cond.instanceMethod ({ cls := "OathButtons$Reade\x72", name := "sign", desc := "(I)I" } : Jvm.MethodName)) ∈ lw_all := lw_g (lw_at lw_m3 26 rfl) rfl
theorem q623 : (Jvm.Cond.code ({ cls := "OathButtons$Reade\x72", name := "sign", desc := "(I)I" } : Jvm.MethodName) prog_18_method_2_code (2 : Nat) (Option.some Jvm.ClassFile.FieldType.int)) ∈ lw_all := lw_g (lw_at lw_m3 27 rfl) rfl
theorem q624 : (Jvm.Cond.methodLink "OathButtons$Reade\x72" (43 : Nat) ({ cls := "OathButtons$Reade\x72", name := "isLette\x72", desc := "(I)Z" } : Jvm.MethodName)) ∈ lw_all := lw_g (lw_at lw_m3 28 rfl) rfl
theorem q625 : (Jvm.Cond.static ({ cls := "OathButtons$Reade\x72", name := "isLette\x72", desc := "(I)Z" } : Jvm.MethodName)) ∈ lw_all := lw_g (lw_at lw_m3 29 rfl) rfl
theorem q626 : (Jvm.Cond.code ({ cls := "OathButtons$Reade\x72", name := "isLette\x72", desc := "(I)Z" } : Jvm.MethodName) prog_18_method_3_code (1 : Nat) (Option.some Jvm.ClassFile.FieldType.boolean)) ∈ lw_all := lw_g (lw_at lw_m3 30 rfl) rfl
theorem q627 : (Jvm.Cond.methodLink "OathButtons$Reade\x72" (47 : Nat) ({ cls := "OathButtons$Reade\x72", name := "readWord", desc := "()V" } : Jvm.MethodName)) ∈ lw_all := lw_g (lw_at lw_m3 31 rfl) rfl
theorem q628 : (Jvm.Cond.privateMethod ({ cls := "OathButtons$Reade\x72", name := "readWord", desc := "()V" } : Jvm.MethodName)) ∈ lw_tbl := lw_at lw_m3 32 rfl
theorem q629 : (Jvm.Cond.instanceMethod ({ cls := "OathButtons$Reade\x72", name := "readWord", desc := "()V" } : Jvm.MethodName)) ∈ lw_all := lw_g (lw_at lw_m3 33 rfl) rfl
theorem q630 : (Jvm.Cond.code ({ cls := "OathButtons$Reade\x72", name := "readWord", desc := "()V" } : Jvm.MethodName) prog_18_method_7_code (1 : Nat) (Option.none : Option Jvm.ClassFile.FieldType)) ∈ lw_all := lw_g (lw_at lw_m3 34 rfl) rfl
theorem q631 : (Jvm.Cond.methodLink "OathButtons$Reade\x72" (50 : Nat) ({ cls := "OathButtons$Reade\x72", name := "isDigit", desc := "(I)Z" } : Jvm.MethodName)) ∈ lw_all := lw_g (lw_at lw_m3 35 rfl) rfl
theorem q632 : (Jvm.Cond.static ({ cls := "OathButtons$Reade\x72", name := "isDigit", desc := "(I)Z" } : Jvm.MethodName)) ∈ lw_all := lw_g (lw_at lw_m3 36 rfl) rfl
theorem q633 : (Jvm.Cond.code ({ cls := "OathButtons$Reade\x72", name := "isDigit", desc := "(I)Z" } : Jvm.MethodName) prog_18_method_4_code (1 : Nat) (Option.some Jvm.ClassFile.FieldType.boolean)) ∈ lw_all := lw_g (lw_at lw_m3 37 rfl) rfl
theorem q634 : (Jvm.Cond.methodLink "OathButtons$Reade\x72" (53 : Nat) ({ cls := "OathButtons$Reade\x72", name := "readNumbe\x72", desc := "()V" } : Jvm.MethodName)) ∈ lw_all := lw_g (lw_at lw_m3 38 rfl) rfl
theorem q635 : (Jvm.Cond.privateMethod ({ cls := "OathButtons$Reade\x72", name := "readNumbe\x72", desc := "()V" } : Jvm.MethodName)) ∈ lw_tbl := lw_at lw_m3 39 rfl
theorem q636 : (Jvm.Cond.instanceMethod ({ cls := "OathButtons$Reade\x72", name := "readNumbe\x72", desc := "()V" } : Jvm.MethodName)) ∈ lw_all := lw_g (lw_at lw_m3 40 rfl) rfl
theorem q637 : (Jvm.Cond.code ({ cls := "OathButtons$Reade\x72", name := "readNumbe\x72", desc := "()V" } : Jvm.MethodName) prog_18_method_8_code (1 : Nat) (Option.none : Option Jvm.ClassFile.FieldType)) ∈ lw_all := lw_g (lw_at lw_m3 41 rfl) rfl
theorem q638 : (Jvm.Cond.methodLink "OathButtons$Reade\x72" (56 : Nat) ({ cls := "OathButtons$Reade\x72", name := "isSign", desc := "(I)Z" } : Jvm.MethodName)) ∈ lw_all := lw_g (lw_at lw_m3 42 rfl) rfl
theorem q639 : (Jvm.Cond.static ({ cls := "OathButtons$Reade\x72", name := "isSign", desc := "(I)Z" } : Jvm.MethodName)) ∈ lw_all := lw_g (lw_at lw_m3 43 rfl) rfl
theorem q640 : (Jvm.Cond.code ({ cls := "OathButtons$Reade\x72", name := "isSign", desc := "(I)Z" } : Jvm.MethodName) prog_18_method_5_code (1 : Nat) (Option.some Jvm.ClassFile.FieldType.boolean)) ∈ lw_all := lw_g (lw_at lw_m3 44 rfl) rfl
theorem q641 : (Jvm.Cond.methodLink "OathButtons$Reade\x72" (332 : Nat) ({ cls := "OathButtons$Reade\x72", name := "line", desc := "()V" } : Jvm.MethodName)) ∈ lw_all := lw_g (lw_at lw_m3 45 rfl) rfl
theorem q642 : (Jvm.Cond.privateMethod ({ cls := "OathButtons$Reade\x72", name := "line", desc := "()V" } : Jvm.MethodName)) ∈ lw_tbl := lw_at lw_m3 46 rfl
theorem q643 : (Jvm.Cond.instanceMethod ({ cls := "OathButtons$Reade\x72", name := "line", desc := "()V" } : Jvm.MethodName)) ∈ lw_all := lw_g (lw_at lw_m3 47 rfl) rfl
theorem q644 : (Jvm.Cond.code ({ cls := "OathButtons$Reade\x72", name := "line", desc := "()V" } : Jvm.MethodName) prog_18_method_35_code (1 : Nat) (Option.none : Option Jvm.ClassFile.FieldType)) ∈ lw_all := lw_g (lw_at lw_m3 48 rfl) rfl
theorem q645 : (Jvm.Cond.methodLink "OathButtons$Reade\x72" (310 : Nat) ({ cls := "OathButtons$Reade\x72", name := "canLine", desc := "()Z" } : Jvm.MethodName)) ∈ lw_all := lw_g (lw_at lw_m3 49 rfl) rfl
theorem q646 : (Jvm.Cond.privateMethod ({ cls := "OathButtons$Reade\x72", name := "canLine", desc := "()Z" } : Jvm.MethodName)) ∈ lw_tbl := lw_at lw_m3 50 rfl
theorem q647 : (Jvm.Cond.instanceMethod ({ cls := "OathButtons$Reade\x72", name := "canLine", desc := "()Z" } : Jvm.MethodName)) ∈ lw_all := lw_g (lw_at lw_m3 51 rfl) rfl
theorem q648 : (Jvm.Cond.code ({ cls := "OathButtons$Reade\x72", name := "canLine", desc := "()Z" } : Jvm.MethodName) prog_18_method_34_code (1 : Nat) (Option.some Jvm.ClassFile.FieldType.boolean)) ∈ lw_all := lw_g (lw_at lw_m3 52 rfl) rfl
theorem q649 : (Jvm.Cond.stringRef "OathButtons$Reade\x72" (281 : Nat) "man") ∈ lw_tbl := lw_at lw_m3 53 rfl
theorem q650 : (Jvm.Cond.methodLink "OathButtons$Reade\x72" (76 : Nat) ({ cls := "OathButtons$Reade\x72", name := "isWord", desc := "(Ljava/lang/String;)Z" } : Jvm.MethodName)) ∈ lw_all := lw_g (lw_at lw_m3 54 rfl) rfl
theorem q651 : (Jvm.Cond.privateMethod ({ cls := "OathButtons$Reade\x72", name := "isWord", desc := "(Ljava/lang/String;)Z" } : Jvm.MethodName)) ∈ lw_tbl := lw_at lw_m3 55 rfl
theorem q652 : (Jvm.Cond.instanceMethod ({ cls := "OathButtons$Reade\x72", name := "isWord", desc := "(Ljava/lang/String;)Z" } : Jvm.MethodName)) ∈ lw_all := lw_g (lw_at lw_m3 56 rfl) rfl
theorem q653 : (Jvm.Cond.code ({ cls := "OathButtons$Reade\x72", name := "isWord", desc := "(Ljava/lang/String;)Z" } : Jvm.MethodName) prog_18_method_9_code (3 : Nat) (Option.some Jvm.ClassFile.FieldType.boolean)) ∈ lw_all := lw_g (lw_at lw_m3 57 rfl) rfl
theorem q654 : (Jvm.Cond.methodLink "OathButtons$Reade\x72" (66 : Nat) ({ cls := "java/lang/String", name := "length", desc := "()I" } : Jvm.MethodName)) ∈ lw_all := lw_g (lw_at lw_m3 58 rfl) rfl
theorem q664 : (Jvm.Cond.methodLink "OathButtons$Reade\x72" (72 : Nat) ({ cls := "java/lang/String", name := "charAt", desc := "(I)C" } : Jvm.MethodName)) ∈ lw_all := lw_g (lw_at lw_m3 68 rfl) rfl
theorem q700 : (Jvm.Cond.methodLink "OathButtons$Reade\x72" (111 : Nat) ({ cls := "java/util/ArrayList", name := "size", desc := "()I" } : Jvm.MethodName)) ∈ lw_all := lw_g (lw_at lw_m3 104 rfl) rfl
theorem q701 : (Jvm.Cond.stringRef "OathButtons$Reade\x72" (283 : Nat) "deed") ∈ lw_tbl := lw_at lw_m3 105 rfl
theorem q702 : (Jvm.Cond.stringRef "OathButtons$Reade\x72" (285 : Nat) "button") ∈ lw_tbl := lw_at lw_m3 106 rfl
theorem q703 : (Jvm.Cond.stringRef "OathButtons$Reade\x72" (287 : Nat) "friend") ∈ lw_tbl := lw_at lw_m3 107 rfl
theorem q704 : (Jvm.Cond.stringRef "OathButtons$Reade\x72" (289 : Nat) "wea\x72") ∈ lw_tbl := lw_at lw_m3 108 rfl
theorem q705 : (Jvm.Cond.stringRef "OathButtons$Reade\x72" (294 : Nat) "day") ∈ lw_tbl := lw_at lw_m3 109 rfl
theorem q706 : (Jvm.Cond.stringRef "OathButtons$Reade\x72" (300 : Nat) "storm") ∈ lw_tbl := lw_at lw_m3 110 rfl
theorem q707 : (Jvm.Cond.stringRef "OathButtons$Reade\x72" (305 : Nat) "draw") ∈ lw_tbl := lw_at lw_m3 111 rfl
theorem q708 : (Jvm.Cond.methodLink "OathButtons$Reade\x72" (94 : Nat) ({ cls := "OathButtons$Reade\x72", name := "wrong", desc := "()LOathButtons$Wrong;" } : Jvm.MethodName)) ∈ lw_all := lw_g (lw_at lw_m3 112 rfl) rfl
theorem q709 : (Jvm.Cond.privateMethod ({ cls := "OathButtons$Reade\x72", name := "wrong", desc := "()LOathButtons$Wrong;" } : Jvm.MethodName)) ∈ lw_tbl := lw_at lw_m3 113 rfl
theorem q710 : (Jvm.Cond.instanceMethod ({ cls := "OathButtons$Reade\x72", name := "wrong", desc := "()LOathButtons$Wrong;" } : Jvm.MethodName)) ∈ lw_all := lw_g (lw_at lw_m3 114 rfl) rfl
theorem q711 : (Jvm.Cond.code ({ cls := "OathButtons$Reade\x72", name := "wrong", desc := "()LOathButtons$Wrong;" } : Jvm.MethodName) prog_18_method_13_code (1 : Nat) (Option.some (Jvm.ClassFile.FieldType.object "OathButtons$Wrong"))) ∈ lw_all := lw_g (lw_at lw_m3 115 rfl) rfl
theorem q712 : (Jvm.Cond.methodLink "OathButtons$Reade\x72" (88 : Nat) ({ cls := "OathButtons$Wrong", name := "by", desc := "(II)LOathButtons$Wrong;" } : Jvm.MethodName)) ∈ lw_all := lw_g (lw_at lw_m3 116 rfl) rfl
theorem q716 : (Jvm.Cond.methodLink "OathButtons$Reade\x72" (157 : Nat) ({ cls := "OathButtons$Reade\x72", name := "has", desc := "(Ljava/lang/String;)Z" } : Jvm.MethodName)) ∈ lw_all := lw_g (lw_at lw_m3 120 rfl) rfl
theorem q717 : (Jvm.Cond.privateMethod ({ cls := "OathButtons$Reade\x72", name := "has", desc := "(Ljava/lang/String;)Z" } : Jvm.MethodName)) ∈ lw_tbl := lw_at lw_m3 121 rfl
theorem q718 : (Jvm.Cond.instanceMethod ({ cls := "OathButtons$Reade\x72", name := "has", desc := "(Ljava/lang/String;)Z" } : Jvm.MethodName)) ∈ lw_all := lw_g (lw_at lw_m3 122 rfl) rfl
theorem q719 : (Jvm.Cond.code ({ cls := "OathButtons$Reade\x72", name := "has", desc := "(Ljava/lang/String;)Z" } : Jvm.MethodName) prog_18_method_18_code (3 : Nat) (Option.some Jvm.ClassFile.FieldType.boolean)) ∈ lw_all := lw_g (lw_at lw_m3 123 rfl) rfl
theorem q720 : (Jvm.Cond.methodLink "OathButtons$Reade\x72" (313 : Nat) ({ cls := "OathButtons$Reade\x72", name := "man", desc := "()V" } : Jvm.MethodName)) ∈ lw_all := lw_g (lw_at lw_m3 124 rfl) rfl
theorem q721 : (Jvm.Cond.privateMethod ({ cls := "OathButtons$Reade\x72", name := "man", desc := "()V" } : Jvm.MethodName)) ∈ lw_tbl := lw_at lw_m3 125 rfl
theorem q722 : (Jvm.Cond.instanceMethod ({ cls := "OathButtons$Reade\x72", name := "man", desc := "()V" } : Jvm.MethodName)) ∈ lw_all := lw_g (lw_at lw_m3 126 rfl) rfl
theorem q723 : (Jvm.Cond.code ({ cls := "OathButtons$Reade\x72", name := "man", desc := "()V" } : Jvm.MethodName) prog_18_method_22_code (2 : Nat) (Option.none : Option Jvm.ClassFile.FieldType)) ∈ lw_all := lw_g (lw_at lw_m3 127 rfl) rfl
theorem q724 : (Jvm.Cond.classLink "OathButtons$Reade\x72" (130 : Nat) "OathButtons$Man") ∈ lw_all := lw_g (lw_at lw_m3 128 rfl) rfl
theorem q726 : (Jvm.Cond.methodLink "OathButtons$Reade\x72" (136 : Nat) ({ cls := "OathButtons$Reade\x72", name := "fresh", desc := "(Ljava/util/ArrayList;)J" } : Jvm.MethodName)) ∈ lw_all := lw_g (lw_at lw_m3 130 rfl) rfl
theorem q727 : (Jvm.Cond.privateMethod ({ cls := "OathButtons$Reade\x72", name := "fresh", desc := "(Ljava/util/ArrayList;)J" } : Jvm.MethodName)) ∈ lw_tbl := lw_at lw_m3 131 rfl
theorem q728 : (Jvm.Cond.instanceMethod ({ cls := "OathButtons$Reade\x72", name := "fresh", desc := "(Ljava/util/ArrayList;)J" } : Jvm.MethodName)) ∈ lw_all := lw_g (lw_at lw_m3 132 rfl) rfl
theorem q729 : (Jvm.Cond.code ({ cls := "OathButtons$Reade\x72", name := "fresh", desc := "(Ljava/util/ArrayList;)J" } : Jvm.MethodName) prog_18_method_20_code (4 : Nat) (Option.some Jvm.ClassFile.FieldType.long)) ∈ lw_all := lw_g (lw_at lw_m3 133 rfl) rfl
theorem q730 : (Jvm.Cond.methodLink "OathButtons$Reade\x72" (122 : Nat) ({ cls := "OathButtons$Reade\x72", name := "isName", desc := "()Z" } : Jvm.MethodName)) ∈ lw_all := lw_g (lw_at lw_m3 134 rfl) rfl
theorem q731 : (Jvm.Cond.privateMethod ({ cls := "OathButtons$Reade\x72", name := "isName", desc := "()Z" } : Jvm.MethodName)) ∈ lw_tbl := lw_at lw_m3 135 rfl
theorem q732 : (Jvm.Cond.instanceMethod ({ cls := "OathButtons$Reade\x72", name := "isName", desc := "()Z" } : Jvm.MethodName)) ∈ lw_all := lw_g (lw_at lw_m3 136 rfl) rfl
theorem q733 : (Jvm.Cond.code ({ cls := "OathButtons$Reade\x72", name := "isName", desc := "()Z" } : Jvm.MethodName) prog_18_method_12_code (1 : Nat) (Option.some Jvm.ClassFile.FieldType.boolean)) ∈ lw_all := lw_g (lw_at lw_m3 137 rfl) rfl
theorem q734 : (Jvm.Cond.fieldLink "OathButtons$Reade\x72" (80 : Nat) "OathButtons$Reade\x72" "KEPT_WORDS" "[Ljava/lang/String;") ∈ lw_all := lw_g (lw_at lw_m3 138 rfl) rfl
theorem q735 : (Jvm.Cond.laysStatic "OathButtons$Reade\x72" "KEPT_WORDS" "[Ljava/lang/String;") ∈ lw_tbl := lw_at lw_m3 139 rfl
theorem q736 : (Jvm.Cond.methodLink "OathButtons$Reade\x72" (84 : Nat) ({ cls := "OathButtons$Reade\x72", name := "which", desc := "([Ljava/lang/String;)I" } : Jvm.MethodName)) ∈ lw_all := lw_g (lw_at lw_m3 140 rfl) rfl
theorem q737 : (Jvm.Cond.privateMethod ({ cls := "OathButtons$Reade\x72", name := "which", desc := "([Ljava/lang/String;)I" } : Jvm.MethodName)) ∈ lw_tbl := lw_at lw_m3 141 rfl
theorem q738 : (Jvm.Cond.instanceMethod ({ cls := "OathButtons$Reade\x72", name := "which", desc := "([Ljava/lang/String;)I" } : Jvm.MethodName)) ∈ lw_all := lw_g (lw_at lw_m3 142 rfl) rfl
theorem q739 : (Jvm.Cond.code ({ cls := "OathButtons$Reade\x72", name := "which", desc := "([Ljava/lang/String;)I" } : Jvm.MethodName) prog_18_method_10_code (3 : Nat) (Option.some Jvm.ClassFile.FieldType.int)) ∈ lw_all := lw_g (lw_at lw_m3 143 rfl) rfl
theorem q740 : (Jvm.Cond.methodLink "OathButtons$Reade\x72" (126 : Nat) ({ cls := "OathButtons$Reade\x72", name := "here", desc := "(Ljava/util/ArrayList;)I" } : Jvm.MethodName)) ∈ lw_all := lw_g (lw_at lw_m3 144 rfl) rfl
theorem q741 : (Jvm.Cond.privateMethod ({ cls := "OathButtons$Reade\x72", name := "here", desc := "(Ljava/util/ArrayList;)I" } : Jvm.MethodName)) ∈ lw_tbl := lw_at lw_m3 145 rfl
theorem q742 : (Jvm.Cond.instanceMethod ({ cls := "OathButtons$Reade\x72", name := "here", desc := "(Ljava/util/ArrayList;)I" } : Jvm.MethodName)) ∈ lw_all := lw_g (lw_at lw_m3 146 rfl) rfl
theorem q743 : (Jvm.Cond.code ({ cls := "OathButtons$Reade\x72", name := "here", desc := "(Ljava/util/ArrayList;)I" } : Jvm.MethodName) prog_18_method_19_code (3 : Nat) (Option.some Jvm.ClassFile.FieldType.int)) ∈ lw_all := lw_g (lw_at lw_m3 147 rfl) rfl
theorem q744 : (Jvm.Cond.methodLink "OathButtons$Reade\x72" (115 : Nat) ({ cls := "java/util/ArrayList", name := "get", desc := "(I)Ljava/lang/Object;" } : Jvm.MethodName)) ∈ lw_all := lw_g (lw_at lw_m3 148 rfl) rfl
theorem q745 : (Jvm.Cond.classLink "OathButtons$Reade\x72" (119 : Nat) "OathButtons$Called") ∈ lw_all := lw_g (lw_at lw_m3 149 rfl) rfl
theorem q746 : (Jvm.Cond.methodLink "OathButtons$Reade\x72" (140 : Nat) ({ cls := "OathButtons$Man", name := "<init>", desc := "(J)V" } : Jvm.MethodName)) ∈ lw_all := lw_g (lw_at lw_m3 150 rfl) rfl
theorem q754 : (Jvm.Cond.fieldLinkNest "OathButtons$Reade\x72" (149 : Nat) "OathButtons$Man" "colou\x72" "I" "OathButtons") ∈ lw_tbl := lw_at lw_m3 158 rfl
theorem q757 : (Jvm.Cond.fieldLinkNest "OathButtons$Reade\x72" (153 : Nat) "OathButtons$Man" "holes" "I" "OathButtons") ∈ lw_tbl := lw_at lw_m3 161 rfl
theorem q759 : (Jvm.Cond.fieldLinkNest "OathButtons$Reade\x72" (160 : Nat) "OathButtons$Man" "left" "I" "OathButtons") ∈ lw_tbl := lw_at lw_m3 163 rfl
theorem q761 : (Jvm.Cond.fieldLink "OathButtons$Reade\x72" (121 : Nat) "OathButtons$Called" "name" "J") ∈ lw_all := lw_g (lw_at lw_m3 165 rfl) rfl
theorem q771 : (Jvm.Cond.stringRef "OathButtons$Reade\x72" (143 : Nat) "colou\x72") ∈ lw_tbl := lw_at lw_m3 175 rfl
theorem q772 : (Jvm.Cond.methodLink "OathButtons$Reade\x72" (145 : Nat) ({ cls := "OathButtons$Reade\x72", name := "afte\x72", desc := "(Ljava/lang/String;II)I" } : Jvm.MethodName)) ∈ lw_all := lw_g (lw_at lw_m3 176 rfl) rfl
theorem q773 : (Jvm.Cond.privateMethod ({ cls := "OathButtons$Reade\x72", name := "afte\x72", desc := "(Ljava/lang/String;II)I" } : Jvm.MethodName)) ∈ lw_tbl := lw_at lw_m3 177 rfl
theorem q774 : (Jvm.Cond.instanceMethod ({ cls := "OathButtons$Reade\x72", name := "afte\x72", desc := "(Ljava/lang/String;II)I" } : Jvm.MethodName)) ∈ lw_all := lw_g (lw_at lw_m3 178 rfl) rfl
theorem q775 : (Jvm.Cond.code ({ cls := "OathButtons$Reade\x72", name := "afte\x72", desc := "(Ljava/lang/String;II)I" } : Jvm.MethodName) prog_18_method_16_code (4 : Nat) (Option.some Jvm.ClassFile.FieldType.int)) ∈ lw_all := lw_g (lw_at lw_m3 179 rfl) rfl
theorem q776 : (Jvm.Cond.methodLink "OathButtons$Reade\x72" (101 : Nat) ({ cls := "OathButtons$Reade\x72", name := "must", desc := "(Z)V" } : Jvm.MethodName)) ∈ lw_all := lw_g (lw_at lw_m3 180 rfl) rfl
theorem q777 : (Jvm.Cond.privateMethod ({ cls := "OathButtons$Reade\x72", name := "must", desc := "(Z)V" } : Jvm.MethodName)) ∈ lw_tbl := lw_at lw_m3 181 rfl
theorem q778 : (Jvm.Cond.instanceMethod ({ cls := "OathButtons$Reade\x72", name := "must", desc := "(Z)V" } : Jvm.MethodName)) ∈ lw_all := lw_g (lw_at lw_m3 182 rfl) rfl
theorem q779 : (Jvm.Cond.code ({ cls := "OathButtons$Reade\x72", name := "must", desc := "(Z)V" } : Jvm.MethodName) prog_18_method_14_code (2 : Nat) (Option.none : Option Jvm.ClassFile.FieldType)) ∈ lw_all := lw_g (lw_at lw_m3 183 rfl) rfl
theorem q780 : (Jvm.Cond.methodLink "OathButtons$Reade\x72" (105 : Nat) ({ cls := "OathButtons$Reade\x72", name := "numbe\x72", desc := "(II)I" } : Jvm.MethodName)) ∈ lw_all := lw_g (lw_at lw_m3 184 rfl) rfl
theorem q781 : (Jvm.Cond.privateMethod ({ cls := "OathButtons$Reade\x72", name := "numbe\x72", desc := "(II)I" } : Jvm.MethodName)) ∈ lw_tbl := lw_at lw_m3 185 rfl
theorem q782 : (Jvm.Cond.instanceMethod ({ cls := "OathButtons$Reade\x72", name := "numbe\x72", desc := "(II)I" } : Jvm.MethodName)) ∈ lw_all := lw_g (lw_at lw_m3 186 rfl) rfl
theorem q783 : (Jvm.Cond.code ({ cls := "OathButtons$Reade\x72", name := "numbe\x72", desc := "(II)I" } : Jvm.MethodName) prog_18_method_15_code (4 : Nat) (Option.some Jvm.ClassFile.FieldType.int)) ∈ lw_all := lw_g (lw_at lw_m3 187 rfl) rfl
theorem q784 : (Jvm.Cond.stringRef "OathButtons$Reade\x72" (151 : Nat) "holes") ∈ lw_tbl := lw_at lw_m3 188 rfl
theorem q785 : (Jvm.Cond.stringRef "OathButtons$Reade\x72" (155 : Nat) "left") ∈ lw_tbl := lw_at lw_m3 189 rfl
theorem q786 : (Jvm.Cond.methodLink "OathButtons$Reade\x72" (162 : Nat) ({ cls := "java/util/ArrayList", name := "add", desc := "(Ljava/lang/Object;)Z" } : Jvm.MethodName)) ∈ lw_all := lw_g (lw_at lw_m3 190 rfl) rfl
theorem q831 : (Jvm.Cond.selects "OathButtons$Reade\x72" ({ cls := "java/lang/Object", name := "getClass", desc := "()Ljava/lang/Class;" } : Jvm.MethodName) ({ cls := "java/lang/Object", name := "getClass", desc := "()Ljava/lang/Class;" } : Jvm.MethodName)) ∈ lw_all := lw_g (lw_at lw_m3 235 rfl) rfl
theorem q853 : (Jvm.Cond.methodLink "OathButtons$Reade\x72" (315 : Nat) ({ cls := "OathButtons$Reade\x72", name := "deed", desc := "()V" } : Jvm.MethodName)) ∈ lw_all := lw_g (lw_at lw_m4 17 rfl) rfl
theorem q854 : (Jvm.Cond.privateMethod ({ cls := "OathButtons$Reade\x72", name := "deed", desc := "()V" } : Jvm.MethodName)) ∈ lw_tbl := lw_at lw_m4 18 rfl
theorem q855 : (Jvm.Cond.instanceMethod ({ cls := "OathButtons$Reade\x72", name := "deed", desc := "()V" } : Jvm.MethodName)) ∈ lw_all := lw_g (lw_at lw_m4 19 rfl) rfl
theorem q856 : (Jvm.Cond.code ({ cls := "OathButtons$Reade\x72", name := "deed", desc := "()V" } : Jvm.MethodName) prog_18_method_23_code (2 : Nat) (Option.none : Option Jvm.ClassFile.FieldType)) ∈ lw_all := lw_g (lw_at lw_m4 20 rfl) rfl
theorem q857 : (Jvm.Cond.classLink "OathButtons$Reade\x72" (166 : Nat) "OathButtons$Deed") ∈ lw_all := lw_g (lw_at lw_m4 21 rfl) rfl
theorem q859 : (Jvm.Cond.methodLink "OathButtons$Reade\x72" (171 : Nat) ({ cls := "OathButtons$Deed", name := "<init>", desc := "(J)V" } : Jvm.MethodName)) ∈ lw_all := lw_g (lw_at lw_m4 23 rfl) rfl
theorem q864 : (Jvm.Cond.fieldLinkNest "OathButtons$Reade\x72" (174 : Nat) "OathButtons$Deed" "hours" "I" "OathButtons") ∈ lw_tbl := lw_at lw_m4 28 rfl
theorem q869 : (Jvm.Cond.stringRef "OathButtons$Reade\x72" (172 : Nat) "hours") ∈ lw_tbl := lw_at lw_m4 33 rfl
theorem q870 : (Jvm.Cond.methodLink "OathButtons$Reade\x72" (317 : Nat) ({ cls := "OathButtons$Reade\x72", name := "button", desc := "()V" } : Jvm.MethodName)) ∈ lw_all := lw_g (lw_at lw_m4 34 rfl) rfl
theorem q871 : (Jvm.Cond.privateMethod ({ cls := "OathButtons$Reade\x72", name := "button", desc := "()V" } : Jvm.MethodName)) ∈ lw_tbl := lw_at lw_m4 35 rfl
theorem q872 : (Jvm.Cond.instanceMethod ({ cls := "OathButtons$Reade\x72", name := "button", desc := "()V" } : Jvm.MethodName)) ∈ lw_all := lw_g (lw_at lw_m4 36 rfl) rfl
theorem q873 : (Jvm.Cond.code ({ cls := "OathButtons$Reade\x72", name := "button", desc := "()V" } : Jvm.MethodName) prog_18_method_24_code (9 : Nat) (Option.none : Option Jvm.ClassFile.FieldType)) ∈ lw_all := lw_g (lw_at lw_m4 37 rfl) rfl
theorem q874 : (Jvm.Cond.stringRef "OathButtons$Reade\x72" (179 : Nat) "on") ∈ lw_tbl := lw_at lw_m4 38 rfl
theorem q875 : (Jvm.Cond.methodLink "OathButtons$Reade\x72" (181 : Nat) ({ cls := "OathButtons$Reade\x72", name := "known", desc := "(Ljava/util/ArrayList;)I" } : Jvm.MethodName)) ∈ lw_all := lw_g (lw_at lw_m4 39 rfl) rfl
theorem q876 : (Jvm.Cond.privateMethod ({ cls := "OathButtons$Reade\x72", name := "known", desc := "(Ljava/util/ArrayList;)I" } : Jvm.MethodName)) ∈ lw_tbl := lw_at lw_m4 40 rfl
theorem q877 : (Jvm.Cond.instanceMethod ({ cls := "OathButtons$Reade\x72", name := "known", desc := "(Ljava/util/ArrayList;)I" } : Jvm.MethodName)) ∈ lw_all := lw_g (lw_at lw_m4 41 rfl) rfl
theorem q878 : (Jvm.Cond.code ({ cls := "OathButtons$Reade\x72", name := "known", desc := "(Ljava/util/ArrayList;)I" } : Jvm.MethodName) prog_18_method_21_code (3 : Nat) (Option.some Jvm.ClassFile.FieldType.int)) ∈ lw_all := lw_g (lw_at lw_m4 42 rfl) rfl
theorem q879 : (Jvm.Cond.stringRef "OathButtons$Reade\x72" (184 : Nat) "by") ∈ lw_tbl := lw_at lw_m4 43 rfl
theorem q880 : (Jvm.Cond.stringRef "OathButtons$Reade\x72" (185 : Nat) "does") ∈ lw_tbl := lw_at lw_m4 44 rfl
theorem q881 : (Jvm.Cond.stringRef "OathButtons$Reade\x72" (187 : Nat) "neve\x72") ∈ lw_tbl := lw_at lw_m4 45 rfl
theorem q882 : (Jvm.Cond.classLink "OathButtons$Reade\x72" (189 : Nat) "OathButtons$Promise") ∈ lw_all := lw_g (lw_at lw_m4 46 rfl) rfl
theorem q884 : (Jvm.Cond.methodLink "OathButtons$Reade\x72" (191 : Nat) ({ cls := "OathButtons$Promise", name := "<init>", desc := "(JIII)V" } : Jvm.MethodName)) ∈ lw_all := lw_g (lw_at lw_m4 48 rfl) rfl
theorem q904 : (Jvm.Cond.fieldLink "OathButtons$Reade\x72" (199 : Nat) "OathButtons$Oath" "until" "I") ∈ lw_all := lw_g (lw_at lw_m4 68 rfl) rfl
theorem q907 : (Jvm.Cond.fieldLink "OathButtons$Reade\x72" (205 : Nat) "OathButtons$Oath" "thread" "I") ∈ lw_all := lw_g (lw_at lw_m4 71 rfl) rfl
theorem q910 : (Jvm.Cond.fieldLink "OathButtons$Reade\x72" (208 : Nat) "OathButtons$Oath" "afte\x72" "I") ∈ lw_all := lw_g (lw_at lw_m4 74 rfl) rfl
theorem q925 : (Jvm.Cond.classLink "OathButtons$Reade\x72" (194 : Nat) "OathButtons$Ban") ∈ lw_all := lw_g (lw_at lw_m4 89 rfl) rfl
theorem q927 : (Jvm.Cond.methodLink "OathButtons$Reade\x72" (196 : Nat) ({ cls := "OathButtons$Ban", name := "<init>", desc := "(JIII)V" } : Jvm.MethodName)) ∈ lw_all := lw_g (lw_at lw_m4 91 rfl) rfl
theorem q939 : (Jvm.Cond.stringRef "OathButtons$Reade\x72" (197 : Nat) "until") ∈ lw_tbl := lw_at lw_m4 103 rfl
theorem q940 : (Jvm.Cond.stringRef "OathButtons$Reade\x72" (203 : Nat) "thread") ∈ lw_tbl := lw_at lw_m4 104 rfl
theorem q941 : (Jvm.Cond.stringRef "OathButtons$Reade\x72" (207 : Nat) "afte\x72") ∈ lw_tbl := lw_at lw_m4 105 rfl
theorem q942 : (Jvm.Cond.methodLink "OathButtons$Reade\x72" (319 : Nat) ({ cls := "OathButtons$Reade\x72", name := "friend", desc := "()V" } : Jvm.MethodName)) ∈ lw_all := lw_g (lw_at lw_m4 106 rfl) rfl
theorem q943 : (Jvm.Cond.privateMethod ({ cls := "OathButtons$Reade\x72", name := "friend", desc := "()V" } : Jvm.MethodName)) ∈ lw_tbl := lw_at lw_m4 107 rfl
theorem q944 : (Jvm.Cond.instanceMethod ({ cls := "OathButtons$Reade\x72", name := "friend", desc := "()V" } : Jvm.MethodName)) ∈ lw_all := lw_g (lw_at lw_m4 108 rfl) rfl
theorem q945 : (Jvm.Cond.code ({ cls := "OathButtons$Reade\x72", name := "friend", desc := "()V" } : Jvm.MethodName) prog_18_method_25_code (5 : Nat) (Option.none : Option Jvm.ClassFile.FieldType)) ∈ lw_all := lw_g (lw_at lw_m4 109 rfl) rfl
theorem q946 : (Jvm.Cond.methodLink "OathButtons$Reade\x72" (210 : Nat) ({ cls := "OathButtons$Regiment", name := "likesOf", desc := "(II)I" } : Jvm.MethodName)) ∈ lw_all := lw_g (lw_at lw_m4 110 rfl) rfl
theorem q950 : (Jvm.Cond.methodLink "OathButtons$Reade\x72" (213 : Nat) ({ cls := "OathButtons$Reade\x72", name := "signed", desc := "(I)I" } : Jvm.MethodName)) ∈ lw_all := lw_g (lw_at lw_m4 114 rfl) rfl
theorem q951 : (Jvm.Cond.privateMethod ({ cls := "OathButtons$Reade\x72", name := "signed", desc := "(I)I" } : Jvm.MethodName)) ∈ lw_tbl := lw_at lw_m4 115 rfl
theorem q952 : (Jvm.Cond.instanceMethod ({ cls := "OathButtons$Reade\x72", name := "signed", desc := "(I)I" } : Jvm.MethodName)) ∈ lw_all := lw_g (lw_at lw_m4 116 rfl) rfl
theorem q953 : (Jvm.Cond.code ({ cls := "OathButtons$Reade\x72", name := "signed", desc := "(I)I" } : Jvm.MethodName) prog_18_method_17_code (5 : Nat) (Option.some Jvm.ClassFile.FieldType.int)) ∈ lw_all := lw_g (lw_at lw_m4 117 rfl) rfl
theorem q954 : (Jvm.Cond.methodLink "OathButtons$Reade\x72" (108 : Nat) ({ cls := "OathButtons$Reade\x72", name := "isSignHere", desc := "(I)Z" } : Jvm.MethodName)) ∈ lw_all := lw_g (lw_at lw_m4 118 rfl) rfl
theorem q955 : (Jvm.Cond.privateMethod ({ cls := "OathButtons$Reade\x72", name := "isSignHere", desc := "(I)Z" } : Jvm.MethodName)) ∈ lw_tbl := lw_at lw_m4 119 rfl
theorem q956 : (Jvm.Cond.instanceMethod ({ cls := "OathButtons$Reade\x72", name := "isSignHere", desc := "(I)Z" } : Jvm.MethodName)) ∈ lw_all := lw_g (lw_at lw_m4 120 rfl) rfl
theorem q957 : (Jvm.Cond.code ({ cls := "OathButtons$Reade\x72", name := "isSignHere", desc := "(I)Z" } : Jvm.MethodName) prog_18_method_11_code (2 : Nat) (Option.some Jvm.ClassFile.FieldType.boolean)) ∈ lw_all := lw_g (lw_at lw_m4 121 rfl) rfl
theorem q958 : (Jvm.Cond.methodLink "OathButtons$Reade\x72" (321 : Nat) ({ cls := "OathButtons$Reade\x72", name := "formula", desc := "()LOathButtons$Part;" } : Jvm.MethodName)) ∈ lw_all := lw_g (lw_at lw_m4 122 rfl) rfl
theorem q959 : (Jvm.Cond.privateMethod ({ cls := "OathButtons$Reade\x72", name := "formula", desc := "()LOathButtons$Part;" } : Jvm.MethodName)) ∈ lw_tbl := lw_at lw_m4 123 rfl
theorem q960 : (Jvm.Cond.instanceMethod ({ cls := "OathButtons$Reade\x72", name := "formula", desc := "()LOathButtons$Part;" } : Jvm.MethodName)) ∈ lw_all := lw_g (lw_at lw_m4 124 rfl) rfl
theorem q961 : (Jvm.Cond.code ({ cls := "OathButtons$Reade\x72", name := "formula", desc := "()LOathButtons$Part;" } : Jvm.MethodName) prog_18_method_26_code (1 : Nat) (Option.some (Jvm.ClassFile.FieldType.object "OathButtons$Part"))) ∈ lw_all := lw_g (lw_at lw_m4 125 rfl) rfl
theorem q962 : (Jvm.Cond.methodLink "OathButtons$Reade\x72" (229 : Nat) ({ cls := "OathButtons$Reade\x72", name := "eithe\x72", desc := "()LOathButtons$Part;" } : Jvm.MethodName)) ∈ lw_all := lw_g (lw_at lw_m4 126 rfl) rfl
theorem q963 : (Jvm.Cond.privateMethod ({ cls := "OathButtons$Reade\x72", name := "eithe\x72", desc := "()LOathButtons$Part;" } : Jvm.MethodName)) ∈ lw_tbl := lw_at lw_m4 127 rfl
theorem q964 : (Jvm.Cond.instanceMethod ({ cls := "OathButtons$Reade\x72", name := "eithe\x72", desc := "()LOathButtons$Part;" } : Jvm.MethodName)) ∈ lw_all := lw_g (lw_at lw_m4 128 rfl) rfl
theorem q965 : (Jvm.Cond.code ({ cls := "OathButtons$Reade\x72", name := "eithe\x72", desc := "()LOathButtons$Part;" } : Jvm.MethodName) prog_18_method_27_code (2 : Nat) (Option.some (Jvm.ClassFile.FieldType.object "OathButtons$Part"))) ∈ lw_all := lw_g (lw_at lw_m4 129 rfl) rfl
theorem q966 : (Jvm.Cond.methodLink "OathButtons$Reade\x72" (233 : Nat) ({ cls := "OathButtons$Reade\x72", name := "both", desc := "()LOathButtons$Part;" } : Jvm.MethodName)) ∈ lw_all := lw_g (lw_at lw_m4 130 rfl) rfl
theorem q967 : (Jvm.Cond.privateMethod ({ cls := "OathButtons$Reade\x72", name := "both", desc := "()LOathButtons$Part;" } : Jvm.MethodName)) ∈ lw_tbl := lw_at lw_m4 131 rfl
theorem q968 : (Jvm.Cond.instanceMethod ({ cls := "OathButtons$Reade\x72", name := "both", desc := "()LOathButtons$Part;" } : Jvm.MethodName)) ∈ lw_all := lw_g (lw_at lw_m4 132 rfl) rfl
theorem q969 : (Jvm.Cond.code ({ cls := "OathButtons$Reade\x72", name := "both", desc := "()LOathButtons$Part;" } : Jvm.MethodName) prog_18_method_28_code (2 : Nat) (Option.some (Jvm.ClassFile.FieldType.object "OathButtons$Part"))) ∈ lw_all := lw_g (lw_at lw_m4 133 rfl) rfl
theorem q970 : (Jvm.Cond.methodLink "OathButtons$Reade\x72" (243 : Nat) ({ cls := "OathButtons$Reade\x72", name := "one", desc := "()LOathButtons$Part;" } : Jvm.MethodName)) ∈ lw_all := lw_g (lw_at lw_m4 134 rfl) rfl
theorem q971 : (Jvm.Cond.privateMethod ({ cls := "OathButtons$Reade\x72", name := "one", desc := "()LOathButtons$Part;" } : Jvm.MethodName)) ∈ lw_tbl := lw_at lw_m4 135 rfl
theorem q972 : (Jvm.Cond.instanceMethod ({ cls := "OathButtons$Reade\x72", name := "one", desc := "()LOathButtons$Part;" } : Jvm.MethodName)) ∈ lw_all := lw_g (lw_at lw_m4 136 rfl) rfl
theorem q973 : (Jvm.Cond.code ({ cls := "OathButtons$Reade\x72", name := "one", desc := "()LOathButtons$Part;" } : Jvm.MethodName) prog_18_method_30_code (3 : Nat) (Option.some (Jvm.ClassFile.FieldType.object "OathButtons$Part"))) ∈ lw_all := lw_g (lw_at lw_m4 137 rfl) rfl
theorem q974 : (Jvm.Cond.stringRef "OathButtons$Reade\x72" (248 : Nat) "not") ∈ lw_tbl := lw_at lw_m4 138 rfl
theorem q975 : (Jvm.Cond.methodLink "OathButtons$Reade\x72" (250 : Nat) ({ cls := "OathButtons$Reade\x72", name := "open", desc := "()V" } : Jvm.MethodName)) ∈ lw_all := lw_g (lw_at lw_m4 139 rfl) rfl
theorem q976 : (Jvm.Cond.privateMethod ({ cls := "OathButtons$Reade\x72", name := "open", desc := "()V" } : Jvm.MethodName)) ∈ lw_tbl := lw_at lw_m4 140 rfl
theorem q977 : (Jvm.Cond.instanceMethod ({ cls := "OathButtons$Reade\x72", name := "open", desc := "()V" } : Jvm.MethodName)) ∈ lw_all := lw_g (lw_at lw_m4 141 rfl) rfl
theorem q978 : (Jvm.Cond.code ({ cls := "OathButtons$Reade\x72", name := "open", desc := "()V" } : Jvm.MethodName) prog_18_method_29_code (1 : Nat) (Option.none : Option Jvm.ClassFile.FieldType)) ∈ lw_all := lw_g (lw_at lw_m4 142 rfl) rfl
theorem q979 : (Jvm.Cond.classLink "OathButtons$Reade\x72" (253 : Nat) "OathButtons$Not") ∈ lw_all := lw_g (lw_at lw_m4 143 rfl) rfl
theorem q981 : (Jvm.Cond.methodLink "OathButtons$Reade\x72" (255 : Nat) ({ cls := "OathButtons$Not", name := "<init>", desc := "(LOathButtons$Part;)V" } : Jvm.MethodName)) ∈ lw_all := lw_g (lw_at lw_m4 145 rfl) rfl
theorem q992 : (Jvm.Cond.methodLink "OathButtons$Reade\x72" (258 : Nat) ({ cls := "OathButtons$Reade\x72", name := "sum", desc := "()LOathButtons$Part;" } : Jvm.MethodName)) ∈ lw_all := lw_g (lw_at lw_m4 156 rfl) rfl
theorem q993 : (Jvm.Cond.privateMethod ({ cls := "OathButtons$Reade\x72", name := "sum", desc := "()LOathButtons$Part;" } : Jvm.MethodName)) ∈ lw_tbl := lw_at lw_m4 157 rfl
theorem q994 : (Jvm.Cond.instanceMethod ({ cls := "OathButtons$Reade\x72", name := "sum", desc := "()LOathButtons$Part;" } : Jvm.MethodName)) ∈ lw_all := lw_g (lw_at lw_m4 158 rfl) rfl
theorem q995 : (Jvm.Cond.code ({ cls := "OathButtons$Reade\x72", name := "sum", desc := "()LOathButtons$Part;" } : Jvm.MethodName) prog_18_method_31_code (3 : Nat) (Option.some (Jvm.ClassFile.FieldType.object "OathButtons$Part"))) ∈ lw_all := lw_g (lw_at lw_m4 159 rfl) rfl
theorem q996 : (Jvm.Cond.methodLink "OathButtons$Reade\x72" (261 : Nat) ({ cls := "OathButtons$Reade\x72", name := "term", desc := "()LOathButtons$Part;" } : Jvm.MethodName)) ∈ lw_all := lw_g (lw_at lw_m4 160 rfl) rfl
theorem q997 : (Jvm.Cond.privateMethod ({ cls := "OathButtons$Reade\x72", name := "term", desc := "()LOathButtons$Part;" } : Jvm.MethodName)) ∈ lw_tbl := lw_at lw_m4 161 rfl
theorem q998 : (Jvm.Cond.instanceMethod ({ cls := "OathButtons$Reade\x72", name := "term", desc := "()LOathButtons$Part;" } : Jvm.MethodName)) ∈ lw_all := lw_g (lw_at lw_m4 162 rfl) rfl
theorem q999 : (Jvm.Cond.code ({ cls := "OathButtons$Reade\x72", name := "term", desc := "()LOathButtons$Part;" } : Jvm.MethodName) prog_18_method_32_code (3 : Nat) (Option.some (Jvm.ClassFile.FieldType.object "OathButtons$Part"))) ∈ lw_all := lw_g (lw_at lw_m4 163 rfl) rfl
theorem q1000 : (Jvm.Cond.methodLink "OathButtons$Reade\x72" (264 : Nat) ({ cls := "OathButtons$Reade\x72", name := "unit", desc := "()LOathButtons$Part;" } : Jvm.MethodName)) ∈ lw_all := lw_g (lw_at lw_m4 164 rfl) rfl
theorem q1001 : (Jvm.Cond.privateMethod ({ cls := "OathButtons$Reade\x72", name := "unit", desc := "()LOathButtons$Part;" } : Jvm.MethodName)) ∈ lw_tbl := lw_at lw_m4 165 rfl
theorem q1002 : (Jvm.Cond.instanceMethod ({ cls := "OathButtons$Reade\x72", name := "unit", desc := "()LOathButtons$Part;" } : Jvm.MethodName)) ∈ lw_all := lw_g (lw_at lw_m4 166 rfl) rfl
theorem q1003 : (Jvm.Cond.code ({ cls := "OathButtons$Reade\x72", name := "unit", desc := "()LOathButtons$Part;" } : Jvm.MethodName) prog_18_method_33_code (4 : Nat) (Option.some (Jvm.ClassFile.FieldType.object "OathButtons$Part"))) ∈ lw_all := lw_g (lw_at lw_m4 167 rfl) rfl
theorem q1004 : (Jvm.Cond.fieldLink "OathButtons$Reade\x72" (267 : Nat) "OathButtons$Reade\x72" "NAMED" "[Ljava/lang/String;") ∈ lw_all := lw_g (lw_at lw_m4 168 rfl) rfl
theorem q1005 : (Jvm.Cond.laysStatic "OathButtons$Reade\x72" "NAMED" "[Ljava/lang/String;") ∈ lw_tbl := lw_at lw_m4 169 rfl
theorem q1006 : (Jvm.Cond.classLink "OathButtons$Reade\x72" (273 : Nat) "OathButtons$Numeral") ∈ lw_all := lw_g (lw_at lw_m4 170 rfl) rfl
theorem q1008 : (Jvm.Cond.methodLink "OathButtons$Reade\x72" (275 : Nat) ({ cls := "OathButtons$Numeral", name := "<init>", desc := "(I)V" } : Jvm.MethodName)) ∈ lw_all := lw_g (lw_at lw_m4 172 rfl) rfl
theorem q1016 : (Jvm.Cond.classLink "OathButtons$Reade\x72" (278 : Nat) "OathButtons$Named") ∈ lw_all := lw_g (lw_at lw_m4 180 rfl) rfl
theorem q1018 : (Jvm.Cond.methodLink "OathButtons$Reade\x72" (280 : Nat) ({ cls := "OathButtons$Named", name := "<init>", desc := "(I)V" } : Jvm.MethodName)) ∈ lw_all := lw_g (lw_at lw_m4 182 rfl) rfl
theorem q1026 : (Jvm.Cond.classLink "OathButtons$Reade\x72" (238 : Nat) "OathButtons$Two") ∈ lw_all := lw_g (lw_at lw_m4 190 rfl) rfl
theorem q1028 : (Jvm.Cond.methodLink "OathButtons$Reade\x72" (240 : Nat) ({ cls := "OathButtons$Two", name := "<init>", desc := "(ILOathButtons$Part;LOathButtons$Part;)V" } : Jvm.MethodName)) ∈ lw_all := lw_g (lw_at lw_m4 192 rfl) rfl
theorem q1042 : (Jvm.Cond.stringRef "OathButtons$Reade\x72" (246 : Nat) "and") ∈ lw_tbl := lw_at lw_m4 206 rfl
theorem q1043 : (Jvm.Cond.stringRef "OathButtons$Reade\x72" (236 : Nat) "o\x72") ∈ lw_tbl := lw_at lw_m4 207 rfl
theorem q1044 : (Jvm.Cond.methodLink "OathButtons$Reade\x72" (324 : Nat) ({ cls := "OathButtons$Reade\x72", name := "once", desc := "()V" } : Jvm.MethodName)) ∈ lw_all := lw_g (lw_at lw_m4 208 rfl) rfl
theorem q1045 : (Jvm.Cond.privateMethod ({ cls := "OathButtons$Reade\x72", name := "once", desc := "()V" } : Jvm.MethodName)) ∈ lw_tbl := lw_at lw_m4 209 rfl
theorem q1046 : (Jvm.Cond.instanceMethod ({ cls := "OathButtons$Reade\x72", name := "once", desc := "()V" } : Jvm.MethodName)) ∈ lw_all := lw_g (lw_at lw_m4 210 rfl) rfl
theorem q1047 : (Jvm.Cond.code ({ cls := "OathButtons$Reade\x72", name := "once", desc := "()V" } : Jvm.MethodName) prog_18_method_36_code (1 : Nat) (Option.none : Option Jvm.ClassFile.FieldType)) ∈ lw_all := lw_g (lw_at lw_m4 211 rfl) rfl
theorem q2215 : (Jvm.Cond.castable "OathButtons$Reade\x72" "java/lang/Object") ∈ lw_tbl := lw_at lw_m9 179 rfl
theorem in_X10 : ∀ w ∈ wsX100, w ∈ lw_all := lw_in wsX100 [589, 591, 593, 595, 597, 599, 601, 603, 605, 607, 609] (by decide +kernel) (by decide +kernel)
/-! OathButtons$Called -/
set_option maxRecDepth 100000
def RX11 : String := "OathButtons$Called"
abbrev cX11_init : ByteArray := prog_4_method_1_code
def yX11_init : MethodName := ⟨RX11, "<init>", "(J)V"⟩
def dkwX11_init_0 : List UInt8 := [42, 183, 0, 1, 42, 31, 181, 0, 7, 177]
abbrev dktX11_init_0 : List UInt8 := dkwX11_init_0 ++ []
theorem dksX11_init_0 : cX11_init.data.toList.drop 0 = dktX11_init_0 := by decide +kernel
theorem dX11_init_0 : decode cX11_init 0 = .ok (.aload_n 0, 1) := dk_42 (dk_at dksX11_init_0 0 rfl rfl)
theorem dX11_init_1 : decode cX11_init 1 = .ok (.invokespecial 1, 3) := dk_183 0 1 (dk_at dksX11_init_0 1 rfl rfl)
theorem dX11_init_4 : decode cX11_init 4 = .ok (.aload_n 0, 1) := dk_42 (dk_at dksX11_init_0 4 rfl rfl)
theorem dX11_init_5 : decode cX11_init 5 = .ok (.lload_n 1, 1) := dk_31 (dk_at dksX11_init_0 5 rfl rfl)
theorem dX11_init_6 : decode cX11_init 6 = .ok (.putfield 7, 3) := dk_181 0 7 (dk_at dksX11_init_0 6 rfl rfl)
theorem dX11_init_9 : decode cX11_init 9 = .ok (.return_, 1) := dk_177 (dk_at dksX11_init_0 9 rfl rfl)
theorem q138 : (Jvm.Cond.initialized "OathButtons$Called") ∈ lw_all := lw_g (lw_at lw_m1 22 rfl) rfl
theorem q750 : (Jvm.Cond.instanceMethod ({ cls := "OathButtons$Called", name := "<init>", desc := "(J)V" } : Jvm.MethodName)) ∈ lw_all := lw_g (lw_at lw_m3 154 rfl) rfl
theorem q751 : (Jvm.Cond.code ({ cls := "OathButtons$Called", name := "<init>", desc := "(J)V" } : Jvm.MethodName) prog_4_method_1_code (3 : Nat) (Option.none : Option Jvm.ClassFile.FieldType)) ∈ lw_all := lw_g (lw_at lw_m3 155 rfl) rfl
theorem q752 : (Jvm.Cond.methodLink "OathButtons$Called" (1 : Nat) ({ cls := "java/lang/Object", name := "<init>", desc := "()V" } : Jvm.MethodName)) ∈ lw_all := lw_g (lw_at lw_m3 156 rfl) rfl
theorem q760 : (Jvm.Cond.fieldLink "OathButtons$Called" (7 : Nat) "OathButtons$Called" "name" "J") ∈ lw_all := lw_g (lw_at lw_m3 164 rfl) rfl
theorem q769 : (Jvm.Cond.soleField "OathButtons$Called" "name") ∈ lw_all := lw_g (lw_at lw_m3 173 rfl) rfl
/-! OathButtons$Man -/
set_option maxRecDepth 100000
def RX12 : String := "OathButtons$Man"
def TX12 : u_T := fun k => match k with
  | 0 => ("OathButtons$Called", "name", "J", true)
  | 1 => ("OathButtons$Man", "colou\x72", "I", false)
  | 2 => ("OathButtons$Man", "holes", "I", false)
  | _ => ("OathButtons$Man", "left", "I", false)
def tyX12 : Nat → FieldType := fun k => match k with
  | 0 => .long
  | 1 => .int
  | 2 => .int
  | _ => .int
abbrev wsX120 : List Cond := u_ws RX12 TX12 4
theorem nmX12 : ∀ a, a < 4 → ∀ b, b < 4 → a ≠ b → (TX12 a).2.1 ≠ (TX12 b).2.1 := by decide +kernel
theorem tyX12_ok : ∀ k, k < 4 → parseFieldDescriptor (TX12 k).2.2.1 = some (tyX12 k) := by decide +kernel
abbrev cX12_init : ByteArray := prog_9_method_1_code
def yX12_init : MethodName := ⟨RX12, "<init>", "(J)V"⟩
def dkwX12_init_0 : List UInt8 := [42, 31, 183, 0, 3, 42, 5, 181, 0, 9, 177]
abbrev dktX12_init_0 : List UInt8 := dkwX12_init_0 ++ []
theorem dksX12_init_0 : cX12_init.data.toList.drop 0 = dktX12_init_0 := by decide +kernel
theorem dX12_init_0 : decode cX12_init 0 = .ok (.aload_n 0, 1) := dk_42 (dk_at dksX12_init_0 0 rfl rfl)
theorem dX12_init_1 : decode cX12_init 1 = .ok (.lload_n 1, 1) := dk_31 (dk_at dksX12_init_0 1 rfl rfl)
theorem dX12_init_2 : decode cX12_init 2 = .ok (.invokespecial 3, 3) := dk_183 0 3 (dk_at dksX12_init_0 2 rfl rfl)
theorem dX12_init_5 : decode cX12_init 5 = .ok (.aload_n 0, 1) := dk_42 (dk_at dksX12_init_0 5 rfl rfl)
theorem dX12_init_6 : decode cX12_init 6 = .ok (.iconst 2, 1) := dk_5 (dk_at dksX12_init_0 6 rfl rfl)
theorem dX12_init_7 : decode cX12_init 7 = .ok (.putfield 9, 3) := dk_181 0 9 (dk_at dksX12_init_0 7 rfl rfl)
theorem dX12_init_10 : decode cX12_init 10 = .ok (.return_, 1) := dk_177 (dk_at dksX12_init_0 10 rfl rfl)
abbrev cX12_trait : ByteArray := prog_9_method_2_code
def yX12_trait : MethodName := ⟨RX12, "trait", "(I)I"⟩
def dkwX12_trait_1 : List UInt8 := [180, 0, 18, 172]
abbrev dktX12_trait_1 : List UInt8 := dkwX12_trait_1 ++ []
def dkwX12_trait_0 : List UInt8 := [27, 154, 0, 10, 42, 180, 0, 15, 167, 0, 19, 27, 4, 160, 0, 10, 42, 180, 0, 9, 167, 0, 7, 42]
abbrev dktX12_trait_0 : List UInt8 := dkwX12_trait_0 ++ dktX12_trait_1
theorem dksX12_trait_0 : cX12_trait.data.toList.drop 0 = dktX12_trait_0 := by decide +kernel
theorem dksX12_trait_1 : cX12_trait.data.toList.drop 24 = dktX12_trait_1 := dk_seg dksX12_trait_0 24 rfl rfl
theorem dX12_trait_0 : decode cX12_trait 0 = .ok (.iload_n 1, 1) := dk_27 (dk_at dksX12_trait_0 0 rfl rfl)
theorem dX12_trait_1 : decode cX12_trait 1 = .ok (.ifCond .ne 10, 3) := dk_154 0 10 (dk_at dksX12_trait_0 1 rfl rfl)
theorem dX12_trait_4 : decode cX12_trait 4 = .ok (.aload_n 0, 1) := dk_42 (dk_at dksX12_trait_0 4 rfl rfl)
theorem dX12_trait_5 : decode cX12_trait 5 = .ok (.getfield 15, 3) := dk_180 0 15 (dk_at dksX12_trait_0 5 rfl rfl)
theorem dX12_trait_8 : decode cX12_trait 8 = .ok (.goto 19, 3) := dk_167 0 19 (dk_at dksX12_trait_0 8 rfl rfl)
theorem dX12_trait_11 : decode cX12_trait 11 = .ok (.iload_n 1, 1) := dk_27 (dk_at dksX12_trait_0 11 rfl rfl)
theorem dX12_trait_12 : decode cX12_trait 12 = .ok (.iconst 1, 1) := dk_4 (dk_at dksX12_trait_0 12 rfl rfl)
theorem dX12_trait_13 : decode cX12_trait 13 = .ok (.if_icmp .ne 10, 3) := dk_160 0 10 (dk_at dksX12_trait_0 13 rfl rfl)
theorem dX12_trait_16 : decode cX12_trait 16 = .ok (.aload_n 0, 1) := dk_42 (dk_at dksX12_trait_0 16 rfl rfl)
theorem dX12_trait_17 : decode cX12_trait 17 = .ok (.getfield 9, 3) := dk_180 0 9 (dk_at dksX12_trait_0 17 rfl rfl)
theorem dX12_trait_20 : decode cX12_trait 20 = .ok (.goto 7, 3) := dk_167 0 7 (dk_at dksX12_trait_0 20 rfl rfl)
theorem dX12_trait_23 : decode cX12_trait 23 = .ok (.aload_n 0, 1) := dk_42 (dk_at dksX12_trait_0 23 rfl rfl)
theorem dX12_trait_24 : decode cX12_trait 24 = .ok (.getfield 18, 3) := dk_180 0 18 (dk_at dksX12_trait_1 0 rfl rfl)
theorem dX12_trait_27 : decode cX12_trait 27 = .ok (.ireturn, 1) := dk_172 (dk_at dksX12_trait_1 3 rfl rfl)
theorem q139 : (Jvm.Cond.initialized "OathButtons$Man") ∈ lw_all := lw_g (lw_at lw_m1 23 rfl) rfl
theorem q725 : (Jvm.Cond.instantiable "OathButtons$Man" (4 : Nat)) ∈ lw_all := lw_g (lw_at lw_m3 129 rfl) rfl
theorem q747 : (Jvm.Cond.instanceMethod ({ cls := "OathButtons$Man", name := "<init>", desc := "(J)V" } : Jvm.MethodName)) ∈ lw_all := lw_g (lw_at lw_m3 151 rfl) rfl
theorem q748 : (Jvm.Cond.code ({ cls := "OathButtons$Man", name := "<init>", desc := "(J)V" } : Jvm.MethodName) prog_9_method_1_code (3 : Nat) (Option.none : Option Jvm.ClassFile.FieldType)) ∈ lw_all := lw_g (lw_at lw_m3 152 rfl) rfl
theorem q749 : (Jvm.Cond.methodLink "OathButtons$Man" (3 : Nat) ({ cls := "OathButtons$Called", name := "<init>", desc := "(J)V" } : Jvm.MethodName)) ∈ lw_all := lw_g (lw_at lw_m3 153 rfl) rfl
theorem q753 : (Jvm.Cond.fieldLink "OathButtons$Man" (15 : Nat) "OathButtons$Man" "colou\x72" "I") ∈ lw_all := lw_g (lw_at lw_m3 157 rfl) rfl
theorem q755 : (Jvm.Cond.fieldLink "OathButtons$Man" (9 : Nat) "OathButtons$Man" "holes" "I") ∈ lw_all := lw_g (lw_at lw_m3 159 rfl) rfl
theorem q758 : (Jvm.Cond.fieldLink "OathButtons$Man" (18 : Nat) "OathButtons$Man" "left" "I") ∈ lw_all := lw_g (lw_at lw_m3 162 rfl) rfl
theorem q762 : (Jvm.Cond.lays "OathButtons$Man" "OathButtons$Man" "colou\x72" "I") ∈ lw_all := lw_g (lw_at lw_m3 166 rfl) rfl
theorem q763 : (Jvm.Cond.soleField "OathButtons$Man" "colou\x72") ∈ lw_all := lw_g (lw_at lw_m3 167 rfl) rfl
theorem q764 : (Jvm.Cond.lays "OathButtons$Man" "OathButtons$Man" "holes" "I") ∈ lw_all := lw_g (lw_at lw_m3 168 rfl) rfl
theorem q765 : (Jvm.Cond.soleField "OathButtons$Man" "holes") ∈ lw_all := lw_g (lw_at lw_m3 169 rfl) rfl
theorem q766 : (Jvm.Cond.lays "OathButtons$Man" "OathButtons$Man" "left" "I") ∈ lw_all := lw_g (lw_at lw_m3 170 rfl) rfl
theorem q767 : (Jvm.Cond.soleField "OathButtons$Man" "left") ∈ lw_all := lw_g (lw_at lw_m3 171 rfl) rfl
theorem q768 : (Jvm.Cond.laysFinal "OathButtons$Man" "OathButtons$Called" "name" "J") ∈ lw_all := lw_g (lw_at lw_m3 172 rfl) rfl
theorem q770 : (Jvm.Cond.superclass "OathButtons$Man" "OathButtons$Called") ∈ lw_all := lw_g (lw_at lw_m3 174 rfl) rfl
theorem q825 : (Jvm.Cond.selects "OathButtons$Man" ({ cls := "java/lang/Object", name := "getClass", desc := "()Ljava/lang/Class;" } : Jvm.MethodName) ({ cls := "java/lang/Object", name := "getClass", desc := "()Ljava/lang/Class;" } : Jvm.MethodName)) ∈ lw_all := lw_g (lw_at lw_m3 229 rfl) rfl
theorem q1406 : (Jvm.Cond.instanceMethod ({ cls := "OathButtons$Man", name := "trait", desc := "(I)I" } : Jvm.MethodName)) ∈ lw_all := lw_g (lw_at lw_m6 90 rfl) rfl
theorem q1407 : (Jvm.Cond.selects "OathButtons$Man" ({ cls := "OathButtons$Man", name := "trait", desc := "(I)I" } : Jvm.MethodName) ({ cls := "OathButtons$Man", name := "trait", desc := "(I)I" } : Jvm.MethodName)) ∈ lw_all := lw_g (lw_at lw_m6 91 rfl) rfl
theorem q1408 : (Jvm.Cond.code ({ cls := "OathButtons$Man", name := "trait", desc := "(I)I" } : Jvm.MethodName) prog_9_method_2_code (2 : Nat) (Option.some Jvm.ClassFile.FieldType.int)) ∈ lw_all := lw_g (lw_at lw_m6 92 rfl) rfl
theorem q2202 : (Jvm.Cond.castable "OathButtons$Man" "OathButtons$Called") ∈ lw_tbl := lw_at lw_m9 166 rfl
theorem q2216 : (Jvm.Cond.castable "OathButtons$Man" "java/lang/Object") ∈ lw_tbl := lw_at lw_m9 180 rfl
theorem in_X12 : ∀ w ∈ wsX120, w ∈ lw_all := lw_in wsX120 [768, 762, 764, 766] (by decide +kernel) (by decide +kernel)
/-! OathButtons$Deed -/
set_option maxRecDepth 100000
def RX13 : String := "OathButtons$Deed"
def TX13 : u_T := fun k => match k with
  | 0 => ("OathButtons$Called", "name", "J", true)
  | _ => ("OathButtons$Deed", "hours", "I", false)
def tyX13 : Nat → FieldType := fun k => match k with
  | 0 => .long
  | _ => .int
abbrev wsX130 : List Cond := u_ws RX13 TX13 2
theorem nmX13 : ∀ a, a < 2 → ∀ b, b < 2 → a ≠ b → (TX13 a).2.1 ≠ (TX13 b).2.1 := by decide +kernel
theorem tyX13_ok : ∀ k, k < 2 → parseFieldDescriptor (TX13 k).2.2.1 = some (tyX13 k) := by decide +kernel
abbrev cX13_init : ByteArray := prog_7_method_1_code
def yX13_init : MethodName := ⟨RX13, "<init>", "(J)V"⟩
def dkwX13_init_0 : List UInt8 := [42, 31, 183, 0, 1, 177]
abbrev dktX13_init_0 : List UInt8 := dkwX13_init_0 ++ []
theorem dksX13_init_0 : cX13_init.data.toList.drop 0 = dktX13_init_0 := by decide +kernel
theorem dX13_init_0 : decode cX13_init 0 = .ok (.aload_n 0, 1) := dk_42 (dk_at dksX13_init_0 0 rfl rfl)
theorem dX13_init_1 : decode cX13_init 1 = .ok (.lload_n 1, 1) := dk_31 (dk_at dksX13_init_0 1 rfl rfl)
theorem dX13_init_2 : decode cX13_init 2 = .ok (.invokespecial 1, 3) := dk_183 0 1 (dk_at dksX13_init_0 2 rfl rfl)
theorem dX13_init_5 : decode cX13_init 5 = .ok (.return_, 1) := dk_177 (dk_at dksX13_init_0 5 rfl rfl)
theorem q144 : (Jvm.Cond.initialized "OathButtons$Deed") ∈ lw_all := lw_g (lw_at lw_m1 28 rfl) rfl
theorem q823 : (Jvm.Cond.selects "OathButtons$Deed" ({ cls := "java/lang/Object", name := "getClass", desc := "()Ljava/lang/Class;" } : Jvm.MethodName) ({ cls := "java/lang/Object", name := "getClass", desc := "()Ljava/lang/Class;" } : Jvm.MethodName)) ∈ lw_all := lw_g (lw_at lw_m3 227 rfl) rfl
theorem q858 : (Jvm.Cond.instantiable "OathButtons$Deed" (2 : Nat)) ∈ lw_all := lw_g (lw_at lw_m4 22 rfl) rfl
theorem q860 : (Jvm.Cond.instanceMethod ({ cls := "OathButtons$Deed", name := "<init>", desc := "(J)V" } : Jvm.MethodName)) ∈ lw_all := lw_g (lw_at lw_m4 24 rfl) rfl
theorem q861 : (Jvm.Cond.code ({ cls := "OathButtons$Deed", name := "<init>", desc := "(J)V" } : Jvm.MethodName) prog_7_method_1_code (3 : Nat) (Option.none : Option Jvm.ClassFile.FieldType)) ∈ lw_all := lw_g (lw_at lw_m4 25 rfl) rfl
theorem q862 : (Jvm.Cond.methodLink "OathButtons$Deed" (1 : Nat) ({ cls := "OathButtons$Called", name := "<init>", desc := "(J)V" } : Jvm.MethodName)) ∈ lw_all := lw_g (lw_at lw_m4 26 rfl) rfl
theorem q865 : (Jvm.Cond.lays "OathButtons$Deed" "OathButtons$Deed" "hours" "I") ∈ lw_all := lw_g (lw_at lw_m4 29 rfl) rfl
theorem q866 : (Jvm.Cond.soleField "OathButtons$Deed" "hours") ∈ lw_all := lw_g (lw_at lw_m4 30 rfl) rfl
theorem q867 : (Jvm.Cond.laysFinal "OathButtons$Deed" "OathButtons$Called" "name" "J") ∈ lw_all := lw_g (lw_at lw_m4 31 rfl) rfl
theorem q868 : (Jvm.Cond.superclass "OathButtons$Deed" "OathButtons$Called") ∈ lw_all := lw_g (lw_at lw_m4 32 rfl) rfl
theorem q2201 : (Jvm.Cond.castable "OathButtons$Deed" "OathButtons$Called") ∈ lw_tbl := lw_at lw_m9 165 rfl
theorem q2217 : (Jvm.Cond.castable "OathButtons$Deed" "java/lang/Object") ∈ lw_tbl := lw_at lw_m9 181 rfl
theorem in_X13 : ∀ w ∈ wsX130, w ∈ lw_all := lw_in wsX130 [867, 865] (by decide +kernel) (by decide +kernel)
/-! OathButtons$Oath -/
set_option maxRecDepth 100000
def RX14 : String := "OathButtons$Oath"
abbrev cX14_init : ByteArray := prog_13_method_1_code
def yX14_init : MethodName := ⟨RX14, "<init>", "(JIII)V"⟩
def dkwX14_init_1 : List UInt8 := [181, 0, 21, 42, 21, 4, 181, 0, 24, 42, 21, 5, 181, 0, 27, 177]
abbrev dktX14_init_1 : List UInt8 := dkwX14_init_1 ++ []
def dkwX14_init_0 : List UInt8 := [42, 31, 183, 0, 3, 42, 16, 60, 181, 0, 9, 42, 16, 10, 181, 0, 15, 42, 2, 181, 0, 18, 42, 29]
abbrev dktX14_init_0 : List UInt8 := dkwX14_init_0 ++ dktX14_init_1
theorem dksX14_init_0 : cX14_init.data.toList.drop 0 = dktX14_init_0 := by decide +kernel
theorem dksX14_init_1 : cX14_init.data.toList.drop 24 = dktX14_init_1 := dk_seg dksX14_init_0 24 rfl rfl
theorem dX14_init_0 : decode cX14_init 0 = .ok (.aload_n 0, 1) := dk_42 (dk_at dksX14_init_0 0 rfl rfl)
theorem dX14_init_1 : decode cX14_init 1 = .ok (.lload_n 1, 1) := dk_31 (dk_at dksX14_init_0 1 rfl rfl)
theorem dX14_init_2 : decode cX14_init 2 = .ok (.invokespecial 3, 3) := dk_183 0 3 (dk_at dksX14_init_0 2 rfl rfl)
theorem dX14_init_5 : decode cX14_init 5 = .ok (.aload_n 0, 1) := dk_42 (dk_at dksX14_init_0 5 rfl rfl)
theorem dX14_init_6 : decode cX14_init 6 = .ok (.bipush 60, 2) := dk_16 60 (dk_at dksX14_init_0 6 rfl rfl)
theorem dX14_init_8 : decode cX14_init 8 = .ok (.putfield 9, 3) := dk_181 0 9 (dk_at dksX14_init_0 8 rfl rfl)
theorem dX14_init_11 : decode cX14_init 11 = .ok (.aload_n 0, 1) := dk_42 (dk_at dksX14_init_0 11 rfl rfl)
theorem dX14_init_12 : decode cX14_init 12 = .ok (.bipush 10, 2) := dk_16 10 (dk_at dksX14_init_0 12 rfl rfl)
theorem dX14_init_14 : decode cX14_init 14 = .ok (.putfield 15, 3) := dk_181 0 15 (dk_at dksX14_init_0 14 rfl rfl)
theorem dX14_init_17 : decode cX14_init 17 = .ok (.aload_n 0, 1) := dk_42 (dk_at dksX14_init_0 17 rfl rfl)
theorem dX14_init_18 : decode cX14_init 18 = .ok (.iconst (-1), 1) := dk_2 (dk_at dksX14_init_0 18 rfl rfl)
theorem dX14_init_19 : decode cX14_init 19 = .ok (.putfield 18, 3) := dk_181 0 18 (dk_at dksX14_init_0 19 rfl rfl)
theorem dX14_init_22 : decode cX14_init 22 = .ok (.aload_n 0, 1) := dk_42 (dk_at dksX14_init_0 22 rfl rfl)
theorem dX14_init_23 : decode cX14_init 23 = .ok (.iload_n 3, 1) := dk_29 (dk_at dksX14_init_0 23 rfl rfl)
theorem dX14_init_24 : decode cX14_init 24 = .ok (.putfield 21, 3) := dk_181 0 21 (dk_at dksX14_init_1 0 rfl rfl)
theorem dX14_init_27 : decode cX14_init 27 = .ok (.aload_n 0, 1) := dk_42 (dk_at dksX14_init_1 3 rfl rfl)
theorem dX14_init_28 : decode cX14_init 28 = .ok (.iload 4, 2) := dk_21 4 (dk_at dksX14_init_1 4 rfl rfl)
theorem dX14_init_30 : decode cX14_init 30 = .ok (.putfield 24, 3) := dk_181 0 24 (dk_at dksX14_init_1 6 rfl rfl)
theorem dX14_init_33 : decode cX14_init 33 = .ok (.aload_n 0, 1) := dk_42 (dk_at dksX14_init_1 9 rfl rfl)
theorem dX14_init_34 : decode cX14_init 34 = .ok (.iload 5, 2) := dk_21 5 (dk_at dksX14_init_1 10 rfl rfl)
theorem dX14_init_36 : decode cX14_init 36 = .ok (.putfield 27, 3) := dk_181 0 27 (dk_at dksX14_init_1 12 rfl rfl)
theorem dX14_init_39 : decode cX14_init 39 = .ok (.return_, 1) := dk_177 (dk_at dksX14_init_1 15 rfl rfl)
abbrev cX14_byDeed : ByteArray := prog_13_method_3_code
def yX14_byDeed : MethodName := ⟨RX14, "byDeed", "()I"⟩
def dkwX14_byDeed_0 : List UInt8 := [42, 182, 0, 30, 153, 0, 7, 4, 167, 0, 4, 6, 172]
abbrev dktX14_byDeed_0 : List UInt8 := dkwX14_byDeed_0 ++ []
theorem dksX14_byDeed_0 : cX14_byDeed.data.toList.drop 0 = dktX14_byDeed_0 := by decide +kernel
theorem dX14_byDeed_0 : decode cX14_byDeed 0 = .ok (.aload_n 0, 1) := dk_42 (dk_at dksX14_byDeed_0 0 rfl rfl)
theorem dX14_byDeed_1 : decode cX14_byDeed 1 = .ok (.invokevirtual 30, 3) := dk_182 0 30 (dk_at dksX14_byDeed_0 1 rfl rfl)
theorem dX14_byDeed_4 : decode cX14_byDeed 4 = .ok (.ifCond .eq 7, 3) := dk_153 0 7 (dk_at dksX14_byDeed_0 4 rfl rfl)
theorem dX14_byDeed_7 : decode cX14_byDeed 7 = .ok (.iconst 1, 1) := dk_4 (dk_at dksX14_byDeed_0 7 rfl rfl)
theorem dX14_byDeed_8 : decode cX14_byDeed 8 = .ok (.goto 4, 3) := dk_167 0 4 (dk_at dksX14_byDeed_0 8 rfl rfl)
theorem dX14_byDeed_11 : decode cX14_byDeed 11 = .ok (.iconst 3, 1) := dk_6 (dk_at dksX14_byDeed_0 11 rfl rfl)
theorem dX14_byDeed_12 : decode cX14_byDeed 12 = .ok (.ireturn, 1) := dk_172 (dk_at dksX14_byDeed_0 12 rfl rfl)
abbrev cX14_byEnd : ByteArray := prog_13_method_4_code
def yX14_byEnd : MethodName := ⟨RX14, "byEnd", "()I"⟩
def dkwX14_byEnd_0 : List UInt8 := [42, 182, 0, 30, 153, 0, 7, 6, 167, 0, 4, 4, 172]
abbrev dktX14_byEnd_0 : List UInt8 := dkwX14_byEnd_0 ++ []
theorem dksX14_byEnd_0 : cX14_byEnd.data.toList.drop 0 = dktX14_byEnd_0 := by decide +kernel
theorem dX14_byEnd_0 : decode cX14_byEnd 0 = .ok (.aload_n 0, 1) := dk_42 (dk_at dksX14_byEnd_0 0 rfl rfl)
theorem dX14_byEnd_1 : decode cX14_byEnd 1 = .ok (.invokevirtual 30, 3) := dk_182 0 30 (dk_at dksX14_byEnd_0 1 rfl rfl)
theorem dX14_byEnd_4 : decode cX14_byEnd 4 = .ok (.ifCond .eq 7, 3) := dk_153 0 7 (dk_at dksX14_byEnd_0 4 rfl rfl)
theorem dX14_byEnd_7 : decode cX14_byEnd 7 = .ok (.iconst 3, 1) := dk_6 (dk_at dksX14_byEnd_0 7 rfl rfl)
theorem dX14_byEnd_8 : decode cX14_byEnd 8 = .ok (.goto 4, 3) := dk_167 0 4 (dk_at dksX14_byEnd_0 8 rfl rfl)
theorem dX14_byEnd_11 : decode cX14_byEnd 11 = .ok (.iconst 1, 1) := dk_4 (dk_at dksX14_byEnd_0 11 rfl rfl)
theorem dX14_byEnd_12 : decode cX14_byEnd 12 = .ok (.ireturn, 1) := dk_172 (dk_at dksX14_byEnd_0 12 rfl rfl)
theorem q145 : (Jvm.Cond.initialized "OathButtons$Oath") ∈ lw_all := lw_g (lw_at lw_m1 29 rfl) rfl
theorem q888 : (Jvm.Cond.instanceMethod ({ cls := "OathButtons$Oath", name := "<init>", desc := "(JIII)V" } : Jvm.MethodName)) ∈ lw_all := lw_g (lw_at lw_m4 52 rfl) rfl
theorem q889 : (Jvm.Cond.code ({ cls := "OathButtons$Oath", name := "<init>", desc := "(JIII)V" } : Jvm.MethodName) prog_13_method_1_code (6 : Nat) (Option.none : Option Jvm.ClassFile.FieldType)) ∈ lw_all := lw_g (lw_at lw_m4 53 rfl) rfl
theorem q890 : (Jvm.Cond.methodLink "OathButtons$Oath" (3 : Nat) ({ cls := "OathButtons$Called", name := "<init>", desc := "(J)V" } : Jvm.MethodName)) ∈ lw_all := lw_g (lw_at lw_m4 54 rfl) rfl
theorem q891 : (Jvm.Cond.fieldLink "OathButtons$Oath" (21 : Nat) "OathButtons$Oath" "on" "I") ∈ lw_all := lw_g (lw_at lw_m4 55 rfl) rfl
theorem q894 : (Jvm.Cond.fieldLink "OathButtons$Oath" (24 : Nat) "OathButtons$Oath" "by" "I") ∈ lw_all := lw_g (lw_at lw_m4 58 rfl) rfl
theorem q897 : (Jvm.Cond.fieldLink "OathButtons$Oath" (27 : Nat) "OathButtons$Oath" "deed" "I") ∈ lw_all := lw_g (lw_at lw_m4 61 rfl) rfl
theorem q900 : (Jvm.Cond.fieldLink "OathButtons$Oath" (9 : Nat) "OathButtons$Oath" "until" "I") ∈ lw_all := lw_g (lw_at lw_m4 64 rfl) rfl
theorem q905 : (Jvm.Cond.fieldLink "OathButtons$Oath" (15 : Nat) "OathButtons$Oath" "thread" "I") ∈ lw_all := lw_g (lw_at lw_m4 69 rfl) rfl
theorem q908 : (Jvm.Cond.fieldLink "OathButtons$Oath" (18 : Nat) "OathButtons$Oath" "afte\x72" "I") ∈ lw_all := lw_g (lw_at lw_m4 72 rfl) rfl
theorem q912 : (Jvm.Cond.soleField "OathButtons$Oath" "on") ∈ lw_all := lw_g (lw_at lw_m4 76 rfl) rfl
theorem q914 : (Jvm.Cond.soleField "OathButtons$Oath" "by") ∈ lw_all := lw_g (lw_at lw_m4 78 rfl) rfl
theorem q916 : (Jvm.Cond.soleField "OathButtons$Oath" "deed") ∈ lw_all := lw_g (lw_at lw_m4 80 rfl) rfl
theorem q918 : (Jvm.Cond.soleField "OathButtons$Oath" "until") ∈ lw_all := lw_g (lw_at lw_m4 82 rfl) rfl
theorem q920 : (Jvm.Cond.soleField "OathButtons$Oath" "thread") ∈ lw_all := lw_g (lw_at lw_m4 84 rfl) rfl
theorem q922 : (Jvm.Cond.soleField "OathButtons$Oath" "afte\x72") ∈ lw_all := lw_g (lw_at lw_m4 86 rfl) rfl
theorem q1064 : (Jvm.Cond.declares ({ cls := "OathButtons$Oath", name := "isPromise", desc := "()Z" } : Jvm.MethodName)) ∈ lw_tbl := lw_at lw_m4 228 rfl
theorem q1065 : (Jvm.Cond.sameMethod "OathButtons$Oath" "OathButtons$Oath" "isPromise" "()Z") ∈ lw_all := lw_g (lw_at lw_m4 229 rfl) rfl
theorem q1127 : (Jvm.Cond.instanceMethod ({ cls := "OathButtons$Oath", name := "byDeed", desc := "()I" } : Jvm.MethodName)) ∈ lw_all := lw_g (lw_at lw_m5 51 rfl) rfl
theorem q1128 : (Jvm.Cond.sameMethod "OathButtons$Oath" "OathButtons$Oath" "byDeed" "()I") ∈ lw_all := lw_g (lw_at lw_m5 52 rfl) rfl
theorem q1131 : (Jvm.Cond.code ({ cls := "OathButtons$Oath", name := "byDeed", desc := "()I" } : Jvm.MethodName) prog_13_method_3_code (1 : Nat) (Option.some Jvm.ClassFile.FieldType.int)) ∈ lw_all := lw_g (lw_at lw_m5 55 rfl) rfl
theorem q1132 : (Jvm.Cond.methodLink "OathButtons$Oath" (30 : Nat) ({ cls := "OathButtons$Oath", name := "isPromise", desc := "()Z" } : Jvm.MethodName)) ∈ lw_all := lw_g (lw_at lw_m5 56 rfl) rfl
theorem q1186 : (Jvm.Cond.instanceMethod ({ cls := "OathButtons$Oath", name := "byEnd", desc := "()I" } : Jvm.MethodName)) ∈ lw_all := lw_g (lw_at lw_m5 110 rfl) rfl
theorem q1187 : (Jvm.Cond.sameMethod "OathButtons$Oath" "OathButtons$Oath" "byEnd" "()I") ∈ lw_all := lw_g (lw_at lw_m5 111 rfl) rfl
theorem q1190 : (Jvm.Cond.code ({ cls := "OathButtons$Oath", name := "byEnd", desc := "()I" } : Jvm.MethodName) prog_13_method_4_code (1 : Nat) (Option.some Jvm.ClassFile.FieldType.int)) ∈ lw_all := lw_g (lw_at lw_m5 114 rfl) rfl
/-! OathButtons$Promise -/
set_option maxRecDepth 100000
def RX15 : String := "OathButtons$Promise"
def TX15 : u_T := fun k => match k with
  | 0 => ("OathButtons$Oath", "on", "I", true)
  | 1 => ("OathButtons$Oath", "by", "I", true)
  | 2 => ("OathButtons$Oath", "deed", "I", true)
  | 3 => ("OathButtons$Oath", "until", "I", false)
  | 4 => ("OathButtons$Oath", "thread", "I", false)
  | 5 => ("OathButtons$Oath", "afte\x72", "I", false)
  | _ => ("OathButtons$Called", "name", "J", true)
def tyX15 : Nat → FieldType := fun k => match k with
  | 0 => .int
  | 1 => .int
  | 2 => .int
  | 3 => .int
  | 4 => .int
  | 5 => .int
  | _ => .long
abbrev wsX150 : List Cond := u_ws RX15 TX15 7
theorem nmX15 : ∀ a, a < 7 → ∀ b, b < 7 → a ≠ b → (TX15 a).2.1 ≠ (TX15 b).2.1 := by decide +kernel
theorem tyX15_ok : ∀ k, k < 7 → parseFieldDescriptor (TX15 k).2.2.1 = some (tyX15 k) := by decide +kernel
abbrev cX15_init : ByteArray := prog_17_method_1_code
def yX15_init : MethodName := ⟨RX15, "<init>", "(JIII)V"⟩
def dkwX15_init_0 : List UInt8 := [42, 31, 29, 21, 4, 21, 5, 183, 0, 1, 177]
abbrev dktX15_init_0 : List UInt8 := dkwX15_init_0 ++ []
theorem dksX15_init_0 : cX15_init.data.toList.drop 0 = dktX15_init_0 := by decide +kernel
theorem dX15_init_0 : decode cX15_init 0 = .ok (.aload_n 0, 1) := dk_42 (dk_at dksX15_init_0 0 rfl rfl)
theorem dX15_init_1 : decode cX15_init 1 = .ok (.lload_n 1, 1) := dk_31 (dk_at dksX15_init_0 1 rfl rfl)
theorem dX15_init_2 : decode cX15_init 2 = .ok (.iload_n 3, 1) := dk_29 (dk_at dksX15_init_0 2 rfl rfl)
theorem dX15_init_3 : decode cX15_init 3 = .ok (.iload 4, 2) := dk_21 4 (dk_at dksX15_init_0 3 rfl rfl)
theorem dX15_init_5 : decode cX15_init 5 = .ok (.iload 5, 2) := dk_21 5 (dk_at dksX15_init_0 5 rfl rfl)
theorem dX15_init_7 : decode cX15_init 7 = .ok (.invokespecial 1, 3) := dk_183 0 1 (dk_at dksX15_init_0 7 rfl rfl)
theorem dX15_init_10 : decode cX15_init 10 = .ok (.return_, 1) := dk_177 (dk_at dksX15_init_0 10 rfl rfl)
abbrev cX15_isPromise : ByteArray := prog_17_method_2_code
def yX15_isPromise : MethodName := ⟨RX15, "isPromise", "()Z"⟩
theorem dX15_isPromise_0 : decode cX15_isPromise 0 = .ok (.iconst 1, 1) := by decide +kernel
theorem dX15_isPromise_1 : decode cX15_isPromise 1 = .ok (.ireturn, 1) := by decide +kernel
theorem q146 : (Jvm.Cond.initialized "OathButtons$Promise") ∈ lw_all := lw_g (lw_at lw_m1 30 rfl) rfl
theorem q830 : (Jvm.Cond.selects "OathButtons$Promise" ({ cls := "java/lang/Object", name := "getClass", desc := "()Ljava/lang/Class;" } : Jvm.MethodName) ({ cls := "java/lang/Object", name := "getClass", desc := "()Ljava/lang/Class;" } : Jvm.MethodName)) ∈ lw_all := lw_g (lw_at lw_m3 234 rfl) rfl
theorem q883 : (Jvm.Cond.instantiable "OathButtons$Promise" (7 : Nat)) ∈ lw_all := lw_g (lw_at lw_m4 47 rfl) rfl
theorem q885 : (Jvm.Cond.instanceMethod ({ cls := "OathButtons$Promise", name := "<init>", desc := "(JIII)V" } : Jvm.MethodName)) ∈ lw_all := lw_g (lw_at lw_m4 49 rfl) rfl
theorem q886 : (Jvm.Cond.code ({ cls := "OathButtons$Promise", name := "<init>", desc := "(JIII)V" } : Jvm.MethodName) prog_17_method_1_code (6 : Nat) (Option.none : Option Jvm.ClassFile.FieldType)) ∈ lw_all := lw_g (lw_at lw_m4 50 rfl) rfl
theorem q887 : (Jvm.Cond.methodLink "OathButtons$Promise" (1 : Nat) ({ cls := "OathButtons$Oath", name := "<init>", desc := "(JIII)V" } : Jvm.MethodName)) ∈ lw_all := lw_g (lw_at lw_m4 51 rfl) rfl
theorem q911 : (Jvm.Cond.laysFinal "OathButtons$Promise" "OathButtons$Oath" "on" "I") ∈ lw_all := lw_g (lw_at lw_m4 75 rfl) rfl
theorem q913 : (Jvm.Cond.laysFinal "OathButtons$Promise" "OathButtons$Oath" "by" "I") ∈ lw_all := lw_g (lw_at lw_m4 77 rfl) rfl
theorem q915 : (Jvm.Cond.laysFinal "OathButtons$Promise" "OathButtons$Oath" "deed" "I") ∈ lw_all := lw_g (lw_at lw_m4 79 rfl) rfl
theorem q917 : (Jvm.Cond.lays "OathButtons$Promise" "OathButtons$Oath" "until" "I") ∈ lw_all := lw_g (lw_at lw_m4 81 rfl) rfl
theorem q919 : (Jvm.Cond.lays "OathButtons$Promise" "OathButtons$Oath" "thread" "I") ∈ lw_all := lw_g (lw_at lw_m4 83 rfl) rfl
theorem q921 : (Jvm.Cond.lays "OathButtons$Promise" "OathButtons$Oath" "afte\x72" "I") ∈ lw_all := lw_g (lw_at lw_m4 85 rfl) rfl
theorem q923 : (Jvm.Cond.laysFinal "OathButtons$Promise" "OathButtons$Called" "name" "J") ∈ lw_all := lw_g (lw_at lw_m4 87 rfl) rfl
theorem q924 : (Jvm.Cond.superclass "OathButtons$Promise" "OathButtons$Oath") ∈ lw_all := lw_g (lw_at lw_m4 88 rfl) rfl
theorem q1069 : (Jvm.Cond.selects "OathButtons$Promise" ({ cls := "OathButtons$Oath", name := "isPromise", desc := "()Z" } : Jvm.MethodName) ({ cls := "OathButtons$Promise", name := "isPromise", desc := "()Z" } : Jvm.MethodName)) ∈ lw_all := lw_g (lw_at lw_m4 233 rfl) rfl
theorem q1070 : (Jvm.Cond.instanceMethod ({ cls := "OathButtons$Promise", name := "isPromise", desc := "()Z" } : Jvm.MethodName)) ∈ lw_all := lw_g (lw_at lw_m4 234 rfl) rfl
theorem q1071 : (Jvm.Cond.code ({ cls := "OathButtons$Promise", name := "isPromise", desc := "()Z" } : Jvm.MethodName) prog_17_method_2_code (1 : Nat) (Option.some Jvm.ClassFile.FieldType.boolean)) ∈ lw_all := lw_g (lw_at lw_m4 235 rfl) rfl
theorem q1130 : (Jvm.Cond.selects "OathButtons$Promise" ({ cls := "OathButtons$Oath", name := "byDeed", desc := "()I" } : Jvm.MethodName) ({ cls := "OathButtons$Oath", name := "byDeed", desc := "()I" } : Jvm.MethodName)) ∈ lw_all := lw_g (lw_at lw_m5 54 rfl) rfl
theorem q1189 : (Jvm.Cond.selects "OathButtons$Promise" ({ cls := "OathButtons$Oath", name := "byEnd", desc := "()I" } : Jvm.MethodName) ({ cls := "OathButtons$Oath", name := "byEnd", desc := "()I" } : Jvm.MethodName)) ∈ lw_all := lw_g (lw_at lw_m5 113 rfl) rfl
theorem q2199 : (Jvm.Cond.castable "OathButtons$Promise" "OathButtons$Oath") ∈ lw_tbl := lw_at lw_m9 163 rfl
theorem q2203 : (Jvm.Cond.castable "OathButtons$Promise" "OathButtons$Called") ∈ lw_tbl := lw_at lw_m9 167 rfl
theorem q2218 : (Jvm.Cond.castable "OathButtons$Promise" "java/lang/Object") ∈ lw_tbl := lw_at lw_m9 182 rfl
theorem in_X15 : ∀ w ∈ wsX150, w ∈ lw_all := lw_in wsX150 [911, 913, 915, 917, 919, 921, 923] (by decide +kernel) (by decide +kernel)
/-! OathButtons$Ban -/
set_option maxRecDepth 100000
def RX16 : String := "OathButtons$Ban"
def TX16 : u_T := fun k => match k with
  | 0 => ("OathButtons$Oath", "on", "I", true)
  | 1 => ("OathButtons$Oath", "by", "I", true)
  | 2 => ("OathButtons$Oath", "deed", "I", true)
  | 3 => ("OathButtons$Oath", "until", "I", false)
  | 4 => ("OathButtons$Oath", "thread", "I", false)
  | 5 => ("OathButtons$Oath", "afte\x72", "I", false)
  | _ => ("OathButtons$Called", "name", "J", true)
def tyX16 : Nat → FieldType := fun k => match k with
  | 0 => .int
  | 1 => .int
  | 2 => .int
  | 3 => .int
  | 4 => .int
  | 5 => .int
  | _ => .long
abbrev wsX160 : List Cond := u_ws RX16 TX16 7
theorem nmX16 : ∀ a, a < 7 → ∀ b, b < 7 → a ≠ b → (TX16 a).2.1 ≠ (TX16 b).2.1 := by decide +kernel
theorem tyX16_ok : ∀ k, k < 7 → parseFieldDescriptor (TX16 k).2.2.1 = some (tyX16 k) := by decide +kernel
abbrev cX16_init : ByteArray := prog_2_method_1_code
def yX16_init : MethodName := ⟨RX16, "<init>", "(JIII)V"⟩
def dkwX16_init_0 : List UInt8 := [42, 31, 29, 21, 4, 21, 5, 183, 0, 1, 177]
abbrev dktX16_init_0 : List UInt8 := dkwX16_init_0 ++ []
theorem dksX16_init_0 : cX16_init.data.toList.drop 0 = dktX16_init_0 := by decide +kernel
theorem dX16_init_0 : decode cX16_init 0 = .ok (.aload_n 0, 1) := dk_42 (dk_at dksX16_init_0 0 rfl rfl)
theorem dX16_init_1 : decode cX16_init 1 = .ok (.lload_n 1, 1) := dk_31 (dk_at dksX16_init_0 1 rfl rfl)
theorem dX16_init_2 : decode cX16_init 2 = .ok (.iload_n 3, 1) := dk_29 (dk_at dksX16_init_0 2 rfl rfl)
theorem dX16_init_3 : decode cX16_init 3 = .ok (.iload 4, 2) := dk_21 4 (dk_at dksX16_init_0 3 rfl rfl)
theorem dX16_init_5 : decode cX16_init 5 = .ok (.iload 5, 2) := dk_21 5 (dk_at dksX16_init_0 5 rfl rfl)
theorem dX16_init_7 : decode cX16_init 7 = .ok (.invokespecial 1, 3) := dk_183 0 1 (dk_at dksX16_init_0 7 rfl rfl)
theorem dX16_init_10 : decode cX16_init 10 = .ok (.return_, 1) := dk_177 (dk_at dksX16_init_0 10 rfl rfl)
abbrev cX16_isPromise : ByteArray := prog_2_method_2_code
def yX16_isPromise : MethodName := ⟨RX16, "isPromise", "()Z"⟩
theorem dX16_isPromise_0 : decode cX16_isPromise 0 = .ok (.iconst 0, 1) := by decide +kernel
theorem dX16_isPromise_1 : decode cX16_isPromise 1 = .ok (.ireturn, 1) := by decide +kernel
theorem q147 : (Jvm.Cond.initialized "OathButtons$Ban") ∈ lw_all := lw_g (lw_at lw_m1 31 rfl) rfl
theorem q819 : (Jvm.Cond.selects "OathButtons$Ban" ({ cls := "java/lang/Object", name := "getClass", desc := "()Ljava/lang/Class;" } : Jvm.MethodName) ({ cls := "java/lang/Object", name := "getClass", desc := "()Ljava/lang/Class;" } : Jvm.MethodName)) ∈ lw_all := lw_g (lw_at lw_m3 223 rfl) rfl
theorem q926 : (Jvm.Cond.instantiable "OathButtons$Ban" (7 : Nat)) ∈ lw_all := lw_g (lw_at lw_m4 90 rfl) rfl
theorem q928 : (Jvm.Cond.instanceMethod ({ cls := "OathButtons$Ban", name := "<init>", desc := "(JIII)V" } : Jvm.MethodName)) ∈ lw_all := lw_g (lw_at lw_m4 92 rfl) rfl
theorem q929 : (Jvm.Cond.code ({ cls := "OathButtons$Ban", name := "<init>", desc := "(JIII)V" } : Jvm.MethodName) prog_2_method_1_code (6 : Nat) (Option.none : Option Jvm.ClassFile.FieldType)) ∈ lw_all := lw_g (lw_at lw_m4 93 rfl) rfl
theorem q930 : (Jvm.Cond.methodLink "OathButtons$Ban" (1 : Nat) ({ cls := "OathButtons$Oath", name := "<init>", desc := "(JIII)V" } : Jvm.MethodName)) ∈ lw_all := lw_g (lw_at lw_m4 94 rfl) rfl
theorem q931 : (Jvm.Cond.laysFinal "OathButtons$Ban" "OathButtons$Oath" "on" "I") ∈ lw_all := lw_g (lw_at lw_m4 95 rfl) rfl
theorem q932 : (Jvm.Cond.laysFinal "OathButtons$Ban" "OathButtons$Oath" "by" "I") ∈ lw_all := lw_g (lw_at lw_m4 96 rfl) rfl
theorem q933 : (Jvm.Cond.laysFinal "OathButtons$Ban" "OathButtons$Oath" "deed" "I") ∈ lw_all := lw_g (lw_at lw_m4 97 rfl) rfl
theorem q934 : (Jvm.Cond.lays "OathButtons$Ban" "OathButtons$Oath" "until" "I") ∈ lw_all := lw_g (lw_at lw_m4 98 rfl) rfl
theorem q935 : (Jvm.Cond.lays "OathButtons$Ban" "OathButtons$Oath" "thread" "I") ∈ lw_all := lw_g (lw_at lw_m4 99 rfl) rfl
theorem q936 : (Jvm.Cond.lays "OathButtons$Ban" "OathButtons$Oath" "afte\x72" "I") ∈ lw_all := lw_g (lw_at lw_m4 100 rfl) rfl
theorem q937 : (Jvm.Cond.laysFinal "OathButtons$Ban" "OathButtons$Called" "name" "J") ∈ lw_all := lw_g (lw_at lw_m4 101 rfl) rfl
theorem q938 : (Jvm.Cond.superclass "OathButtons$Ban" "OathButtons$Oath") ∈ lw_all := lw_g (lw_at lw_m4 102 rfl) rfl
theorem q1066 : (Jvm.Cond.selects "OathButtons$Ban" ({ cls := "OathButtons$Oath", name := "isPromise", desc := "()Z" } : Jvm.MethodName) ({ cls := "OathButtons$Ban", name := "isPromise", desc := "()Z" } : Jvm.MethodName)) ∈ lw_all := lw_g (lw_at lw_m4 230 rfl) rfl
theorem q1067 : (Jvm.Cond.instanceMethod ({ cls := "OathButtons$Ban", name := "isPromise", desc := "()Z" } : Jvm.MethodName)) ∈ lw_all := lw_g (lw_at lw_m4 231 rfl) rfl
theorem q1068 : (Jvm.Cond.code ({ cls := "OathButtons$Ban", name := "isPromise", desc := "()Z" } : Jvm.MethodName) prog_2_method_2_code (1 : Nat) (Option.some Jvm.ClassFile.FieldType.boolean)) ∈ lw_all := lw_g (lw_at lw_m4 232 rfl) rfl
theorem q1129 : (Jvm.Cond.selects "OathButtons$Ban" ({ cls := "OathButtons$Oath", name := "byDeed", desc := "()I" } : Jvm.MethodName) ({ cls := "OathButtons$Oath", name := "byDeed", desc := "()I" } : Jvm.MethodName)) ∈ lw_all := lw_g (lw_at lw_m5 53 rfl) rfl
theorem q1188 : (Jvm.Cond.selects "OathButtons$Ban" ({ cls := "OathButtons$Oath", name := "byEnd", desc := "()I" } : Jvm.MethodName) ({ cls := "OathButtons$Oath", name := "byEnd", desc := "()I" } : Jvm.MethodName)) ∈ lw_all := lw_g (lw_at lw_m5 112 rfl) rfl
theorem q2198 : (Jvm.Cond.castable "OathButtons$Ban" "OathButtons$Oath") ∈ lw_tbl := lw_at lw_m9 162 rfl
theorem q2200 : (Jvm.Cond.castable "OathButtons$Ban" "OathButtons$Called") ∈ lw_tbl := lw_at lw_m9 164 rfl
theorem q2219 : (Jvm.Cond.castable "OathButtons$Ban" "java/lang/Object") ∈ lw_tbl := lw_at lw_m9 183 rfl
theorem in_X16 : ∀ w ∈ wsX160, w ∈ lw_all := lw_in wsX160 [931, 932, 933, 934, 935, 936, 937] (by decide +kernel) (by decide +kernel)
/-! OathButtons$Part -/
set_option maxRecDepth 100000
def RX17 : String := "OathButtons$Part"
abbrev cX17_init : ByteArray := prog_16_method_1_code
def yX17_init : MethodName := ⟨RX17, "<init>", "()V"⟩
theorem dX17_init_0 : decode cX17_init 0 = .ok (.aload_n 0, 1) := by decide +kernel
theorem dX17_init_1 : decode cX17_init 1 = .ok (.invokespecial 1, 3) := by decide +kernel
theorem dX17_init_4 : decode cX17_init 4 = .ok (.return_, 1) := by decide +kernel
theorem q148 : (Jvm.Cond.initialized "OathButtons$Part") ∈ lw_all := lw_g (lw_at lw_m1 32 rfl) rfl
theorem q985 : (Jvm.Cond.instanceMethod ({ cls := "OathButtons$Part", name := "<init>", desc := "()V" } : Jvm.MethodName)) ∈ lw_all := lw_g (lw_at lw_m4 149 rfl) rfl
theorem q986 : (Jvm.Cond.code ({ cls := "OathButtons$Part", name := "<init>", desc := "()V" } : Jvm.MethodName) prog_16_method_1_code (1 : Nat) (Option.none : Option Jvm.ClassFile.FieldType)) ∈ lw_all := lw_g (lw_at lw_m4 150 rfl) rfl
theorem q987 : (Jvm.Cond.methodLink "OathButtons$Part" (1 : Nat) ({ cls := "java/lang/Object", name := "<init>", desc := "()V" } : Jvm.MethodName)) ∈ lw_all := lw_g (lw_at lw_m4 151 rfl) rfl
theorem q1163 : (Jvm.Cond.declares ({ cls := "OathButtons$Part", name := "of", desc := "([I)I" } : Jvm.MethodName)) ∈ lw_tbl := lw_at lw_m5 87 rfl
theorem q1164 : (Jvm.Cond.sameMethod "OathButtons$Part" "OathButtons$Part" "of" "([I)I") ∈ lw_all := lw_g (lw_at lw_m5 88 rfl) rfl
/-! OathButtons$Not -/
set_option maxRecDepth 100000
def RX18 : String := "OathButtons$Not"
def TX18 : u_T := fun k => match k with
  | _ => ("OathButtons$Not", "a", "LOathButtons$Part;", true)
def tyX18 : Nat → FieldType := fun k => match k with
  | _ => .object "OathButtons$Part"
abbrev wsX180 : List Cond := u_ws RX18 TX18 1
theorem nmX18 : ∀ a, a < 1 → ∀ b, b < 1 → a ≠ b → (TX18 a).2.1 ≠ (TX18 b).2.1 := by decide +kernel
theorem tyX18_ok : ∀ k, k < 1 → parseFieldDescriptor (TX18 k).2.2.1 = some (tyX18 k) := by decide +kernel
abbrev cX18_init : ByteArray := prog_11_method_1_code
def yX18_init : MethodName := ⟨RX18, "<init>", "(LOathButtons$Part;)V"⟩
def dkwX18_init_0 : List UInt8 := [42, 183, 0, 1, 42, 43, 181, 0, 7, 177]
abbrev dktX18_init_0 : List UInt8 := dkwX18_init_0 ++ []
theorem dksX18_init_0 : cX18_init.data.toList.drop 0 = dktX18_init_0 := by decide +kernel
theorem dX18_init_0 : decode cX18_init 0 = .ok (.aload_n 0, 1) := dk_42 (dk_at dksX18_init_0 0 rfl rfl)
theorem dX18_init_1 : decode cX18_init 1 = .ok (.invokespecial 1, 3) := dk_183 0 1 (dk_at dksX18_init_0 1 rfl rfl)
theorem dX18_init_4 : decode cX18_init 4 = .ok (.aload_n 0, 1) := dk_42 (dk_at dksX18_init_0 4 rfl rfl)
theorem dX18_init_5 : decode cX18_init 5 = .ok (.aload_n 1, 1) := dk_43 (dk_at dksX18_init_0 5 rfl rfl)
theorem dX18_init_6 : decode cX18_init 6 = .ok (.putfield 7, 3) := dk_181 0 7 (dk_at dksX18_init_0 6 rfl rfl)
theorem dX18_init_9 : decode cX18_init 9 = .ok (.return_, 1) := dk_177 (dk_at dksX18_init_0 9 rfl rfl)
abbrev cX18_of : ByteArray := prog_11_method_2_code
def yX18_of : MethodName := ⟨RX18, "of", "([I)I"⟩
def dkwX18_of_0 : List UInt8 := [42, 180, 0, 7, 43, 182, 0, 13, 154, 0, 7, 4, 167, 0, 4, 3, 172]
abbrev dktX18_of_0 : List UInt8 := dkwX18_of_0 ++ []
theorem dksX18_of_0 : cX18_of.data.toList.drop 0 = dktX18_of_0 := by decide +kernel
theorem dX18_of_0 : decode cX18_of 0 = .ok (.aload_n 0, 1) := dk_42 (dk_at dksX18_of_0 0 rfl rfl)
theorem dX18_of_1 : decode cX18_of 1 = .ok (.getfield 7, 3) := dk_180 0 7 (dk_at dksX18_of_0 1 rfl rfl)
theorem dX18_of_4 : decode cX18_of 4 = .ok (.aload_n 1, 1) := dk_43 (dk_at dksX18_of_0 4 rfl rfl)
theorem dX18_of_5 : decode cX18_of 5 = .ok (.invokevirtual 13, 3) := dk_182 0 13 (dk_at dksX18_of_0 5 rfl rfl)
theorem dX18_of_8 : decode cX18_of 8 = .ok (.ifCond .ne 7, 3) := dk_154 0 7 (dk_at dksX18_of_0 8 rfl rfl)
theorem dX18_of_11 : decode cX18_of 11 = .ok (.iconst 1, 1) := dk_4 (dk_at dksX18_of_0 11 rfl rfl)
theorem dX18_of_12 : decode cX18_of 12 = .ok (.goto 4, 3) := dk_167 0 4 (dk_at dksX18_of_0 12 rfl rfl)
theorem dX18_of_15 : decode cX18_of 15 = .ok (.iconst 0, 1) := dk_3 (dk_at dksX18_of_0 15 rfl rfl)
theorem dX18_of_16 : decode cX18_of 16 = .ok (.ireturn, 1) := dk_172 (dk_at dksX18_of_0 16 rfl rfl)
theorem q149 : (Jvm.Cond.initialized "OathButtons$Not") ∈ lw_all := lw_g (lw_at lw_m1 33 rfl) rfl
theorem q827 : (Jvm.Cond.selects "OathButtons$Not" ({ cls := "java/lang/Object", name := "getClass", desc := "()Ljava/lang/Class;" } : Jvm.MethodName) ({ cls := "java/lang/Object", name := "getClass", desc := "()Ljava/lang/Class;" } : Jvm.MethodName)) ∈ lw_all := lw_g (lw_at lw_m3 231 rfl) rfl
theorem q980 : (Jvm.Cond.instantiable "OathButtons$Not" (1 : Nat)) ∈ lw_all := lw_g (lw_at lw_m4 144 rfl) rfl
theorem q982 : (Jvm.Cond.instanceMethod ({ cls := "OathButtons$Not", name := "<init>", desc := "(LOathButtons$Part;)V" } : Jvm.MethodName)) ∈ lw_all := lw_g (lw_at lw_m4 146 rfl) rfl
theorem q983 : (Jvm.Cond.code ({ cls := "OathButtons$Not", name := "<init>", desc := "(LOathButtons$Part;)V" } : Jvm.MethodName) prog_11_method_1_code (2 : Nat) (Option.none : Option Jvm.ClassFile.FieldType)) ∈ lw_all := lw_g (lw_at lw_m4 147 rfl) rfl
theorem q984 : (Jvm.Cond.methodLinkNest "OathButtons$Not" (1 : Nat) ({ cls := "OathButtons$Part", name := "<init>", desc := "()V" } : Jvm.MethodName) "OathButtons") ∈ lw_tbl := lw_at lw_m4 148 rfl
theorem q988 : (Jvm.Cond.fieldLink "OathButtons$Not" (7 : Nat) "OathButtons$Not" "a" "LOathButtons$Part;") ∈ lw_all := lw_g (lw_at lw_m4 152 rfl) rfl
theorem q989 : (Jvm.Cond.laysFinal "OathButtons$Not" "OathButtons$Not" "a" "LOathButtons$Part;") ∈ lw_all := lw_g (lw_at lw_m4 153 rfl) rfl
theorem q990 : (Jvm.Cond.soleField "OathButtons$Not" "a") ∈ lw_all := lw_g (lw_at lw_m4 154 rfl) rfl
theorem q991 : (Jvm.Cond.superclass "OathButtons$Not" "OathButtons$Part") ∈ lw_all := lw_g (lw_at lw_m4 155 rfl) rfl
theorem q1168 : (Jvm.Cond.selects "OathButtons$Not" ({ cls := "OathButtons$Part", name := "of", desc := "([I)I" } : Jvm.MethodName) ({ cls := "OathButtons$Not", name := "of", desc := "([I)I" } : Jvm.MethodName)) ∈ lw_all := lw_g (lw_at lw_m5 92 rfl) rfl
theorem q1169 : (Jvm.Cond.instanceMethod ({ cls := "OathButtons$Not", name := "of", desc := "([I)I" } : Jvm.MethodName)) ∈ lw_all := lw_g (lw_at lw_m5 93 rfl) rfl
theorem q1170 : (Jvm.Cond.code ({ cls := "OathButtons$Not", name := "of", desc := "([I)I" } : Jvm.MethodName) prog_11_method_2_code (2 : Nat) (Option.some Jvm.ClassFile.FieldType.int)) ∈ lw_all := lw_g (lw_at lw_m5 94 rfl) rfl
theorem q1171 : (Jvm.Cond.methodLink "OathButtons$Not" (13 : Nat) ({ cls := "OathButtons$Part", name := "of", desc := "([I)I" } : Jvm.MethodName)) ∈ lw_all := lw_g (lw_at lw_m5 95 rfl) rfl
theorem q2220 : (Jvm.Cond.castable "OathButtons$Not" "java/lang/Object") ∈ lw_tbl := lw_at lw_m9 184 rfl
theorem in_X18 : ∀ w ∈ wsX180, w ∈ lw_all := lw_in wsX180 [989] (by decide +kernel) (by decide +kernel)
/-! OathButtons$Numeral -/
set_option maxRecDepth 100000
def RX19 : String := "OathButtons$Numeral"
def TX19 : u_T := fun k => match k with
  | _ => ("OathButtons$Numeral", "v", "I", true)
def tyX19 : Nat → FieldType := fun k => match k with
  | _ => .int
abbrev wsX190 : List Cond := u_ws RX19 TX19 1
theorem nmX19 : ∀ a, a < 1 → ∀ b, b < 1 → a ≠ b → (TX19 a).2.1 ≠ (TX19 b).2.1 := by decide +kernel
theorem tyX19_ok : ∀ k, k < 1 → parseFieldDescriptor (TX19 k).2.2.1 = some (tyX19 k) := by decide +kernel
abbrev cX19_init : ByteArray := prog_12_method_1_code
def yX19_init : MethodName := ⟨RX19, "<init>", "(I)V"⟩
def dkwX19_init_0 : List UInt8 := [42, 183, 0, 1, 42, 27, 181, 0, 7, 177]
abbrev dktX19_init_0 : List UInt8 := dkwX19_init_0 ++ []
theorem dksX19_init_0 : cX19_init.data.toList.drop 0 = dktX19_init_0 := by decide +kernel
theorem dX19_init_0 : decode cX19_init 0 = .ok (.aload_n 0, 1) := dk_42 (dk_at dksX19_init_0 0 rfl rfl)
theorem dX19_init_1 : decode cX19_init 1 = .ok (.invokespecial 1, 3) := dk_183 0 1 (dk_at dksX19_init_0 1 rfl rfl)
theorem dX19_init_4 : decode cX19_init 4 = .ok (.aload_n 0, 1) := dk_42 (dk_at dksX19_init_0 4 rfl rfl)
theorem dX19_init_5 : decode cX19_init 5 = .ok (.iload_n 1, 1) := dk_27 (dk_at dksX19_init_0 5 rfl rfl)
theorem dX19_init_6 : decode cX19_init 6 = .ok (.putfield 7, 3) := dk_181 0 7 (dk_at dksX19_init_0 6 rfl rfl)
theorem dX19_init_9 : decode cX19_init 9 = .ok (.return_, 1) := dk_177 (dk_at dksX19_init_0 9 rfl rfl)
abbrev cX19_of : ByteArray := prog_12_method_2_code
def yX19_of : MethodName := ⟨RX19, "of", "([I)I"⟩
theorem dX19_of_0 : decode cX19_of 0 = .ok (.aload_n 0, 1) := by decide +kernel
theorem dX19_of_1 : decode cX19_of 1 = .ok (.getfield 7, 3) := by decide +kernel
theorem dX19_of_4 : decode cX19_of 4 = .ok (.ireturn, 1) := by decide +kernel
theorem q150 : (Jvm.Cond.initialized "OathButtons$Numeral") ∈ lw_all := lw_g (lw_at lw_m1 34 rfl) rfl
theorem q828 : (Jvm.Cond.selects "OathButtons$Numeral" ({ cls := "java/lang/Object", name := "getClass", desc := "()Ljava/lang/Class;" } : Jvm.MethodName) ({ cls := "java/lang/Object", name := "getClass", desc := "()Ljava/lang/Class;" } : Jvm.MethodName)) ∈ lw_all := lw_g (lw_at lw_m3 232 rfl) rfl
theorem q1007 : (Jvm.Cond.instantiable "OathButtons$Numeral" (1 : Nat)) ∈ lw_all := lw_g (lw_at lw_m4 171 rfl) rfl
theorem q1009 : (Jvm.Cond.instanceMethod ({ cls := "OathButtons$Numeral", name := "<init>", desc := "(I)V" } : Jvm.MethodName)) ∈ lw_all := lw_g (lw_at lw_m4 173 rfl) rfl
theorem q1010 : (Jvm.Cond.code ({ cls := "OathButtons$Numeral", name := "<init>", desc := "(I)V" } : Jvm.MethodName) prog_12_method_1_code (2 : Nat) (Option.none : Option Jvm.ClassFile.FieldType)) ∈ lw_all := lw_g (lw_at lw_m4 174 rfl) rfl
theorem q1011 : (Jvm.Cond.methodLinkNest "OathButtons$Numeral" (1 : Nat) ({ cls := "OathButtons$Part", name := "<init>", desc := "()V" } : Jvm.MethodName) "OathButtons") ∈ lw_tbl := lw_at lw_m4 175 rfl
theorem q1012 : (Jvm.Cond.fieldLink "OathButtons$Numeral" (7 : Nat) "OathButtons$Numeral" "v" "I") ∈ lw_all := lw_g (lw_at lw_m4 176 rfl) rfl
theorem q1013 : (Jvm.Cond.laysFinal "OathButtons$Numeral" "OathButtons$Numeral" "v" "I") ∈ lw_all := lw_g (lw_at lw_m4 177 rfl) rfl
theorem q1014 : (Jvm.Cond.soleField "OathButtons$Numeral" "v") ∈ lw_all := lw_g (lw_at lw_m4 178 rfl) rfl
theorem q1015 : (Jvm.Cond.superclass "OathButtons$Numeral" "OathButtons$Part") ∈ lw_all := lw_g (lw_at lw_m4 179 rfl) rfl
theorem q1172 : (Jvm.Cond.instanceMethod ({ cls := "OathButtons$Numeral", name := "of", desc := "([I)I" } : Jvm.MethodName)) ∈ lw_all := lw_g (lw_at lw_m5 96 rfl) rfl
theorem q1173 : (Jvm.Cond.code ({ cls := "OathButtons$Numeral", name := "of", desc := "([I)I" } : Jvm.MethodName) prog_12_method_2_code (2 : Nat) (Option.some Jvm.ClassFile.FieldType.int)) ∈ lw_all := lw_g (lw_at lw_m5 97 rfl) rfl
theorem q1180 : (Jvm.Cond.selects "OathButtons$Numeral" ({ cls := "OathButtons$Part", name := "of", desc := "([I)I" } : Jvm.MethodName) ({ cls := "OathButtons$Numeral", name := "of", desc := "([I)I" } : Jvm.MethodName)) ∈ lw_all := lw_g (lw_at lw_m5 104 rfl) rfl
theorem q2221 : (Jvm.Cond.castable "OathButtons$Numeral" "java/lang/Object") ∈ lw_tbl := lw_at lw_m9 185 rfl
theorem in_X19 : ∀ w ∈ wsX190, w ∈ lw_all := lw_in wsX190 [1013] (by decide +kernel) (by decide +kernel)
/-! OathButtons$Named -/
set_option maxRecDepth 100000
def RX20 : String := "OathButtons$Named"
def TX20 : u_T := fun k => match k with
  | _ => ("OathButtons$Named", "which", "I", true)
def tyX20 : Nat → FieldType := fun k => match k with
  | _ => .int
abbrev wsX200 : List Cond := u_ws RX20 TX20 1
theorem nmX20 : ∀ a, a < 1 → ∀ b, b < 1 → a ≠ b → (TX20 a).2.1 ≠ (TX20 b).2.1 := by decide +kernel
theorem tyX20_ok : ∀ k, k < 1 → parseFieldDescriptor (TX20 k).2.2.1 = some (tyX20 k) := by decide +kernel
abbrev cX20_init : ByteArray := prog_10_method_1_code
def yX20_init : MethodName := ⟨RX20, "<init>", "(I)V"⟩
def dkwX20_init_0 : List UInt8 := [42, 183, 0, 1, 42, 27, 181, 0, 7, 177]
abbrev dktX20_init_0 : List UInt8 := dkwX20_init_0 ++ []
theorem dksX20_init_0 : cX20_init.data.toList.drop 0 = dktX20_init_0 := by decide +kernel
theorem dX20_init_0 : decode cX20_init 0 = .ok (.aload_n 0, 1) := dk_42 (dk_at dksX20_init_0 0 rfl rfl)
theorem dX20_init_1 : decode cX20_init 1 = .ok (.invokespecial 1, 3) := dk_183 0 1 (dk_at dksX20_init_0 1 rfl rfl)
theorem dX20_init_4 : decode cX20_init 4 = .ok (.aload_n 0, 1) := dk_42 (dk_at dksX20_init_0 4 rfl rfl)
theorem dX20_init_5 : decode cX20_init 5 = .ok (.iload_n 1, 1) := dk_27 (dk_at dksX20_init_0 5 rfl rfl)
theorem dX20_init_6 : decode cX20_init 6 = .ok (.putfield 7, 3) := dk_181 0 7 (dk_at dksX20_init_0 6 rfl rfl)
theorem dX20_init_9 : decode cX20_init 9 = .ok (.return_, 1) := dk_177 (dk_at dksX20_init_0 9 rfl rfl)
abbrev cX20_of : ByteArray := prog_10_method_2_code
def yX20_of : MethodName := ⟨RX20, "of", "([I)I"⟩
def dkwX20_of_0 : List UInt8 := [43, 42, 180, 0, 7, 46, 172]
abbrev dktX20_of_0 : List UInt8 := dkwX20_of_0 ++ []
theorem dksX20_of_0 : cX20_of.data.toList.drop 0 = dktX20_of_0 := by decide +kernel
theorem dX20_of_0 : decode cX20_of 0 = .ok (.aload_n 1, 1) := dk_43 (dk_at dksX20_of_0 0 rfl rfl)
theorem dX20_of_1 : decode cX20_of 1 = .ok (.aload_n 0, 1) := dk_42 (dk_at dksX20_of_0 1 rfl rfl)
theorem dX20_of_2 : decode cX20_of 2 = .ok (.getfield 7, 3) := dk_180 0 7 (dk_at dksX20_of_0 2 rfl rfl)
theorem dX20_of_5 : decode cX20_of 5 = .ok (.iaload, 1) := dk_46 (dk_at dksX20_of_0 5 rfl rfl)
theorem dX20_of_6 : decode cX20_of 6 = .ok (.ireturn, 1) := dk_172 (dk_at dksX20_of_0 6 rfl rfl)
theorem q151 : (Jvm.Cond.initialized "OathButtons$Named") ∈ lw_all := lw_g (lw_at lw_m1 35 rfl) rfl
theorem q826 : (Jvm.Cond.selects "OathButtons$Named" ({ cls := "java/lang/Object", name := "getClass", desc := "()Ljava/lang/Class;" } : Jvm.MethodName) ({ cls := "java/lang/Object", name := "getClass", desc := "()Ljava/lang/Class;" } : Jvm.MethodName)) ∈ lw_all := lw_g (lw_at lw_m3 230 rfl) rfl
theorem q1017 : (Jvm.Cond.instantiable "OathButtons$Named" (1 : Nat)) ∈ lw_all := lw_g (lw_at lw_m4 181 rfl) rfl
theorem q1019 : (Jvm.Cond.instanceMethod ({ cls := "OathButtons$Named", name := "<init>", desc := "(I)V" } : Jvm.MethodName)) ∈ lw_all := lw_g (lw_at lw_m4 183 rfl) rfl
theorem q1020 : (Jvm.Cond.code ({ cls := "OathButtons$Named", name := "<init>", desc := "(I)V" } : Jvm.MethodName) prog_10_method_1_code (2 : Nat) (Option.none : Option Jvm.ClassFile.FieldType)) ∈ lw_all := lw_g (lw_at lw_m4 184 rfl) rfl
theorem q1021 : (Jvm.Cond.methodLinkNest "OathButtons$Named" (1 : Nat) ({ cls := "OathButtons$Part", name := "<init>", desc := "()V" } : Jvm.MethodName) "OathButtons") ∈ lw_tbl := lw_at lw_m4 185 rfl
theorem q1022 : (Jvm.Cond.fieldLink "OathButtons$Named" (7 : Nat) "OathButtons$Named" "which" "I") ∈ lw_all := lw_g (lw_at lw_m4 186 rfl) rfl
theorem q1023 : (Jvm.Cond.laysFinal "OathButtons$Named" "OathButtons$Named" "which" "I") ∈ lw_all := lw_g (lw_at lw_m4 187 rfl) rfl
theorem q1024 : (Jvm.Cond.soleField "OathButtons$Named" "which") ∈ lw_all := lw_g (lw_at lw_m4 188 rfl) rfl
theorem q1025 : (Jvm.Cond.superclass "OathButtons$Named" "OathButtons$Part") ∈ lw_all := lw_g (lw_at lw_m4 189 rfl) rfl
theorem q1165 : (Jvm.Cond.selects "OathButtons$Named" ({ cls := "OathButtons$Part", name := "of", desc := "([I)I" } : Jvm.MethodName) ({ cls := "OathButtons$Named", name := "of", desc := "([I)I" } : Jvm.MethodName)) ∈ lw_all := lw_g (lw_at lw_m5 89 rfl) rfl
theorem q1166 : (Jvm.Cond.instanceMethod ({ cls := "OathButtons$Named", name := "of", desc := "([I)I" } : Jvm.MethodName)) ∈ lw_all := lw_g (lw_at lw_m5 90 rfl) rfl
theorem q1167 : (Jvm.Cond.code ({ cls := "OathButtons$Named", name := "of", desc := "([I)I" } : Jvm.MethodName) prog_10_method_2_code (2 : Nat) (Option.some Jvm.ClassFile.FieldType.int)) ∈ lw_all := lw_g (lw_at lw_m5 91 rfl) rfl
theorem q2222 : (Jvm.Cond.castable "OathButtons$Named" "java/lang/Object") ∈ lw_tbl := lw_at lw_m9 186 rfl
theorem in_X20 : ∀ w ∈ wsX200, w ∈ lw_all := lw_in wsX200 [1023] (by decide +kernel) (by decide +kernel)
/-! OathButtons$Two -/
set_option maxRecDepth 100000
def RX21 : String := "OathButtons$Two"
def TX21 : u_T := fun k => match k with
  | 0 => ("OathButtons$Two", "sign", "I", true)
  | 1 => ("OathButtons$Two", "a", "LOathButtons$Part;", true)
  | _ => ("OathButtons$Two", "b", "LOathButtons$Part;", true)
def tyX21 : Nat → FieldType := fun k => match k with
  | 0 => .int
  | 1 => .object "OathButtons$Part"
  | _ => .object "OathButtons$Part"
abbrev wsX210 : List Cond := u_ws RX21 TX21 3
theorem nmX21 : ∀ a, a < 3 → ∀ b, b < 3 → a ≠ b → (TX21 a).2.1 ≠ (TX21 b).2.1 := by decide +kernel
theorem tyX21_ok : ∀ k, k < 3 → parseFieldDescriptor (TX21 k).2.2.1 = some (tyX21 k) := by decide +kernel
abbrev cX21_init : ByteArray := prog_21_method_1_code
def yX21_init : MethodName := ⟨RX21, "<init>", "(ILOathButtons$Part;LOathButtons$Part;)V"⟩
def dkwX21_init_0 : List UInt8 := [42, 183, 0, 1, 42, 27, 181, 0, 7, 42, 44, 181, 0, 13, 42, 45, 181, 0, 17, 177]
abbrev dktX21_init_0 : List UInt8 := dkwX21_init_0 ++ []
theorem dksX21_init_0 : cX21_init.data.toList.drop 0 = dktX21_init_0 := by decide +kernel
theorem dX21_init_0 : decode cX21_init 0 = .ok (.aload_n 0, 1) := dk_42 (dk_at dksX21_init_0 0 rfl rfl)
theorem dX21_init_1 : decode cX21_init 1 = .ok (.invokespecial 1, 3) := dk_183 0 1 (dk_at dksX21_init_0 1 rfl rfl)
theorem dX21_init_4 : decode cX21_init 4 = .ok (.aload_n 0, 1) := dk_42 (dk_at dksX21_init_0 4 rfl rfl)
theorem dX21_init_5 : decode cX21_init 5 = .ok (.iload_n 1, 1) := dk_27 (dk_at dksX21_init_0 5 rfl rfl)
theorem dX21_init_6 : decode cX21_init 6 = .ok (.putfield 7, 3) := dk_181 0 7 (dk_at dksX21_init_0 6 rfl rfl)
theorem dX21_init_9 : decode cX21_init 9 = .ok (.aload_n 0, 1) := dk_42 (dk_at dksX21_init_0 9 rfl rfl)
theorem dX21_init_10 : decode cX21_init 10 = .ok (.aload_n 2, 1) := dk_44 (dk_at dksX21_init_0 10 rfl rfl)
theorem dX21_init_11 : decode cX21_init 11 = .ok (.putfield 13, 3) := dk_181 0 13 (dk_at dksX21_init_0 11 rfl rfl)
theorem dX21_init_14 : decode cX21_init 14 = .ok (.aload_n 0, 1) := dk_42 (dk_at dksX21_init_0 14 rfl rfl)
theorem dX21_init_15 : decode cX21_init 15 = .ok (.aload_n 3, 1) := dk_45 (dk_at dksX21_init_0 15 rfl rfl)
theorem dX21_init_16 : decode cX21_init 16 = .ok (.putfield 17, 3) := dk_181 0 17 (dk_at dksX21_init_0 16 rfl rfl)
theorem dX21_init_19 : decode cX21_init 19 = .ok (.return_, 1) := dk_177 (dk_at dksX21_init_0 19 rfl rfl)
abbrev cX21_of : ByteArray := prog_21_method_3_code
def yX21_of : MethodName := ⟨RX21, "of", "([I)I"⟩
def dkwX21_of_6 : List UInt8 := [172, 28, 154, 0, 7, 29, 153, 0, 7, 4, 167, 0, 4, 3, 184, 0, 24, 172]
abbrev dktX21_of_6 : List UInt8 := dkwX21_of_6 ++ []
def dkwX21_of_5 : List UInt8 := [167, 0, 4, 3, 184, 0, 24, 172, 28, 153, 0, 11, 29, 153, 0, 7, 4, 167, 0, 4, 3, 184, 0, 24]
abbrev dktX21_of_5 : List UInt8 := dkwX21_of_5 ++ dktX21_of_6
def dkwX21_of_4 : List UInt8 := [184, 0, 24, 172, 28, 29, 164, 0, 7, 4, 167, 0, 4, 3, 184, 0, 24, 172, 28, 29, 160, 0, 7, 4]
abbrev dktX21_of_4 : List UInt8 := dkwX21_of_4 ++ dktX21_of_5
def dkwX21_of_3 : List UInt8 := [29, 154, 0, 7, 3, 167, 0, 6, 28, 29, 112, 172, 28, 29, 162, 0, 7, 4, 167, 0, 4, 3]
abbrev dktX21_of_3 : List UInt8 := dkwX21_of_3 ++ dktX21_of_4
def dkwX21_of_2 : List UInt8 := [28, 29, 96, 172, 28, 29, 100, 172, 28, 29, 104, 172, 29, 154, 0, 7, 3, 167, 0, 6, 28, 29, 108, 172]
abbrev dktX21_of_2 : List UInt8 := dkwX21_of_2 ++ dktX21_of_3
def dkwX21_of_1 : List UInt8 := [170, 0, 0, 0, 0, 213, 0, 0, 0, 37, 0, 0, 0, 62, 0, 0, 0, 142, 0, 0, 0, 196, 0, 0, 0, 213, 0, 0, 0, 213, 0, 0, 0, 213, 0, 0, 0, 126, 0, 0, 0, 118, 0, 0, 0, 213, 0, 0, 0, 122, 0, 0, 0, 213, 0, 0, 0, 130, 0, 0, 0, 213, 0, 0, 0, 213, 0, 0, 0, 213, 0, 0, 0, 213, 0, 0, 0, 213, 0, 0, 0, 213, 0, 0, 0, 213, 0, 0, 0, 213, 0, 0, 0, 213, 0, 0, 0, 213, 0, 0, 0, 213, 0, 0, 0, 213, 0, 0, 0, 154, 0, 0, 0, 182, 0, 0, 0, 168]
abbrev dktX21_of_1 : List UInt8 := dkwX21_of_1 ++ dktX21_of_2
def dkwX21_of_0 : List UInt8 := [42, 180, 0, 13, 43, 182, 0, 20, 61, 42, 180, 0, 17, 43, 182, 0, 20, 62, 42, 180, 0, 7]
abbrev dktX21_of_0 : List UInt8 := dkwX21_of_0 ++ dktX21_of_1
theorem dksX21_of_0 : cX21_of.data.toList.drop 0 = dktX21_of_0 := by decide +kernel
theorem dksX21_of_1 : cX21_of.data.toList.drop 22 = dktX21_of_1 := dk_seg dksX21_of_0 22 rfl rfl
theorem dksX21_of_2 : cX21_of.data.toList.drop 140 = dktX21_of_2 := dk_seg dksX21_of_1 118 rfl rfl
theorem dksX21_of_3 : cX21_of.data.toList.drop 164 = dktX21_of_3 := dk_seg dksX21_of_2 24 rfl rfl
theorem dksX21_of_4 : cX21_of.data.toList.drop 186 = dktX21_of_4 := dk_seg dksX21_of_3 22 rfl rfl
theorem dksX21_of_5 : cX21_of.data.toList.drop 210 = dktX21_of_5 := dk_seg dksX21_of_4 24 rfl rfl
theorem dksX21_of_6 : cX21_of.data.toList.drop 234 = dktX21_of_6 := dk_seg dksX21_of_5 24 rfl rfl
theorem dX21_of_0 : decode cX21_of 0 = .ok (.aload_n 0, 1) := dk_42 (dk_at dksX21_of_0 0 rfl rfl)
theorem dX21_of_1 : decode cX21_of 1 = .ok (.getfield 13, 3) := dk_180 0 13 (dk_at dksX21_of_0 1 rfl rfl)
theorem dX21_of_4 : decode cX21_of 4 = .ok (.aload_n 1, 1) := dk_43 (dk_at dksX21_of_0 4 rfl rfl)
theorem dX21_of_5 : decode cX21_of 5 = .ok (.invokevirtual 20, 3) := dk_182 0 20 (dk_at dksX21_of_0 5 rfl rfl)
theorem dX21_of_8 : decode cX21_of 8 = .ok (.istore_n 2, 1) := dk_61 (dk_at dksX21_of_0 8 rfl rfl)
theorem dX21_of_9 : decode cX21_of 9 = .ok (.aload_n 0, 1) := dk_42 (dk_at dksX21_of_0 9 rfl rfl)
theorem dX21_of_10 : decode cX21_of 10 = .ok (.getfield 17, 3) := dk_180 0 17 (dk_at dksX21_of_0 10 rfl rfl)
theorem dX21_of_13 : decode cX21_of 13 = .ok (.aload_n 1, 1) := dk_43 (dk_at dksX21_of_0 13 rfl rfl)
theorem dX21_of_14 : decode cX21_of 14 = .ok (.invokevirtual 20, 3) := dk_182 0 20 (dk_at dksX21_of_0 14 rfl rfl)
theorem dX21_of_17 : decode cX21_of 17 = .ok (.istore_n 3, 1) := dk_62 (dk_at dksX21_of_0 17 rfl rfl)
theorem dX21_of_18 : decode cX21_of 18 = .ok (.aload_n 0, 1) := dk_42 (dk_at dksX21_of_0 18 rfl rfl)
theorem dX21_of_19 : decode cX21_of 19 = .ok (.getfield 7, 3) := dk_180 0 7 (dk_at dksX21_of_0 19 rfl rfl)
theorem dX21_of_22 : decode cX21_of 22 = .ok (.tableswitch 213 37 62 #[142, 196, 213, 213, 213, 126, 118, 213, 122, 213, 130, 213, 213, 213, 213, 213, 213, 213, 213, 213, 213, 213, 213, 154, 182, 168], 118) := by decide +kernel
theorem dX21_of_140 : decode cX21_of 140 = .ok (.iload_n 2, 1) := dk_28 (dk_at dksX21_of_2 0 rfl rfl)
theorem dX21_of_141 : decode cX21_of 141 = .ok (.iload_n 3, 1) := dk_29 (dk_at dksX21_of_2 1 rfl rfl)
theorem dX21_of_142 : decode cX21_of 142 = .ok (.iadd, 1) := dk_96 (dk_at dksX21_of_2 2 rfl rfl)
theorem dX21_of_143 : decode cX21_of 143 = .ok (.ireturn, 1) := dk_172 (dk_at dksX21_of_2 3 rfl rfl)
theorem dX21_of_144 : decode cX21_of 144 = .ok (.iload_n 2, 1) := dk_28 (dk_at dksX21_of_2 4 rfl rfl)
theorem dX21_of_145 : decode cX21_of 145 = .ok (.iload_n 3, 1) := dk_29 (dk_at dksX21_of_2 5 rfl rfl)
theorem dX21_of_146 : decode cX21_of 146 = .ok (.isub, 1) := dk_100 (dk_at dksX21_of_2 6 rfl rfl)
theorem dX21_of_147 : decode cX21_of 147 = .ok (.ireturn, 1) := dk_172 (dk_at dksX21_of_2 7 rfl rfl)
theorem dX21_of_148 : decode cX21_of 148 = .ok (.iload_n 2, 1) := dk_28 (dk_at dksX21_of_2 8 rfl rfl)
theorem dX21_of_149 : decode cX21_of 149 = .ok (.iload_n 3, 1) := dk_29 (dk_at dksX21_of_2 9 rfl rfl)
theorem dX21_of_150 : decode cX21_of 150 = .ok (.imul, 1) := dk_104 (dk_at dksX21_of_2 10 rfl rfl)
theorem dX21_of_151 : decode cX21_of 151 = .ok (.ireturn, 1) := dk_172 (dk_at dksX21_of_2 11 rfl rfl)
theorem dX21_of_152 : decode cX21_of 152 = .ok (.iload_n 3, 1) := dk_29 (dk_at dksX21_of_2 12 rfl rfl)
theorem dX21_of_153 : decode cX21_of 153 = .ok (.ifCond .ne 7, 3) := dk_154 0 7 (dk_at dksX21_of_2 13 rfl rfl)
theorem dX21_of_156 : decode cX21_of 156 = .ok (.iconst 0, 1) := dk_3 (dk_at dksX21_of_2 16 rfl rfl)
theorem dX21_of_157 : decode cX21_of 157 = .ok (.goto 6, 3) := dk_167 0 6 (dk_at dksX21_of_2 17 rfl rfl)
theorem dX21_of_160 : decode cX21_of 160 = .ok (.iload_n 2, 1) := dk_28 (dk_at dksX21_of_2 20 rfl rfl)
theorem dX21_of_161 : decode cX21_of 161 = .ok (.iload_n 3, 1) := dk_29 (dk_at dksX21_of_2 21 rfl rfl)
theorem dX21_of_162 : decode cX21_of 162 = .ok (.idiv, 1) := dk_108 (dk_at dksX21_of_2 22 rfl rfl)
theorem dX21_of_163 : decode cX21_of 163 = .ok (.ireturn, 1) := dk_172 (dk_at dksX21_of_2 23 rfl rfl)
theorem dX21_of_164 : decode cX21_of 164 = .ok (.iload_n 3, 1) := dk_29 (dk_at dksX21_of_3 0 rfl rfl)
theorem dX21_of_165 : decode cX21_of 165 = .ok (.ifCond .ne 7, 3) := dk_154 0 7 (dk_at dksX21_of_3 1 rfl rfl)
theorem dX21_of_168 : decode cX21_of 168 = .ok (.iconst 0, 1) := dk_3 (dk_at dksX21_of_3 4 rfl rfl)
theorem dX21_of_169 : decode cX21_of 169 = .ok (.goto 6, 3) := dk_167 0 6 (dk_at dksX21_of_3 5 rfl rfl)
theorem dX21_of_172 : decode cX21_of 172 = .ok (.iload_n 2, 1) := dk_28 (dk_at dksX21_of_3 8 rfl rfl)
theorem dX21_of_173 : decode cX21_of 173 = .ok (.iload_n 3, 1) := dk_29 (dk_at dksX21_of_3 9 rfl rfl)
theorem dX21_of_174 : decode cX21_of 174 = .ok (.irem, 1) := dk_112 (dk_at dksX21_of_3 10 rfl rfl)
theorem dX21_of_175 : decode cX21_of 175 = .ok (.ireturn, 1) := dk_172 (dk_at dksX21_of_3 11 rfl rfl)
theorem dX21_of_176 : decode cX21_of 176 = .ok (.iload_n 2, 1) := dk_28 (dk_at dksX21_of_3 12 rfl rfl)
theorem dX21_of_177 : decode cX21_of 177 = .ok (.iload_n 3, 1) := dk_29 (dk_at dksX21_of_3 13 rfl rfl)
theorem dX21_of_178 : decode cX21_of 178 = .ok (.if_icmp .ge 7, 3) := dk_162 0 7 (dk_at dksX21_of_3 14 rfl rfl)
theorem dX21_of_181 : decode cX21_of 181 = .ok (.iconst 1, 1) := dk_4 (dk_at dksX21_of_3 17 rfl rfl)
theorem dX21_of_182 : decode cX21_of 182 = .ok (.goto 4, 3) := dk_167 0 4 (dk_at dksX21_of_3 18 rfl rfl)
theorem dX21_of_185 : decode cX21_of 185 = .ok (.iconst 0, 1) := dk_3 (dk_at dksX21_of_3 21 rfl rfl)
theorem dX21_of_186 : decode cX21_of 186 = .ok (.invokestatic 24, 3) := dk_184 0 24 (dk_at dksX21_of_4 0 rfl rfl)
theorem dX21_of_189 : decode cX21_of 189 = .ok (.ireturn, 1) := dk_172 (dk_at dksX21_of_4 3 rfl rfl)
theorem dX21_of_190 : decode cX21_of 190 = .ok (.iload_n 2, 1) := dk_28 (dk_at dksX21_of_4 4 rfl rfl)
theorem dX21_of_191 : decode cX21_of 191 = .ok (.iload_n 3, 1) := dk_29 (dk_at dksX21_of_4 5 rfl rfl)
theorem dX21_of_192 : decode cX21_of 192 = .ok (.if_icmp .le 7, 3) := dk_164 0 7 (dk_at dksX21_of_4 6 rfl rfl)
theorem dX21_of_195 : decode cX21_of 195 = .ok (.iconst 1, 1) := dk_4 (dk_at dksX21_of_4 9 rfl rfl)
theorem dX21_of_196 : decode cX21_of 196 = .ok (.goto 4, 3) := dk_167 0 4 (dk_at dksX21_of_4 10 rfl rfl)
theorem dX21_of_199 : decode cX21_of 199 = .ok (.iconst 0, 1) := dk_3 (dk_at dksX21_of_4 13 rfl rfl)
theorem dX21_of_200 : decode cX21_of 200 = .ok (.invokestatic 24, 3) := dk_184 0 24 (dk_at dksX21_of_4 14 rfl rfl)
theorem dX21_of_203 : decode cX21_of 203 = .ok (.ireturn, 1) := dk_172 (dk_at dksX21_of_4 17 rfl rfl)
theorem dX21_of_204 : decode cX21_of 204 = .ok (.iload_n 2, 1) := dk_28 (dk_at dksX21_of_4 18 rfl rfl)
theorem dX21_of_205 : decode cX21_of 205 = .ok (.iload_n 3, 1) := dk_29 (dk_at dksX21_of_4 19 rfl rfl)
theorem dX21_of_206 : decode cX21_of 206 = .ok (.if_icmp .ne 7, 3) := dk_160 0 7 (dk_at dksX21_of_4 20 rfl rfl)
theorem dX21_of_209 : decode cX21_of 209 = .ok (.iconst 1, 1) := dk_4 (dk_at dksX21_of_4 23 rfl rfl)
theorem dX21_of_210 : decode cX21_of 210 = .ok (.goto 4, 3) := dk_167 0 4 (dk_at dksX21_of_5 0 rfl rfl)
theorem dX21_of_213 : decode cX21_of 213 = .ok (.iconst 0, 1) := dk_3 (dk_at dksX21_of_5 3 rfl rfl)
theorem dX21_of_214 : decode cX21_of 214 = .ok (.invokestatic 24, 3) := dk_184 0 24 (dk_at dksX21_of_5 4 rfl rfl)
theorem dX21_of_217 : decode cX21_of 217 = .ok (.ireturn, 1) := dk_172 (dk_at dksX21_of_5 7 rfl rfl)
theorem dX21_of_218 : decode cX21_of 218 = .ok (.iload_n 2, 1) := dk_28 (dk_at dksX21_of_5 8 rfl rfl)
theorem dX21_of_219 : decode cX21_of 219 = .ok (.ifCond .eq 11, 3) := dk_153 0 11 (dk_at dksX21_of_5 9 rfl rfl)
theorem dX21_of_222 : decode cX21_of 222 = .ok (.iload_n 3, 1) := dk_29 (dk_at dksX21_of_5 12 rfl rfl)
theorem dX21_of_223 : decode cX21_of 223 = .ok (.ifCond .eq 7, 3) := dk_153 0 7 (dk_at dksX21_of_5 13 rfl rfl)
theorem dX21_of_226 : decode cX21_of 226 = .ok (.iconst 1, 1) := dk_4 (dk_at dksX21_of_5 16 rfl rfl)
theorem dX21_of_227 : decode cX21_of 227 = .ok (.goto 4, 3) := dk_167 0 4 (dk_at dksX21_of_5 17 rfl rfl)
theorem dX21_of_230 : decode cX21_of 230 = .ok (.iconst 0, 1) := dk_3 (dk_at dksX21_of_5 20 rfl rfl)
theorem dX21_of_231 : decode cX21_of 231 = .ok (.invokestatic 24, 3) := dk_184 0 24 (dk_at dksX21_of_5 21 rfl rfl)
theorem dX21_of_234 : decode cX21_of 234 = .ok (.ireturn, 1) := dk_172 (dk_at dksX21_of_6 0 rfl rfl)
theorem dX21_of_235 : decode cX21_of 235 = .ok (.iload_n 2, 1) := dk_28 (dk_at dksX21_of_6 1 rfl rfl)
theorem dX21_of_236 : decode cX21_of 236 = .ok (.ifCond .ne 7, 3) := dk_154 0 7 (dk_at dksX21_of_6 2 rfl rfl)
theorem dX21_of_239 : decode cX21_of 239 = .ok (.iload_n 3, 1) := dk_29 (dk_at dksX21_of_6 5 rfl rfl)
theorem dX21_of_240 : decode cX21_of 240 = .ok (.ifCond .eq 7, 3) := dk_153 0 7 (dk_at dksX21_of_6 6 rfl rfl)
theorem dX21_of_243 : decode cX21_of 243 = .ok (.iconst 1, 1) := dk_4 (dk_at dksX21_of_6 9 rfl rfl)
theorem dX21_of_244 : decode cX21_of 244 = .ok (.goto 4, 3) := dk_167 0 4 (dk_at dksX21_of_6 10 rfl rfl)
theorem dX21_of_247 : decode cX21_of 247 = .ok (.iconst 0, 1) := dk_3 (dk_at dksX21_of_6 13 rfl rfl)
theorem dX21_of_248 : decode cX21_of 248 = .ok (.invokestatic 24, 3) := dk_184 0 24 (dk_at dksX21_of_6 14 rfl rfl)
theorem dX21_of_251 : decode cX21_of 251 = .ok (.ireturn, 1) := dk_172 (dk_at dksX21_of_6 17 rfl rfl)
abbrev cX21_is : ByteArray := prog_21_method_2_code
def yX21_is : MethodName := ⟨RX21, "is", "(Z)I"⟩
def dkwX21_is_0 : List UInt8 := [26, 153, 0, 7, 4, 167, 0, 4, 3, 172]
abbrev dktX21_is_0 : List UInt8 := dkwX21_is_0 ++ []
theorem dksX21_is_0 : cX21_is.data.toList.drop 0 = dktX21_is_0 := by decide +kernel
theorem dX21_is_0 : decode cX21_is 0 = .ok (.iload_n 0, 1) := dk_26 (dk_at dksX21_is_0 0 rfl rfl)
theorem dX21_is_1 : decode cX21_is 1 = .ok (.ifCond .eq 7, 3) := dk_153 0 7 (dk_at dksX21_is_0 1 rfl rfl)
theorem dX21_is_4 : decode cX21_is 4 = .ok (.iconst 1, 1) := dk_4 (dk_at dksX21_is_0 4 rfl rfl)
theorem dX21_is_5 : decode cX21_is 5 = .ok (.goto 4, 3) := dk_167 0 4 (dk_at dksX21_is_0 5 rfl rfl)
theorem dX21_is_8 : decode cX21_is 8 = .ok (.iconst 0, 1) := dk_3 (dk_at dksX21_is_0 8 rfl rfl)
theorem dX21_is_9 : decode cX21_is 9 = .ok (.ireturn, 1) := dk_172 (dk_at dksX21_is_0 9 rfl rfl)
theorem q152 : (Jvm.Cond.initialized "OathButtons$Two") ∈ lw_all := lw_g (lw_at lw_m1 36 rfl) rfl
theorem q834 : (Jvm.Cond.selects "OathButtons$Two" ({ cls := "java/lang/Object", name := "getClass", desc := "()Ljava/lang/Class;" } : Jvm.MethodName) ({ cls := "java/lang/Object", name := "getClass", desc := "()Ljava/lang/Class;" } : Jvm.MethodName)) ∈ lw_all := lw_g (lw_at lw_m3 238 rfl) rfl
theorem q1027 : (Jvm.Cond.instantiable "OathButtons$Two" (3 : Nat)) ∈ lw_all := lw_g (lw_at lw_m4 191 rfl) rfl
theorem q1029 : (Jvm.Cond.instanceMethod ({ cls := "OathButtons$Two", name := "<init>", desc := "(ILOathButtons$Part;LOathButtons$Part;)V" } : Jvm.MethodName)) ∈ lw_all := lw_g (lw_at lw_m4 193 rfl) rfl
theorem q1030 : (Jvm.Cond.code ({ cls := "OathButtons$Two", name := "<init>", desc := "(ILOathButtons$Part;LOathButtons$Part;)V" } : Jvm.MethodName) prog_21_method_1_code (4 : Nat) (Option.none : Option Jvm.ClassFile.FieldType)) ∈ lw_all := lw_g (lw_at lw_m4 194 rfl) rfl
theorem q1031 : (Jvm.Cond.methodLinkNest "OathButtons$Two" (1 : Nat) ({ cls := "OathButtons$Part", name := "<init>", desc := "()V" } : Jvm.MethodName) "OathButtons") ∈ lw_tbl := lw_at lw_m4 195 rfl
theorem q1032 : (Jvm.Cond.fieldLink "OathButtons$Two" (7 : Nat) "OathButtons$Two" "sign" "I") ∈ lw_all := lw_g (lw_at lw_m4 196 rfl) rfl
theorem q1033 : (Jvm.Cond.fieldLink "OathButtons$Two" (13 : Nat) "OathButtons$Two" "a" "LOathButtons$Part;") ∈ lw_all := lw_g (lw_at lw_m4 197 rfl) rfl
theorem q1034 : (Jvm.Cond.fieldLink "OathButtons$Two" (17 : Nat) "OathButtons$Two" "b" "LOathButtons$Part;") ∈ lw_all := lw_g (lw_at lw_m4 198 rfl) rfl
theorem q1035 : (Jvm.Cond.laysFinal "OathButtons$Two" "OathButtons$Two" "sign" "I") ∈ lw_all := lw_g (lw_at lw_m4 199 rfl) rfl
theorem q1036 : (Jvm.Cond.soleField "OathButtons$Two" "sign") ∈ lw_all := lw_g (lw_at lw_m4 200 rfl) rfl
theorem q1037 : (Jvm.Cond.laysFinal "OathButtons$Two" "OathButtons$Two" "a" "LOathButtons$Part;") ∈ lw_all := lw_g (lw_at lw_m4 201 rfl) rfl
theorem q1038 : (Jvm.Cond.soleField "OathButtons$Two" "a") ∈ lw_all := lw_g (lw_at lw_m4 202 rfl) rfl
theorem q1039 : (Jvm.Cond.laysFinal "OathButtons$Two" "OathButtons$Two" "b" "LOathButtons$Part;") ∈ lw_all := lw_g (lw_at lw_m4 203 rfl) rfl
theorem q1040 : (Jvm.Cond.soleField "OathButtons$Two" "b") ∈ lw_all := lw_g (lw_at lw_m4 204 rfl) rfl
theorem q1041 : (Jvm.Cond.superclass "OathButtons$Two" "OathButtons$Part") ∈ lw_all := lw_g (lw_at lw_m4 205 rfl) rfl
theorem q1174 : (Jvm.Cond.instanceMethod ({ cls := "OathButtons$Two", name := "of", desc := "([I)I" } : Jvm.MethodName)) ∈ lw_all := lw_g (lw_at lw_m5 98 rfl) rfl
theorem q1175 : (Jvm.Cond.code ({ cls := "OathButtons$Two", name := "of", desc := "([I)I" } : Jvm.MethodName) prog_21_method_3_code (4 : Nat) (Option.some Jvm.ClassFile.FieldType.int)) ∈ lw_all := lw_g (lw_at lw_m5 99 rfl) rfl
theorem q1176 : (Jvm.Cond.methodLink "OathButtons$Two" (20 : Nat) ({ cls := "OathButtons$Part", name := "of", desc := "([I)I" } : Jvm.MethodName)) ∈ lw_all := lw_g (lw_at lw_m5 100 rfl) rfl
theorem q1177 : (Jvm.Cond.methodLink "OathButtons$Two" (24 : Nat) ({ cls := "OathButtons$Two", name := "is", desc := "(Z)I" } : Jvm.MethodName)) ∈ lw_all := lw_g (lw_at lw_m5 101 rfl) rfl
theorem q1178 : (Jvm.Cond.static ({ cls := "OathButtons$Two", name := "is", desc := "(Z)I" } : Jvm.MethodName)) ∈ lw_all := lw_g (lw_at lw_m5 102 rfl) rfl
theorem q1179 : (Jvm.Cond.code ({ cls := "OathButtons$Two", name := "is", desc := "(Z)I" } : Jvm.MethodName) prog_21_method_2_code (1 : Nat) (Option.some Jvm.ClassFile.FieldType.int)) ∈ lw_all := lw_g (lw_at lw_m5 103 rfl) rfl
theorem q1181 : (Jvm.Cond.selects "OathButtons$Two" ({ cls := "OathButtons$Part", name := "of", desc := "([I)I" } : Jvm.MethodName) ({ cls := "OathButtons$Two", name := "of", desc := "([I)I" } : Jvm.MethodName)) ∈ lw_all := lw_g (lw_at lw_m5 105 rfl) rfl
theorem q2223 : (Jvm.Cond.castable "OathButtons$Two" "java/lang/Object") ∈ lw_tbl := lw_at lw_m9 187 rfl
theorem in_X21 : ∀ w ∈ wsX210, w ∈ lw_all := lw_in wsX210 [1035, 1037, 1039] (by decide +kernel) (by decide +kernel)
/-! OathButtons$Tug -/
set_option maxRecDepth 100000
def RX22 : String := "OathButtons$Tug"
def TX22 : u_T := fun k => match k with
  | 0 => ("OathButtons$Tug", "what", "I", true)
  | 1 => ("OathButtons$Tug", "numbe\x72", "I", true)
  | 2 => ("OathButtons$Tug", "told", "I", true)
  | 3 => ("OathButtons$Tug", "is", "Z", true)
  | _ => ("OathButtons$Tug", "untold", "I", false)
def tyX22 : Nat → FieldType := fun k => match k with
  | 0 => .int
  | 1 => .int
  | 2 => .int
  | 3 => .boolean
  | _ => .int
abbrev wsX220 : List Cond := u_ws RX22 TX22 5
theorem nmX22 : ∀ a, a < 5 → ∀ b, b < 5 → a ≠ b → (TX22 a).2.1 ≠ (TX22 b).2.1 := by decide +kernel
theorem tyX22_ok : ∀ k, k < 5 → parseFieldDescriptor (TX22 k).2.2.1 = some (tyX22 k) := by decide +kernel
abbrev cX22_init : ByteArray := prog_20_method_1_code
def yX22_init : MethodName := ⟨RX22, "<init>", "(IIZI)V"⟩
def dkwX22_init_1 : List UInt8 := [42, 21, 4, 181, 0, 25, 177]
abbrev dktX22_init_1 : List UInt8 := dkwX22_init_1 ++ []
def dkwX22_init_0 : List UInt8 := [42, 183, 0, 3, 42, 2, 181, 0, 9, 42, 27, 181, 0, 15, 42, 28, 181, 0, 18, 42, 29, 181, 0, 21]
abbrev dktX22_init_0 : List UInt8 := dkwX22_init_0 ++ dktX22_init_1
theorem dksX22_init_0 : cX22_init.data.toList.drop 0 = dktX22_init_0 := by decide +kernel
theorem dksX22_init_1 : cX22_init.data.toList.drop 24 = dktX22_init_1 := dk_seg dksX22_init_0 24 rfl rfl
theorem dX22_init_0 : decode cX22_init 0 = .ok (.aload_n 0, 1) := dk_42 (dk_at dksX22_init_0 0 rfl rfl)
theorem dX22_init_1 : decode cX22_init 1 = .ok (.invokespecial 3, 3) := dk_183 0 3 (dk_at dksX22_init_0 1 rfl rfl)
theorem dX22_init_4 : decode cX22_init 4 = .ok (.aload_n 0, 1) := dk_42 (dk_at dksX22_init_0 4 rfl rfl)
theorem dX22_init_5 : decode cX22_init 5 = .ok (.iconst (-1), 1) := dk_2 (dk_at dksX22_init_0 5 rfl rfl)
theorem dX22_init_6 : decode cX22_init 6 = .ok (.putfield 9, 3) := dk_181 0 9 (dk_at dksX22_init_0 6 rfl rfl)
theorem dX22_init_9 : decode cX22_init 9 = .ok (.aload_n 0, 1) := dk_42 (dk_at dksX22_init_0 9 rfl rfl)
theorem dX22_init_10 : decode cX22_init 10 = .ok (.iload_n 1, 1) := dk_27 (dk_at dksX22_init_0 10 rfl rfl)
theorem dX22_init_11 : decode cX22_init 11 = .ok (.putfield 15, 3) := dk_181 0 15 (dk_at dksX22_init_0 11 rfl rfl)
theorem dX22_init_14 : decode cX22_init 14 = .ok (.aload_n 0, 1) := dk_42 (dk_at dksX22_init_0 14 rfl rfl)
theorem dX22_init_15 : decode cX22_init 15 = .ok (.iload_n 2, 1) := dk_28 (dk_at dksX22_init_0 15 rfl rfl)
theorem dX22_init_16 : decode cX22_init 16 = .ok (.putfield 18, 3) := dk_181 0 18 (dk_at dksX22_init_0 16 rfl rfl)
theorem dX22_init_19 : decode cX22_init 19 = .ok (.aload_n 0, 1) := dk_42 (dk_at dksX22_init_0 19 rfl rfl)
theorem dX22_init_20 : decode cX22_init 20 = .ok (.iload_n 3, 1) := dk_29 (dk_at dksX22_init_0 20 rfl rfl)
theorem dX22_init_21 : decode cX22_init 21 = .ok (.putfield 21, 3) := dk_181 0 21 (dk_at dksX22_init_0 21 rfl rfl)
theorem dX22_init_24 : decode cX22_init 24 = .ok (.aload_n 0, 1) := dk_42 (dk_at dksX22_init_1 0 rfl rfl)
theorem dX22_init_25 : decode cX22_init 25 = .ok (.iload 4, 2) := dk_21 4 (dk_at dksX22_init_1 1 rfl rfl)
theorem dX22_init_27 : decode cX22_init 27 = .ok (.putfield 25, 3) := dk_181 0 25 (dk_at dksX22_init_1 3 rfl rfl)
theorem dX22_init_30 : decode cX22_init 30 = .ok (.return_, 1) := dk_177 (dk_at dksX22_init_1 6 rfl rfl)
abbrev cX22_isSo : ByteArray := prog_20_method_2_code
def yX22_isSo : MethodName := ⟨RX22, "isSo", "(LOathButtons$Man;I)Z"⟩
def dkwX22_isSo_2 : List UInt8 := [160, 0, 7, 4, 167, 0, 4, 3, 172]
abbrev dktX22_isSo_2 : List UInt8 := dkwX22_isSo_2 ++ []
def dkwX22_isSo_1 : List UInt8 := [42, 180, 0, 15, 182, 0, 28, 42, 180, 0, 18, 160, 0, 7, 4, 167, 0, 4, 3, 42, 180, 0, 21]
abbrev dktX22_isSo_1 : List UInt8 := dkwX22_isSo_1 ++ dktX22_isSo_2
def dkwX22_isSo_0 : List UInt8 := [42, 180, 0, 25, 28, 163, 0, 45, 42, 180, 0, 9, 155, 0, 11, 42, 180, 0, 9, 28, 164, 0, 30, 43]
abbrev dktX22_isSo_0 : List UInt8 := dkwX22_isSo_0 ++ dktX22_isSo_1
theorem dksX22_isSo_0 : cX22_isSo.data.toList.drop 0 = dktX22_isSo_0 := by decide +kernel
theorem dksX22_isSo_1 : cX22_isSo.data.toList.drop 24 = dktX22_isSo_1 := dk_seg dksX22_isSo_0 24 rfl rfl
theorem dksX22_isSo_2 : cX22_isSo.data.toList.drop 47 = dktX22_isSo_2 := dk_seg dksX22_isSo_1 23 rfl rfl
theorem dX22_isSo_0 : decode cX22_isSo 0 = .ok (.aload_n 0, 1) := dk_42 (dk_at dksX22_isSo_0 0 rfl rfl)
theorem dX22_isSo_1 : decode cX22_isSo 1 = .ok (.getfield 25, 3) := dk_180 0 25 (dk_at dksX22_isSo_0 1 rfl rfl)
theorem dX22_isSo_4 : decode cX22_isSo 4 = .ok (.iload_n 2, 1) := dk_28 (dk_at dksX22_isSo_0 4 rfl rfl)
theorem dX22_isSo_5 : decode cX22_isSo 5 = .ok (.if_icmp .gt 45, 3) := dk_163 0 45 (dk_at dksX22_isSo_0 5 rfl rfl)
theorem dX22_isSo_8 : decode cX22_isSo 8 = .ok (.aload_n 0, 1) := dk_42 (dk_at dksX22_isSo_0 8 rfl rfl)
theorem dX22_isSo_9 : decode cX22_isSo 9 = .ok (.getfield 9, 3) := dk_180 0 9 (dk_at dksX22_isSo_0 9 rfl rfl)
theorem dX22_isSo_12 : decode cX22_isSo 12 = .ok (.ifCond .lt 11, 3) := dk_155 0 11 (dk_at dksX22_isSo_0 12 rfl rfl)
theorem dX22_isSo_15 : decode cX22_isSo 15 = .ok (.aload_n 0, 1) := dk_42 (dk_at dksX22_isSo_0 15 rfl rfl)
theorem dX22_isSo_16 : decode cX22_isSo 16 = .ok (.getfield 9, 3) := dk_180 0 9 (dk_at dksX22_isSo_0 16 rfl rfl)
theorem dX22_isSo_19 : decode cX22_isSo 19 = .ok (.iload_n 2, 1) := dk_28 (dk_at dksX22_isSo_0 19 rfl rfl)
theorem dX22_isSo_20 : decode cX22_isSo 20 = .ok (.if_icmp .le 30, 3) := dk_164 0 30 (dk_at dksX22_isSo_0 20 rfl rfl)
theorem dX22_isSo_23 : decode cX22_isSo 23 = .ok (.aload_n 1, 1) := dk_43 (dk_at dksX22_isSo_0 23 rfl rfl)
theorem dX22_isSo_24 : decode cX22_isSo 24 = .ok (.aload_n 0, 1) := dk_42 (dk_at dksX22_isSo_1 0 rfl rfl)
theorem dX22_isSo_25 : decode cX22_isSo 25 = .ok (.getfield 15, 3) := dk_180 0 15 (dk_at dksX22_isSo_1 1 rfl rfl)
theorem dX22_isSo_28 : decode cX22_isSo 28 = .ok (.invokevirtual 28, 3) := dk_182 0 28 (dk_at dksX22_isSo_1 4 rfl rfl)
theorem dX22_isSo_31 : decode cX22_isSo 31 = .ok (.aload_n 0, 1) := dk_42 (dk_at dksX22_isSo_1 7 rfl rfl)
theorem dX22_isSo_32 : decode cX22_isSo 32 = .ok (.getfield 18, 3) := dk_180 0 18 (dk_at dksX22_isSo_1 8 rfl rfl)
theorem dX22_isSo_35 : decode cX22_isSo 35 = .ok (.if_icmp .ne 7, 3) := dk_160 0 7 (dk_at dksX22_isSo_1 11 rfl rfl)
theorem dX22_isSo_38 : decode cX22_isSo 38 = .ok (.iconst 1, 1) := dk_4 (dk_at dksX22_isSo_1 14 rfl rfl)
theorem dX22_isSo_39 : decode cX22_isSo 39 = .ok (.goto 4, 3) := dk_167 0 4 (dk_at dksX22_isSo_1 15 rfl rfl)
theorem dX22_isSo_42 : decode cX22_isSo 42 = .ok (.iconst 0, 1) := dk_3 (dk_at dksX22_isSo_1 18 rfl rfl)
theorem dX22_isSo_43 : decode cX22_isSo 43 = .ok (.aload_n 0, 1) := dk_42 (dk_at dksX22_isSo_1 19 rfl rfl)
theorem dX22_isSo_44 : decode cX22_isSo 44 = .ok (.getfield 21, 3) := dk_180 0 21 (dk_at dksX22_isSo_1 20 rfl rfl)
theorem dX22_isSo_47 : decode cX22_isSo 47 = .ok (.if_icmp .ne 7, 3) := dk_160 0 7 (dk_at dksX22_isSo_2 0 rfl rfl)
theorem dX22_isSo_50 : decode cX22_isSo 50 = .ok (.iconst 1, 1) := dk_4 (dk_at dksX22_isSo_2 3 rfl rfl)
theorem dX22_isSo_51 : decode cX22_isSo 51 = .ok (.goto 4, 3) := dk_167 0 4 (dk_at dksX22_isSo_2 4 rfl rfl)
theorem dX22_isSo_54 : decode cX22_isSo 54 = .ok (.iconst 0, 1) := dk_3 (dk_at dksX22_isSo_2 7 rfl rfl)
theorem dX22_isSo_55 : decode cX22_isSo 55 = .ok (.ireturn, 1) := dk_172 (dk_at dksX22_isSo_2 8 rfl rfl)
theorem q154 : (Jvm.Cond.initialized "OathButtons$Tug") ∈ lw_all := lw_g (lw_at lw_m1 38 rfl) rfl
theorem q833 : (Jvm.Cond.selects "OathButtons$Tug" ({ cls := "java/lang/Object", name := "getClass", desc := "()Ljava/lang/Class;" } : Jvm.MethodName) ({ cls := "java/lang/Object", name := "getClass", desc := "()Ljava/lang/Class;" } : Jvm.MethodName)) ∈ lw_all := lw_g (lw_at lw_m3 237 rfl) rfl
theorem q1365 : (Jvm.Cond.instantiable "OathButtons$Tug" (5 : Nat)) ∈ lw_all := lw_g (lw_at lw_m6 49 rfl) rfl
theorem q1367 : (Jvm.Cond.instanceMethod ({ cls := "OathButtons$Tug", name := "<init>", desc := "(IIZI)V" } : Jvm.MethodName)) ∈ lw_all := lw_g (lw_at lw_m6 51 rfl) rfl
theorem q1368 : (Jvm.Cond.code ({ cls := "OathButtons$Tug", name := "<init>", desc := "(IIZI)V" } : Jvm.MethodName) prog_20_method_1_code (5 : Nat) (Option.none : Option Jvm.ClassFile.FieldType)) ∈ lw_all := lw_g (lw_at lw_m6 52 rfl) rfl
theorem q1369 : (Jvm.Cond.methodLink "OathButtons$Tug" (3 : Nat) ({ cls := "java/lang/Object", name := "<init>", desc := "()V" } : Jvm.MethodName)) ∈ lw_all := lw_g (lw_at lw_m6 53 rfl) rfl
theorem q1370 : (Jvm.Cond.fieldLink "OathButtons$Tug" (15 : Nat) "OathButtons$Tug" "what" "I") ∈ lw_all := lw_g (lw_at lw_m6 54 rfl) rfl
theorem q1371 : (Jvm.Cond.fieldLink "OathButtons$Tug" (18 : Nat) "OathButtons$Tug" "numbe\x72" "I") ∈ lw_all := lw_g (lw_at lw_m6 55 rfl) rfl
theorem q1372 : (Jvm.Cond.fieldLink "OathButtons$Tug" (25 : Nat) "OathButtons$Tug" "told" "I") ∈ lw_all := lw_g (lw_at lw_m6 56 rfl) rfl
theorem q1373 : (Jvm.Cond.fieldLink "OathButtons$Tug" (21 : Nat) "OathButtons$Tug" "is" "Z") ∈ lw_all := lw_g (lw_at lw_m6 57 rfl) rfl
theorem q1374 : (Jvm.Cond.fieldLink "OathButtons$Tug" (9 : Nat) "OathButtons$Tug" "untold" "I") ∈ lw_all := lw_g (lw_at lw_m6 58 rfl) rfl
theorem q1376 : (Jvm.Cond.laysFinal "OathButtons$Tug" "OathButtons$Tug" "what" "I") ∈ lw_all := lw_g (lw_at lw_m6 60 rfl) rfl
theorem q1377 : (Jvm.Cond.soleField "OathButtons$Tug" "what") ∈ lw_all := lw_g (lw_at lw_m6 61 rfl) rfl
theorem q1378 : (Jvm.Cond.laysFinal "OathButtons$Tug" "OathButtons$Tug" "numbe\x72" "I") ∈ lw_all := lw_g (lw_at lw_m6 62 rfl) rfl
theorem q1379 : (Jvm.Cond.soleField "OathButtons$Tug" "numbe\x72") ∈ lw_all := lw_g (lw_at lw_m6 63 rfl) rfl
theorem q1380 : (Jvm.Cond.laysFinal "OathButtons$Tug" "OathButtons$Tug" "told" "I") ∈ lw_all := lw_g (lw_at lw_m6 64 rfl) rfl
theorem q1381 : (Jvm.Cond.soleField "OathButtons$Tug" "told") ∈ lw_all := lw_g (lw_at lw_m6 65 rfl) rfl
theorem q1382 : (Jvm.Cond.laysFinal "OathButtons$Tug" "OathButtons$Tug" "is" "Z") ∈ lw_all := lw_g (lw_at lw_m6 66 rfl) rfl
theorem q1383 : (Jvm.Cond.soleField "OathButtons$Tug" "is") ∈ lw_all := lw_g (lw_at lw_m6 67 rfl) rfl
theorem q1384 : (Jvm.Cond.lays "OathButtons$Tug" "OathButtons$Tug" "untold" "I") ∈ lw_all := lw_g (lw_at lw_m6 68 rfl) rfl
theorem q1385 : (Jvm.Cond.soleField "OathButtons$Tug" "untold") ∈ lw_all := lw_g (lw_at lw_m6 69 rfl) rfl
theorem q1386 : (Jvm.Cond.superclass "OathButtons$Tug" "java/lang/Object") ∈ lw_all := lw_g (lw_at lw_m6 70 rfl) rfl
theorem q1402 : (Jvm.Cond.instanceMethod ({ cls := "OathButtons$Tug", name := "isSo", desc := "(LOathButtons$Man;I)Z" } : Jvm.MethodName)) ∈ lw_all := lw_g (lw_at lw_m6 86 rfl) rfl
theorem q1403 : (Jvm.Cond.selects "OathButtons$Tug" ({ cls := "OathButtons$Tug", name := "isSo", desc := "(LOathButtons$Man;I)Z" } : Jvm.MethodName) ({ cls := "OathButtons$Tug", name := "isSo", desc := "(LOathButtons$Man;I)Z" } : Jvm.MethodName)) ∈ lw_all := lw_g (lw_at lw_m6 87 rfl) rfl
theorem q1404 : (Jvm.Cond.code ({ cls := "OathButtons$Tug", name := "isSo", desc := "(LOathButtons$Man;I)Z" } : Jvm.MethodName) prog_20_method_2_code (3 : Nat) (Option.some Jvm.ClassFile.FieldType.boolean)) ∈ lw_all := lw_g (lw_at lw_m6 88 rfl) rfl
theorem q1405 : (Jvm.Cond.methodLink "OathButtons$Tug" (28 : Nat) ({ cls := "OathButtons$Man", name := "trait", desc := "(I)I" } : Jvm.MethodName)) ∈ lw_all := lw_g (lw_at lw_m6 89 rfl) rfl
theorem q2224 : (Jvm.Cond.castable "OathButtons$Tug" "java/lang/Object") ∈ lw_tbl := lw_at lw_m9 188 rfl
theorem in_X22 : ∀ w ∈ wsX220, w ∈ lw_all := lw_in wsX220 [1376, 1378, 1380, 1382, 1384] (by decide +kernel) (by decide +kernel)
