/-! OathButtonsModel -/
set_option maxRecDepth 100000
def RX9 : String := "OathButtonsModel"
def TX9 : u_T := fun k => match k with
  | 0 => ("OathButtonsModel", "tape", "[I", true)
  | 1 => ("OathButtonsModel", "taped", "I", false)
  | 2 => ("OathButtonsModel", "fault", "I", false)
  | 3 => ("OathButtonsModel", "faultPlace", "I", false)
  | 4 => ("OathButtonsModel", "at", "I", false)
  | 5 => ("OathButtonsModel", "size", "I", false)
  | 6 => ("OathButtonsModel", "sort", "I", false)
  | 7 => ("OathButtonsModel", "place", "I", false)
  | 8 => ("OathButtonsModel", "numbe\x72", "I", false)
  | 9 => ("OathButtonsModel", "word", "J", false)
  | 10 => ("OathButtonsModel", "nName", "[J", true)
  | 11 => ("OathButtonsModel", "nStep", "[I", true)
  | 12 => ("OathButtonsModel", "nArg", "[I", true)
  | 13 => ("OathButtonsModel", "step", "[I", true)
  | 14 => ("OathButtonsModel", "arg", "[I", true)
  | 15 => ("OathButtonsModel", "open", "[I", true)
  | 16 => ("OathButtonsModel", "values", "[I", true)
  | 17 => ("OathButtonsModel", "nSteps", "I", false)
  | 18 => ("OathButtonsModel", "steps", "I", false)
  | 19 => ("OathButtonsModel", "opens", "I", false)
  | 20 => ("OathButtonsModel", "nUnits", "I", false)
  | 21 => ("OathButtonsModel", "units", "I", false)
  | 22 => ("OathButtonsModel", "ownUnits", "I", false)
  | 23 => ("OathButtonsModel", "deep", "I", false)
  | 24 => ("OathButtonsModel", "asks", "[I", true)
  | 25 => ("OathButtonsModel", "nColou\x72", "[I", true)
  | 26 => ("OathButtonsModel", "nHoles", "[I", true)
  | 27 => ("OathButtonsModel", "nLeft", "[I", true)
  | 28 => ("OathButtonsModel", "nHours", "[I", true)
  | 29 => ("OathButtonsModel", "nFriend", "[I", true)
  | 30 => ("OathButtonsModel", "colou\x72", "[I", true)
  | 31 => ("OathButtonsModel", "holes", "[I", true)
  | 32 => ("OathButtonsModel", "left", "[I", true)
  | 33 => ("OathButtonsModel", "hours", "[I", true)
  | 34 => ("OathButtonsModel", "friend", "[I", true)
  | 35 => ("OathButtonsModel", "nOn", "[I", true)
  | 36 => ("OathButtonsModel", "nBy", "[I", true)
  | 37 => ("OathButtonsModel", "nDeed", "[I", true)
  | 38 => ("OathButtonsModel", "nUntil", "[I", true)
  | 39 => ("OathButtonsModel", "nThread", "[I", true)
  | 40 => ("OathButtonsModel", "nAfte\x72", "[I", true)
  | 41 => ("OathButtonsModel", "onMan", "[I", true)
  | 42 => ("OathButtonsModel", "byMan", "[I", true)
  | 43 => ("OathButtonsModel", "deedOf", "[I", true)
  | 44 => ("OathButtonsModel", "until", "[I", true)
  | 45 => ("OathButtonsModel", "toldThread", "[I", true)
  | 46 => ("OathButtonsModel", "afte\x72", "[I", true)
  | 47 => ("OathButtonsModel", "nPromises", "[Z", true)
  | 48 => ("OathButtonsModel", "promises", "[Z", true)
  | 49 => ("OathButtonsModel", "nMen", "I", false)
  | 50 => ("OathButtonsModel", "nDeeds", "I", false)
  | 51 => ("OathButtonsModel", "nButtons", "I", false)
  | 52 => ("OathButtonsModel", "nFriends", "I", false)
  | 53 => ("OathButtonsModel", "nDay", "I", false)
  | 54 => ("OathButtonsModel", "nStorm", "I", false)
  | 55 => ("OathButtonsModel", "nDraw", "I", false)
  | 56 => ("OathButtonsModel", "men", "I", false)
  | 57 => ("OathButtonsModel", "deeds", "I", false)
  | 58 => ("OathButtonsModel", "buttons", "I", false)
  | 59 => ("OathButtonsModel", "friends", "I", false)
  | 60 => ("OathButtonsModel", "dayHours", "I", false)
  | 61 => ("OathButtonsModel", "storm", "I", false)
  | 62 => ("OathButtonsModel", "nHasWea\x72", "Z", false)
  | 63 => ("OathButtonsModel", "nHasDay", "Z", false)
  | 64 => ("OathButtonsModel", "nHasStorm", "Z", false)
  | 65 => ("OathButtonsModel", "nHasDraw", "Z", false)
  | 66 => ("OathButtonsModel", "hasWea\x72", "Z", false)
  | 67 => ("OathButtonsModel", "now", "[I", true)
  | 68 => ("OathButtonsModel", "were", "[I", true)
  | 69 => ("OathButtonsModel", "acts", "I", false)
  | 70 => ("OathButtonsModel", "undone", "I", false)
  | 71 => ("OathButtonsModel", "state", "[I", true)
  | 72 => ("OathButtonsModel", "thread", "[I", true)
  | 73 => ("OathButtonsModel", "day", "I", false)
  | 74 => ("OathButtonsModel", "seed", "I", false)
  | 75 => ("OathButtonsModel", "orde\x72", "[I", true)
  | 76 => ("OathButtonsModel", "spent", "[I", true)
  | 77 => ("OathButtonsModel", "keptBy", "[I", true)
  | 78 => ("OathButtonsModel", "bestOrde\x72", "[I", true)
  | 79 => ("OathButtonsModel", "orderMany", "I", false)
  | 80 => ("OathButtonsModel", "beginDay", "I", false)
  | 81 => ("OathButtonsModel", "bestMany", "I", false)
  | 82 => ("OathButtonsModel", "bestHours", "I", false)
  | 83 => ("OathButtonsModel", "bestKept", "I", false)
  | 84 => ("OathButtonsModel", "lies", "[I", true)
  | 85 => ("OathButtonsModel", "lain", "I", false)
  | 86 => ("OathButtonsModel", "canKeep", "[Z", true)
  | 87 => ("OathButtonsModel", "with", "[I", true)
  | 88 => ("OathButtonsModel", "tugWhat", "[I", true)
  | 89 => ("OathButtonsModel", "tugNumbe\x72", "[I", true)
  | 90 => ("OathButtonsModel", "tugTold", "[I", true)
  | 91 => ("OathButtonsModel", "tugUntold", "[I", true)
  | 92 => ("OathButtonsModel", "tugIs", "[Z", true)
  | 93 => ("OathButtonsModel", "tugs", "I", false)
  | 94 => ("OathButtonsModel", "time", "I", false)
  | 95 => ("OathButtonsModel", "hasBox", "[Z", true)
  | _ => ("OathButtonsModel", "boxes", "[I", true)
def tyX9 : Nat → FieldType := fun k => match k with
  | 0 => .array .int
  | 1 => .int
  | 2 => .int
  | 3 => .int
  | 4 => .int
  | 5 => .int
  | 6 => .int
  | 7 => .int
  | 8 => .int
  | 9 => .long
  | 10 => .array .long
  | 11 => .array .int
  | 12 => .array .int
  | 13 => .array .int
  | 14 => .array .int
  | 15 => .array .int
  | 16 => .array .int
  | 17 => .int
  | 18 => .int
  | 19 => .int
  | 20 => .int
  | 21 => .int
  | 22 => .int
  | 23 => .int
  | 24 => .array .int
  | 25 => .array .int
  | 26 => .array .int
  | 27 => .array .int
  | 28 => .array .int
  | 29 => .array .int
  | 30 => .array .int
  | 31 => .array .int
  | 32 => .array .int
  | 33 => .array .int
  | 34 => .array .int
  | 35 => .array .int
  | 36 => .array .int
  | 37 => .array .int
  | 38 => .array .int
  | 39 => .array .int
  | 40 => .array .int
  | 41 => .array .int
  | 42 => .array .int
  | 43 => .array .int
  | 44 => .array .int
  | 45 => .array .int
  | 46 => .array .int
  | 47 => .array .boolean
  | 48 => .array .boolean
  | 49 => .int
  | 50 => .int
  | 51 => .int
  | 52 => .int
  | 53 => .int
  | 54 => .int
  | 55 => .int
  | 56 => .int
  | 57 => .int
  | 58 => .int
  | 59 => .int
  | 60 => .int
  | 61 => .int
  | 62 => .boolean
  | 63 => .boolean
  | 64 => .boolean
  | 65 => .boolean
  | 66 => .boolean
  | 67 => .array .int
  | 68 => .array .int
  | 69 => .int
  | 70 => .int
  | 71 => .array .int
  | 72 => .array .int
  | 73 => .int
  | 74 => .int
  | 75 => .array .int
  | 76 => .array .int
  | 77 => .array .int
  | 78 => .array .int
  | 79 => .int
  | 80 => .int
  | 81 => .int
  | 82 => .int
  | 83 => .int
  | 84 => .array .int
  | 85 => .int
  | 86 => .array .boolean
  | 87 => .array .int
  | 88 => .array .int
  | 89 => .array .int
  | 90 => .array .int
  | 91 => .array .int
  | 92 => .array .boolean
  | 93 => .int
  | 94 => .int
  | 95 => .array .boolean
  | _ => .array .int
abbrev wsX90 : List Cond := u_ws RX9 TX9 97
set_option maxRecDepth 100000 in
theorem nmX9 : ∀ a, a < 97 → ∀ b, b < 97 → a ≠ b → (TX9 a).2.1 ≠ (TX9 b).2.1 := by decide +kernel
set_option maxRecDepth 100000 in
theorem tyX9_ok : ∀ k, k < 97 → parseFieldDescriptor (TX9 k).2.2.1 = some (tyX9 k) := by decide +kernel
abbrev cX9_init : ByteArray := prog_24_method_1_code
def yX9_init : MethodName := ⟨RX9, "<init>", "()V"⟩
def dkwX9_init_18 : List UInt8 := [16, 72, 188, 10, 181, 0, 169, 177]
abbrev dktX9_init_18 : List UInt8 := dkwX9_init_18 ++ []
def dkwX9_init_17 : List UInt8 := [16, 30, 188, 10, 181, 0, 160, 42, 16, 30, 188, 4, 181, 0, 163, 42, 6, 188, 4, 181, 0, 166, 42]
abbrev dktX9_init_17 : List UInt8 := dkwX9_init_17 ++ dktX9_init_18
def dkwX9_init_16 : List UInt8 := [16, 30, 188, 10, 181, 0, 151, 42, 16, 30, 188, 10, 181, 0, 154, 42, 16, 30, 188, 10, 181, 0, 157, 42]
abbrev dktX9_init_16 : List UInt8 := dkwX9_init_16 ++ dktX9_init_17
def dkwX9_init_15 : List UInt8 := [188, 10, 181, 0, 142, 42, 17, 4, 0, 188, 4, 181, 0, 145, 42, 16, 6, 188, 10, 181, 0, 148, 42]
abbrev dktX9_init_15 : List UInt8 := dkwX9_init_15 ++ dktX9_init_16
def dkwX9_init_14 : List UInt8 := [188, 10, 181, 0, 133, 42, 16, 7, 188, 10, 181, 0, 136, 42, 16, 7, 188, 10, 181, 0, 139, 42, 16, 10]
abbrev dktX9_init_14 : List UInt8 := dkwX9_init_14 ++ dktX9_init_15
def dkwX9_init_13 : List UInt8 := [188, 10, 181, 0, 124, 42, 16, 10, 188, 10, 181, 0, 127, 42, 16, 7, 188, 10, 181, 0, 130, 42, 16, 7]
abbrev dktX9_init_13 : List UInt8 := dkwX9_init_13 ++ dktX9_init_14
def dkwX9_init_12 : List UInt8 := [181, 0, 115, 42, 16, 24, 188, 10, 181, 0, 118, 42, 17, 3, 192, 188, 10, 181, 0, 121, 42, 16, 10]
abbrev dktX9_init_12 : List UInt8 := dkwX9_init_12 ++ dktX9_init_13
def dkwX9_init_11 : List UInt8 := [181, 0, 105, 42, 16, 10, 188, 4, 181, 0, 108, 42, 16, 10, 188, 4, 181, 0, 112, 42, 16, 8]
abbrev dktX9_init_11 : List UInt8 := dkwX9_init_11 ++ dktX9_init_12
def dkwX9_init_10 : List UInt8 := [181, 0, 96, 42, 16, 10, 188, 10, 181, 0, 99, 42, 16, 10, 188, 10, 181, 0, 102, 42, 16, 10, 188, 10]
abbrev dktX9_init_10 : List UInt8 := dkwX9_init_10 ++ dktX9_init_11
def dkwX9_init_9 : List UInt8 := [181, 0, 87, 42, 16, 10, 188, 10, 181, 0, 90, 42, 16, 10, 188, 10, 181, 0, 93, 42, 16, 10, 188, 10]
abbrev dktX9_init_9 : List UInt8 := dkwX9_init_9 ++ dktX9_init_10
def dkwX9_init_8 : List UInt8 := [181, 0, 78, 42, 16, 10, 188, 10, 181, 0, 81, 42, 16, 10, 188, 10, 181, 0, 84, 42, 16, 10, 188, 10]
abbrev dktX9_init_8 : List UInt8 := dkwX9_init_8 ++ dktX9_init_9
def dkwX9_init_7 : List UInt8 := [181, 0, 69, 42, 16, 10, 188, 10, 181, 0, 72, 42, 16, 10, 188, 10, 181, 0, 75, 42, 16, 10, 188, 10]
abbrev dktX9_init_7 : List UInt8 := dkwX9_init_7 ++ dktX9_init_8
def dkwX9_init_6 : List UInt8 := [181, 0, 60, 42, 16, 6, 188, 10, 181, 0, 63, 42, 16, 6, 188, 10, 181, 0, 66, 42, 16, 36, 188, 10]
abbrev dktX9_init_6 : List UInt8 := dkwX9_init_6 ++ dktX9_init_7
def dkwX9_init_5 : List UInt8 := [181, 0, 51, 42, 16, 36, 188, 10, 181, 0, 54, 42, 16, 6, 188, 10, 181, 0, 57, 42, 16, 6, 188, 10]
abbrev dktX9_init_5 : List UInt8 := dkwX9_init_5 ++ dktX9_init_6
def dkwX9_init_4 : List UInt8 := [181, 0, 42, 42, 16, 6, 188, 10, 181, 0, 45, 42, 16, 6, 188, 10, 181, 0, 48, 42, 16, 6, 188, 10]
abbrev dktX9_init_4 : List UInt8 := dkwX9_init_4 ++ dktX9_init_5
def dkwX9_init_3 : List UInt8 := [181, 0, 33, 42, 16, 64, 188, 10, 181, 0, 36, 42, 7, 188, 10, 181, 0, 39, 42, 16, 6, 188, 10]
abbrev dktX9_init_3 : List UInt8 := dkwX9_init_3 ++ dktX9_init_4
def dkwX9_init_2 : List UInt8 := [17, 1, 64, 188, 10, 181, 0, 27, 42, 17, 1, 64, 188, 10, 181, 0, 30, 42, 17, 0, 160, 188, 10]
abbrev dktX9_init_2 : List UInt8 := dkwX9_init_2 ++ dktX9_init_3
def dkwX9_init_1 : List UInt8 := [181, 0, 17, 42, 17, 1, 64, 188, 10, 181, 0, 21, 42, 17, 1, 64, 188, 10, 181, 0, 24, 42]
abbrev dktX9_init_1 : List UInt8 := dkwX9_init_1 ++ dktX9_init_2
def dkwX9_init_0 : List UInt8 := [42, 183, 0, 1, 42, 17, 6, 64, 188, 10, 181, 0, 7, 42, 2, 181, 0, 13, 42, 16, 22, 188, 11]
abbrev dktX9_init_0 : List UInt8 := dkwX9_init_0 ++ dktX9_init_1
theorem dksX9_init_0 : cX9_init.data.toList.drop 0 = dktX9_init_0 := by decide +kernel
theorem dksX9_init_1 : cX9_init.data.toList.drop 23 = dktX9_init_1 := dk_seg dksX9_init_0 23 rfl rfl
theorem dksX9_init_2 : cX9_init.data.toList.drop 45 = dktX9_init_2 := dk_seg dksX9_init_1 22 rfl rfl
theorem dksX9_init_3 : cX9_init.data.toList.drop 68 = dktX9_init_3 := dk_seg dksX9_init_2 23 rfl rfl
theorem dksX9_init_4 : cX9_init.data.toList.drop 91 = dktX9_init_4 := dk_seg dksX9_init_3 23 rfl rfl
theorem dksX9_init_5 : cX9_init.data.toList.drop 115 = dktX9_init_5 := dk_seg dksX9_init_4 24 rfl rfl
theorem dksX9_init_6 : cX9_init.data.toList.drop 139 = dktX9_init_6 := dk_seg dksX9_init_5 24 rfl rfl
theorem dksX9_init_7 : cX9_init.data.toList.drop 163 = dktX9_init_7 := dk_seg dksX9_init_6 24 rfl rfl
theorem dksX9_init_8 : cX9_init.data.toList.drop 187 = dktX9_init_8 := dk_seg dksX9_init_7 24 rfl rfl
theorem dksX9_init_9 : cX9_init.data.toList.drop 211 = dktX9_init_9 := dk_seg dksX9_init_8 24 rfl rfl
theorem dksX9_init_10 : cX9_init.data.toList.drop 235 = dktX9_init_10 := dk_seg dksX9_init_9 24 rfl rfl
theorem dksX9_init_11 : cX9_init.data.toList.drop 259 = dktX9_init_11 := dk_seg dksX9_init_10 24 rfl rfl
theorem dksX9_init_12 : cX9_init.data.toList.drop 281 = dktX9_init_12 := dk_seg dksX9_init_11 22 rfl rfl
theorem dksX9_init_13 : cX9_init.data.toList.drop 304 = dktX9_init_13 := dk_seg dksX9_init_12 23 rfl rfl
theorem dksX9_init_14 : cX9_init.data.toList.drop 328 = dktX9_init_14 := dk_seg dksX9_init_13 24 rfl rfl
theorem dksX9_init_15 : cX9_init.data.toList.drop 352 = dktX9_init_15 := dk_seg dksX9_init_14 24 rfl rfl
theorem dksX9_init_16 : cX9_init.data.toList.drop 375 = dktX9_init_16 := dk_seg dksX9_init_15 23 rfl rfl
theorem dksX9_init_17 : cX9_init.data.toList.drop 399 = dktX9_init_17 := dk_seg dksX9_init_16 24 rfl rfl
theorem dksX9_init_18 : cX9_init.data.toList.drop 422 = dktX9_init_18 := dk_seg dksX9_init_17 23 rfl rfl
theorem dX9_init_0 : decode cX9_init 0 = .ok (.aload_n 0, 1) := dk_42 (dk_at dksX9_init_0 0 rfl rfl)
theorem dX9_init_1 : decode cX9_init 1 = .ok (.invokespecial 1, 3) := dk_183 0 1 (dk_at dksX9_init_0 1 rfl rfl)
theorem dX9_init_4 : decode cX9_init 4 = .ok (.aload_n 0, 1) := dk_42 (dk_at dksX9_init_0 4 rfl rfl)
theorem dX9_init_5 : decode cX9_init 5 = .ok (.sipush 1600, 3) := dk_17 6 64 (dk_at dksX9_init_0 5 rfl rfl)
theorem dX9_init_8 : decode cX9_init 8 = .ok (.newarray .int, 2) := dk_188_10 (dk_at dksX9_init_0 8 rfl rfl)
theorem dX9_init_10 : decode cX9_init 10 = .ok (.putfield 7, 3) := dk_181 0 7 (dk_at dksX9_init_0 10 rfl rfl)
theorem dX9_init_13 : decode cX9_init 13 = .ok (.aload_n 0, 1) := dk_42 (dk_at dksX9_init_0 13 rfl rfl)
theorem dX9_init_14 : decode cX9_init 14 = .ok (.iconst (-1), 1) := dk_2 (dk_at dksX9_init_0 14 rfl rfl)
theorem dX9_init_15 : decode cX9_init 15 = .ok (.putfield 13, 3) := dk_181 0 13 (dk_at dksX9_init_0 15 rfl rfl)
theorem dX9_init_18 : decode cX9_init 18 = .ok (.aload_n 0, 1) := dk_42 (dk_at dksX9_init_0 18 rfl rfl)
theorem dX9_init_19 : decode cX9_init 19 = .ok (.bipush 22, 2) := dk_16 22 (dk_at dksX9_init_0 19 rfl rfl)
theorem dX9_init_21 : decode cX9_init 21 = .ok (.newarray .long, 2) := dk_188_11 (dk_at dksX9_init_0 21 rfl rfl)
theorem dX9_init_23 : decode cX9_init 23 = .ok (.putfield 17, 3) := dk_181 0 17 (dk_at dksX9_init_1 0 rfl rfl)
theorem dX9_init_26 : decode cX9_init 26 = .ok (.aload_n 0, 1) := dk_42 (dk_at dksX9_init_1 3 rfl rfl)
theorem dX9_init_27 : decode cX9_init 27 = .ok (.sipush 320, 3) := dk_17 1 64 (dk_at dksX9_init_1 4 rfl rfl)
theorem dX9_init_30 : decode cX9_init 30 = .ok (.newarray .int, 2) := dk_188_10 (dk_at dksX9_init_1 7 rfl rfl)
theorem dX9_init_32 : decode cX9_init 32 = .ok (.putfield 21, 3) := dk_181 0 21 (dk_at dksX9_init_1 9 rfl rfl)
theorem dX9_init_35 : decode cX9_init 35 = .ok (.aload_n 0, 1) := dk_42 (dk_at dksX9_init_1 12 rfl rfl)
theorem dX9_init_36 : decode cX9_init 36 = .ok (.sipush 320, 3) := dk_17 1 64 (dk_at dksX9_init_1 13 rfl rfl)
theorem dX9_init_39 : decode cX9_init 39 = .ok (.newarray .int, 2) := dk_188_10 (dk_at dksX9_init_1 16 rfl rfl)
theorem dX9_init_41 : decode cX9_init 41 = .ok (.putfield 24, 3) := dk_181 0 24 (dk_at dksX9_init_1 18 rfl rfl)
theorem dX9_init_44 : decode cX9_init 44 = .ok (.aload_n 0, 1) := dk_42 (dk_at dksX9_init_1 21 rfl rfl)
theorem dX9_init_45 : decode cX9_init 45 = .ok (.sipush 320, 3) := dk_17 1 64 (dk_at dksX9_init_2 0 rfl rfl)
theorem dX9_init_48 : decode cX9_init 48 = .ok (.newarray .int, 2) := dk_188_10 (dk_at dksX9_init_2 3 rfl rfl)
theorem dX9_init_50 : decode cX9_init 50 = .ok (.putfield 27, 3) := dk_181 0 27 (dk_at dksX9_init_2 5 rfl rfl)
theorem dX9_init_53 : decode cX9_init 53 = .ok (.aload_n 0, 1) := dk_42 (dk_at dksX9_init_2 8 rfl rfl)
theorem dX9_init_54 : decode cX9_init 54 = .ok (.sipush 320, 3) := dk_17 1 64 (dk_at dksX9_init_2 9 rfl rfl)
theorem dX9_init_57 : decode cX9_init 57 = .ok (.newarray .int, 2) := dk_188_10 (dk_at dksX9_init_2 12 rfl rfl)
theorem dX9_init_59 : decode cX9_init 59 = .ok (.putfield 30, 3) := dk_181 0 30 (dk_at dksX9_init_2 14 rfl rfl)
theorem dX9_init_62 : decode cX9_init 62 = .ok (.aload_n 0, 1) := dk_42 (dk_at dksX9_init_2 17 rfl rfl)
theorem dX9_init_63 : decode cX9_init 63 = .ok (.sipush 160, 3) := dk_17 0 160 (dk_at dksX9_init_2 18 rfl rfl)
theorem dX9_init_66 : decode cX9_init 66 = .ok (.newarray .int, 2) := dk_188_10 (dk_at dksX9_init_2 21 rfl rfl)
theorem dX9_init_68 : decode cX9_init 68 = .ok (.putfield 33, 3) := dk_181 0 33 (dk_at dksX9_init_3 0 rfl rfl)
theorem dX9_init_71 : decode cX9_init 71 = .ok (.aload_n 0, 1) := dk_42 (dk_at dksX9_init_3 3 rfl rfl)
theorem dX9_init_72 : decode cX9_init 72 = .ok (.bipush 64, 2) := dk_16 64 (dk_at dksX9_init_3 4 rfl rfl)
theorem dX9_init_74 : decode cX9_init 74 = .ok (.newarray .int, 2) := dk_188_10 (dk_at dksX9_init_3 6 rfl rfl)
theorem dX9_init_76 : decode cX9_init 76 = .ok (.putfield 36, 3) := dk_181 0 36 (dk_at dksX9_init_3 8 rfl rfl)
theorem dX9_init_79 : decode cX9_init 79 = .ok (.aload_n 0, 1) := dk_42 (dk_at dksX9_init_3 11 rfl rfl)
theorem dX9_init_80 : decode cX9_init 80 = .ok (.iconst 4, 1) := dk_7 (dk_at dksX9_init_3 12 rfl rfl)
theorem dX9_init_81 : decode cX9_init 81 = .ok (.newarray .int, 2) := dk_188_10 (dk_at dksX9_init_3 13 rfl rfl)
theorem dX9_init_83 : decode cX9_init 83 = .ok (.putfield 39, 3) := dk_181 0 39 (dk_at dksX9_init_3 15 rfl rfl)
theorem dX9_init_86 : decode cX9_init 86 = .ok (.aload_n 0, 1) := dk_42 (dk_at dksX9_init_3 18 rfl rfl)
theorem dX9_init_87 : decode cX9_init 87 = .ok (.bipush 6, 2) := dk_16 6 (dk_at dksX9_init_3 19 rfl rfl)
theorem dX9_init_89 : decode cX9_init 89 = .ok (.newarray .int, 2) := dk_188_10 (dk_at dksX9_init_3 21 rfl rfl)
theorem dX9_init_91 : decode cX9_init 91 = .ok (.putfield 42, 3) := dk_181 0 42 (dk_at dksX9_init_4 0 rfl rfl)
theorem dX9_init_94 : decode cX9_init 94 = .ok (.aload_n 0, 1) := dk_42 (dk_at dksX9_init_4 3 rfl rfl)
theorem dX9_init_95 : decode cX9_init 95 = .ok (.bipush 6, 2) := dk_16 6 (dk_at dksX9_init_4 4 rfl rfl)
theorem dX9_init_97 : decode cX9_init 97 = .ok (.newarray .int, 2) := dk_188_10 (dk_at dksX9_init_4 6 rfl rfl)
theorem dX9_init_99 : decode cX9_init 99 = .ok (.putfield 45, 3) := dk_181 0 45 (dk_at dksX9_init_4 8 rfl rfl)
theorem dX9_init_102 : decode cX9_init 102 = .ok (.aload_n 0, 1) := dk_42 (dk_at dksX9_init_4 11 rfl rfl)
theorem dX9_init_103 : decode cX9_init 103 = .ok (.bipush 6, 2) := dk_16 6 (dk_at dksX9_init_4 12 rfl rfl)
theorem dX9_init_105 : decode cX9_init 105 = .ok (.newarray .int, 2) := dk_188_10 (dk_at dksX9_init_4 14 rfl rfl)
theorem dX9_init_107 : decode cX9_init 107 = .ok (.putfield 48, 3) := dk_181 0 48 (dk_at dksX9_init_4 16 rfl rfl)
theorem dX9_init_110 : decode cX9_init 110 = .ok (.aload_n 0, 1) := dk_42 (dk_at dksX9_init_4 19 rfl rfl)
theorem dX9_init_111 : decode cX9_init 111 = .ok (.bipush 6, 2) := dk_16 6 (dk_at dksX9_init_4 20 rfl rfl)
theorem dX9_init_113 : decode cX9_init 113 = .ok (.newarray .int, 2) := dk_188_10 (dk_at dksX9_init_4 22 rfl rfl)
theorem dX9_init_115 : decode cX9_init 115 = .ok (.putfield 51, 3) := dk_181 0 51 (dk_at dksX9_init_5 0 rfl rfl)
theorem dX9_init_118 : decode cX9_init 118 = .ok (.aload_n 0, 1) := dk_42 (dk_at dksX9_init_5 3 rfl rfl)
theorem dX9_init_119 : decode cX9_init 119 = .ok (.bipush 36, 2) := dk_16 36 (dk_at dksX9_init_5 4 rfl rfl)
theorem dX9_init_121 : decode cX9_init 121 = .ok (.newarray .int, 2) := dk_188_10 (dk_at dksX9_init_5 6 rfl rfl)
theorem dX9_init_123 : decode cX9_init 123 = .ok (.putfield 54, 3) := dk_181 0 54 (dk_at dksX9_init_5 8 rfl rfl)
theorem dX9_init_126 : decode cX9_init 126 = .ok (.aload_n 0, 1) := dk_42 (dk_at dksX9_init_5 11 rfl rfl)
theorem dX9_init_127 : decode cX9_init 127 = .ok (.bipush 6, 2) := dk_16 6 (dk_at dksX9_init_5 12 rfl rfl)
theorem dX9_init_129 : decode cX9_init 129 = .ok (.newarray .int, 2) := dk_188_10 (dk_at dksX9_init_5 14 rfl rfl)
theorem dX9_init_131 : decode cX9_init 131 = .ok (.putfield 57, 3) := dk_181 0 57 (dk_at dksX9_init_5 16 rfl rfl)
theorem dX9_init_134 : decode cX9_init 134 = .ok (.aload_n 0, 1) := dk_42 (dk_at dksX9_init_5 19 rfl rfl)
theorem dX9_init_135 : decode cX9_init 135 = .ok (.bipush 6, 2) := dk_16 6 (dk_at dksX9_init_5 20 rfl rfl)
theorem dX9_init_137 : decode cX9_init 137 = .ok (.newarray .int, 2) := dk_188_10 (dk_at dksX9_init_5 22 rfl rfl)
theorem dX9_init_139 : decode cX9_init 139 = .ok (.putfield 60, 3) := dk_181 0 60 (dk_at dksX9_init_6 0 rfl rfl)
theorem dX9_init_142 : decode cX9_init 142 = .ok (.aload_n 0, 1) := dk_42 (dk_at dksX9_init_6 3 rfl rfl)
theorem dX9_init_143 : decode cX9_init 143 = .ok (.bipush 6, 2) := dk_16 6 (dk_at dksX9_init_6 4 rfl rfl)
theorem dX9_init_145 : decode cX9_init 145 = .ok (.newarray .int, 2) := dk_188_10 (dk_at dksX9_init_6 6 rfl rfl)
theorem dX9_init_147 : decode cX9_init 147 = .ok (.putfield 63, 3) := dk_181 0 63 (dk_at dksX9_init_6 8 rfl rfl)
theorem dX9_init_150 : decode cX9_init 150 = .ok (.aload_n 0, 1) := dk_42 (dk_at dksX9_init_6 11 rfl rfl)
theorem dX9_init_151 : decode cX9_init 151 = .ok (.bipush 6, 2) := dk_16 6 (dk_at dksX9_init_6 12 rfl rfl)
theorem dX9_init_153 : decode cX9_init 153 = .ok (.newarray .int, 2) := dk_188_10 (dk_at dksX9_init_6 14 rfl rfl)
theorem dX9_init_155 : decode cX9_init 155 = .ok (.putfield 66, 3) := dk_181 0 66 (dk_at dksX9_init_6 16 rfl rfl)
theorem dX9_init_158 : decode cX9_init 158 = .ok (.aload_n 0, 1) := dk_42 (dk_at dksX9_init_6 19 rfl rfl)
theorem dX9_init_159 : decode cX9_init 159 = .ok (.bipush 36, 2) := dk_16 36 (dk_at dksX9_init_6 20 rfl rfl)
theorem dX9_init_161 : decode cX9_init 161 = .ok (.newarray .int, 2) := dk_188_10 (dk_at dksX9_init_6 22 rfl rfl)
theorem dX9_init_163 : decode cX9_init 163 = .ok (.putfield 69, 3) := dk_181 0 69 (dk_at dksX9_init_7 0 rfl rfl)
theorem dX9_init_166 : decode cX9_init 166 = .ok (.aload_n 0, 1) := dk_42 (dk_at dksX9_init_7 3 rfl rfl)
theorem dX9_init_167 : decode cX9_init 167 = .ok (.bipush 10, 2) := dk_16 10 (dk_at dksX9_init_7 4 rfl rfl)
theorem dX9_init_169 : decode cX9_init 169 = .ok (.newarray .int, 2) := dk_188_10 (dk_at dksX9_init_7 6 rfl rfl)
theorem dX9_init_171 : decode cX9_init 171 = .ok (.putfield 72, 3) := dk_181 0 72 (dk_at dksX9_init_7 8 rfl rfl)
theorem dX9_init_174 : decode cX9_init 174 = .ok (.aload_n 0, 1) := dk_42 (dk_at dksX9_init_7 11 rfl rfl)
theorem dX9_init_175 : decode cX9_init 175 = .ok (.bipush 10, 2) := dk_16 10 (dk_at dksX9_init_7 12 rfl rfl)
theorem dX9_init_177 : decode cX9_init 177 = .ok (.newarray .int, 2) := dk_188_10 (dk_at dksX9_init_7 14 rfl rfl)
theorem dX9_init_179 : decode cX9_init 179 = .ok (.putfield 75, 3) := dk_181 0 75 (dk_at dksX9_init_7 16 rfl rfl)
theorem dX9_init_182 : decode cX9_init 182 = .ok (.aload_n 0, 1) := dk_42 (dk_at dksX9_init_7 19 rfl rfl)
theorem dX9_init_183 : decode cX9_init 183 = .ok (.bipush 10, 2) := dk_16 10 (dk_at dksX9_init_7 20 rfl rfl)
theorem dX9_init_185 : decode cX9_init 185 = .ok (.newarray .int, 2) := dk_188_10 (dk_at dksX9_init_7 22 rfl rfl)
theorem dX9_init_187 : decode cX9_init 187 = .ok (.putfield 78, 3) := dk_181 0 78 (dk_at dksX9_init_8 0 rfl rfl)
theorem dX9_init_190 : decode cX9_init 190 = .ok (.aload_n 0, 1) := dk_42 (dk_at dksX9_init_8 3 rfl rfl)
theorem dX9_init_191 : decode cX9_init 191 = .ok (.bipush 10, 2) := dk_16 10 (dk_at dksX9_init_8 4 rfl rfl)
theorem dX9_init_193 : decode cX9_init 193 = .ok (.newarray .int, 2) := dk_188_10 (dk_at dksX9_init_8 6 rfl rfl)
theorem dX9_init_195 : decode cX9_init 195 = .ok (.putfield 81, 3) := dk_181 0 81 (dk_at dksX9_init_8 8 rfl rfl)
theorem dX9_init_198 : decode cX9_init 198 = .ok (.aload_n 0, 1) := dk_42 (dk_at dksX9_init_8 11 rfl rfl)
theorem dX9_init_199 : decode cX9_init 199 = .ok (.bipush 10, 2) := dk_16 10 (dk_at dksX9_init_8 12 rfl rfl)
theorem dX9_init_201 : decode cX9_init 201 = .ok (.newarray .int, 2) := dk_188_10 (dk_at dksX9_init_8 14 rfl rfl)
theorem dX9_init_203 : decode cX9_init 203 = .ok (.putfield 84, 3) := dk_181 0 84 (dk_at dksX9_init_8 16 rfl rfl)
theorem dX9_init_206 : decode cX9_init 206 = .ok (.aload_n 0, 1) := dk_42 (dk_at dksX9_init_8 19 rfl rfl)
theorem dX9_init_207 : decode cX9_init 207 = .ok (.bipush 10, 2) := dk_16 10 (dk_at dksX9_init_8 20 rfl rfl)
theorem dX9_init_209 : decode cX9_init 209 = .ok (.newarray .int, 2) := dk_188_10 (dk_at dksX9_init_8 22 rfl rfl)
theorem dX9_init_211 : decode cX9_init 211 = .ok (.putfield 87, 3) := dk_181 0 87 (dk_at dksX9_init_9 0 rfl rfl)
theorem dX9_init_214 : decode cX9_init 214 = .ok (.aload_n 0, 1) := dk_42 (dk_at dksX9_init_9 3 rfl rfl)
theorem dX9_init_215 : decode cX9_init 215 = .ok (.bipush 10, 2) := dk_16 10 (dk_at dksX9_init_9 4 rfl rfl)
theorem dX9_init_217 : decode cX9_init 217 = .ok (.newarray .int, 2) := dk_188_10 (dk_at dksX9_init_9 6 rfl rfl)
theorem dX9_init_219 : decode cX9_init 219 = .ok (.putfield 90, 3) := dk_181 0 90 (dk_at dksX9_init_9 8 rfl rfl)
theorem dX9_init_222 : decode cX9_init 222 = .ok (.aload_n 0, 1) := dk_42 (dk_at dksX9_init_9 11 rfl rfl)
theorem dX9_init_223 : decode cX9_init 223 = .ok (.bipush 10, 2) := dk_16 10 (dk_at dksX9_init_9 12 rfl rfl)
theorem dX9_init_225 : decode cX9_init 225 = .ok (.newarray .int, 2) := dk_188_10 (dk_at dksX9_init_9 14 rfl rfl)
theorem dX9_init_227 : decode cX9_init 227 = .ok (.putfield 93, 3) := dk_181 0 93 (dk_at dksX9_init_9 16 rfl rfl)
theorem dX9_init_230 : decode cX9_init 230 = .ok (.aload_n 0, 1) := dk_42 (dk_at dksX9_init_9 19 rfl rfl)
theorem dX9_init_231 : decode cX9_init 231 = .ok (.bipush 10, 2) := dk_16 10 (dk_at dksX9_init_9 20 rfl rfl)
theorem dX9_init_233 : decode cX9_init 233 = .ok (.newarray .int, 2) := dk_188_10 (dk_at dksX9_init_9 22 rfl rfl)
theorem dX9_init_235 : decode cX9_init 235 = .ok (.putfield 96, 3) := dk_181 0 96 (dk_at dksX9_init_10 0 rfl rfl)
theorem dX9_init_238 : decode cX9_init 238 = .ok (.aload_n 0, 1) := dk_42 (dk_at dksX9_init_10 3 rfl rfl)
theorem dX9_init_239 : decode cX9_init 239 = .ok (.bipush 10, 2) := dk_16 10 (dk_at dksX9_init_10 4 rfl rfl)
theorem dX9_init_241 : decode cX9_init 241 = .ok (.newarray .int, 2) := dk_188_10 (dk_at dksX9_init_10 6 rfl rfl)
theorem dX9_init_243 : decode cX9_init 243 = .ok (.putfield 99, 3) := dk_181 0 99 (dk_at dksX9_init_10 8 rfl rfl)
theorem dX9_init_246 : decode cX9_init 246 = .ok (.aload_n 0, 1) := dk_42 (dk_at dksX9_init_10 11 rfl rfl)
theorem dX9_init_247 : decode cX9_init 247 = .ok (.bipush 10, 2) := dk_16 10 (dk_at dksX9_init_10 12 rfl rfl)
theorem dX9_init_249 : decode cX9_init 249 = .ok (.newarray .int, 2) := dk_188_10 (dk_at dksX9_init_10 14 rfl rfl)
theorem dX9_init_251 : decode cX9_init 251 = .ok (.putfield 102, 3) := dk_181 0 102 (dk_at dksX9_init_10 16 rfl rfl)
theorem dX9_init_254 : decode cX9_init 254 = .ok (.aload_n 0, 1) := dk_42 (dk_at dksX9_init_10 19 rfl rfl)
theorem dX9_init_255 : decode cX9_init 255 = .ok (.bipush 10, 2) := dk_16 10 (dk_at dksX9_init_10 20 rfl rfl)
theorem dX9_init_257 : decode cX9_init 257 = .ok (.newarray .int, 2) := dk_188_10 (dk_at dksX9_init_10 22 rfl rfl)
theorem dX9_init_259 : decode cX9_init 259 = .ok (.putfield 105, 3) := dk_181 0 105 (dk_at dksX9_init_11 0 rfl rfl)
theorem dX9_init_262 : decode cX9_init 262 = .ok (.aload_n 0, 1) := dk_42 (dk_at dksX9_init_11 3 rfl rfl)
theorem dX9_init_263 : decode cX9_init 263 = .ok (.bipush 10, 2) := dk_16 10 (dk_at dksX9_init_11 4 rfl rfl)
theorem dX9_init_265 : decode cX9_init 265 = .ok (.newarray .boolean, 2) := dk_188_4 (dk_at dksX9_init_11 6 rfl rfl)
theorem dX9_init_267 : decode cX9_init 267 = .ok (.putfield 108, 3) := dk_181 0 108 (dk_at dksX9_init_11 8 rfl rfl)
theorem dX9_init_270 : decode cX9_init 270 = .ok (.aload_n 0, 1) := dk_42 (dk_at dksX9_init_11 11 rfl rfl)
theorem dX9_init_271 : decode cX9_init 271 = .ok (.bipush 10, 2) := dk_16 10 (dk_at dksX9_init_11 12 rfl rfl)
theorem dX9_init_273 : decode cX9_init 273 = .ok (.newarray .boolean, 2) := dk_188_4 (dk_at dksX9_init_11 14 rfl rfl)
theorem dX9_init_275 : decode cX9_init 275 = .ok (.putfield 112, 3) := dk_181 0 112 (dk_at dksX9_init_11 16 rfl rfl)
theorem dX9_init_278 : decode cX9_init 278 = .ok (.aload_n 0, 1) := dk_42 (dk_at dksX9_init_11 19 rfl rfl)
theorem dX9_init_279 : decode cX9_init 279 = .ok (.bipush 8, 2) := dk_16 8 (dk_at dksX9_init_11 20 rfl rfl)
theorem dX9_init_281 : decode cX9_init 281 = .ok (.putfield 115, 3) := dk_181 0 115 (dk_at dksX9_init_12 0 rfl rfl)
theorem dX9_init_284 : decode cX9_init 284 = .ok (.aload_n 0, 1) := dk_42 (dk_at dksX9_init_12 3 rfl rfl)
theorem dX9_init_285 : decode cX9_init 285 = .ok (.bipush 24, 2) := dk_16 24 (dk_at dksX9_init_12 4 rfl rfl)
theorem dX9_init_287 : decode cX9_init 287 = .ok (.newarray .int, 2) := dk_188_10 (dk_at dksX9_init_12 6 rfl rfl)
theorem dX9_init_289 : decode cX9_init 289 = .ok (.putfield 118, 3) := dk_181 0 118 (dk_at dksX9_init_12 8 rfl rfl)
theorem dX9_init_292 : decode cX9_init 292 = .ok (.aload_n 0, 1) := dk_42 (dk_at dksX9_init_12 11 rfl rfl)
theorem dX9_init_293 : decode cX9_init 293 = .ok (.sipush 960, 3) := dk_17 3 192 (dk_at dksX9_init_12 12 rfl rfl)
theorem dX9_init_296 : decode cX9_init 296 = .ok (.newarray .int, 2) := dk_188_10 (dk_at dksX9_init_12 15 rfl rfl)
theorem dX9_init_298 : decode cX9_init 298 = .ok (.putfield 121, 3) := dk_181 0 121 (dk_at dksX9_init_12 17 rfl rfl)
theorem dX9_init_301 : decode cX9_init 301 = .ok (.aload_n 0, 1) := dk_42 (dk_at dksX9_init_12 20 rfl rfl)
theorem dX9_init_302 : decode cX9_init 302 = .ok (.bipush 10, 2) := dk_16 10 (dk_at dksX9_init_12 21 rfl rfl)
theorem dX9_init_304 : decode cX9_init 304 = .ok (.newarray .int, 2) := dk_188_10 (dk_at dksX9_init_13 0 rfl rfl)
theorem dX9_init_306 : decode cX9_init 306 = .ok (.putfield 124, 3) := dk_181 0 124 (dk_at dksX9_init_13 2 rfl rfl)
theorem dX9_init_309 : decode cX9_init 309 = .ok (.aload_n 0, 1) := dk_42 (dk_at dksX9_init_13 5 rfl rfl)
theorem dX9_init_310 : decode cX9_init 310 = .ok (.bipush 10, 2) := dk_16 10 (dk_at dksX9_init_13 6 rfl rfl)
theorem dX9_init_312 : decode cX9_init 312 = .ok (.newarray .int, 2) := dk_188_10 (dk_at dksX9_init_13 8 rfl rfl)
theorem dX9_init_314 : decode cX9_init 314 = .ok (.putfield 127, 3) := dk_181 0 127 (dk_at dksX9_init_13 10 rfl rfl)
theorem dX9_init_317 : decode cX9_init 317 = .ok (.aload_n 0, 1) := dk_42 (dk_at dksX9_init_13 13 rfl rfl)
theorem dX9_init_318 : decode cX9_init 318 = .ok (.bipush 7, 2) := dk_16 7 (dk_at dksX9_init_13 14 rfl rfl)
theorem dX9_init_320 : decode cX9_init 320 = .ok (.newarray .int, 2) := dk_188_10 (dk_at dksX9_init_13 16 rfl rfl)
theorem dX9_init_322 : decode cX9_init 322 = .ok (.putfield 130, 3) := dk_181 0 130 (dk_at dksX9_init_13 18 rfl rfl)
theorem dX9_init_325 : decode cX9_init 325 = .ok (.aload_n 0, 1) := dk_42 (dk_at dksX9_init_13 21 rfl rfl)
theorem dX9_init_326 : decode cX9_init 326 = .ok (.bipush 7, 2) := dk_16 7 (dk_at dksX9_init_13 22 rfl rfl)
theorem dX9_init_328 : decode cX9_init 328 = .ok (.newarray .int, 2) := dk_188_10 (dk_at dksX9_init_14 0 rfl rfl)
theorem dX9_init_330 : decode cX9_init 330 = .ok (.putfield 133, 3) := dk_181 0 133 (dk_at dksX9_init_14 2 rfl rfl)
theorem dX9_init_333 : decode cX9_init 333 = .ok (.aload_n 0, 1) := dk_42 (dk_at dksX9_init_14 5 rfl rfl)
theorem dX9_init_334 : decode cX9_init 334 = .ok (.bipush 7, 2) := dk_16 7 (dk_at dksX9_init_14 6 rfl rfl)
theorem dX9_init_336 : decode cX9_init 336 = .ok (.newarray .int, 2) := dk_188_10 (dk_at dksX9_init_14 8 rfl rfl)
theorem dX9_init_338 : decode cX9_init 338 = .ok (.putfield 136, 3) := dk_181 0 136 (dk_at dksX9_init_14 10 rfl rfl)
theorem dX9_init_341 : decode cX9_init 341 = .ok (.aload_n 0, 1) := dk_42 (dk_at dksX9_init_14 13 rfl rfl)
theorem dX9_init_342 : decode cX9_init 342 = .ok (.bipush 7, 2) := dk_16 7 (dk_at dksX9_init_14 14 rfl rfl)
theorem dX9_init_344 : decode cX9_init 344 = .ok (.newarray .int, 2) := dk_188_10 (dk_at dksX9_init_14 16 rfl rfl)
theorem dX9_init_346 : decode cX9_init 346 = .ok (.putfield 139, 3) := dk_181 0 139 (dk_at dksX9_init_14 18 rfl rfl)
theorem dX9_init_349 : decode cX9_init 349 = .ok (.aload_n 0, 1) := dk_42 (dk_at dksX9_init_14 21 rfl rfl)
theorem dX9_init_350 : decode cX9_init 350 = .ok (.bipush 10, 2) := dk_16 10 (dk_at dksX9_init_14 22 rfl rfl)
theorem dX9_init_352 : decode cX9_init 352 = .ok (.newarray .int, 2) := dk_188_10 (dk_at dksX9_init_15 0 rfl rfl)
theorem dX9_init_354 : decode cX9_init 354 = .ok (.putfield 142, 3) := dk_181 0 142 (dk_at dksX9_init_15 2 rfl rfl)
theorem dX9_init_357 : decode cX9_init 357 = .ok (.aload_n 0, 1) := dk_42 (dk_at dksX9_init_15 5 rfl rfl)
theorem dX9_init_358 : decode cX9_init 358 = .ok (.sipush 1024, 3) := dk_17 4 0 (dk_at dksX9_init_15 6 rfl rfl)
theorem dX9_init_361 : decode cX9_init 361 = .ok (.newarray .boolean, 2) := dk_188_4 (dk_at dksX9_init_15 9 rfl rfl)
theorem dX9_init_363 : decode cX9_init 363 = .ok (.putfield 145, 3) := dk_181 0 145 (dk_at dksX9_init_15 11 rfl rfl)
theorem dX9_init_366 : decode cX9_init 366 = .ok (.aload_n 0, 1) := dk_42 (dk_at dksX9_init_15 14 rfl rfl)
theorem dX9_init_367 : decode cX9_init 367 = .ok (.bipush 6, 2) := dk_16 6 (dk_at dksX9_init_15 15 rfl rfl)
theorem dX9_init_369 : decode cX9_init 369 = .ok (.newarray .int, 2) := dk_188_10 (dk_at dksX9_init_15 17 rfl rfl)
theorem dX9_init_371 : decode cX9_init 371 = .ok (.putfield 148, 3) := dk_181 0 148 (dk_at dksX9_init_15 19 rfl rfl)
theorem dX9_init_374 : decode cX9_init 374 = .ok (.aload_n 0, 1) := dk_42 (dk_at dksX9_init_15 22 rfl rfl)
theorem dX9_init_375 : decode cX9_init 375 = .ok (.bipush 30, 2) := dk_16 30 (dk_at dksX9_init_16 0 rfl rfl)
theorem dX9_init_377 : decode cX9_init 377 = .ok (.newarray .int, 2) := dk_188_10 (dk_at dksX9_init_16 2 rfl rfl)
theorem dX9_init_379 : decode cX9_init 379 = .ok (.putfield 151, 3) := dk_181 0 151 (dk_at dksX9_init_16 4 rfl rfl)
theorem dX9_init_382 : decode cX9_init 382 = .ok (.aload_n 0, 1) := dk_42 (dk_at dksX9_init_16 7 rfl rfl)
theorem dX9_init_383 : decode cX9_init 383 = .ok (.bipush 30, 2) := dk_16 30 (dk_at dksX9_init_16 8 rfl rfl)
theorem dX9_init_385 : decode cX9_init 385 = .ok (.newarray .int, 2) := dk_188_10 (dk_at dksX9_init_16 10 rfl rfl)
theorem dX9_init_387 : decode cX9_init 387 = .ok (.putfield 154, 3) := dk_181 0 154 (dk_at dksX9_init_16 12 rfl rfl)
theorem dX9_init_390 : decode cX9_init 390 = .ok (.aload_n 0, 1) := dk_42 (dk_at dksX9_init_16 15 rfl rfl)
theorem dX9_init_391 : decode cX9_init 391 = .ok (.bipush 30, 2) := dk_16 30 (dk_at dksX9_init_16 16 rfl rfl)
theorem dX9_init_393 : decode cX9_init 393 = .ok (.newarray .int, 2) := dk_188_10 (dk_at dksX9_init_16 18 rfl rfl)
theorem dX9_init_395 : decode cX9_init 395 = .ok (.putfield 157, 3) := dk_181 0 157 (dk_at dksX9_init_16 20 rfl rfl)
theorem dX9_init_398 : decode cX9_init 398 = .ok (.aload_n 0, 1) := dk_42 (dk_at dksX9_init_16 23 rfl rfl)
theorem dX9_init_399 : decode cX9_init 399 = .ok (.bipush 30, 2) := dk_16 30 (dk_at dksX9_init_17 0 rfl rfl)
theorem dX9_init_401 : decode cX9_init 401 = .ok (.newarray .int, 2) := dk_188_10 (dk_at dksX9_init_17 2 rfl rfl)
theorem dX9_init_403 : decode cX9_init 403 = .ok (.putfield 160, 3) := dk_181 0 160 (dk_at dksX9_init_17 4 rfl rfl)
theorem dX9_init_406 : decode cX9_init 406 = .ok (.aload_n 0, 1) := dk_42 (dk_at dksX9_init_17 7 rfl rfl)
theorem dX9_init_407 : decode cX9_init 407 = .ok (.bipush 30, 2) := dk_16 30 (dk_at dksX9_init_17 8 rfl rfl)
theorem dX9_init_409 : decode cX9_init 409 = .ok (.newarray .boolean, 2) := dk_188_4 (dk_at dksX9_init_17 10 rfl rfl)
theorem dX9_init_411 : decode cX9_init 411 = .ok (.putfield 163, 3) := dk_181 0 163 (dk_at dksX9_init_17 12 rfl rfl)
theorem dX9_init_414 : decode cX9_init 414 = .ok (.aload_n 0, 1) := dk_42 (dk_at dksX9_init_17 15 rfl rfl)
theorem dX9_init_415 : decode cX9_init 415 = .ok (.iconst 3, 1) := dk_6 (dk_at dksX9_init_17 16 rfl rfl)
theorem dX9_init_416 : decode cX9_init 416 = .ok (.newarray .boolean, 2) := dk_188_4 (dk_at dksX9_init_17 17 rfl rfl)
theorem dX9_init_418 : decode cX9_init 418 = .ok (.putfield 166, 3) := dk_181 0 166 (dk_at dksX9_init_17 19 rfl rfl)
theorem dX9_init_421 : decode cX9_init 421 = .ok (.aload_n 0, 1) := dk_42 (dk_at dksX9_init_17 22 rfl rfl)
theorem dX9_init_422 : decode cX9_init 422 = .ok (.bipush 72, 2) := dk_16 72 (dk_at dksX9_init_18 0 rfl rfl)
theorem dX9_init_424 : decode cX9_init 424 = .ok (.newarray .int, 2) := dk_188_10 (dk_at dksX9_init_18 2 rfl rfl)
theorem dX9_init_426 : decode cX9_init 426 = .ok (.putfield 169, 3) := dk_181 0 169 (dk_at dksX9_init_18 4 rfl rfl)
theorem dX9_init_429 : decode cX9_init 429 = .ok (.return_, 1) := dk_177 (dk_at dksX9_init_18 7 rfl rfl)
abbrev cX9_feed : ByteArray := prog_24_method_2_code
def yX9_feed : MethodName := ⟨RX9, "feed", "(IIIII)I"⟩
def dkwX9_feed_2 : List UInt8 := [172]
abbrev dktX9_feed_2 : List UInt8 := dkwX9_feed_2 ++ []
def dkwX9_feed_1 : List UInt8 := [182, 0, 175, 42, 29, 182, 0, 175, 42, 21, 4, 182, 0, 175, 42, 21, 5, 182, 0, 175, 42, 180, 0, 172]
abbrev dktX9_feed_1 : List UInt8 := dkwX9_feed_1 ++ dktX9_feed_2
def dkwX9_feed_0 : List UInt8 := [42, 180, 0, 172, 16, 20, 96, 17, 6, 64, 164, 0, 5, 2, 172, 42, 27, 182, 0, 175, 42, 28]
abbrev dktX9_feed_0 : List UInt8 := dkwX9_feed_0 ++ dktX9_feed_1
theorem dksX9_feed_0 : cX9_feed.data.toList.drop 0 = dktX9_feed_0 := by decide +kernel
theorem dksX9_feed_1 : cX9_feed.data.toList.drop 22 = dktX9_feed_1 := dk_seg dksX9_feed_0 22 rfl rfl
theorem dksX9_feed_2 : cX9_feed.data.toList.drop 46 = dktX9_feed_2 := dk_seg dksX9_feed_1 24 rfl rfl
theorem dX9_feed_0 : decode cX9_feed 0 = .ok (.aload_n 0, 1) := dk_42 (dk_at dksX9_feed_0 0 rfl rfl)
theorem dX9_feed_1 : decode cX9_feed 1 = .ok (.getfield 172, 3) := dk_180 0 172 (dk_at dksX9_feed_0 1 rfl rfl)
theorem dX9_feed_4 : decode cX9_feed 4 = .ok (.bipush 20, 2) := dk_16 20 (dk_at dksX9_feed_0 4 rfl rfl)
theorem dX9_feed_6 : decode cX9_feed 6 = .ok (.iadd, 1) := dk_96 (dk_at dksX9_feed_0 6 rfl rfl)
theorem dX9_feed_7 : decode cX9_feed 7 = .ok (.sipush 1600, 3) := dk_17 6 64 (dk_at dksX9_feed_0 7 rfl rfl)
theorem dX9_feed_10 : decode cX9_feed 10 = .ok (.if_icmp .le 5, 3) := dk_164 0 5 (dk_at dksX9_feed_0 10 rfl rfl)
theorem dX9_feed_13 : decode cX9_feed 13 = .ok (.iconst (-1), 1) := dk_2 (dk_at dksX9_feed_0 13 rfl rfl)
theorem dX9_feed_14 : decode cX9_feed 14 = .ok (.ireturn, 1) := dk_172 (dk_at dksX9_feed_0 14 rfl rfl)
theorem dX9_feed_15 : decode cX9_feed 15 = .ok (.aload_n 0, 1) := dk_42 (dk_at dksX9_feed_0 15 rfl rfl)
theorem dX9_feed_16 : decode cX9_feed 16 = .ok (.iload_n 1, 1) := dk_27 (dk_at dksX9_feed_0 16 rfl rfl)
theorem dX9_feed_17 : decode cX9_feed 17 = .ok (.invokevirtual 175, 3) := dk_182 0 175 (dk_at dksX9_feed_0 17 rfl rfl)
theorem dX9_feed_20 : decode cX9_feed 20 = .ok (.aload_n 0, 1) := dk_42 (dk_at dksX9_feed_0 20 rfl rfl)
theorem dX9_feed_21 : decode cX9_feed 21 = .ok (.iload_n 2, 1) := dk_28 (dk_at dksX9_feed_0 21 rfl rfl)
theorem dX9_feed_22 : decode cX9_feed 22 = .ok (.invokevirtual 175, 3) := dk_182 0 175 (dk_at dksX9_feed_1 0 rfl rfl)
theorem dX9_feed_25 : decode cX9_feed 25 = .ok (.aload_n 0, 1) := dk_42 (dk_at dksX9_feed_1 3 rfl rfl)
theorem dX9_feed_26 : decode cX9_feed 26 = .ok (.iload_n 3, 1) := dk_29 (dk_at dksX9_feed_1 4 rfl rfl)
theorem dX9_feed_27 : decode cX9_feed 27 = .ok (.invokevirtual 175, 3) := dk_182 0 175 (dk_at dksX9_feed_1 5 rfl rfl)
theorem dX9_feed_30 : decode cX9_feed 30 = .ok (.aload_n 0, 1) := dk_42 (dk_at dksX9_feed_1 8 rfl rfl)
theorem dX9_feed_31 : decode cX9_feed 31 = .ok (.iload 4, 2) := dk_21 4 (dk_at dksX9_feed_1 9 rfl rfl)
theorem dX9_feed_33 : decode cX9_feed 33 = .ok (.invokevirtual 175, 3) := dk_182 0 175 (dk_at dksX9_feed_1 11 rfl rfl)
theorem dX9_feed_36 : decode cX9_feed 36 = .ok (.aload_n 0, 1) := dk_42 (dk_at dksX9_feed_1 14 rfl rfl)
theorem dX9_feed_37 : decode cX9_feed 37 = .ok (.iload 5, 2) := dk_21 5 (dk_at dksX9_feed_1 15 rfl rfl)
theorem dX9_feed_39 : decode cX9_feed 39 = .ok (.invokevirtual 175, 3) := dk_182 0 175 (dk_at dksX9_feed_1 17 rfl rfl)
theorem dX9_feed_42 : decode cX9_feed 42 = .ok (.aload_n 0, 1) := dk_42 (dk_at dksX9_feed_1 20 rfl rfl)
theorem dX9_feed_43 : decode cX9_feed 43 = .ok (.getfield 172, 3) := dk_180 0 172 (dk_at dksX9_feed_1 21 rfl rfl)
theorem dX9_feed_46 : decode cX9_feed 46 = .ok (.ireturn, 1) := dk_172 (dk_at dksX9_feed_2 0 rfl rfl)
abbrev cX9_four : ByteArray := prog_24_method_3_code
def yX9_four : MethodName := ⟨RX9, "fou\x72", "(I)V"⟩
def dkwX9_four_1 : List UInt8 := [89, 180, 0, 172, 4, 96, 181, 0, 172, 132, 2, 248, 167, 255, 223, 177]
abbrev dktX9_four_1 : List UInt8 := dkwX9_four_1 ++ []
def dkwX9_four_0 : List UInt8 := [16, 24, 61, 28, 155, 0, 35, 42, 180, 0, 7, 42, 180, 0, 172, 27, 28, 122, 17, 0, 255, 126, 79, 42]
abbrev dktX9_four_0 : List UInt8 := dkwX9_four_0 ++ dktX9_four_1
theorem dksX9_four_0 : cX9_four.data.toList.drop 0 = dktX9_four_0 := by decide +kernel
theorem dksX9_four_1 : cX9_four.data.toList.drop 24 = dktX9_four_1 := dk_seg dksX9_four_0 24 rfl rfl
theorem dX9_four_0 : decode cX9_four 0 = .ok (.bipush 24, 2) := dk_16 24 (dk_at dksX9_four_0 0 rfl rfl)
theorem dX9_four_2 : decode cX9_four 2 = .ok (.istore_n 2, 1) := dk_61 (dk_at dksX9_four_0 2 rfl rfl)
theorem dX9_four_3 : decode cX9_four 3 = .ok (.iload_n 2, 1) := dk_28 (dk_at dksX9_four_0 3 rfl rfl)
theorem dX9_four_4 : decode cX9_four 4 = .ok (.ifCond .lt 35, 3) := dk_155 0 35 (dk_at dksX9_four_0 4 rfl rfl)
theorem dX9_four_7 : decode cX9_four 7 = .ok (.aload_n 0, 1) := dk_42 (dk_at dksX9_four_0 7 rfl rfl)
theorem dX9_four_8 : decode cX9_four 8 = .ok (.getfield 7, 3) := dk_180 0 7 (dk_at dksX9_four_0 8 rfl rfl)
theorem dX9_four_11 : decode cX9_four 11 = .ok (.aload_n 0, 1) := dk_42 (dk_at dksX9_four_0 11 rfl rfl)
theorem dX9_four_12 : decode cX9_four 12 = .ok (.getfield 172, 3) := dk_180 0 172 (dk_at dksX9_four_0 12 rfl rfl)
theorem dX9_four_15 : decode cX9_four 15 = .ok (.iload_n 1, 1) := dk_27 (dk_at dksX9_four_0 15 rfl rfl)
theorem dX9_four_16 : decode cX9_four 16 = .ok (.iload_n 2, 1) := dk_28 (dk_at dksX9_four_0 16 rfl rfl)
theorem dX9_four_17 : decode cX9_four 17 = .ok (.ishr, 1) := dk_122 (dk_at dksX9_four_0 17 rfl rfl)
theorem dX9_four_18 : decode cX9_four 18 = .ok (.sipush 255, 3) := dk_17 0 255 (dk_at dksX9_four_0 18 rfl rfl)
theorem dX9_four_21 : decode cX9_four 21 = .ok (.iand, 1) := dk_126 (dk_at dksX9_four_0 21 rfl rfl)
theorem dX9_four_22 : decode cX9_four 22 = .ok (.iastore, 1) := dk_79 (dk_at dksX9_four_0 22 rfl rfl)
theorem dX9_four_23 : decode cX9_four 23 = .ok (.aload_n 0, 1) := dk_42 (dk_at dksX9_four_0 23 rfl rfl)
theorem dX9_four_24 : decode cX9_four 24 = .ok (.dup, 1) := dk_89 (dk_at dksX9_four_1 0 rfl rfl)
theorem dX9_four_25 : decode cX9_four 25 = .ok (.getfield 172, 3) := dk_180 0 172 (dk_at dksX9_four_1 1 rfl rfl)
theorem dX9_four_28 : decode cX9_four 28 = .ok (.iconst 1, 1) := dk_4 (dk_at dksX9_four_1 4 rfl rfl)
theorem dX9_four_29 : decode cX9_four 29 = .ok (.iadd, 1) := dk_96 (dk_at dksX9_four_1 5 rfl rfl)
theorem dX9_four_30 : decode cX9_four 30 = .ok (.putfield 172, 3) := dk_181 0 172 (dk_at dksX9_four_1 6 rfl rfl)
theorem dX9_four_33 : decode cX9_four 33 = .ok (.iinc 2 (-8), 3) := dk_132 2 248 (dk_at dksX9_four_1 9 rfl rfl)
theorem dX9_four_36 : decode cX9_four 36 = .ok (.goto (-33), 3) := dk_167 255 223 (dk_at dksX9_four_1 12 rfl rfl)
theorem dX9_four_39 : decode cX9_four 39 = .ok (.return_, 1) := dk_177 (dk_at dksX9_four_1 15 rfl rfl)
abbrev cX9_end : ByteArray := prog_24_method_4_code
def yX9_end : MethodName := ⟨RX9, "end", "(I)I"⟩
def dkwX9_end_0 : List UInt8 := [27, 155, 0, 11, 27, 42, 180, 0, 172, 164, 0, 5, 2, 172, 42, 27, 181, 0, 172, 27, 172]
abbrev dktX9_end_0 : List UInt8 := dkwX9_end_0 ++ []
theorem dksX9_end_0 : cX9_end.data.toList.drop 0 = dktX9_end_0 := by decide +kernel
theorem dX9_end_0 : decode cX9_end 0 = .ok (.iload_n 1, 1) := dk_27 (dk_at dksX9_end_0 0 rfl rfl)
theorem dX9_end_1 : decode cX9_end 1 = .ok (.ifCond .lt 11, 3) := dk_155 0 11 (dk_at dksX9_end_0 1 rfl rfl)
theorem dX9_end_4 : decode cX9_end 4 = .ok (.iload_n 1, 1) := dk_27 (dk_at dksX9_end_0 4 rfl rfl)
theorem dX9_end_5 : decode cX9_end 5 = .ok (.aload_n 0, 1) := dk_42 (dk_at dksX9_end_0 5 rfl rfl)
theorem dX9_end_6 : decode cX9_end 6 = .ok (.getfield 172, 3) := dk_180 0 172 (dk_at dksX9_end_0 6 rfl rfl)
theorem dX9_end_9 : decode cX9_end 9 = .ok (.if_icmp .le 5, 3) := dk_164 0 5 (dk_at dksX9_end_0 9 rfl rfl)
theorem dX9_end_12 : decode cX9_end 12 = .ok (.iconst (-1), 1) := dk_2 (dk_at dksX9_end_0 12 rfl rfl)
theorem dX9_end_13 : decode cX9_end 13 = .ok (.ireturn, 1) := dk_172 (dk_at dksX9_end_0 13 rfl rfl)
theorem dX9_end_14 : decode cX9_end 14 = .ok (.aload_n 0, 1) := dk_42 (dk_at dksX9_end_0 14 rfl rfl)
theorem dX9_end_15 : decode cX9_end 15 = .ok (.iload_n 1, 1) := dk_27 (dk_at dksX9_end_0 15 rfl rfl)
theorem dX9_end_16 : decode cX9_end 16 = .ok (.putfield 172, 3) := dk_181 0 172 (dk_at dksX9_end_0 16 rfl rfl)
theorem dX9_end_19 : decode cX9_end 19 = .ok (.iload_n 1, 1) := dk_27 (dk_at dksX9_end_0 19 rfl rfl)
theorem dX9_end_20 : decode cX9_end 20 = .ok (.ireturn, 1) := dk_172 (dk_at dksX9_end_0 20 rfl rfl)
abbrev cX9_regiment : ByteArray := prog_24_method_43_code
def yX9_regiment : MethodName := ⟨RX9, "regiment", "()I"⟩
def dkwX9_regiment_18 : List UInt8 := [132, 1, 1, 167, 255, 241, 42, 180, 1, 173, 172]
abbrev dktX9_regiment_18 : List UInt8 := dkwX9_regiment_18 ++ []
def dkwX9_regiment_17 : List UInt8 := [42, 3, 181, 1, 191, 42, 3, 181, 1, 194, 3, 60, 27, 6, 162, 0, 16, 42, 180, 0, 166, 27, 3, 84]
abbrev dktX9_regiment_17 : List UInt8 := dkwX9_regiment_17 ++ dktX9_regiment_18
def dkwX9_regiment_16 : List UInt8 := [167, 255, 136, 42, 180, 0, 118, 16, 21, 42, 180, 1, 158, 79, 42, 3, 181, 1, 185, 42, 3, 181, 1, 188]
abbrev dktX9_regiment_16 : List UInt8 := dkwX9_regiment_16 ++ dktX9_regiment_17
def dkwX9_regiment_15 : List UInt8 := [27, 96, 27, 42, 180, 1, 173, 162, 0, 12, 42, 180, 0, 84, 27, 46, 167, 0, 4, 3, 79, 132, 1, 1]
abbrev dktX9_regiment_15 : List UInt8 := dkwX9_regiment_15 ++ dktX9_regiment_16
def dkwX9_regiment_14 : List UInt8 := [180, 0, 84, 27, 46, 79, 42, 180, 0, 105, 27, 42, 180, 0, 87, 27, 46, 79, 42, 180, 0, 118, 16, 10]
abbrev dktX9_regiment_14 : List UInt8 := dkwX9_regiment_14 ++ dktX9_regiment_15
def dkwX9_regiment_13 : List UInt8 := [180, 0, 108, 27, 51, 84, 42, 180, 0, 99, 27, 42, 180, 0, 81, 27, 46, 79, 42, 180, 0, 102, 27, 42]
abbrev dktX9_regiment_13 : List UInt8 := dkwX9_regiment_13 ++ dktX9_regiment_14
def dkwX9_regiment_12 : List UInt8 := [180, 0, 75, 27, 46, 79, 42, 180, 0, 96, 27, 42, 180, 0, 78, 27, 46, 79, 42, 180, 0, 112, 27, 42]
abbrev dktX9_regiment_12 : List UInt8 := dkwX9_regiment_12 ++ dktX9_regiment_13
def dkwX9_regiment_11 : List UInt8 := [16, 10, 162, 0, 120, 42, 180, 0, 90, 27, 42, 180, 0, 72, 27, 46, 79, 42, 180, 0, 93, 27, 42]
abbrev dktX9_regiment_11 : List UInt8 := dkwX9_regiment_11 ++ dktX9_regiment_12
def dkwX9_regiment_10 : List UInt8 := [60, 27, 16, 23, 162, 0, 16, 42, 180, 0, 118, 27, 3, 79, 132, 1, 1, 167, 255, 240, 3, 60, 27]
abbrev dktX9_regiment_10 : List UInt8 := dkwX9_regiment_10 ++ dktX9_regiment_11
def dkwX9_regiment_9 : List UInt8 := [180, 0, 54, 16, 6, 27, 104, 28, 96, 46, 79, 132, 2, 1, 167, 255, 225, 132, 1, 1, 167, 255, 163, 3]
abbrev dktX9_regiment_9 : List UInt8 := dkwX9_regiment_9 ++ dktX9_regiment_10
def dkwX9_regiment_8 : List UInt8 := [27, 46, 79, 3, 61, 28, 16, 6, 162, 0, 31, 42, 180, 0, 69, 16, 6, 27, 104, 28, 96, 42]
abbrev dktX9_regiment_8 : List UInt8 := dkwX9_regiment_8 ++ dktX9_regiment_9
def dkwX9_regiment_7 : List UInt8 := [27, 46, 79, 42, 180, 0, 63, 27, 42, 180, 0, 48, 27, 46, 79, 42, 180, 0, 66, 27, 42, 180, 0, 51]
abbrev dktX9_regiment_7 : List UInt8 := dkwX9_regiment_7 ++ dktX9_regiment_8
def dkwX9_regiment_6 : List UInt8 := [162, 0, 93, 42, 180, 0, 57, 27, 42, 180, 0, 42, 27, 46, 79, 42, 180, 0, 60, 27, 42, 180, 0, 45]
abbrev dktX9_regiment_6 : List UInt8 := dkwX9_regiment_6 ++ dktX9_regiment_7
def dkwX9_regiment_5 : List UInt8 := [79, 42, 180, 0, 30, 27, 42, 180, 0, 24, 27, 46, 79, 132, 1, 1, 167, 255, 221, 3, 60, 27, 16, 6]
abbrev dktX9_regiment_5 : List UInt8 := dkwX9_regiment_5 ++ dktX9_regiment_6
def dkwX9_regiment_4 : List UInt8 := [181, 1, 96, 3, 60, 27, 42, 180, 1, 96, 162, 0, 33, 42, 180, 0, 27, 27, 42, 180, 0, 21, 27, 46]
abbrev dktX9_regiment_4 : List UInt8 := dkwX9_regiment_4 ++ dktX9_regiment_5
def dkwX9_regiment_3 : List UInt8 := [180, 1, 137, 181, 1, 92, 42, 42, 180, 1, 137, 153, 0, 10, 42, 180, 1, 35, 167, 0, 4, 3]
abbrev dktX9_regiment_3 : List UInt8 := dkwX9_regiment_3 ++ dktX9_regiment_4
def dkwX9_regiment_2 : List UInt8 := [180, 1, 146, 181, 0, 115, 42, 42, 180, 1, 152, 181, 1, 179, 42, 42, 180, 1, 51, 181, 1, 182, 42, 42]
abbrev dktX9_regiment_2 : List UInt8 := dkwX9_regiment_2 ++ dktX9_regiment_3
def dkwX9_regiment_1 : List UInt8 := [180, 1, 113, 181, 1, 170, 42, 42, 180, 1, 116, 181, 1, 173, 42, 42, 180, 1, 122, 181, 1, 176, 42, 42]
abbrev dktX9_regiment_1 : List UInt8 := dkwX9_regiment_1 ++ dktX9_regiment_2
def dkwX9_regiment_0 : List UInt8 := [42, 182, 1, 164, 42, 180, 0, 212, 158, 0, 5, 2, 172, 42, 42, 180, 1, 103, 181, 1, 167, 42, 42]
abbrev dktX9_regiment_0 : List UInt8 := dkwX9_regiment_0 ++ dktX9_regiment_1
theorem dksX9_regiment_0 : cX9_regiment.data.toList.drop 0 = dktX9_regiment_0 := by decide +kernel
theorem dksX9_regiment_1 : cX9_regiment.data.toList.drop 23 = dktX9_regiment_1 := dk_seg dksX9_regiment_0 23 rfl rfl
theorem dksX9_regiment_2 : cX9_regiment.data.toList.drop 47 = dktX9_regiment_2 := dk_seg dksX9_regiment_1 24 rfl rfl
theorem dksX9_regiment_3 : cX9_regiment.data.toList.drop 71 = dktX9_regiment_3 := dk_seg dksX9_regiment_2 24 rfl rfl
theorem dksX9_regiment_4 : cX9_regiment.data.toList.drop 93 = dktX9_regiment_4 := dk_seg dksX9_regiment_3 22 rfl rfl
theorem dksX9_regiment_5 : cX9_regiment.data.toList.drop 117 = dktX9_regiment_5 := dk_seg dksX9_regiment_4 24 rfl rfl
theorem dksX9_regiment_6 : cX9_regiment.data.toList.drop 141 = dktX9_regiment_6 := dk_seg dksX9_regiment_5 24 rfl rfl
theorem dksX9_regiment_7 : cX9_regiment.data.toList.drop 165 = dktX9_regiment_7 := dk_seg dksX9_regiment_6 24 rfl rfl
theorem dksX9_regiment_8 : cX9_regiment.data.toList.drop 189 = dktX9_regiment_8 := dk_seg dksX9_regiment_7 24 rfl rfl
theorem dksX9_regiment_9 : cX9_regiment.data.toList.drop 211 = dktX9_regiment_9 := dk_seg dksX9_regiment_8 22 rfl rfl
theorem dksX9_regiment_10 : cX9_regiment.data.toList.drop 235 = dktX9_regiment_10 := dk_seg dksX9_regiment_9 24 rfl rfl
theorem dksX9_regiment_11 : cX9_regiment.data.toList.drop 258 = dktX9_regiment_11 := dk_seg dksX9_regiment_10 23 rfl rfl
theorem dksX9_regiment_12 : cX9_regiment.data.toList.drop 281 = dktX9_regiment_12 := dk_seg dksX9_regiment_11 23 rfl rfl
theorem dksX9_regiment_13 : cX9_regiment.data.toList.drop 305 = dktX9_regiment_13 := dk_seg dksX9_regiment_12 24 rfl rfl
theorem dksX9_regiment_14 : cX9_regiment.data.toList.drop 329 = dktX9_regiment_14 := dk_seg dksX9_regiment_13 24 rfl rfl
theorem dksX9_regiment_15 : cX9_regiment.data.toList.drop 353 = dktX9_regiment_15 := dk_seg dksX9_regiment_14 24 rfl rfl
theorem dksX9_regiment_16 : cX9_regiment.data.toList.drop 377 = dktX9_regiment_16 := dk_seg dksX9_regiment_15 24 rfl rfl
theorem dksX9_regiment_17 : cX9_regiment.data.toList.drop 401 = dktX9_regiment_17 := dk_seg dksX9_regiment_16 24 rfl rfl
theorem dksX9_regiment_18 : cX9_regiment.data.toList.drop 425 = dktX9_regiment_18 := dk_seg dksX9_regiment_17 24 rfl rfl
theorem dX9_regiment_0 : decode cX9_regiment 0 = .ok (.aload_n 0, 1) := dk_42 (dk_at dksX9_regiment_0 0 rfl rfl)
theorem dX9_regiment_1 : decode cX9_regiment 1 = .ok (.invokevirtual 420, 3) := dk_182 1 164 (dk_at dksX9_regiment_0 1 rfl rfl)
theorem dX9_regiment_4 : decode cX9_regiment 4 = .ok (.aload_n 0, 1) := dk_42 (dk_at dksX9_regiment_0 4 rfl rfl)
theorem dX9_regiment_5 : decode cX9_regiment 5 = .ok (.getfield 212, 3) := dk_180 0 212 (dk_at dksX9_regiment_0 5 rfl rfl)
theorem dX9_regiment_8 : decode cX9_regiment 8 = .ok (.ifCond .le 5, 3) := dk_158 0 5 (dk_at dksX9_regiment_0 8 rfl rfl)
theorem dX9_regiment_11 : decode cX9_regiment 11 = .ok (.iconst (-1), 1) := dk_2 (dk_at dksX9_regiment_0 11 rfl rfl)
theorem dX9_regiment_12 : decode cX9_regiment 12 = .ok (.ireturn, 1) := dk_172 (dk_at dksX9_regiment_0 12 rfl rfl)
theorem dX9_regiment_13 : decode cX9_regiment 13 = .ok (.aload_n 0, 1) := dk_42 (dk_at dksX9_regiment_0 13 rfl rfl)
theorem dX9_regiment_14 : decode cX9_regiment 14 = .ok (.aload_n 0, 1) := dk_42 (dk_at dksX9_regiment_0 14 rfl rfl)
theorem dX9_regiment_15 : decode cX9_regiment 15 = .ok (.getfield 359, 3) := dk_180 1 103 (dk_at dksX9_regiment_0 15 rfl rfl)
theorem dX9_regiment_18 : decode cX9_regiment 18 = .ok (.putfield 423, 3) := dk_181 1 167 (dk_at dksX9_regiment_0 18 rfl rfl)
theorem dX9_regiment_21 : decode cX9_regiment 21 = .ok (.aload_n 0, 1) := dk_42 (dk_at dksX9_regiment_0 21 rfl rfl)
theorem dX9_regiment_22 : decode cX9_regiment 22 = .ok (.aload_n 0, 1) := dk_42 (dk_at dksX9_regiment_0 22 rfl rfl)
theorem dX9_regiment_23 : decode cX9_regiment 23 = .ok (.getfield 369, 3) := dk_180 1 113 (dk_at dksX9_regiment_1 0 rfl rfl)
theorem dX9_regiment_26 : decode cX9_regiment 26 = .ok (.putfield 426, 3) := dk_181 1 170 (dk_at dksX9_regiment_1 3 rfl rfl)
theorem dX9_regiment_29 : decode cX9_regiment 29 = .ok (.aload_n 0, 1) := dk_42 (dk_at dksX9_regiment_1 6 rfl rfl)
theorem dX9_regiment_30 : decode cX9_regiment 30 = .ok (.aload_n 0, 1) := dk_42 (dk_at dksX9_regiment_1 7 rfl rfl)
theorem dX9_regiment_31 : decode cX9_regiment 31 = .ok (.getfield 372, 3) := dk_180 1 116 (dk_at dksX9_regiment_1 8 rfl rfl)
theorem dX9_regiment_34 : decode cX9_regiment 34 = .ok (.putfield 429, 3) := dk_181 1 173 (dk_at dksX9_regiment_1 11 rfl rfl)
theorem dX9_regiment_37 : decode cX9_regiment 37 = .ok (.aload_n 0, 1) := dk_42 (dk_at dksX9_regiment_1 14 rfl rfl)
theorem dX9_regiment_38 : decode cX9_regiment 38 = .ok (.aload_n 0, 1) := dk_42 (dk_at dksX9_regiment_1 15 rfl rfl)
theorem dX9_regiment_39 : decode cX9_regiment 39 = .ok (.getfield 378, 3) := dk_180 1 122 (dk_at dksX9_regiment_1 16 rfl rfl)
theorem dX9_regiment_42 : decode cX9_regiment 42 = .ok (.putfield 432, 3) := dk_181 1 176 (dk_at dksX9_regiment_1 19 rfl rfl)
theorem dX9_regiment_45 : decode cX9_regiment 45 = .ok (.aload_n 0, 1) := dk_42 (dk_at dksX9_regiment_1 22 rfl rfl)
theorem dX9_regiment_46 : decode cX9_regiment 46 = .ok (.aload_n 0, 1) := dk_42 (dk_at dksX9_regiment_1 23 rfl rfl)
theorem dX9_regiment_47 : decode cX9_regiment 47 = .ok (.getfield 402, 3) := dk_180 1 146 (dk_at dksX9_regiment_2 0 rfl rfl)
theorem dX9_regiment_50 : decode cX9_regiment 50 = .ok (.putfield 115, 3) := dk_181 0 115 (dk_at dksX9_regiment_2 3 rfl rfl)
theorem dX9_regiment_53 : decode cX9_regiment 53 = .ok (.aload_n 0, 1) := dk_42 (dk_at dksX9_regiment_2 6 rfl rfl)
theorem dX9_regiment_54 : decode cX9_regiment 54 = .ok (.aload_n 0, 1) := dk_42 (dk_at dksX9_regiment_2 7 rfl rfl)
theorem dX9_regiment_55 : decode cX9_regiment 55 = .ok (.getfield 408, 3) := dk_180 1 152 (dk_at dksX9_regiment_2 8 rfl rfl)
theorem dX9_regiment_58 : decode cX9_regiment 58 = .ok (.putfield 435, 3) := dk_181 1 179 (dk_at dksX9_regiment_2 11 rfl rfl)
theorem dX9_regiment_61 : decode cX9_regiment 61 = .ok (.aload_n 0, 1) := dk_42 (dk_at dksX9_regiment_2 14 rfl rfl)
theorem dX9_regiment_62 : decode cX9_regiment 62 = .ok (.aload_n 0, 1) := dk_42 (dk_at dksX9_regiment_2 15 rfl rfl)
theorem dX9_regiment_63 : decode cX9_regiment 63 = .ok (.getfield 307, 3) := dk_180 1 51 (dk_at dksX9_regiment_2 16 rfl rfl)
theorem dX9_regiment_66 : decode cX9_regiment 66 = .ok (.putfield 438, 3) := dk_181 1 182 (dk_at dksX9_regiment_2 19 rfl rfl)
theorem dX9_regiment_69 : decode cX9_regiment 69 = .ok (.aload_n 0, 1) := dk_42 (dk_at dksX9_regiment_2 22 rfl rfl)
theorem dX9_regiment_70 : decode cX9_regiment 70 = .ok (.aload_n 0, 1) := dk_42 (dk_at dksX9_regiment_2 23 rfl rfl)
theorem dX9_regiment_71 : decode cX9_regiment 71 = .ok (.getfield 393, 3) := dk_180 1 137 (dk_at dksX9_regiment_3 0 rfl rfl)
theorem dX9_regiment_74 : decode cX9_regiment 74 = .ok (.putfield 348, 3) := dk_181 1 92 (dk_at dksX9_regiment_3 3 rfl rfl)
theorem dX9_regiment_77 : decode cX9_regiment 77 = .ok (.aload_n 0, 1) := dk_42 (dk_at dksX9_regiment_3 6 rfl rfl)
theorem dX9_regiment_78 : decode cX9_regiment 78 = .ok (.aload_n 0, 1) := dk_42 (dk_at dksX9_regiment_3 7 rfl rfl)
theorem dX9_regiment_79 : decode cX9_regiment 79 = .ok (.getfield 393, 3) := dk_180 1 137 (dk_at dksX9_regiment_3 8 rfl rfl)
theorem dX9_regiment_82 : decode cX9_regiment 82 = .ok (.ifCond .eq 10, 3) := dk_153 0 10 (dk_at dksX9_regiment_3 11 rfl rfl)
theorem dX9_regiment_85 : decode cX9_regiment 85 = .ok (.aload_n 0, 1) := dk_42 (dk_at dksX9_regiment_3 14 rfl rfl)
theorem dX9_regiment_86 : decode cX9_regiment 86 = .ok (.getfield 291, 3) := dk_180 1 35 (dk_at dksX9_regiment_3 15 rfl rfl)
theorem dX9_regiment_89 : decode cX9_regiment 89 = .ok (.goto 4, 3) := dk_167 0 4 (dk_at dksX9_regiment_3 18 rfl rfl)
theorem dX9_regiment_92 : decode cX9_regiment 92 = .ok (.iconst 0, 1) := dk_3 (dk_at dksX9_regiment_3 21 rfl rfl)
theorem dX9_regiment_93 : decode cX9_regiment 93 = .ok (.putfield 352, 3) := dk_181 1 96 (dk_at dksX9_regiment_4 0 rfl rfl)
theorem dX9_regiment_96 : decode cX9_regiment 96 = .ok (.iconst 0, 1) := dk_3 (dk_at dksX9_regiment_4 3 rfl rfl)
theorem dX9_regiment_97 : decode cX9_regiment 97 = .ok (.istore_n 1, 1) := dk_60 (dk_at dksX9_regiment_4 4 rfl rfl)
theorem dX9_regiment_98 : decode cX9_regiment 98 = .ok (.iload_n 1, 1) := dk_27 (dk_at dksX9_regiment_4 5 rfl rfl)
theorem dX9_regiment_99 : decode cX9_regiment 99 = .ok (.aload_n 0, 1) := dk_42 (dk_at dksX9_regiment_4 6 rfl rfl)
theorem dX9_regiment_100 : decode cX9_regiment 100 = .ok (.getfield 352, 3) := dk_180 1 96 (dk_at dksX9_regiment_4 7 rfl rfl)
theorem dX9_regiment_103 : decode cX9_regiment 103 = .ok (.if_icmp .ge 33, 3) := dk_162 0 33 (dk_at dksX9_regiment_4 10 rfl rfl)
theorem dX9_regiment_106 : decode cX9_regiment 106 = .ok (.aload_n 0, 1) := dk_42 (dk_at dksX9_regiment_4 13 rfl rfl)
theorem dX9_regiment_107 : decode cX9_regiment 107 = .ok (.getfield 27, 3) := dk_180 0 27 (dk_at dksX9_regiment_4 14 rfl rfl)
theorem dX9_regiment_110 : decode cX9_regiment 110 = .ok (.iload_n 1, 1) := dk_27 (dk_at dksX9_regiment_4 17 rfl rfl)
theorem dX9_regiment_111 : decode cX9_regiment 111 = .ok (.aload_n 0, 1) := dk_42 (dk_at dksX9_regiment_4 18 rfl rfl)
theorem dX9_regiment_112 : decode cX9_regiment 112 = .ok (.getfield 21, 3) := dk_180 0 21 (dk_at dksX9_regiment_4 19 rfl rfl)
theorem dX9_regiment_115 : decode cX9_regiment 115 = .ok (.iload_n 1, 1) := dk_27 (dk_at dksX9_regiment_4 22 rfl rfl)
theorem dX9_regiment_116 : decode cX9_regiment 116 = .ok (.iaload, 1) := dk_46 (dk_at dksX9_regiment_4 23 rfl rfl)
theorem dX9_regiment_117 : decode cX9_regiment 117 = .ok (.iastore, 1) := dk_79 (dk_at dksX9_regiment_5 0 rfl rfl)
theorem dX9_regiment_118 : decode cX9_regiment 118 = .ok (.aload_n 0, 1) := dk_42 (dk_at dksX9_regiment_5 1 rfl rfl)
theorem dX9_regiment_119 : decode cX9_regiment 119 = .ok (.getfield 30, 3) := dk_180 0 30 (dk_at dksX9_regiment_5 2 rfl rfl)
theorem dX9_regiment_122 : decode cX9_regiment 122 = .ok (.iload_n 1, 1) := dk_27 (dk_at dksX9_regiment_5 5 rfl rfl)
theorem dX9_regiment_123 : decode cX9_regiment 123 = .ok (.aload_n 0, 1) := dk_42 (dk_at dksX9_regiment_5 6 rfl rfl)
theorem dX9_regiment_124 : decode cX9_regiment 124 = .ok (.getfield 24, 3) := dk_180 0 24 (dk_at dksX9_regiment_5 7 rfl rfl)
theorem dX9_regiment_127 : decode cX9_regiment 127 = .ok (.iload_n 1, 1) := dk_27 (dk_at dksX9_regiment_5 10 rfl rfl)
theorem dX9_regiment_128 : decode cX9_regiment 128 = .ok (.iaload, 1) := dk_46 (dk_at dksX9_regiment_5 11 rfl rfl)
theorem dX9_regiment_129 : decode cX9_regiment 129 = .ok (.iastore, 1) := dk_79 (dk_at dksX9_regiment_5 12 rfl rfl)
theorem dX9_regiment_130 : decode cX9_regiment 130 = .ok (.iinc 1 1, 3) := dk_132 1 1 (dk_at dksX9_regiment_5 13 rfl rfl)
theorem dX9_regiment_133 : decode cX9_regiment 133 = .ok (.goto (-35), 3) := dk_167 255 221 (dk_at dksX9_regiment_5 16 rfl rfl)
theorem dX9_regiment_136 : decode cX9_regiment 136 = .ok (.iconst 0, 1) := dk_3 (dk_at dksX9_regiment_5 19 rfl rfl)
theorem dX9_regiment_137 : decode cX9_regiment 137 = .ok (.istore_n 1, 1) := dk_60 (dk_at dksX9_regiment_5 20 rfl rfl)
theorem dX9_regiment_138 : decode cX9_regiment 138 = .ok (.iload_n 1, 1) := dk_27 (dk_at dksX9_regiment_5 21 rfl rfl)
theorem dX9_regiment_139 : decode cX9_regiment 139 = .ok (.bipush 6, 2) := dk_16 6 (dk_at dksX9_regiment_5 22 rfl rfl)
theorem dX9_regiment_141 : decode cX9_regiment 141 = .ok (.if_icmp .ge 93, 3) := dk_162 0 93 (dk_at dksX9_regiment_6 0 rfl rfl)
theorem dX9_regiment_144 : decode cX9_regiment 144 = .ok (.aload_n 0, 1) := dk_42 (dk_at dksX9_regiment_6 3 rfl rfl)
theorem dX9_regiment_145 : decode cX9_regiment 145 = .ok (.getfield 57, 3) := dk_180 0 57 (dk_at dksX9_regiment_6 4 rfl rfl)
theorem dX9_regiment_148 : decode cX9_regiment 148 = .ok (.iload_n 1, 1) := dk_27 (dk_at dksX9_regiment_6 7 rfl rfl)
theorem dX9_regiment_149 : decode cX9_regiment 149 = .ok (.aload_n 0, 1) := dk_42 (dk_at dksX9_regiment_6 8 rfl rfl)
theorem dX9_regiment_150 : decode cX9_regiment 150 = .ok (.getfield 42, 3) := dk_180 0 42 (dk_at dksX9_regiment_6 9 rfl rfl)
theorem dX9_regiment_153 : decode cX9_regiment 153 = .ok (.iload_n 1, 1) := dk_27 (dk_at dksX9_regiment_6 12 rfl rfl)
theorem dX9_regiment_154 : decode cX9_regiment 154 = .ok (.iaload, 1) := dk_46 (dk_at dksX9_regiment_6 13 rfl rfl)
theorem dX9_regiment_155 : decode cX9_regiment 155 = .ok (.iastore, 1) := dk_79 (dk_at dksX9_regiment_6 14 rfl rfl)
theorem dX9_regiment_156 : decode cX9_regiment 156 = .ok (.aload_n 0, 1) := dk_42 (dk_at dksX9_regiment_6 15 rfl rfl)
theorem dX9_regiment_157 : decode cX9_regiment 157 = .ok (.getfield 60, 3) := dk_180 0 60 (dk_at dksX9_regiment_6 16 rfl rfl)
theorem dX9_regiment_160 : decode cX9_regiment 160 = .ok (.iload_n 1, 1) := dk_27 (dk_at dksX9_regiment_6 19 rfl rfl)
theorem dX9_regiment_161 : decode cX9_regiment 161 = .ok (.aload_n 0, 1) := dk_42 (dk_at dksX9_regiment_6 20 rfl rfl)
theorem dX9_regiment_162 : decode cX9_regiment 162 = .ok (.getfield 45, 3) := dk_180 0 45 (dk_at dksX9_regiment_6 21 rfl rfl)
theorem dX9_regiment_165 : decode cX9_regiment 165 = .ok (.iload_n 1, 1) := dk_27 (dk_at dksX9_regiment_7 0 rfl rfl)
theorem dX9_regiment_166 : decode cX9_regiment 166 = .ok (.iaload, 1) := dk_46 (dk_at dksX9_regiment_7 1 rfl rfl)
theorem dX9_regiment_167 : decode cX9_regiment 167 = .ok (.iastore, 1) := dk_79 (dk_at dksX9_regiment_7 2 rfl rfl)
theorem dX9_regiment_168 : decode cX9_regiment 168 = .ok (.aload_n 0, 1) := dk_42 (dk_at dksX9_regiment_7 3 rfl rfl)
theorem dX9_regiment_169 : decode cX9_regiment 169 = .ok (.getfield 63, 3) := dk_180 0 63 (dk_at dksX9_regiment_7 4 rfl rfl)
theorem dX9_regiment_172 : decode cX9_regiment 172 = .ok (.iload_n 1, 1) := dk_27 (dk_at dksX9_regiment_7 7 rfl rfl)
theorem dX9_regiment_173 : decode cX9_regiment 173 = .ok (.aload_n 0, 1) := dk_42 (dk_at dksX9_regiment_7 8 rfl rfl)
theorem dX9_regiment_174 : decode cX9_regiment 174 = .ok (.getfield 48, 3) := dk_180 0 48 (dk_at dksX9_regiment_7 9 rfl rfl)
theorem dX9_regiment_177 : decode cX9_regiment 177 = .ok (.iload_n 1, 1) := dk_27 (dk_at dksX9_regiment_7 12 rfl rfl)
theorem dX9_regiment_178 : decode cX9_regiment 178 = .ok (.iaload, 1) := dk_46 (dk_at dksX9_regiment_7 13 rfl rfl)
theorem dX9_regiment_179 : decode cX9_regiment 179 = .ok (.iastore, 1) := dk_79 (dk_at dksX9_regiment_7 14 rfl rfl)
theorem dX9_regiment_180 : decode cX9_regiment 180 = .ok (.aload_n 0, 1) := dk_42 (dk_at dksX9_regiment_7 15 rfl rfl)
theorem dX9_regiment_181 : decode cX9_regiment 181 = .ok (.getfield 66, 3) := dk_180 0 66 (dk_at dksX9_regiment_7 16 rfl rfl)
theorem dX9_regiment_184 : decode cX9_regiment 184 = .ok (.iload_n 1, 1) := dk_27 (dk_at dksX9_regiment_7 19 rfl rfl)
theorem dX9_regiment_185 : decode cX9_regiment 185 = .ok (.aload_n 0, 1) := dk_42 (dk_at dksX9_regiment_7 20 rfl rfl)
theorem dX9_regiment_186 : decode cX9_regiment 186 = .ok (.getfield 51, 3) := dk_180 0 51 (dk_at dksX9_regiment_7 21 rfl rfl)
theorem dX9_regiment_189 : decode cX9_regiment 189 = .ok (.iload_n 1, 1) := dk_27 (dk_at dksX9_regiment_8 0 rfl rfl)
theorem dX9_regiment_190 : decode cX9_regiment 190 = .ok (.iaload, 1) := dk_46 (dk_at dksX9_regiment_8 1 rfl rfl)
theorem dX9_regiment_191 : decode cX9_regiment 191 = .ok (.iastore, 1) := dk_79 (dk_at dksX9_regiment_8 2 rfl rfl)
theorem dX9_regiment_192 : decode cX9_regiment 192 = .ok (.iconst 0, 1) := dk_3 (dk_at dksX9_regiment_8 3 rfl rfl)
theorem dX9_regiment_193 : decode cX9_regiment 193 = .ok (.istore_n 2, 1) := dk_61 (dk_at dksX9_regiment_8 4 rfl rfl)
theorem dX9_regiment_194 : decode cX9_regiment 194 = .ok (.iload_n 2, 1) := dk_28 (dk_at dksX9_regiment_8 5 rfl rfl)
theorem dX9_regiment_195 : decode cX9_regiment 195 = .ok (.bipush 6, 2) := dk_16 6 (dk_at dksX9_regiment_8 6 rfl rfl)
theorem dX9_regiment_197 : decode cX9_regiment 197 = .ok (.if_icmp .ge 31, 3) := dk_162 0 31 (dk_at dksX9_regiment_8 8 rfl rfl)
theorem dX9_regiment_200 : decode cX9_regiment 200 = .ok (.aload_n 0, 1) := dk_42 (dk_at dksX9_regiment_8 11 rfl rfl)
theorem dX9_regiment_201 : decode cX9_regiment 201 = .ok (.getfield 69, 3) := dk_180 0 69 (dk_at dksX9_regiment_8 12 rfl rfl)
theorem dX9_regiment_204 : decode cX9_regiment 204 = .ok (.bipush 6, 2) := dk_16 6 (dk_at dksX9_regiment_8 15 rfl rfl)
theorem dX9_regiment_206 : decode cX9_regiment 206 = .ok (.iload_n 1, 1) := dk_27 (dk_at dksX9_regiment_8 17 rfl rfl)
theorem dX9_regiment_207 : decode cX9_regiment 207 = .ok (.imul, 1) := dk_104 (dk_at dksX9_regiment_8 18 rfl rfl)
theorem dX9_regiment_208 : decode cX9_regiment 208 = .ok (.iload_n 2, 1) := dk_28 (dk_at dksX9_regiment_8 19 rfl rfl)
theorem dX9_regiment_209 : decode cX9_regiment 209 = .ok (.iadd, 1) := dk_96 (dk_at dksX9_regiment_8 20 rfl rfl)
theorem dX9_regiment_210 : decode cX9_regiment 210 = .ok (.aload_n 0, 1) := dk_42 (dk_at dksX9_regiment_8 21 rfl rfl)
theorem dX9_regiment_211 : decode cX9_regiment 211 = .ok (.getfield 54, 3) := dk_180 0 54 (dk_at dksX9_regiment_9 0 rfl rfl)
theorem dX9_regiment_214 : decode cX9_regiment 214 = .ok (.bipush 6, 2) := dk_16 6 (dk_at dksX9_regiment_9 3 rfl rfl)
theorem dX9_regiment_216 : decode cX9_regiment 216 = .ok (.iload_n 1, 1) := dk_27 (dk_at dksX9_regiment_9 5 rfl rfl)
theorem dX9_regiment_217 : decode cX9_regiment 217 = .ok (.imul, 1) := dk_104 (dk_at dksX9_regiment_9 6 rfl rfl)
theorem dX9_regiment_218 : decode cX9_regiment 218 = .ok (.iload_n 2, 1) := dk_28 (dk_at dksX9_regiment_9 7 rfl rfl)
theorem dX9_regiment_219 : decode cX9_regiment 219 = .ok (.iadd, 1) := dk_96 (dk_at dksX9_regiment_9 8 rfl rfl)
theorem dX9_regiment_220 : decode cX9_regiment 220 = .ok (.iaload, 1) := dk_46 (dk_at dksX9_regiment_9 9 rfl rfl)
theorem dX9_regiment_221 : decode cX9_regiment 221 = .ok (.iastore, 1) := dk_79 (dk_at dksX9_regiment_9 10 rfl rfl)
theorem dX9_regiment_222 : decode cX9_regiment 222 = .ok (.iinc 2 1, 3) := dk_132 2 1 (dk_at dksX9_regiment_9 11 rfl rfl)
theorem dX9_regiment_225 : decode cX9_regiment 225 = .ok (.goto (-31), 3) := dk_167 255 225 (dk_at dksX9_regiment_9 14 rfl rfl)
theorem dX9_regiment_228 : decode cX9_regiment 228 = .ok (.iinc 1 1, 3) := dk_132 1 1 (dk_at dksX9_regiment_9 17 rfl rfl)
theorem dX9_regiment_231 : decode cX9_regiment 231 = .ok (.goto (-93), 3) := dk_167 255 163 (dk_at dksX9_regiment_9 20 rfl rfl)
theorem dX9_regiment_234 : decode cX9_regiment 234 = .ok (.iconst 0, 1) := dk_3 (dk_at dksX9_regiment_9 23 rfl rfl)
theorem dX9_regiment_235 : decode cX9_regiment 235 = .ok (.istore_n 1, 1) := dk_60 (dk_at dksX9_regiment_10 0 rfl rfl)
theorem dX9_regiment_236 : decode cX9_regiment 236 = .ok (.iload_n 1, 1) := dk_27 (dk_at dksX9_regiment_10 1 rfl rfl)
theorem dX9_regiment_237 : decode cX9_regiment 237 = .ok (.bipush 23, 2) := dk_16 23 (dk_at dksX9_regiment_10 2 rfl rfl)
theorem dX9_regiment_239 : decode cX9_regiment 239 = .ok (.if_icmp .ge 16, 3) := dk_162 0 16 (dk_at dksX9_regiment_10 4 rfl rfl)
theorem dX9_regiment_242 : decode cX9_regiment 242 = .ok (.aload_n 0, 1) := dk_42 (dk_at dksX9_regiment_10 7 rfl rfl)
theorem dX9_regiment_243 : decode cX9_regiment 243 = .ok (.getfield 118, 3) := dk_180 0 118 (dk_at dksX9_regiment_10 8 rfl rfl)
theorem dX9_regiment_246 : decode cX9_regiment 246 = .ok (.iload_n 1, 1) := dk_27 (dk_at dksX9_regiment_10 11 rfl rfl)
theorem dX9_regiment_247 : decode cX9_regiment 247 = .ok (.iconst 0, 1) := dk_3 (dk_at dksX9_regiment_10 12 rfl rfl)
theorem dX9_regiment_248 : decode cX9_regiment 248 = .ok (.iastore, 1) := dk_79 (dk_at dksX9_regiment_10 13 rfl rfl)
theorem dX9_regiment_249 : decode cX9_regiment 249 = .ok (.iinc 1 1, 3) := dk_132 1 1 (dk_at dksX9_regiment_10 14 rfl rfl)
theorem dX9_regiment_252 : decode cX9_regiment 252 = .ok (.goto (-16), 3) := dk_167 255 240 (dk_at dksX9_regiment_10 17 rfl rfl)
theorem dX9_regiment_255 : decode cX9_regiment 255 = .ok (.iconst 0, 1) := dk_3 (dk_at dksX9_regiment_10 20 rfl rfl)
theorem dX9_regiment_256 : decode cX9_regiment 256 = .ok (.istore_n 1, 1) := dk_60 (dk_at dksX9_regiment_10 21 rfl rfl)
theorem dX9_regiment_257 : decode cX9_regiment 257 = .ok (.iload_n 1, 1) := dk_27 (dk_at dksX9_regiment_10 22 rfl rfl)
theorem dX9_regiment_258 : decode cX9_regiment 258 = .ok (.bipush 10, 2) := dk_16 10 (dk_at dksX9_regiment_11 0 rfl rfl)
theorem dX9_regiment_260 : decode cX9_regiment 260 = .ok (.if_icmp .ge 120, 3) := dk_162 0 120 (dk_at dksX9_regiment_11 2 rfl rfl)
theorem dX9_regiment_263 : decode cX9_regiment 263 = .ok (.aload_n 0, 1) := dk_42 (dk_at dksX9_regiment_11 5 rfl rfl)
theorem dX9_regiment_264 : decode cX9_regiment 264 = .ok (.getfield 90, 3) := dk_180 0 90 (dk_at dksX9_regiment_11 6 rfl rfl)
theorem dX9_regiment_267 : decode cX9_regiment 267 = .ok (.iload_n 1, 1) := dk_27 (dk_at dksX9_regiment_11 9 rfl rfl)
theorem dX9_regiment_268 : decode cX9_regiment 268 = .ok (.aload_n 0, 1) := dk_42 (dk_at dksX9_regiment_11 10 rfl rfl)
theorem dX9_regiment_269 : decode cX9_regiment 269 = .ok (.getfield 72, 3) := dk_180 0 72 (dk_at dksX9_regiment_11 11 rfl rfl)
theorem dX9_regiment_272 : decode cX9_regiment 272 = .ok (.iload_n 1, 1) := dk_27 (dk_at dksX9_regiment_11 14 rfl rfl)
theorem dX9_regiment_273 : decode cX9_regiment 273 = .ok (.iaload, 1) := dk_46 (dk_at dksX9_regiment_11 15 rfl rfl)
theorem dX9_regiment_274 : decode cX9_regiment 274 = .ok (.iastore, 1) := dk_79 (dk_at dksX9_regiment_11 16 rfl rfl)
theorem dX9_regiment_275 : decode cX9_regiment 275 = .ok (.aload_n 0, 1) := dk_42 (dk_at dksX9_regiment_11 17 rfl rfl)
theorem dX9_regiment_276 : decode cX9_regiment 276 = .ok (.getfield 93, 3) := dk_180 0 93 (dk_at dksX9_regiment_11 18 rfl rfl)
theorem dX9_regiment_279 : decode cX9_regiment 279 = .ok (.iload_n 1, 1) := dk_27 (dk_at dksX9_regiment_11 21 rfl rfl)
theorem dX9_regiment_280 : decode cX9_regiment 280 = .ok (.aload_n 0, 1) := dk_42 (dk_at dksX9_regiment_11 22 rfl rfl)
theorem dX9_regiment_281 : decode cX9_regiment 281 = .ok (.getfield 75, 3) := dk_180 0 75 (dk_at dksX9_regiment_12 0 rfl rfl)
theorem dX9_regiment_284 : decode cX9_regiment 284 = .ok (.iload_n 1, 1) := dk_27 (dk_at dksX9_regiment_12 3 rfl rfl)
theorem dX9_regiment_285 : decode cX9_regiment 285 = .ok (.iaload, 1) := dk_46 (dk_at dksX9_regiment_12 4 rfl rfl)
theorem dX9_regiment_286 : decode cX9_regiment 286 = .ok (.iastore, 1) := dk_79 (dk_at dksX9_regiment_12 5 rfl rfl)
theorem dX9_regiment_287 : decode cX9_regiment 287 = .ok (.aload_n 0, 1) := dk_42 (dk_at dksX9_regiment_12 6 rfl rfl)
theorem dX9_regiment_288 : decode cX9_regiment 288 = .ok (.getfield 96, 3) := dk_180 0 96 (dk_at dksX9_regiment_12 7 rfl rfl)
theorem dX9_regiment_291 : decode cX9_regiment 291 = .ok (.iload_n 1, 1) := dk_27 (dk_at dksX9_regiment_12 10 rfl rfl)
theorem dX9_regiment_292 : decode cX9_regiment 292 = .ok (.aload_n 0, 1) := dk_42 (dk_at dksX9_regiment_12 11 rfl rfl)
theorem dX9_regiment_293 : decode cX9_regiment 293 = .ok (.getfield 78, 3) := dk_180 0 78 (dk_at dksX9_regiment_12 12 rfl rfl)
theorem dX9_regiment_296 : decode cX9_regiment 296 = .ok (.iload_n 1, 1) := dk_27 (dk_at dksX9_regiment_12 15 rfl rfl)
theorem dX9_regiment_297 : decode cX9_regiment 297 = .ok (.iaload, 1) := dk_46 (dk_at dksX9_regiment_12 16 rfl rfl)
theorem dX9_regiment_298 : decode cX9_regiment 298 = .ok (.iastore, 1) := dk_79 (dk_at dksX9_regiment_12 17 rfl rfl)
theorem dX9_regiment_299 : decode cX9_regiment 299 = .ok (.aload_n 0, 1) := dk_42 (dk_at dksX9_regiment_12 18 rfl rfl)
theorem dX9_regiment_300 : decode cX9_regiment 300 = .ok (.getfield 112, 3) := dk_180 0 112 (dk_at dksX9_regiment_12 19 rfl rfl)
theorem dX9_regiment_303 : decode cX9_regiment 303 = .ok (.iload_n 1, 1) := dk_27 (dk_at dksX9_regiment_12 22 rfl rfl)
theorem dX9_regiment_304 : decode cX9_regiment 304 = .ok (.aload_n 0, 1) := dk_42 (dk_at dksX9_regiment_12 23 rfl rfl)
theorem dX9_regiment_305 : decode cX9_regiment 305 = .ok (.getfield 108, 3) := dk_180 0 108 (dk_at dksX9_regiment_13 0 rfl rfl)
theorem dX9_regiment_308 : decode cX9_regiment 308 = .ok (.iload_n 1, 1) := dk_27 (dk_at dksX9_regiment_13 3 rfl rfl)
theorem dX9_regiment_309 : decode cX9_regiment 309 = .ok (.baload, 1) := dk_51 (dk_at dksX9_regiment_13 4 rfl rfl)
theorem dX9_regiment_310 : decode cX9_regiment 310 = .ok (.bastore, 1) := dk_84 (dk_at dksX9_regiment_13 5 rfl rfl)
theorem dX9_regiment_311 : decode cX9_regiment 311 = .ok (.aload_n 0, 1) := dk_42 (dk_at dksX9_regiment_13 6 rfl rfl)
theorem dX9_regiment_312 : decode cX9_regiment 312 = .ok (.getfield 99, 3) := dk_180 0 99 (dk_at dksX9_regiment_13 7 rfl rfl)
theorem dX9_regiment_315 : decode cX9_regiment 315 = .ok (.iload_n 1, 1) := dk_27 (dk_at dksX9_regiment_13 10 rfl rfl)
theorem dX9_regiment_316 : decode cX9_regiment 316 = .ok (.aload_n 0, 1) := dk_42 (dk_at dksX9_regiment_13 11 rfl rfl)
theorem dX9_regiment_317 : decode cX9_regiment 317 = .ok (.getfield 81, 3) := dk_180 0 81 (dk_at dksX9_regiment_13 12 rfl rfl)
theorem dX9_regiment_320 : decode cX9_regiment 320 = .ok (.iload_n 1, 1) := dk_27 (dk_at dksX9_regiment_13 15 rfl rfl)
theorem dX9_regiment_321 : decode cX9_regiment 321 = .ok (.iaload, 1) := dk_46 (dk_at dksX9_regiment_13 16 rfl rfl)
theorem dX9_regiment_322 : decode cX9_regiment 322 = .ok (.iastore, 1) := dk_79 (dk_at dksX9_regiment_13 17 rfl rfl)
theorem dX9_regiment_323 : decode cX9_regiment 323 = .ok (.aload_n 0, 1) := dk_42 (dk_at dksX9_regiment_13 18 rfl rfl)
theorem dX9_regiment_324 : decode cX9_regiment 324 = .ok (.getfield 102, 3) := dk_180 0 102 (dk_at dksX9_regiment_13 19 rfl rfl)
theorem dX9_regiment_327 : decode cX9_regiment 327 = .ok (.iload_n 1, 1) := dk_27 (dk_at dksX9_regiment_13 22 rfl rfl)
theorem dX9_regiment_328 : decode cX9_regiment 328 = .ok (.aload_n 0, 1) := dk_42 (dk_at dksX9_regiment_13 23 rfl rfl)
theorem dX9_regiment_329 : decode cX9_regiment 329 = .ok (.getfield 84, 3) := dk_180 0 84 (dk_at dksX9_regiment_14 0 rfl rfl)
theorem dX9_regiment_332 : decode cX9_regiment 332 = .ok (.iload_n 1, 1) := dk_27 (dk_at dksX9_regiment_14 3 rfl rfl)
theorem dX9_regiment_333 : decode cX9_regiment 333 = .ok (.iaload, 1) := dk_46 (dk_at dksX9_regiment_14 4 rfl rfl)
theorem dX9_regiment_334 : decode cX9_regiment 334 = .ok (.iastore, 1) := dk_79 (dk_at dksX9_regiment_14 5 rfl rfl)
theorem dX9_regiment_335 : decode cX9_regiment 335 = .ok (.aload_n 0, 1) := dk_42 (dk_at dksX9_regiment_14 6 rfl rfl)
theorem dX9_regiment_336 : decode cX9_regiment 336 = .ok (.getfield 105, 3) := dk_180 0 105 (dk_at dksX9_regiment_14 7 rfl rfl)
theorem dX9_regiment_339 : decode cX9_regiment 339 = .ok (.iload_n 1, 1) := dk_27 (dk_at dksX9_regiment_14 10 rfl rfl)
theorem dX9_regiment_340 : decode cX9_regiment 340 = .ok (.aload_n 0, 1) := dk_42 (dk_at dksX9_regiment_14 11 rfl rfl)
theorem dX9_regiment_341 : decode cX9_regiment 341 = .ok (.getfield 87, 3) := dk_180 0 87 (dk_at dksX9_regiment_14 12 rfl rfl)
theorem dX9_regiment_344 : decode cX9_regiment 344 = .ok (.iload_n 1, 1) := dk_27 (dk_at dksX9_regiment_14 15 rfl rfl)
theorem dX9_regiment_345 : decode cX9_regiment 345 = .ok (.iaload, 1) := dk_46 (dk_at dksX9_regiment_14 16 rfl rfl)
theorem dX9_regiment_346 : decode cX9_regiment 346 = .ok (.iastore, 1) := dk_79 (dk_at dksX9_regiment_14 17 rfl rfl)
theorem dX9_regiment_347 : decode cX9_regiment 347 = .ok (.aload_n 0, 1) := dk_42 (dk_at dksX9_regiment_14 18 rfl rfl)
theorem dX9_regiment_348 : decode cX9_regiment 348 = .ok (.getfield 118, 3) := dk_180 0 118 (dk_at dksX9_regiment_14 19 rfl rfl)
theorem dX9_regiment_351 : decode cX9_regiment 351 = .ok (.bipush 10, 2) := dk_16 10 (dk_at dksX9_regiment_14 22 rfl rfl)
theorem dX9_regiment_353 : decode cX9_regiment 353 = .ok (.iload_n 1, 1) := dk_27 (dk_at dksX9_regiment_15 0 rfl rfl)
theorem dX9_regiment_354 : decode cX9_regiment 354 = .ok (.iadd, 1) := dk_96 (dk_at dksX9_regiment_15 1 rfl rfl)
theorem dX9_regiment_355 : decode cX9_regiment 355 = .ok (.iload_n 1, 1) := dk_27 (dk_at dksX9_regiment_15 2 rfl rfl)
theorem dX9_regiment_356 : decode cX9_regiment 356 = .ok (.aload_n 0, 1) := dk_42 (dk_at dksX9_regiment_15 3 rfl rfl)
theorem dX9_regiment_357 : decode cX9_regiment 357 = .ok (.getfield 429, 3) := dk_180 1 173 (dk_at dksX9_regiment_15 4 rfl rfl)
theorem dX9_regiment_360 : decode cX9_regiment 360 = .ok (.if_icmp .ge 12, 3) := dk_162 0 12 (dk_at dksX9_regiment_15 7 rfl rfl)
theorem dX9_regiment_363 : decode cX9_regiment 363 = .ok (.aload_n 0, 1) := dk_42 (dk_at dksX9_regiment_15 10 rfl rfl)
theorem dX9_regiment_364 : decode cX9_regiment 364 = .ok (.getfield 84, 3) := dk_180 0 84 (dk_at dksX9_regiment_15 11 rfl rfl)
theorem dX9_regiment_367 : decode cX9_regiment 367 = .ok (.iload_n 1, 1) := dk_27 (dk_at dksX9_regiment_15 14 rfl rfl)
theorem dX9_regiment_368 : decode cX9_regiment 368 = .ok (.iaload, 1) := dk_46 (dk_at dksX9_regiment_15 15 rfl rfl)
theorem dX9_regiment_369 : decode cX9_regiment 369 = .ok (.goto 4, 3) := dk_167 0 4 (dk_at dksX9_regiment_15 16 rfl rfl)
theorem dX9_regiment_372 : decode cX9_regiment 372 = .ok (.iconst 0, 1) := dk_3 (dk_at dksX9_regiment_15 19 rfl rfl)
theorem dX9_regiment_373 : decode cX9_regiment 373 = .ok (.iastore, 1) := dk_79 (dk_at dksX9_regiment_15 20 rfl rfl)
theorem dX9_regiment_374 : decode cX9_regiment 374 = .ok (.iinc 1 1, 3) := dk_132 1 1 (dk_at dksX9_regiment_15 21 rfl rfl)
theorem dX9_regiment_377 : decode cX9_regiment 377 = .ok (.goto (-120), 3) := dk_167 255 136 (dk_at dksX9_regiment_16 0 rfl rfl)
theorem dX9_regiment_380 : decode cX9_regiment 380 = .ok (.aload_n 0, 1) := dk_42 (dk_at dksX9_regiment_16 3 rfl rfl)
theorem dX9_regiment_381 : decode cX9_regiment 381 = .ok (.getfield 118, 3) := dk_180 0 118 (dk_at dksX9_regiment_16 4 rfl rfl)
theorem dX9_regiment_384 : decode cX9_regiment 384 = .ok (.bipush 21, 2) := dk_16 21 (dk_at dksX9_regiment_16 7 rfl rfl)
theorem dX9_regiment_386 : decode cX9_regiment 386 = .ok (.aload_n 0, 1) := dk_42 (dk_at dksX9_regiment_16 9 rfl rfl)
theorem dX9_regiment_387 : decode cX9_regiment 387 = .ok (.getfield 414, 3) := dk_180 1 158 (dk_at dksX9_regiment_16 10 rfl rfl)
theorem dX9_regiment_390 : decode cX9_regiment 390 = .ok (.iastore, 1) := dk_79 (dk_at dksX9_regiment_16 13 rfl rfl)
theorem dX9_regiment_391 : decode cX9_regiment 391 = .ok (.aload_n 0, 1) := dk_42 (dk_at dksX9_regiment_16 14 rfl rfl)
theorem dX9_regiment_392 : decode cX9_regiment 392 = .ok (.iconst 0, 1) := dk_3 (dk_at dksX9_regiment_16 15 rfl rfl)
theorem dX9_regiment_393 : decode cX9_regiment 393 = .ok (.putfield 441, 3) := dk_181 1 185 (dk_at dksX9_regiment_16 16 rfl rfl)
theorem dX9_regiment_396 : decode cX9_regiment 396 = .ok (.aload_n 0, 1) := dk_42 (dk_at dksX9_regiment_16 19 rfl rfl)
theorem dX9_regiment_397 : decode cX9_regiment 397 = .ok (.iconst 0, 1) := dk_3 (dk_at dksX9_regiment_16 20 rfl rfl)
theorem dX9_regiment_398 : decode cX9_regiment 398 = .ok (.putfield 444, 3) := dk_181 1 188 (dk_at dksX9_regiment_16 21 rfl rfl)
theorem dX9_regiment_401 : decode cX9_regiment 401 = .ok (.aload_n 0, 1) := dk_42 (dk_at dksX9_regiment_17 0 rfl rfl)
theorem dX9_regiment_402 : decode cX9_regiment 402 = .ok (.iconst 0, 1) := dk_3 (dk_at dksX9_regiment_17 1 rfl rfl)
theorem dX9_regiment_403 : decode cX9_regiment 403 = .ok (.putfield 447, 3) := dk_181 1 191 (dk_at dksX9_regiment_17 2 rfl rfl)
theorem dX9_regiment_406 : decode cX9_regiment 406 = .ok (.aload_n 0, 1) := dk_42 (dk_at dksX9_regiment_17 5 rfl rfl)
theorem dX9_regiment_407 : decode cX9_regiment 407 = .ok (.iconst 0, 1) := dk_3 (dk_at dksX9_regiment_17 6 rfl rfl)
theorem dX9_regiment_408 : decode cX9_regiment 408 = .ok (.putfield 450, 3) := dk_181 1 194 (dk_at dksX9_regiment_17 7 rfl rfl)
theorem dX9_regiment_411 : decode cX9_regiment 411 = .ok (.iconst 0, 1) := dk_3 (dk_at dksX9_regiment_17 10 rfl rfl)
theorem dX9_regiment_412 : decode cX9_regiment 412 = .ok (.istore_n 1, 1) := dk_60 (dk_at dksX9_regiment_17 11 rfl rfl)
theorem dX9_regiment_413 : decode cX9_regiment 413 = .ok (.iload_n 1, 1) := dk_27 (dk_at dksX9_regiment_17 12 rfl rfl)
theorem dX9_regiment_414 : decode cX9_regiment 414 = .ok (.iconst 3, 1) := dk_6 (dk_at dksX9_regiment_17 13 rfl rfl)
theorem dX9_regiment_415 : decode cX9_regiment 415 = .ok (.if_icmp .ge 16, 3) := dk_162 0 16 (dk_at dksX9_regiment_17 14 rfl rfl)
theorem dX9_regiment_418 : decode cX9_regiment 418 = .ok (.aload_n 0, 1) := dk_42 (dk_at dksX9_regiment_17 17 rfl rfl)
theorem dX9_regiment_419 : decode cX9_regiment 419 = .ok (.getfield 166, 3) := dk_180 0 166 (dk_at dksX9_regiment_17 18 rfl rfl)
theorem dX9_regiment_422 : decode cX9_regiment 422 = .ok (.iload_n 1, 1) := dk_27 (dk_at dksX9_regiment_17 21 rfl rfl)
theorem dX9_regiment_423 : decode cX9_regiment 423 = .ok (.iconst 0, 1) := dk_3 (dk_at dksX9_regiment_17 22 rfl rfl)
theorem dX9_regiment_424 : decode cX9_regiment 424 = .ok (.bastore, 1) := dk_84 (dk_at dksX9_regiment_17 23 rfl rfl)
theorem dX9_regiment_425 : decode cX9_regiment 425 = .ok (.iinc 1 1, 3) := dk_132 1 1 (dk_at dksX9_regiment_18 0 rfl rfl)
theorem dX9_regiment_428 : decode cX9_regiment 428 = .ok (.goto (-15), 3) := dk_167 255 241 (dk_at dksX9_regiment_18 3 rfl rfl)
theorem dX9_regiment_431 : decode cX9_regiment 431 = .ok (.aload_n 0, 1) := dk_42 (dk_at dksX9_regiment_18 6 rfl rfl)
theorem dX9_regiment_432 : decode cX9_regiment 432 = .ok (.getfield 429, 3) := dk_180 1 173 (dk_at dksX9_regiment_18 7 rfl rfl)
theorem dX9_regiment_435 : decode cX9_regiment 435 = .ok (.ireturn, 1) := dk_172 (dk_at dksX9_regiment_18 10 rfl rfl)
abbrev cX9_readAll : ByteArray := prog_24_method_42_code
def yX9_readAll : MethodName := ⟨RX9, "readAll", "()V"⟩
def dkwX9_readAll_5 : List UInt8 := [177]
abbrev dktX9_readAll_5 : List UInt8 := dkwX9_readAll_5 ++ []
def dkwX9_readAll_4 : List UInt8 := [182, 1, 14, 42, 180, 0, 212, 154, 0, 17, 42, 180, 0, 199, 153, 0, 10, 42, 182, 1, 161, 167, 255, 238]
abbrev dktX9_readAll_4 : List UInt8 := dkwX9_readAll_4 ++ dktX9_readAll_5
def dkwX9_readAll_3 : List UInt8 := [181, 1, 143, 42, 3, 181, 1, 149, 42, 3, 181, 1, 155, 42, 3, 181, 1, 51, 42, 3, 181, 1, 35, 42]
abbrev dktX9_readAll_3 : List UInt8 := dkwX9_readAll_3 ++ dktX9_readAll_4
def dkwX9_readAll_2 : List UInt8 := [42, 16, 8, 181, 1, 146, 42, 3, 181, 1, 152, 42, 3, 181, 1, 158, 42, 3, 181, 1, 137, 42, 3]
abbrev dktX9_readAll_2 : List UInt8 := dkwX9_readAll_2 ++ dktX9_readAll_3
def dkwX9_readAll_1 : List UInt8 := [2, 181, 0, 13, 42, 3, 181, 1, 103, 42, 3, 181, 1, 113, 42, 3, 181, 1, 116, 42, 3, 181, 1, 122]
abbrev dktX9_readAll_1 : List UInt8 := dkwX9_readAll_1 ++ dktX9_readAll_2
def dkwX9_readAll_0 : List UInt8 := [42, 42, 180, 0, 172, 181, 0, 182, 42, 3, 181, 0, 172, 42, 3, 181, 0, 179, 42, 3, 181, 0, 212, 42]
abbrev dktX9_readAll_0 : List UInt8 := dkwX9_readAll_0 ++ dktX9_readAll_1
theorem dksX9_readAll_0 : cX9_readAll.data.toList.drop 0 = dktX9_readAll_0 := by decide +kernel
theorem dksX9_readAll_1 : cX9_readAll.data.toList.drop 24 = dktX9_readAll_1 := dk_seg dksX9_readAll_0 24 rfl rfl
theorem dksX9_readAll_2 : cX9_readAll.data.toList.drop 48 = dktX9_readAll_2 := dk_seg dksX9_readAll_1 24 rfl rfl
theorem dksX9_readAll_3 : cX9_readAll.data.toList.drop 71 = dktX9_readAll_3 := dk_seg dksX9_readAll_2 23 rfl rfl
theorem dksX9_readAll_4 : cX9_readAll.data.toList.drop 95 = dktX9_readAll_4 := dk_seg dksX9_readAll_3 24 rfl rfl
theorem dksX9_readAll_5 : cX9_readAll.data.toList.drop 119 = dktX9_readAll_5 := dk_seg dksX9_readAll_4 24 rfl rfl
theorem dX9_readAll_0 : decode cX9_readAll 0 = .ok (.aload_n 0, 1) := dk_42 (dk_at dksX9_readAll_0 0 rfl rfl)
theorem dX9_readAll_1 : decode cX9_readAll 1 = .ok (.aload_n 0, 1) := dk_42 (dk_at dksX9_readAll_0 1 rfl rfl)
theorem dX9_readAll_2 : decode cX9_readAll 2 = .ok (.getfield 172, 3) := dk_180 0 172 (dk_at dksX9_readAll_0 2 rfl rfl)
theorem dX9_readAll_5 : decode cX9_readAll 5 = .ok (.putfield 182, 3) := dk_181 0 182 (dk_at dksX9_readAll_0 5 rfl rfl)
theorem dX9_readAll_8 : decode cX9_readAll 8 = .ok (.aload_n 0, 1) := dk_42 (dk_at dksX9_readAll_0 8 rfl rfl)
theorem dX9_readAll_9 : decode cX9_readAll 9 = .ok (.iconst 0, 1) := dk_3 (dk_at dksX9_readAll_0 9 rfl rfl)
theorem dX9_readAll_10 : decode cX9_readAll 10 = .ok (.putfield 172, 3) := dk_181 0 172 (dk_at dksX9_readAll_0 10 rfl rfl)
theorem dX9_readAll_13 : decode cX9_readAll 13 = .ok (.aload_n 0, 1) := dk_42 (dk_at dksX9_readAll_0 13 rfl rfl)
theorem dX9_readAll_14 : decode cX9_readAll 14 = .ok (.iconst 0, 1) := dk_3 (dk_at dksX9_readAll_0 14 rfl rfl)
theorem dX9_readAll_15 : decode cX9_readAll 15 = .ok (.putfield 179, 3) := dk_181 0 179 (dk_at dksX9_readAll_0 15 rfl rfl)
theorem dX9_readAll_18 : decode cX9_readAll 18 = .ok (.aload_n 0, 1) := dk_42 (dk_at dksX9_readAll_0 18 rfl rfl)
theorem dX9_readAll_19 : decode cX9_readAll 19 = .ok (.iconst 0, 1) := dk_3 (dk_at dksX9_readAll_0 19 rfl rfl)
theorem dX9_readAll_20 : decode cX9_readAll 20 = .ok (.putfield 212, 3) := dk_181 0 212 (dk_at dksX9_readAll_0 20 rfl rfl)
theorem dX9_readAll_23 : decode cX9_readAll 23 = .ok (.aload_n 0, 1) := dk_42 (dk_at dksX9_readAll_0 23 rfl rfl)
theorem dX9_readAll_24 : decode cX9_readAll 24 = .ok (.iconst (-1), 1) := dk_2 (dk_at dksX9_readAll_1 0 rfl rfl)
theorem dX9_readAll_25 : decode cX9_readAll 25 = .ok (.putfield 13, 3) := dk_181 0 13 (dk_at dksX9_readAll_1 1 rfl rfl)
theorem dX9_readAll_28 : decode cX9_readAll 28 = .ok (.aload_n 0, 1) := dk_42 (dk_at dksX9_readAll_1 4 rfl rfl)
theorem dX9_readAll_29 : decode cX9_readAll 29 = .ok (.iconst 0, 1) := dk_3 (dk_at dksX9_readAll_1 5 rfl rfl)
theorem dX9_readAll_30 : decode cX9_readAll 30 = .ok (.putfield 359, 3) := dk_181 1 103 (dk_at dksX9_readAll_1 6 rfl rfl)
theorem dX9_readAll_33 : decode cX9_readAll 33 = .ok (.aload_n 0, 1) := dk_42 (dk_at dksX9_readAll_1 9 rfl rfl)
theorem dX9_readAll_34 : decode cX9_readAll 34 = .ok (.iconst 0, 1) := dk_3 (dk_at dksX9_readAll_1 10 rfl rfl)
theorem dX9_readAll_35 : decode cX9_readAll 35 = .ok (.putfield 369, 3) := dk_181 1 113 (dk_at dksX9_readAll_1 11 rfl rfl)
theorem dX9_readAll_38 : decode cX9_readAll 38 = .ok (.aload_n 0, 1) := dk_42 (dk_at dksX9_readAll_1 14 rfl rfl)
theorem dX9_readAll_39 : decode cX9_readAll 39 = .ok (.iconst 0, 1) := dk_3 (dk_at dksX9_readAll_1 15 rfl rfl)
theorem dX9_readAll_40 : decode cX9_readAll 40 = .ok (.putfield 372, 3) := dk_181 1 116 (dk_at dksX9_readAll_1 16 rfl rfl)
theorem dX9_readAll_43 : decode cX9_readAll 43 = .ok (.aload_n 0, 1) := dk_42 (dk_at dksX9_readAll_1 19 rfl rfl)
theorem dX9_readAll_44 : decode cX9_readAll 44 = .ok (.iconst 0, 1) := dk_3 (dk_at dksX9_readAll_1 20 rfl rfl)
theorem dX9_readAll_45 : decode cX9_readAll 45 = .ok (.putfield 378, 3) := dk_181 1 122 (dk_at dksX9_readAll_1 21 rfl rfl)
theorem dX9_readAll_48 : decode cX9_readAll 48 = .ok (.aload_n 0, 1) := dk_42 (dk_at dksX9_readAll_2 0 rfl rfl)
theorem dX9_readAll_49 : decode cX9_readAll 49 = .ok (.bipush 8, 2) := dk_16 8 (dk_at dksX9_readAll_2 1 rfl rfl)
theorem dX9_readAll_51 : decode cX9_readAll 51 = .ok (.putfield 402, 3) := dk_181 1 146 (dk_at dksX9_readAll_2 3 rfl rfl)
theorem dX9_readAll_54 : decode cX9_readAll 54 = .ok (.aload_n 0, 1) := dk_42 (dk_at dksX9_readAll_2 6 rfl rfl)
theorem dX9_readAll_55 : decode cX9_readAll 55 = .ok (.iconst 0, 1) := dk_3 (dk_at dksX9_readAll_2 7 rfl rfl)
theorem dX9_readAll_56 : decode cX9_readAll 56 = .ok (.putfield 408, 3) := dk_181 1 152 (dk_at dksX9_readAll_2 8 rfl rfl)
theorem dX9_readAll_59 : decode cX9_readAll 59 = .ok (.aload_n 0, 1) := dk_42 (dk_at dksX9_readAll_2 11 rfl rfl)
theorem dX9_readAll_60 : decode cX9_readAll 60 = .ok (.iconst 0, 1) := dk_3 (dk_at dksX9_readAll_2 12 rfl rfl)
theorem dX9_readAll_61 : decode cX9_readAll 61 = .ok (.putfield 414, 3) := dk_181 1 158 (dk_at dksX9_readAll_2 13 rfl rfl)
theorem dX9_readAll_64 : decode cX9_readAll 64 = .ok (.aload_n 0, 1) := dk_42 (dk_at dksX9_readAll_2 16 rfl rfl)
theorem dX9_readAll_65 : decode cX9_readAll 65 = .ok (.iconst 0, 1) := dk_3 (dk_at dksX9_readAll_2 17 rfl rfl)
theorem dX9_readAll_66 : decode cX9_readAll 66 = .ok (.putfield 393, 3) := dk_181 1 137 (dk_at dksX9_readAll_2 18 rfl rfl)
theorem dX9_readAll_69 : decode cX9_readAll 69 = .ok (.aload_n 0, 1) := dk_42 (dk_at dksX9_readAll_2 21 rfl rfl)
theorem dX9_readAll_70 : decode cX9_readAll 70 = .ok (.iconst 0, 1) := dk_3 (dk_at dksX9_readAll_2 22 rfl rfl)
theorem dX9_readAll_71 : decode cX9_readAll 71 = .ok (.putfield 399, 3) := dk_181 1 143 (dk_at dksX9_readAll_3 0 rfl rfl)
theorem dX9_readAll_74 : decode cX9_readAll 74 = .ok (.aload_n 0, 1) := dk_42 (dk_at dksX9_readAll_3 3 rfl rfl)
theorem dX9_readAll_75 : decode cX9_readAll 75 = .ok (.iconst 0, 1) := dk_3 (dk_at dksX9_readAll_3 4 rfl rfl)
theorem dX9_readAll_76 : decode cX9_readAll 76 = .ok (.putfield 405, 3) := dk_181 1 149 (dk_at dksX9_readAll_3 5 rfl rfl)
theorem dX9_readAll_79 : decode cX9_readAll 79 = .ok (.aload_n 0, 1) := dk_42 (dk_at dksX9_readAll_3 8 rfl rfl)
theorem dX9_readAll_80 : decode cX9_readAll 80 = .ok (.iconst 0, 1) := dk_3 (dk_at dksX9_readAll_3 9 rfl rfl)
theorem dX9_readAll_81 : decode cX9_readAll 81 = .ok (.putfield 411, 3) := dk_181 1 155 (dk_at dksX9_readAll_3 10 rfl rfl)
theorem dX9_readAll_84 : decode cX9_readAll 84 = .ok (.aload_n 0, 1) := dk_42 (dk_at dksX9_readAll_3 13 rfl rfl)
theorem dX9_readAll_85 : decode cX9_readAll 85 = .ok (.iconst 0, 1) := dk_3 (dk_at dksX9_readAll_3 14 rfl rfl)
theorem dX9_readAll_86 : decode cX9_readAll 86 = .ok (.putfield 307, 3) := dk_181 1 51 (dk_at dksX9_readAll_3 15 rfl rfl)
theorem dX9_readAll_89 : decode cX9_readAll 89 = .ok (.aload_n 0, 1) := dk_42 (dk_at dksX9_readAll_3 18 rfl rfl)
theorem dX9_readAll_90 : decode cX9_readAll 90 = .ok (.iconst 0, 1) := dk_3 (dk_at dksX9_readAll_3 19 rfl rfl)
theorem dX9_readAll_91 : decode cX9_readAll 91 = .ok (.putfield 291, 3) := dk_181 1 35 (dk_at dksX9_readAll_3 20 rfl rfl)
theorem dX9_readAll_94 : decode cX9_readAll 94 = .ok (.aload_n 0, 1) := dk_42 (dk_at dksX9_readAll_3 23 rfl rfl)
theorem dX9_readAll_95 : decode cX9_readAll 95 = .ok (.invokevirtual 270, 3) := dk_182 1 14 (dk_at dksX9_readAll_4 0 rfl rfl)
theorem dX9_readAll_98 : decode cX9_readAll 98 = .ok (.aload_n 0, 1) := dk_42 (dk_at dksX9_readAll_4 3 rfl rfl)
theorem dX9_readAll_99 : decode cX9_readAll 99 = .ok (.getfield 212, 3) := dk_180 0 212 (dk_at dksX9_readAll_4 4 rfl rfl)
theorem dX9_readAll_102 : decode cX9_readAll 102 = .ok (.ifCond .ne 17, 3) := dk_154 0 17 (dk_at dksX9_readAll_4 7 rfl rfl)
theorem dX9_readAll_105 : decode cX9_readAll 105 = .ok (.aload_n 0, 1) := dk_42 (dk_at dksX9_readAll_4 10 rfl rfl)
theorem dX9_readAll_106 : decode cX9_readAll 106 = .ok (.getfield 199, 3) := dk_180 0 199 (dk_at dksX9_readAll_4 11 rfl rfl)
theorem dX9_readAll_109 : decode cX9_readAll 109 = .ok (.ifCond .eq 10, 3) := dk_153 0 10 (dk_at dksX9_readAll_4 14 rfl rfl)
theorem dX9_readAll_112 : decode cX9_readAll 112 = .ok (.aload_n 0, 1) := dk_42 (dk_at dksX9_readAll_4 17 rfl rfl)
theorem dX9_readAll_113 : decode cX9_readAll 113 = .ok (.invokevirtual 417, 3) := dk_182 1 161 (dk_at dksX9_readAll_4 18 rfl rfl)
theorem dX9_readAll_116 : decode cX9_readAll 116 = .ok (.goto (-18), 3) := dk_167 255 238 (dk_at dksX9_readAll_4 21 rfl rfl)
theorem dX9_readAll_119 : decode cX9_readAll 119 = .ok (.return_, 1) := dk_177 (dk_at dksX9_readAll_5 0 rfl rfl)
abbrev cX9_token : ByteArray := prog_24_method_9_code
def yX9_token : MethodName := ⟨RX9, "token", "()V"⟩
def dkwX9_token_10 : List UInt8 := [181, 0, 199, 42, 180, 0, 199, 6, 159, 0, 13, 42, 89, 180, 0, 179, 28, 96, 181, 0, 179, 177]
abbrev dktX9_token_10 : List UInt8 := dkwX9_token_10 ++ []
def dkwX9_token_9 : List UInt8 := [5, 181, 0, 199, 167, 0, 21, 4, 61, 42, 27, 184, 0, 209, 153, 0, 7, 27, 167, 0, 4, 6]
abbrev dktX9_token_9 : List UInt8 := dkwX9_token_9 ++ dktX9_token_10
def dkwX9_token_8 : List UInt8 := [167, 255, 217, 42, 28, 7, 163, 0, 14, 42, 28, 182, 0, 185, 184, 0, 202, 153, 0, 7, 6, 167, 0, 4]
abbrev dktX9_token_8 : List UInt8 := dkwX9_token_8 ++ dktX9_token_9
def dkwX9_token_7 : List UInt8 := [16, 10, 42, 180, 0, 196, 104, 42, 28, 182, 0, 185, 96, 16, 48, 100, 181, 0, 196, 132, 2, 1]
abbrev dktX9_token_7 : List UInt8 := dkwX9_token_7 ++ dktX9_token_8
def dkwX9_token_6 : List UInt8 := [184, 0, 206, 153, 0, 73, 42, 28, 182, 0, 185, 184, 0, 206, 153, 0, 34, 28, 7, 162, 0, 23, 42]
abbrev dktX9_token_6 : List UInt8 := dkwX9_token_6 ++ dktX9_token_7
def dkwX9_token_5 : List UInt8 := [167, 255, 218, 42, 28, 16, 8, 164, 0, 7, 6, 167, 0, 4, 4, 181, 0, 199, 167, 0, 98, 27]
abbrev dktX9_token_5 : List UInt8 := dkwX9_token_5 ++ dktX9_token_6
def dkwX9_token_4 : List UInt8 := [162, 0, 21, 42, 42, 180, 0, 192, 16, 8, 121, 42, 28, 182, 0, 185, 133, 129, 181, 0, 192, 132, 2, 1]
abbrev dktX9_token_4 : List UInt8 := dkwX9_token_4 ++ dktX9_token_5
def dkwX9_token_3 : List UInt8 := [167, 0, 164, 27, 184, 0, 202, 153, 0, 62, 42, 28, 182, 0, 185, 184, 0, 202, 153, 0, 33, 28, 16, 8]
abbrev dktX9_token_3 : List UInt8 := dkwX9_token_3 ++ dktX9_token_4
def dkwX9_token_2 : List UInt8 := [60, 3, 61, 42, 9, 181, 0, 192, 42, 3, 181, 0, 196, 27, 156, 0, 11, 42, 3, 181, 0, 199]
abbrev dktX9_token_2 : List UInt8 := dkwX9_token_2 ++ dktX9_token_3
def dkwX9_token_1 : List UInt8 := [180, 0, 179, 4, 96, 181, 0, 179, 167, 255, 226, 42, 42, 180, 0, 179, 181, 0, 189, 42, 3, 182, 0, 185]
abbrev dktX9_token_1 : List UInt8 := dkwX9_token_1 ++ dktX9_token_2
def dkwX9_token_0 : List UInt8 := [42, 3, 182, 0, 185, 16, 32, 159, 0, 13, 42, 3, 182, 0, 185, 16, 10, 160, 0, 16, 42, 89]
abbrev dktX9_token_0 : List UInt8 := dkwX9_token_0 ++ dktX9_token_1
theorem dksX9_token_0 : cX9_token.data.toList.drop 0 = dktX9_token_0 := by decide +kernel
theorem dksX9_token_1 : cX9_token.data.toList.drop 22 = dktX9_token_1 := dk_seg dksX9_token_0 22 rfl rfl
theorem dksX9_token_2 : cX9_token.data.toList.drop 46 = dktX9_token_2 := dk_seg dksX9_token_1 24 rfl rfl
theorem dksX9_token_3 : cX9_token.data.toList.drop 68 = dktX9_token_3 := dk_seg dksX9_token_2 22 rfl rfl
theorem dksX9_token_4 : cX9_token.data.toList.drop 92 = dktX9_token_4 := dk_seg dksX9_token_3 24 rfl rfl
theorem dksX9_token_5 : cX9_token.data.toList.drop 116 = dktX9_token_5 := dk_seg dksX9_token_4 24 rfl rfl
theorem dksX9_token_6 : cX9_token.data.toList.drop 138 = dktX9_token_6 := dk_seg dksX9_token_5 22 rfl rfl
theorem dksX9_token_7 : cX9_token.data.toList.drop 161 = dktX9_token_7 := dk_seg dksX9_token_6 23 rfl rfl
theorem dksX9_token_8 : cX9_token.data.toList.drop 183 = dktX9_token_8 := dk_seg dksX9_token_7 22 rfl rfl
theorem dksX9_token_9 : cX9_token.data.toList.drop 207 = dktX9_token_9 := dk_seg dksX9_token_8 24 rfl rfl
theorem dksX9_token_10 : cX9_token.data.toList.drop 229 = dktX9_token_10 := dk_seg dksX9_token_9 22 rfl rfl
theorem dX9_token_0 : decode cX9_token 0 = .ok (.aload_n 0, 1) := dk_42 (dk_at dksX9_token_0 0 rfl rfl)
theorem dX9_token_1 : decode cX9_token 1 = .ok (.iconst 0, 1) := dk_3 (dk_at dksX9_token_0 1 rfl rfl)
theorem dX9_token_2 : decode cX9_token 2 = .ok (.invokevirtual 185, 3) := dk_182 0 185 (dk_at dksX9_token_0 2 rfl rfl)
theorem dX9_token_5 : decode cX9_token 5 = .ok (.bipush 32, 2) := dk_16 32 (dk_at dksX9_token_0 5 rfl rfl)
theorem dX9_token_7 : decode cX9_token 7 = .ok (.if_icmp .eq 13, 3) := dk_159 0 13 (dk_at dksX9_token_0 7 rfl rfl)
theorem dX9_token_10 : decode cX9_token 10 = .ok (.aload_n 0, 1) := dk_42 (dk_at dksX9_token_0 10 rfl rfl)
theorem dX9_token_11 : decode cX9_token 11 = .ok (.iconst 0, 1) := dk_3 (dk_at dksX9_token_0 11 rfl rfl)
theorem dX9_token_12 : decode cX9_token 12 = .ok (.invokevirtual 185, 3) := dk_182 0 185 (dk_at dksX9_token_0 12 rfl rfl)
theorem dX9_token_15 : decode cX9_token 15 = .ok (.bipush 10, 2) := dk_16 10 (dk_at dksX9_token_0 15 rfl rfl)
theorem dX9_token_17 : decode cX9_token 17 = .ok (.if_icmp .ne 16, 3) := dk_160 0 16 (dk_at dksX9_token_0 17 rfl rfl)
theorem dX9_token_20 : decode cX9_token 20 = .ok (.aload_n 0, 1) := dk_42 (dk_at dksX9_token_0 20 rfl rfl)
theorem dX9_token_21 : decode cX9_token 21 = .ok (.dup, 1) := dk_89 (dk_at dksX9_token_0 21 rfl rfl)
theorem dX9_token_22 : decode cX9_token 22 = .ok (.getfield 179, 3) := dk_180 0 179 (dk_at dksX9_token_1 0 rfl rfl)
theorem dX9_token_25 : decode cX9_token 25 = .ok (.iconst 1, 1) := dk_4 (dk_at dksX9_token_1 3 rfl rfl)
theorem dX9_token_26 : decode cX9_token 26 = .ok (.iadd, 1) := dk_96 (dk_at dksX9_token_1 4 rfl rfl)
theorem dX9_token_27 : decode cX9_token 27 = .ok (.putfield 179, 3) := dk_181 0 179 (dk_at dksX9_token_1 5 rfl rfl)
theorem dX9_token_30 : decode cX9_token 30 = .ok (.goto (-30), 3) := dk_167 255 226 (dk_at dksX9_token_1 8 rfl rfl)
theorem dX9_token_33 : decode cX9_token 33 = .ok (.aload_n 0, 1) := dk_42 (dk_at dksX9_token_1 11 rfl rfl)
theorem dX9_token_34 : decode cX9_token 34 = .ok (.aload_n 0, 1) := dk_42 (dk_at dksX9_token_1 12 rfl rfl)
theorem dX9_token_35 : decode cX9_token 35 = .ok (.getfield 179, 3) := dk_180 0 179 (dk_at dksX9_token_1 13 rfl rfl)
theorem dX9_token_38 : decode cX9_token 38 = .ok (.putfield 189, 3) := dk_181 0 189 (dk_at dksX9_token_1 16 rfl rfl)
theorem dX9_token_41 : decode cX9_token 41 = .ok (.aload_n 0, 1) := dk_42 (dk_at dksX9_token_1 19 rfl rfl)
theorem dX9_token_42 : decode cX9_token 42 = .ok (.iconst 0, 1) := dk_3 (dk_at dksX9_token_1 20 rfl rfl)
theorem dX9_token_43 : decode cX9_token 43 = .ok (.invokevirtual 185, 3) := dk_182 0 185 (dk_at dksX9_token_1 21 rfl rfl)
theorem dX9_token_46 : decode cX9_token 46 = .ok (.istore_n 1, 1) := dk_60 (dk_at dksX9_token_2 0 rfl rfl)
theorem dX9_token_47 : decode cX9_token 47 = .ok (.iconst 0, 1) := dk_3 (dk_at dksX9_token_2 1 rfl rfl)
theorem dX9_token_48 : decode cX9_token 48 = .ok (.istore_n 2, 1) := dk_61 (dk_at dksX9_token_2 2 rfl rfl)
theorem dX9_token_49 : decode cX9_token 49 = .ok (.aload_n 0, 1) := dk_42 (dk_at dksX9_token_2 3 rfl rfl)
theorem dX9_token_50 : decode cX9_token 50 = .ok (.lconst 0, 1) := dk_9 (dk_at dksX9_token_2 4 rfl rfl)
theorem dX9_token_51 : decode cX9_token 51 = .ok (.putfield 192, 3) := dk_181 0 192 (dk_at dksX9_token_2 5 rfl rfl)
theorem dX9_token_54 : decode cX9_token 54 = .ok (.aload_n 0, 1) := dk_42 (dk_at dksX9_token_2 8 rfl rfl)
theorem dX9_token_55 : decode cX9_token 55 = .ok (.iconst 0, 1) := dk_3 (dk_at dksX9_token_2 9 rfl rfl)
theorem dX9_token_56 : decode cX9_token 56 = .ok (.putfield 196, 3) := dk_181 0 196 (dk_at dksX9_token_2 10 rfl rfl)
theorem dX9_token_59 : decode cX9_token 59 = .ok (.iload_n 1, 1) := dk_27 (dk_at dksX9_token_2 13 rfl rfl)
theorem dX9_token_60 : decode cX9_token 60 = .ok (.ifCond .ge 11, 3) := dk_156 0 11 (dk_at dksX9_token_2 14 rfl rfl)
theorem dX9_token_63 : decode cX9_token 63 = .ok (.aload_n 0, 1) := dk_42 (dk_at dksX9_token_2 17 rfl rfl)
theorem dX9_token_64 : decode cX9_token 64 = .ok (.iconst 0, 1) := dk_3 (dk_at dksX9_token_2 18 rfl rfl)
theorem dX9_token_65 : decode cX9_token 65 = .ok (.putfield 199, 3) := dk_181 0 199 (dk_at dksX9_token_2 19 rfl rfl)
theorem dX9_token_68 : decode cX9_token 68 = .ok (.goto 164, 3) := dk_167 0 164 (dk_at dksX9_token_3 0 rfl rfl)
theorem dX9_token_71 : decode cX9_token 71 = .ok (.iload_n 1, 1) := dk_27 (dk_at dksX9_token_3 3 rfl rfl)
theorem dX9_token_72 : decode cX9_token 72 = .ok (.invokestatic 202, 3) := dk_184 0 202 (dk_at dksX9_token_3 4 rfl rfl)
theorem dX9_token_75 : decode cX9_token 75 = .ok (.ifCond .eq 62, 3) := dk_153 0 62 (dk_at dksX9_token_3 7 rfl rfl)
theorem dX9_token_78 : decode cX9_token 78 = .ok (.aload_n 0, 1) := dk_42 (dk_at dksX9_token_3 10 rfl rfl)
theorem dX9_token_79 : decode cX9_token 79 = .ok (.iload_n 2, 1) := dk_28 (dk_at dksX9_token_3 11 rfl rfl)
theorem dX9_token_80 : decode cX9_token 80 = .ok (.invokevirtual 185, 3) := dk_182 0 185 (dk_at dksX9_token_3 12 rfl rfl)
theorem dX9_token_83 : decode cX9_token 83 = .ok (.invokestatic 202, 3) := dk_184 0 202 (dk_at dksX9_token_3 15 rfl rfl)
theorem dX9_token_86 : decode cX9_token 86 = .ok (.ifCond .eq 33, 3) := dk_153 0 33 (dk_at dksX9_token_3 18 rfl rfl)
theorem dX9_token_89 : decode cX9_token 89 = .ok (.iload_n 2, 1) := dk_28 (dk_at dksX9_token_3 21 rfl rfl)
theorem dX9_token_90 : decode cX9_token 90 = .ok (.bipush 8, 2) := dk_16 8 (dk_at dksX9_token_3 22 rfl rfl)
theorem dX9_token_92 : decode cX9_token 92 = .ok (.if_icmp .ge 21, 3) := dk_162 0 21 (dk_at dksX9_token_4 0 rfl rfl)
theorem dX9_token_95 : decode cX9_token 95 = .ok (.aload_n 0, 1) := dk_42 (dk_at dksX9_token_4 3 rfl rfl)
theorem dX9_token_96 : decode cX9_token 96 = .ok (.aload_n 0, 1) := dk_42 (dk_at dksX9_token_4 4 rfl rfl)
theorem dX9_token_97 : decode cX9_token 97 = .ok (.getfield 192, 3) := dk_180 0 192 (dk_at dksX9_token_4 5 rfl rfl)
theorem dX9_token_100 : decode cX9_token 100 = .ok (.bipush 8, 2) := dk_16 8 (dk_at dksX9_token_4 8 rfl rfl)
theorem dX9_token_102 : decode cX9_token 102 = .ok (.lshl, 1) := dk_121 (dk_at dksX9_token_4 10 rfl rfl)
theorem dX9_token_103 : decode cX9_token 103 = .ok (.aload_n 0, 1) := dk_42 (dk_at dksX9_token_4 11 rfl rfl)
theorem dX9_token_104 : decode cX9_token 104 = .ok (.iload_n 2, 1) := dk_28 (dk_at dksX9_token_4 12 rfl rfl)
theorem dX9_token_105 : decode cX9_token 105 = .ok (.invokevirtual 185, 3) := dk_182 0 185 (dk_at dksX9_token_4 13 rfl rfl)
theorem dX9_token_108 : decode cX9_token 108 = .ok (.i2l, 1) := dk_133 (dk_at dksX9_token_4 16 rfl rfl)
theorem dX9_token_109 : decode cX9_token 109 = .ok (.lor, 1) := dk_129 (dk_at dksX9_token_4 17 rfl rfl)
theorem dX9_token_110 : decode cX9_token 110 = .ok (.putfield 192, 3) := dk_181 0 192 (dk_at dksX9_token_4 18 rfl rfl)
theorem dX9_token_113 : decode cX9_token 113 = .ok (.iinc 2 1, 3) := dk_132 2 1 (dk_at dksX9_token_4 21 rfl rfl)
theorem dX9_token_116 : decode cX9_token 116 = .ok (.goto (-38), 3) := dk_167 255 218 (dk_at dksX9_token_5 0 rfl rfl)
theorem dX9_token_119 : decode cX9_token 119 = .ok (.aload_n 0, 1) := dk_42 (dk_at dksX9_token_5 3 rfl rfl)
theorem dX9_token_120 : decode cX9_token 120 = .ok (.iload_n 2, 1) := dk_28 (dk_at dksX9_token_5 4 rfl rfl)
theorem dX9_token_121 : decode cX9_token 121 = .ok (.bipush 8, 2) := dk_16 8 (dk_at dksX9_token_5 5 rfl rfl)
theorem dX9_token_123 : decode cX9_token 123 = .ok (.if_icmp .le 7, 3) := dk_164 0 7 (dk_at dksX9_token_5 7 rfl rfl)
theorem dX9_token_126 : decode cX9_token 126 = .ok (.iconst 3, 1) := dk_6 (dk_at dksX9_token_5 10 rfl rfl)
theorem dX9_token_127 : decode cX9_token 127 = .ok (.goto 4, 3) := dk_167 0 4 (dk_at dksX9_token_5 11 rfl rfl)
theorem dX9_token_130 : decode cX9_token 130 = .ok (.iconst 1, 1) := dk_4 (dk_at dksX9_token_5 14 rfl rfl)
theorem dX9_token_131 : decode cX9_token 131 = .ok (.putfield 199, 3) := dk_181 0 199 (dk_at dksX9_token_5 15 rfl rfl)
theorem dX9_token_134 : decode cX9_token 134 = .ok (.goto 98, 3) := dk_167 0 98 (dk_at dksX9_token_5 18 rfl rfl)
theorem dX9_token_137 : decode cX9_token 137 = .ok (.iload_n 1, 1) := dk_27 (dk_at dksX9_token_5 21 rfl rfl)
theorem dX9_token_138 : decode cX9_token 138 = .ok (.invokestatic 206, 3) := dk_184 0 206 (dk_at dksX9_token_6 0 rfl rfl)
theorem dX9_token_141 : decode cX9_token 141 = .ok (.ifCond .eq 73, 3) := dk_153 0 73 (dk_at dksX9_token_6 3 rfl rfl)
theorem dX9_token_144 : decode cX9_token 144 = .ok (.aload_n 0, 1) := dk_42 (dk_at dksX9_token_6 6 rfl rfl)
theorem dX9_token_145 : decode cX9_token 145 = .ok (.iload_n 2, 1) := dk_28 (dk_at dksX9_token_6 7 rfl rfl)
theorem dX9_token_146 : decode cX9_token 146 = .ok (.invokevirtual 185, 3) := dk_182 0 185 (dk_at dksX9_token_6 8 rfl rfl)
theorem dX9_token_149 : decode cX9_token 149 = .ok (.invokestatic 206, 3) := dk_184 0 206 (dk_at dksX9_token_6 11 rfl rfl)
theorem dX9_token_152 : decode cX9_token 152 = .ok (.ifCond .eq 34, 3) := dk_153 0 34 (dk_at dksX9_token_6 14 rfl rfl)
theorem dX9_token_155 : decode cX9_token 155 = .ok (.iload_n 2, 1) := dk_28 (dk_at dksX9_token_6 17 rfl rfl)
theorem dX9_token_156 : decode cX9_token 156 = .ok (.iconst 4, 1) := dk_7 (dk_at dksX9_token_6 18 rfl rfl)
theorem dX9_token_157 : decode cX9_token 157 = .ok (.if_icmp .ge 23, 3) := dk_162 0 23 (dk_at dksX9_token_6 19 rfl rfl)
theorem dX9_token_160 : decode cX9_token 160 = .ok (.aload_n 0, 1) := dk_42 (dk_at dksX9_token_6 22 rfl rfl)
theorem dX9_token_161 : decode cX9_token 161 = .ok (.bipush 10, 2) := dk_16 10 (dk_at dksX9_token_7 0 rfl rfl)
theorem dX9_token_163 : decode cX9_token 163 = .ok (.aload_n 0, 1) := dk_42 (dk_at dksX9_token_7 2 rfl rfl)
theorem dX9_token_164 : decode cX9_token 164 = .ok (.getfield 196, 3) := dk_180 0 196 (dk_at dksX9_token_7 3 rfl rfl)
theorem dX9_token_167 : decode cX9_token 167 = .ok (.imul, 1) := dk_104 (dk_at dksX9_token_7 6 rfl rfl)
theorem dX9_token_168 : decode cX9_token 168 = .ok (.aload_n 0, 1) := dk_42 (dk_at dksX9_token_7 7 rfl rfl)
theorem dX9_token_169 : decode cX9_token 169 = .ok (.iload_n 2, 1) := dk_28 (dk_at dksX9_token_7 8 rfl rfl)
theorem dX9_token_170 : decode cX9_token 170 = .ok (.invokevirtual 185, 3) := dk_182 0 185 (dk_at dksX9_token_7 9 rfl rfl)
theorem dX9_token_173 : decode cX9_token 173 = .ok (.iadd, 1) := dk_96 (dk_at dksX9_token_7 12 rfl rfl)
theorem dX9_token_174 : decode cX9_token 174 = .ok (.bipush 48, 2) := dk_16 48 (dk_at dksX9_token_7 13 rfl rfl)
theorem dX9_token_176 : decode cX9_token 176 = .ok (.isub, 1) := dk_100 (dk_at dksX9_token_7 15 rfl rfl)
theorem dX9_token_177 : decode cX9_token 177 = .ok (.putfield 196, 3) := dk_181 0 196 (dk_at dksX9_token_7 16 rfl rfl)
theorem dX9_token_180 : decode cX9_token 180 = .ok (.iinc 2 1, 3) := dk_132 2 1 (dk_at dksX9_token_7 19 rfl rfl)
theorem dX9_token_183 : decode cX9_token 183 = .ok (.goto (-39), 3) := dk_167 255 217 (dk_at dksX9_token_8 0 rfl rfl)
theorem dX9_token_186 : decode cX9_token 186 = .ok (.aload_n 0, 1) := dk_42 (dk_at dksX9_token_8 3 rfl rfl)
theorem dX9_token_187 : decode cX9_token 187 = .ok (.iload_n 2, 1) := dk_28 (dk_at dksX9_token_8 4 rfl rfl)
theorem dX9_token_188 : decode cX9_token 188 = .ok (.iconst 4, 1) := dk_7 (dk_at dksX9_token_8 5 rfl rfl)
theorem dX9_token_189 : decode cX9_token 189 = .ok (.if_icmp .gt 14, 3) := dk_163 0 14 (dk_at dksX9_token_8 6 rfl rfl)
theorem dX9_token_192 : decode cX9_token 192 = .ok (.aload_n 0, 1) := dk_42 (dk_at dksX9_token_8 9 rfl rfl)
theorem dX9_token_193 : decode cX9_token 193 = .ok (.iload_n 2, 1) := dk_28 (dk_at dksX9_token_8 10 rfl rfl)
theorem dX9_token_194 : decode cX9_token 194 = .ok (.invokevirtual 185, 3) := dk_182 0 185 (dk_at dksX9_token_8 11 rfl rfl)
theorem dX9_token_197 : decode cX9_token 197 = .ok (.invokestatic 202, 3) := dk_184 0 202 (dk_at dksX9_token_8 14 rfl rfl)
theorem dX9_token_200 : decode cX9_token 200 = .ok (.ifCond .eq 7, 3) := dk_153 0 7 (dk_at dksX9_token_8 17 rfl rfl)
theorem dX9_token_203 : decode cX9_token 203 = .ok (.iconst 3, 1) := dk_6 (dk_at dksX9_token_8 20 rfl rfl)
theorem dX9_token_204 : decode cX9_token 204 = .ok (.goto 4, 3) := dk_167 0 4 (dk_at dksX9_token_8 21 rfl rfl)
theorem dX9_token_207 : decode cX9_token 207 = .ok (.iconst 2, 1) := dk_5 (dk_at dksX9_token_9 0 rfl rfl)
theorem dX9_token_208 : decode cX9_token 208 = .ok (.putfield 199, 3) := dk_181 0 199 (dk_at dksX9_token_9 1 rfl rfl)
theorem dX9_token_211 : decode cX9_token 211 = .ok (.goto 21, 3) := dk_167 0 21 (dk_at dksX9_token_9 4 rfl rfl)
theorem dX9_token_214 : decode cX9_token 214 = .ok (.iconst 1, 1) := dk_4 (dk_at dksX9_token_9 7 rfl rfl)
theorem dX9_token_215 : decode cX9_token 215 = .ok (.istore_n 2, 1) := dk_61 (dk_at dksX9_token_9 8 rfl rfl)
theorem dX9_token_216 : decode cX9_token 216 = .ok (.aload_n 0, 1) := dk_42 (dk_at dksX9_token_9 9 rfl rfl)
theorem dX9_token_217 : decode cX9_token 217 = .ok (.iload_n 1, 1) := dk_27 (dk_at dksX9_token_9 10 rfl rfl)
theorem dX9_token_218 : decode cX9_token 218 = .ok (.invokestatic 209, 3) := dk_184 0 209 (dk_at dksX9_token_9 11 rfl rfl)
theorem dX9_token_221 : decode cX9_token 221 = .ok (.ifCond .eq 7, 3) := dk_153 0 7 (dk_at dksX9_token_9 14 rfl rfl)
theorem dX9_token_224 : decode cX9_token 224 = .ok (.iload_n 1, 1) := dk_27 (dk_at dksX9_token_9 17 rfl rfl)
theorem dX9_token_225 : decode cX9_token 225 = .ok (.goto 4, 3) := dk_167 0 4 (dk_at dksX9_token_9 18 rfl rfl)
theorem dX9_token_228 : decode cX9_token 228 = .ok (.iconst 3, 1) := dk_6 (dk_at dksX9_token_9 21 rfl rfl)
theorem dX9_token_229 : decode cX9_token 229 = .ok (.putfield 199, 3) := dk_181 0 199 (dk_at dksX9_token_10 0 rfl rfl)
theorem dX9_token_232 : decode cX9_token 232 = .ok (.aload_n 0, 1) := dk_42 (dk_at dksX9_token_10 3 rfl rfl)
theorem dX9_token_233 : decode cX9_token 233 = .ok (.getfield 199, 3) := dk_180 0 199 (dk_at dksX9_token_10 4 rfl rfl)
theorem dX9_token_236 : decode cX9_token 236 = .ok (.iconst 3, 1) := dk_6 (dk_at dksX9_token_10 7 rfl rfl)
theorem dX9_token_237 : decode cX9_token 237 = .ok (.if_icmp .eq 13, 3) := dk_159 0 13 (dk_at dksX9_token_10 8 rfl rfl)
theorem dX9_token_240 : decode cX9_token 240 = .ok (.aload_n 0, 1) := dk_42 (dk_at dksX9_token_10 11 rfl rfl)
theorem dX9_token_241 : decode cX9_token 241 = .ok (.dup, 1) := dk_89 (dk_at dksX9_token_10 12 rfl rfl)
theorem dX9_token_242 : decode cX9_token 242 = .ok (.getfield 179, 3) := dk_180 0 179 (dk_at dksX9_token_10 13 rfl rfl)
theorem dX9_token_245 : decode cX9_token 245 = .ok (.iload_n 2, 1) := dk_28 (dk_at dksX9_token_10 16 rfl rfl)
theorem dX9_token_246 : decode cX9_token 246 = .ok (.iadd, 1) := dk_96 (dk_at dksX9_token_10 17 rfl rfl)
theorem dX9_token_247 : decode cX9_token 247 = .ok (.putfield 179, 3) := dk_181 0 179 (dk_at dksX9_token_10 18 rfl rfl)
theorem dX9_token_250 : decode cX9_token 250 = .ok (.return_, 1) := dk_177 (dk_at dksX9_token_10 21 rfl rfl)
abbrev cX9_here : ByteArray := prog_24_method_5_code
def yX9_here : MethodName := ⟨RX9, "here", "(I)I"⟩
def dkwX9_here_1 : List UInt8 := [167, 0, 4, 2, 172]
abbrev dktX9_here_1 : List UInt8 := dkwX9_here_1 ++ []
def dkwX9_here_0 : List UInt8 := [42, 180, 0, 179, 27, 96, 42, 180, 0, 182, 162, 0, 17, 42, 180, 0, 7, 42, 180, 0, 179, 27, 96, 46]
abbrev dktX9_here_0 : List UInt8 := dkwX9_here_0 ++ dktX9_here_1
theorem dksX9_here_0 : cX9_here.data.toList.drop 0 = dktX9_here_0 := by decide +kernel
theorem dksX9_here_1 : cX9_here.data.toList.drop 24 = dktX9_here_1 := dk_seg dksX9_here_0 24 rfl rfl
theorem dX9_here_0 : decode cX9_here 0 = .ok (.aload_n 0, 1) := dk_42 (dk_at dksX9_here_0 0 rfl rfl)
theorem dX9_here_1 : decode cX9_here 1 = .ok (.getfield 179, 3) := dk_180 0 179 (dk_at dksX9_here_0 1 rfl rfl)
theorem dX9_here_4 : decode cX9_here 4 = .ok (.iload_n 1, 1) := dk_27 (dk_at dksX9_here_0 4 rfl rfl)
theorem dX9_here_5 : decode cX9_here 5 = .ok (.iadd, 1) := dk_96 (dk_at dksX9_here_0 5 rfl rfl)
theorem dX9_here_6 : decode cX9_here 6 = .ok (.aload_n 0, 1) := dk_42 (dk_at dksX9_here_0 6 rfl rfl)
theorem dX9_here_7 : decode cX9_here 7 = .ok (.getfield 182, 3) := dk_180 0 182 (dk_at dksX9_here_0 7 rfl rfl)
theorem dX9_here_10 : decode cX9_here 10 = .ok (.if_icmp .ge 17, 3) := dk_162 0 17 (dk_at dksX9_here_0 10 rfl rfl)
theorem dX9_here_13 : decode cX9_here 13 = .ok (.aload_n 0, 1) := dk_42 (dk_at dksX9_here_0 13 rfl rfl)
theorem dX9_here_14 : decode cX9_here 14 = .ok (.getfield 7, 3) := dk_180 0 7 (dk_at dksX9_here_0 14 rfl rfl)
theorem dX9_here_17 : decode cX9_here 17 = .ok (.aload_n 0, 1) := dk_42 (dk_at dksX9_here_0 17 rfl rfl)
theorem dX9_here_18 : decode cX9_here 18 = .ok (.getfield 179, 3) := dk_180 0 179 (dk_at dksX9_here_0 18 rfl rfl)
theorem dX9_here_21 : decode cX9_here 21 = .ok (.iload_n 1, 1) := dk_27 (dk_at dksX9_here_0 21 rfl rfl)
theorem dX9_here_22 : decode cX9_here 22 = .ok (.iadd, 1) := dk_96 (dk_at dksX9_here_0 22 rfl rfl)
theorem dX9_here_23 : decode cX9_here 23 = .ok (.iaload, 1) := dk_46 (dk_at dksX9_here_0 23 rfl rfl)
theorem dX9_here_24 : decode cX9_here 24 = .ok (.goto 4, 3) := dk_167 0 4 (dk_at dksX9_here_1 0 rfl rfl)
theorem dX9_here_27 : decode cX9_here 27 = .ok (.iconst (-1), 1) := dk_2 (dk_at dksX9_here_1 3 rfl rfl)
theorem dX9_here_28 : decode cX9_here 28 = .ok (.ireturn, 1) := dk_172 (dk_at dksX9_here_1 4 rfl rfl)
abbrev cX9_isLetter : ByteArray := prog_24_method_6_code
def yX9_isLetter : MethodName := ⟨RX9, "isLette\x72", "(I)Z"⟩
def dkwX9_isLetter_0 : List UInt8 := [26, 16, 97, 161, 0, 13, 26, 16, 122, 163, 0, 7, 4, 167, 0, 4, 3, 172]
abbrev dktX9_isLetter_0 : List UInt8 := dkwX9_isLetter_0 ++ []
theorem dksX9_isLetter_0 : cX9_isLetter.data.toList.drop 0 = dktX9_isLetter_0 := by decide +kernel
theorem dX9_isLetter_0 : decode cX9_isLetter 0 = .ok (.iload_n 0, 1) := dk_26 (dk_at dksX9_isLetter_0 0 rfl rfl)
theorem dX9_isLetter_1 : decode cX9_isLetter 1 = .ok (.bipush 97, 2) := dk_16 97 (dk_at dksX9_isLetter_0 1 rfl rfl)
theorem dX9_isLetter_3 : decode cX9_isLetter 3 = .ok (.if_icmp .lt 13, 3) := dk_161 0 13 (dk_at dksX9_isLetter_0 3 rfl rfl)
theorem dX9_isLetter_6 : decode cX9_isLetter 6 = .ok (.iload_n 0, 1) := dk_26 (dk_at dksX9_isLetter_0 6 rfl rfl)
theorem dX9_isLetter_7 : decode cX9_isLetter 7 = .ok (.bipush 122, 2) := dk_16 122 (dk_at dksX9_isLetter_0 7 rfl rfl)
theorem dX9_isLetter_9 : decode cX9_isLetter 9 = .ok (.if_icmp .gt 7, 3) := dk_163 0 7 (dk_at dksX9_isLetter_0 9 rfl rfl)
theorem dX9_isLetter_12 : decode cX9_isLetter 12 = .ok (.iconst 1, 1) := dk_4 (dk_at dksX9_isLetter_0 12 rfl rfl)
theorem dX9_isLetter_13 : decode cX9_isLetter 13 = .ok (.goto 4, 3) := dk_167 0 4 (dk_at dksX9_isLetter_0 13 rfl rfl)
theorem dX9_isLetter_16 : decode cX9_isLetter 16 = .ok (.iconst 0, 1) := dk_3 (dk_at dksX9_isLetter_0 16 rfl rfl)
theorem dX9_isLetter_17 : decode cX9_isLetter 17 = .ok (.ireturn, 1) := dk_172 (dk_at dksX9_isLetter_0 17 rfl rfl)
abbrev cX9_isDigit : ByteArray := prog_24_method_7_code
def yX9_isDigit : MethodName := ⟨RX9, "isDigit", "(I)Z"⟩
def dkwX9_isDigit_0 : List UInt8 := [26, 16, 48, 161, 0, 13, 26, 16, 57, 163, 0, 7, 4, 167, 0, 4, 3, 172]
abbrev dktX9_isDigit_0 : List UInt8 := dkwX9_isDigit_0 ++ []
theorem dksX9_isDigit_0 : cX9_isDigit.data.toList.drop 0 = dktX9_isDigit_0 := by decide +kernel
theorem dX9_isDigit_0 : decode cX9_isDigit 0 = .ok (.iload_n 0, 1) := dk_26 (dk_at dksX9_isDigit_0 0 rfl rfl)
theorem dX9_isDigit_1 : decode cX9_isDigit 1 = .ok (.bipush 48, 2) := dk_16 48 (dk_at dksX9_isDigit_0 1 rfl rfl)
theorem dX9_isDigit_3 : decode cX9_isDigit 3 = .ok (.if_icmp .lt 13, 3) := dk_161 0 13 (dk_at dksX9_isDigit_0 3 rfl rfl)
theorem dX9_isDigit_6 : decode cX9_isDigit 6 = .ok (.iload_n 0, 1) := dk_26 (dk_at dksX9_isDigit_0 6 rfl rfl)
theorem dX9_isDigit_7 : decode cX9_isDigit 7 = .ok (.bipush 57, 2) := dk_16 57 (dk_at dksX9_isDigit_0 7 rfl rfl)
theorem dX9_isDigit_9 : decode cX9_isDigit 9 = .ok (.if_icmp .gt 7, 3) := dk_163 0 7 (dk_at dksX9_isDigit_0 9 rfl rfl)
theorem dX9_isDigit_12 : decode cX9_isDigit 12 = .ok (.iconst 1, 1) := dk_4 (dk_at dksX9_isDigit_0 12 rfl rfl)
theorem dX9_isDigit_13 : decode cX9_isDigit 13 = .ok (.goto 4, 3) := dk_167 0 4 (dk_at dksX9_isDigit_0 13 rfl rfl)
theorem dX9_isDigit_16 : decode cX9_isDigit 16 = .ok (.iconst 0, 1) := dk_3 (dk_at dksX9_isDigit_0 16 rfl rfl)
theorem dX9_isDigit_17 : decode cX9_isDigit 17 = .ok (.ireturn, 1) := dk_172 (dk_at dksX9_isDigit_0 17 rfl rfl)
abbrev cX9_isSign : ByteArray := prog_24_method_8_code
def yX9_isSign : MethodName := ⟨RX9, "isSign", "(I)Z"⟩
def dkwX9_isSign_2 : List UInt8 := [26, 16, 42, 159, 0, 15, 26, 16, 47, 159, 0, 9, 26, 16, 37, 160, 0, 7, 4, 167, 0, 4, 3, 172]
abbrev dktX9_isSign_2 : List UInt8 := dkwX9_isSign_2 ++ []
def dkwX9_isSign_1 : List UInt8 := [26, 16, 62, 159, 0, 39, 26, 16, 61, 159, 0, 33, 26, 16, 43, 159, 0, 27, 26, 16, 45, 159, 0, 21]
abbrev dktX9_isSign_1 : List UInt8 := dkwX9_isSign_1 ++ dktX9_isSign_2
def dkwX9_isSign_0 : List UInt8 := [26, 16, 59, 159, 0, 63, 26, 16, 40, 159, 0, 57, 26, 16, 41, 159, 0, 51, 26, 16, 60, 159, 0, 45]
abbrev dktX9_isSign_0 : List UInt8 := dkwX9_isSign_0 ++ dktX9_isSign_1
theorem dksX9_isSign_0 : cX9_isSign.data.toList.drop 0 = dktX9_isSign_0 := by decide +kernel
theorem dksX9_isSign_1 : cX9_isSign.data.toList.drop 24 = dktX9_isSign_1 := dk_seg dksX9_isSign_0 24 rfl rfl
theorem dksX9_isSign_2 : cX9_isSign.data.toList.drop 48 = dktX9_isSign_2 := dk_seg dksX9_isSign_1 24 rfl rfl
theorem dX9_isSign_0 : decode cX9_isSign 0 = .ok (.iload_n 0, 1) := dk_26 (dk_at dksX9_isSign_0 0 rfl rfl)
theorem dX9_isSign_1 : decode cX9_isSign 1 = .ok (.bipush 59, 2) := dk_16 59 (dk_at dksX9_isSign_0 1 rfl rfl)
theorem dX9_isSign_3 : decode cX9_isSign 3 = .ok (.if_icmp .eq 63, 3) := dk_159 0 63 (dk_at dksX9_isSign_0 3 rfl rfl)
theorem dX9_isSign_6 : decode cX9_isSign 6 = .ok (.iload_n 0, 1) := dk_26 (dk_at dksX9_isSign_0 6 rfl rfl)
theorem dX9_isSign_7 : decode cX9_isSign 7 = .ok (.bipush 40, 2) := dk_16 40 (dk_at dksX9_isSign_0 7 rfl rfl)
theorem dX9_isSign_9 : decode cX9_isSign 9 = .ok (.if_icmp .eq 57, 3) := dk_159 0 57 (dk_at dksX9_isSign_0 9 rfl rfl)
theorem dX9_isSign_12 : decode cX9_isSign 12 = .ok (.iload_n 0, 1) := dk_26 (dk_at dksX9_isSign_0 12 rfl rfl)
theorem dX9_isSign_13 : decode cX9_isSign 13 = .ok (.bipush 41, 2) := dk_16 41 (dk_at dksX9_isSign_0 13 rfl rfl)
theorem dX9_isSign_15 : decode cX9_isSign 15 = .ok (.if_icmp .eq 51, 3) := dk_159 0 51 (dk_at dksX9_isSign_0 15 rfl rfl)
theorem dX9_isSign_18 : decode cX9_isSign 18 = .ok (.iload_n 0, 1) := dk_26 (dk_at dksX9_isSign_0 18 rfl rfl)
theorem dX9_isSign_19 : decode cX9_isSign 19 = .ok (.bipush 60, 2) := dk_16 60 (dk_at dksX9_isSign_0 19 rfl rfl)
theorem dX9_isSign_21 : decode cX9_isSign 21 = .ok (.if_icmp .eq 45, 3) := dk_159 0 45 (dk_at dksX9_isSign_0 21 rfl rfl)
theorem dX9_isSign_24 : decode cX9_isSign 24 = .ok (.iload_n 0, 1) := dk_26 (dk_at dksX9_isSign_1 0 rfl rfl)
theorem dX9_isSign_25 : decode cX9_isSign 25 = .ok (.bipush 62, 2) := dk_16 62 (dk_at dksX9_isSign_1 1 rfl rfl)
theorem dX9_isSign_27 : decode cX9_isSign 27 = .ok (.if_icmp .eq 39, 3) := dk_159 0 39 (dk_at dksX9_isSign_1 3 rfl rfl)
theorem dX9_isSign_30 : decode cX9_isSign 30 = .ok (.iload_n 0, 1) := dk_26 (dk_at dksX9_isSign_1 6 rfl rfl)
theorem dX9_isSign_31 : decode cX9_isSign 31 = .ok (.bipush 61, 2) := dk_16 61 (dk_at dksX9_isSign_1 7 rfl rfl)
theorem dX9_isSign_33 : decode cX9_isSign 33 = .ok (.if_icmp .eq 33, 3) := dk_159 0 33 (dk_at dksX9_isSign_1 9 rfl rfl)
theorem dX9_isSign_36 : decode cX9_isSign 36 = .ok (.iload_n 0, 1) := dk_26 (dk_at dksX9_isSign_1 12 rfl rfl)
theorem dX9_isSign_37 : decode cX9_isSign 37 = .ok (.bipush 43, 2) := dk_16 43 (dk_at dksX9_isSign_1 13 rfl rfl)
theorem dX9_isSign_39 : decode cX9_isSign 39 = .ok (.if_icmp .eq 27, 3) := dk_159 0 27 (dk_at dksX9_isSign_1 15 rfl rfl)
theorem dX9_isSign_42 : decode cX9_isSign 42 = .ok (.iload_n 0, 1) := dk_26 (dk_at dksX9_isSign_1 18 rfl rfl)
theorem dX9_isSign_43 : decode cX9_isSign 43 = .ok (.bipush 45, 2) := dk_16 45 (dk_at dksX9_isSign_1 19 rfl rfl)
theorem dX9_isSign_45 : decode cX9_isSign 45 = .ok (.if_icmp .eq 21, 3) := dk_159 0 21 (dk_at dksX9_isSign_1 21 rfl rfl)
theorem dX9_isSign_48 : decode cX9_isSign 48 = .ok (.iload_n 0, 1) := dk_26 (dk_at dksX9_isSign_2 0 rfl rfl)
theorem dX9_isSign_49 : decode cX9_isSign 49 = .ok (.bipush 42, 2) := dk_16 42 (dk_at dksX9_isSign_2 1 rfl rfl)
theorem dX9_isSign_51 : decode cX9_isSign 51 = .ok (.if_icmp .eq 15, 3) := dk_159 0 15 (dk_at dksX9_isSign_2 3 rfl rfl)
theorem dX9_isSign_54 : decode cX9_isSign 54 = .ok (.iload_n 0, 1) := dk_26 (dk_at dksX9_isSign_2 6 rfl rfl)
theorem dX9_isSign_55 : decode cX9_isSign 55 = .ok (.bipush 47, 2) := dk_16 47 (dk_at dksX9_isSign_2 7 rfl rfl)
theorem dX9_isSign_57 : decode cX9_isSign 57 = .ok (.if_icmp .eq 9, 3) := dk_159 0 9 (dk_at dksX9_isSign_2 9 rfl rfl)
theorem dX9_isSign_60 : decode cX9_isSign 60 = .ok (.iload_n 0, 1) := dk_26 (dk_at dksX9_isSign_2 12 rfl rfl)
theorem dX9_isSign_61 : decode cX9_isSign 61 = .ok (.bipush 37, 2) := dk_16 37 (dk_at dksX9_isSign_2 13 rfl rfl)
theorem dX9_isSign_63 : decode cX9_isSign 63 = .ok (.if_icmp .ne 7, 3) := dk_160 0 7 (dk_at dksX9_isSign_2 15 rfl rfl)
theorem dX9_isSign_66 : decode cX9_isSign 66 = .ok (.iconst 1, 1) := dk_4 (dk_at dksX9_isSign_2 18 rfl rfl)
theorem dX9_isSign_67 : decode cX9_isSign 67 = .ok (.goto 4, 3) := dk_167 0 4 (dk_at dksX9_isSign_2 19 rfl rfl)
theorem dX9_isSign_70 : decode cX9_isSign 70 = .ok (.iconst 0, 1) := dk_3 (dk_at dksX9_isSign_2 22 rfl rfl)
theorem dX9_isSign_71 : decode cX9_isSign 71 = .ok (.ireturn, 1) := dk_172 (dk_at dksX9_isSign_2 23 rfl rfl)
abbrev cX9_readLine : ByteArray := prog_24_method_41_code
def yX9_readLine : MethodName := ⟨RX9, "readLine", "()V"⟩
def dkwX9_readLine_12 : List UInt8 := [42, 180, 0, 212, 154, 0, 7, 42, 182, 1, 14, 177]
abbrev dktX9_readLine_12 : List UInt8 := dkwX9_readLine_12 ++ []
def dkwX9_readLine_11 : List UInt8 := [182, 1, 11, 42, 180, 0, 212, 154, 0, 17, 42, 180, 0, 199, 16, 59, 159, 0, 8, 42, 5, 182, 1, 11]
abbrev dktX9_readLine_11 : List UInt8 := dkwX9_readLine_11 ++ dktX9_readLine_12
def dkwX9_readLine_10 : List UInt8 := [4, 181, 1, 155, 42, 42, 20, 0, 251, 3, 17, 3, 231, 182, 1, 25, 181, 1, 158, 167, 0, 8, 42, 5]
abbrev dktX9_readLine_10 : List UInt8 := dkwX9_readLine_10 ++ dktX9_readLine_11
def dkwX9_readLine_9 : List UInt8 := [181, 1, 152, 167, 0, 48, 42, 20, 0, 251, 182, 1, 7, 153, 0, 33, 42, 180, 1, 155, 154, 0, 26, 42]
abbrev dktX9_readLine_9 : List UInt8 := dkwX9_readLine_9 ++ dktX9_readLine_10
def dkwX9_readLine_8 : List UInt8 := [180, 1, 149, 154, 0, 25, 42, 4, 181, 1, 149, 42, 42, 20, 0, 249, 3, 16, 100, 182, 1, 25]
abbrev dktX9_readLine_8 : List UInt8 := dkwX9_readLine_8 ++ dktX9_readLine_9
def dkwX9_readLine_7 : List UInt8 := [16, 24, 182, 1, 25, 181, 1, 146, 167, 0, 87, 42, 20, 0, 249, 182, 1, 7, 153, 0, 32, 42]
abbrev dktX9_readLine_7 : List UInt8 := dkwX9_readLine_7 ++ dktX9_readLine_8
def dkwX9_readLine_6 : List UInt8 := [182, 1, 7, 153, 0, 32, 42, 180, 1, 143, 154, 0, 25, 42, 4, 181, 1, 143, 42, 42, 20, 0, 247, 4]
abbrev dktX9_readLine_6 : List UInt8 := dkwX9_readLine_6 ++ dktX9_readLine_7
def dkwX9_readLine_5 : List UInt8 := [180, 1, 137, 154, 0, 15, 42, 4, 181, 1, 137, 42, 182, 1, 140, 167, 0, 126, 42, 20, 0, 247]
abbrev dktX9_readLine_5 : List UInt8 := dkwX9_readLine_5 ++ dktX9_readLine_6
def dkwX9_readLine_4 : List UInt8 := [16, 15, 162, 0, 10, 42, 182, 1, 134, 167, 0, 155, 42, 20, 0, 245, 182, 1, 7, 153, 0, 22, 42]
abbrev dktX9_readLine_4 : List UInt8 := dkwX9_readLine_4 ++ dktX9_readLine_5
def dkwX9_readLine_3 : List UInt8 := [162, 0, 10, 42, 182, 1, 131, 167, 0, 181, 42, 20, 0, 243, 182, 1, 7, 153, 0, 19, 42, 180, 1, 122]
abbrev dktX9_readLine_3 : List UInt8 := dkwX9_readLine_3 ++ dktX9_readLine_4
def dkwX9_readLine_2 : List UInt8 := [182, 1, 128, 167, 0, 207, 42, 20, 0, 227, 182, 1, 7, 153, 0, 19, 42, 180, 1, 116, 16, 10]
abbrev dktX9_readLine_2 : List UInt8 := dkwX9_readLine_2 ++ dktX9_readLine_3
def dkwX9_readLine_1 : List UInt8 := [167, 0, 233, 42, 20, 0, 223, 182, 1, 7, 153, 0, 19, 42, 180, 1, 113, 16, 6, 162, 0, 10, 42]
abbrev dktX9_readLine_1 : List UInt8 := dkwX9_readLine_1 ++ dktX9_readLine_2
def dkwX9_readLine_0 : List UInt8 := [42, 20, 0, 215, 182, 1, 7, 153, 0, 19, 42, 180, 1, 103, 16, 6, 162, 0, 10, 42, 182, 1, 125]
abbrev dktX9_readLine_0 : List UInt8 := dkwX9_readLine_0 ++ dktX9_readLine_1
theorem dksX9_readLine_0 : cX9_readLine.data.toList.drop 0 = dktX9_readLine_0 := by decide +kernel
theorem dksX9_readLine_1 : cX9_readLine.data.toList.drop 23 = dktX9_readLine_1 := dk_seg dksX9_readLine_0 23 rfl rfl
theorem dksX9_readLine_2 : cX9_readLine.data.toList.drop 46 = dktX9_readLine_2 := dk_seg dksX9_readLine_1 23 rfl rfl
theorem dksX9_readLine_3 : cX9_readLine.data.toList.drop 68 = dktX9_readLine_3 := dk_seg dksX9_readLine_2 22 rfl rfl
theorem dksX9_readLine_4 : cX9_readLine.data.toList.drop 92 = dktX9_readLine_4 := dk_seg dksX9_readLine_3 24 rfl rfl
theorem dksX9_readLine_5 : cX9_readLine.data.toList.drop 115 = dktX9_readLine_5 := dk_seg dksX9_readLine_4 23 rfl rfl
theorem dksX9_readLine_6 : cX9_readLine.data.toList.drop 137 = dktX9_readLine_6 := dk_seg dksX9_readLine_5 22 rfl rfl
theorem dksX9_readLine_7 : cX9_readLine.data.toList.drop 161 = dktX9_readLine_7 := dk_seg dksX9_readLine_6 24 rfl rfl
theorem dksX9_readLine_8 : cX9_readLine.data.toList.drop 183 = dktX9_readLine_8 := dk_seg dksX9_readLine_7 22 rfl rfl
theorem dksX9_readLine_9 : cX9_readLine.data.toList.drop 205 = dktX9_readLine_9 := dk_seg dksX9_readLine_8 22 rfl rfl
theorem dksX9_readLine_10 : cX9_readLine.data.toList.drop 229 = dktX9_readLine_10 := dk_seg dksX9_readLine_9 24 rfl rfl
theorem dksX9_readLine_11 : cX9_readLine.data.toList.drop 253 = dktX9_readLine_11 := dk_seg dksX9_readLine_10 24 rfl rfl
theorem dksX9_readLine_12 : cX9_readLine.data.toList.drop 277 = dktX9_readLine_12 := dk_seg dksX9_readLine_11 24 rfl rfl
theorem dX9_readLine_0 : decode cX9_readLine 0 = .ok (.aload_n 0, 1) := dk_42 (dk_at dksX9_readLine_0 0 rfl rfl)
theorem dX9_readLine_1 : decode cX9_readLine 1 = .ok (.ldc2_w 215, 3) := dk_20 0 215 (dk_at dksX9_readLine_0 1 rfl rfl)
theorem dX9_readLine_4 : decode cX9_readLine 4 = .ok (.invokevirtual 263, 3) := dk_182 1 7 (dk_at dksX9_readLine_0 4 rfl rfl)
theorem dX9_readLine_7 : decode cX9_readLine 7 = .ok (.ifCond .eq 19, 3) := dk_153 0 19 (dk_at dksX9_readLine_0 7 rfl rfl)
theorem dX9_readLine_10 : decode cX9_readLine 10 = .ok (.aload_n 0, 1) := dk_42 (dk_at dksX9_readLine_0 10 rfl rfl)
theorem dX9_readLine_11 : decode cX9_readLine 11 = .ok (.getfield 359, 3) := dk_180 1 103 (dk_at dksX9_readLine_0 11 rfl rfl)
theorem dX9_readLine_14 : decode cX9_readLine 14 = .ok (.bipush 6, 2) := dk_16 6 (dk_at dksX9_readLine_0 14 rfl rfl)
theorem dX9_readLine_16 : decode cX9_readLine 16 = .ok (.if_icmp .ge 10, 3) := dk_162 0 10 (dk_at dksX9_readLine_0 16 rfl rfl)
theorem dX9_readLine_19 : decode cX9_readLine 19 = .ok (.aload_n 0, 1) := dk_42 (dk_at dksX9_readLine_0 19 rfl rfl)
theorem dX9_readLine_20 : decode cX9_readLine 20 = .ok (.invokevirtual 381, 3) := dk_182 1 125 (dk_at dksX9_readLine_0 20 rfl rfl)
theorem dX9_readLine_23 : decode cX9_readLine 23 = .ok (.goto 233, 3) := dk_167 0 233 (dk_at dksX9_readLine_1 0 rfl rfl)
theorem dX9_readLine_26 : decode cX9_readLine 26 = .ok (.aload_n 0, 1) := dk_42 (dk_at dksX9_readLine_1 3 rfl rfl)
theorem dX9_readLine_27 : decode cX9_readLine 27 = .ok (.ldc2_w 223, 3) := dk_20 0 223 (dk_at dksX9_readLine_1 4 rfl rfl)
theorem dX9_readLine_30 : decode cX9_readLine 30 = .ok (.invokevirtual 263, 3) := dk_182 1 7 (dk_at dksX9_readLine_1 7 rfl rfl)
theorem dX9_readLine_33 : decode cX9_readLine 33 = .ok (.ifCond .eq 19, 3) := dk_153 0 19 (dk_at dksX9_readLine_1 10 rfl rfl)
theorem dX9_readLine_36 : decode cX9_readLine 36 = .ok (.aload_n 0, 1) := dk_42 (dk_at dksX9_readLine_1 13 rfl rfl)
theorem dX9_readLine_37 : decode cX9_readLine 37 = .ok (.getfield 369, 3) := dk_180 1 113 (dk_at dksX9_readLine_1 14 rfl rfl)
theorem dX9_readLine_40 : decode cX9_readLine 40 = .ok (.bipush 6, 2) := dk_16 6 (dk_at dksX9_readLine_1 17 rfl rfl)
theorem dX9_readLine_42 : decode cX9_readLine 42 = .ok (.if_icmp .ge 10, 3) := dk_162 0 10 (dk_at dksX9_readLine_1 19 rfl rfl)
theorem dX9_readLine_45 : decode cX9_readLine 45 = .ok (.aload_n 0, 1) := dk_42 (dk_at dksX9_readLine_1 22 rfl rfl)
theorem dX9_readLine_46 : decode cX9_readLine 46 = .ok (.invokevirtual 384, 3) := dk_182 1 128 (dk_at dksX9_readLine_2 0 rfl rfl)
theorem dX9_readLine_49 : decode cX9_readLine 49 = .ok (.goto 207, 3) := dk_167 0 207 (dk_at dksX9_readLine_2 3 rfl rfl)
theorem dX9_readLine_52 : decode cX9_readLine 52 = .ok (.aload_n 0, 1) := dk_42 (dk_at dksX9_readLine_2 6 rfl rfl)
theorem dX9_readLine_53 : decode cX9_readLine 53 = .ok (.ldc2_w 227, 3) := dk_20 0 227 (dk_at dksX9_readLine_2 7 rfl rfl)
theorem dX9_readLine_56 : decode cX9_readLine 56 = .ok (.invokevirtual 263, 3) := dk_182 1 7 (dk_at dksX9_readLine_2 10 rfl rfl)
theorem dX9_readLine_59 : decode cX9_readLine 59 = .ok (.ifCond .eq 19, 3) := dk_153 0 19 (dk_at dksX9_readLine_2 13 rfl rfl)
theorem dX9_readLine_62 : decode cX9_readLine 62 = .ok (.aload_n 0, 1) := dk_42 (dk_at dksX9_readLine_2 16 rfl rfl)
theorem dX9_readLine_63 : decode cX9_readLine 63 = .ok (.getfield 372, 3) := dk_180 1 116 (dk_at dksX9_readLine_2 17 rfl rfl)
theorem dX9_readLine_66 : decode cX9_readLine 66 = .ok (.bipush 10, 2) := dk_16 10 (dk_at dksX9_readLine_2 20 rfl rfl)
theorem dX9_readLine_68 : decode cX9_readLine 68 = .ok (.if_icmp .ge 10, 3) := dk_162 0 10 (dk_at dksX9_readLine_3 0 rfl rfl)
theorem dX9_readLine_71 : decode cX9_readLine 71 = .ok (.aload_n 0, 1) := dk_42 (dk_at dksX9_readLine_3 3 rfl rfl)
theorem dX9_readLine_72 : decode cX9_readLine 72 = .ok (.invokevirtual 387, 3) := dk_182 1 131 (dk_at dksX9_readLine_3 4 rfl rfl)
theorem dX9_readLine_75 : decode cX9_readLine 75 = .ok (.goto 181, 3) := dk_167 0 181 (dk_at dksX9_readLine_3 7 rfl rfl)
theorem dX9_readLine_78 : decode cX9_readLine 78 = .ok (.aload_n 0, 1) := dk_42 (dk_at dksX9_readLine_3 10 rfl rfl)
theorem dX9_readLine_79 : decode cX9_readLine 79 = .ok (.ldc2_w 243, 3) := dk_20 0 243 (dk_at dksX9_readLine_3 11 rfl rfl)
theorem dX9_readLine_82 : decode cX9_readLine 82 = .ok (.invokevirtual 263, 3) := dk_182 1 7 (dk_at dksX9_readLine_3 14 rfl rfl)
theorem dX9_readLine_85 : decode cX9_readLine 85 = .ok (.ifCond .eq 19, 3) := dk_153 0 19 (dk_at dksX9_readLine_3 17 rfl rfl)
theorem dX9_readLine_88 : decode cX9_readLine 88 = .ok (.aload_n 0, 1) := dk_42 (dk_at dksX9_readLine_3 20 rfl rfl)
theorem dX9_readLine_89 : decode cX9_readLine 89 = .ok (.getfield 378, 3) := dk_180 1 122 (dk_at dksX9_readLine_3 21 rfl rfl)
theorem dX9_readLine_92 : decode cX9_readLine 92 = .ok (.bipush 15, 2) := dk_16 15 (dk_at dksX9_readLine_4 0 rfl rfl)
theorem dX9_readLine_94 : decode cX9_readLine 94 = .ok (.if_icmp .ge 10, 3) := dk_162 0 10 (dk_at dksX9_readLine_4 2 rfl rfl)
theorem dX9_readLine_97 : decode cX9_readLine 97 = .ok (.aload_n 0, 1) := dk_42 (dk_at dksX9_readLine_4 5 rfl rfl)
theorem dX9_readLine_98 : decode cX9_readLine 98 = .ok (.invokevirtual 390, 3) := dk_182 1 134 (dk_at dksX9_readLine_4 6 rfl rfl)
theorem dX9_readLine_101 : decode cX9_readLine 101 = .ok (.goto 155, 3) := dk_167 0 155 (dk_at dksX9_readLine_4 9 rfl rfl)
theorem dX9_readLine_104 : decode cX9_readLine 104 = .ok (.aload_n 0, 1) := dk_42 (dk_at dksX9_readLine_4 12 rfl rfl)
theorem dX9_readLine_105 : decode cX9_readLine 105 = .ok (.ldc2_w 245, 3) := dk_20 0 245 (dk_at dksX9_readLine_4 13 rfl rfl)
theorem dX9_readLine_108 : decode cX9_readLine 108 = .ok (.invokevirtual 263, 3) := dk_182 1 7 (dk_at dksX9_readLine_4 16 rfl rfl)
theorem dX9_readLine_111 : decode cX9_readLine 111 = .ok (.ifCond .eq 22, 3) := dk_153 0 22 (dk_at dksX9_readLine_4 19 rfl rfl)
theorem dX9_readLine_114 : decode cX9_readLine 114 = .ok (.aload_n 0, 1) := dk_42 (dk_at dksX9_readLine_4 22 rfl rfl)
theorem dX9_readLine_115 : decode cX9_readLine 115 = .ok (.getfield 393, 3) := dk_180 1 137 (dk_at dksX9_readLine_5 0 rfl rfl)
theorem dX9_readLine_118 : decode cX9_readLine 118 = .ok (.ifCond .ne 15, 3) := dk_154 0 15 (dk_at dksX9_readLine_5 3 rfl rfl)
theorem dX9_readLine_121 : decode cX9_readLine 121 = .ok (.aload_n 0, 1) := dk_42 (dk_at dksX9_readLine_5 6 rfl rfl)
theorem dX9_readLine_122 : decode cX9_readLine 122 = .ok (.iconst 1, 1) := dk_4 (dk_at dksX9_readLine_5 7 rfl rfl)
theorem dX9_readLine_123 : decode cX9_readLine 123 = .ok (.putfield 393, 3) := dk_181 1 137 (dk_at dksX9_readLine_5 8 rfl rfl)
theorem dX9_readLine_126 : decode cX9_readLine 126 = .ok (.aload_n 0, 1) := dk_42 (dk_at dksX9_readLine_5 11 rfl rfl)
theorem dX9_readLine_127 : decode cX9_readLine 127 = .ok (.invokevirtual 396, 3) := dk_182 1 140 (dk_at dksX9_readLine_5 12 rfl rfl)
theorem dX9_readLine_130 : decode cX9_readLine 130 = .ok (.goto 126, 3) := dk_167 0 126 (dk_at dksX9_readLine_5 15 rfl rfl)
theorem dX9_readLine_133 : decode cX9_readLine 133 = .ok (.aload_n 0, 1) := dk_42 (dk_at dksX9_readLine_5 18 rfl rfl)
theorem dX9_readLine_134 : decode cX9_readLine 134 = .ok (.ldc2_w 247, 3) := dk_20 0 247 (dk_at dksX9_readLine_5 19 rfl rfl)
theorem dX9_readLine_137 : decode cX9_readLine 137 = .ok (.invokevirtual 263, 3) := dk_182 1 7 (dk_at dksX9_readLine_6 0 rfl rfl)
theorem dX9_readLine_140 : decode cX9_readLine 140 = .ok (.ifCond .eq 32, 3) := dk_153 0 32 (dk_at dksX9_readLine_6 3 rfl rfl)
theorem dX9_readLine_143 : decode cX9_readLine 143 = .ok (.aload_n 0, 1) := dk_42 (dk_at dksX9_readLine_6 6 rfl rfl)
theorem dX9_readLine_144 : decode cX9_readLine 144 = .ok (.getfield 399, 3) := dk_180 1 143 (dk_at dksX9_readLine_6 7 rfl rfl)
theorem dX9_readLine_147 : decode cX9_readLine 147 = .ok (.ifCond .ne 25, 3) := dk_154 0 25 (dk_at dksX9_readLine_6 10 rfl rfl)
theorem dX9_readLine_150 : decode cX9_readLine 150 = .ok (.aload_n 0, 1) := dk_42 (dk_at dksX9_readLine_6 13 rfl rfl)
theorem dX9_readLine_151 : decode cX9_readLine 151 = .ok (.iconst 1, 1) := dk_4 (dk_at dksX9_readLine_6 14 rfl rfl)
theorem dX9_readLine_152 : decode cX9_readLine 152 = .ok (.putfield 399, 3) := dk_181 1 143 (dk_at dksX9_readLine_6 15 rfl rfl)
theorem dX9_readLine_155 : decode cX9_readLine 155 = .ok (.aload_n 0, 1) := dk_42 (dk_at dksX9_readLine_6 18 rfl rfl)
theorem dX9_readLine_156 : decode cX9_readLine 156 = .ok (.aload_n 0, 1) := dk_42 (dk_at dksX9_readLine_6 19 rfl rfl)
theorem dX9_readLine_157 : decode cX9_readLine 157 = .ok (.ldc2_w 247, 3) := dk_20 0 247 (dk_at dksX9_readLine_6 20 rfl rfl)
theorem dX9_readLine_160 : decode cX9_readLine 160 = .ok (.iconst 1, 1) := dk_4 (dk_at dksX9_readLine_6 23 rfl rfl)
theorem dX9_readLine_161 : decode cX9_readLine 161 = .ok (.bipush 24, 2) := dk_16 24 (dk_at dksX9_readLine_7 0 rfl rfl)
theorem dX9_readLine_163 : decode cX9_readLine 163 = .ok (.invokevirtual 281, 3) := dk_182 1 25 (dk_at dksX9_readLine_7 2 rfl rfl)
theorem dX9_readLine_166 : decode cX9_readLine 166 = .ok (.putfield 402, 3) := dk_181 1 146 (dk_at dksX9_readLine_7 5 rfl rfl)
theorem dX9_readLine_169 : decode cX9_readLine 169 = .ok (.goto 87, 3) := dk_167 0 87 (dk_at dksX9_readLine_7 8 rfl rfl)
theorem dX9_readLine_172 : decode cX9_readLine 172 = .ok (.aload_n 0, 1) := dk_42 (dk_at dksX9_readLine_7 11 rfl rfl)
theorem dX9_readLine_173 : decode cX9_readLine 173 = .ok (.ldc2_w 249, 3) := dk_20 0 249 (dk_at dksX9_readLine_7 12 rfl rfl)
theorem dX9_readLine_176 : decode cX9_readLine 176 = .ok (.invokevirtual 263, 3) := dk_182 1 7 (dk_at dksX9_readLine_7 15 rfl rfl)
theorem dX9_readLine_179 : decode cX9_readLine 179 = .ok (.ifCond .eq 32, 3) := dk_153 0 32 (dk_at dksX9_readLine_7 18 rfl rfl)
theorem dX9_readLine_182 : decode cX9_readLine 182 = .ok (.aload_n 0, 1) := dk_42 (dk_at dksX9_readLine_7 21 rfl rfl)
theorem dX9_readLine_183 : decode cX9_readLine 183 = .ok (.getfield 405, 3) := dk_180 1 149 (dk_at dksX9_readLine_8 0 rfl rfl)
theorem dX9_readLine_186 : decode cX9_readLine 186 = .ok (.ifCond .ne 25, 3) := dk_154 0 25 (dk_at dksX9_readLine_8 3 rfl rfl)
theorem dX9_readLine_189 : decode cX9_readLine 189 = .ok (.aload_n 0, 1) := dk_42 (dk_at dksX9_readLine_8 6 rfl rfl)
theorem dX9_readLine_190 : decode cX9_readLine 190 = .ok (.iconst 1, 1) := dk_4 (dk_at dksX9_readLine_8 7 rfl rfl)
theorem dX9_readLine_191 : decode cX9_readLine 191 = .ok (.putfield 405, 3) := dk_181 1 149 (dk_at dksX9_readLine_8 8 rfl rfl)
theorem dX9_readLine_194 : decode cX9_readLine 194 = .ok (.aload_n 0, 1) := dk_42 (dk_at dksX9_readLine_8 11 rfl rfl)
theorem dX9_readLine_195 : decode cX9_readLine 195 = .ok (.aload_n 0, 1) := dk_42 (dk_at dksX9_readLine_8 12 rfl rfl)
theorem dX9_readLine_196 : decode cX9_readLine 196 = .ok (.ldc2_w 249, 3) := dk_20 0 249 (dk_at dksX9_readLine_8 13 rfl rfl)
theorem dX9_readLine_199 : decode cX9_readLine 199 = .ok (.iconst 0, 1) := dk_3 (dk_at dksX9_readLine_8 16 rfl rfl)
theorem dX9_readLine_200 : decode cX9_readLine 200 = .ok (.bipush 100, 2) := dk_16 100 (dk_at dksX9_readLine_8 17 rfl rfl)
theorem dX9_readLine_202 : decode cX9_readLine 202 = .ok (.invokevirtual 281, 3) := dk_182 1 25 (dk_at dksX9_readLine_8 19 rfl rfl)
theorem dX9_readLine_205 : decode cX9_readLine 205 = .ok (.putfield 408, 3) := dk_181 1 152 (dk_at dksX9_readLine_9 0 rfl rfl)
theorem dX9_readLine_208 : decode cX9_readLine 208 = .ok (.goto 48, 3) := dk_167 0 48 (dk_at dksX9_readLine_9 3 rfl rfl)
theorem dX9_readLine_211 : decode cX9_readLine 211 = .ok (.aload_n 0, 1) := dk_42 (dk_at dksX9_readLine_9 6 rfl rfl)
theorem dX9_readLine_212 : decode cX9_readLine 212 = .ok (.ldc2_w 251, 3) := dk_20 0 251 (dk_at dksX9_readLine_9 7 rfl rfl)
theorem dX9_readLine_215 : decode cX9_readLine 215 = .ok (.invokevirtual 263, 3) := dk_182 1 7 (dk_at dksX9_readLine_9 10 rfl rfl)
theorem dX9_readLine_218 : decode cX9_readLine 218 = .ok (.ifCond .eq 33, 3) := dk_153 0 33 (dk_at dksX9_readLine_9 13 rfl rfl)
theorem dX9_readLine_221 : decode cX9_readLine 221 = .ok (.aload_n 0, 1) := dk_42 (dk_at dksX9_readLine_9 16 rfl rfl)
theorem dX9_readLine_222 : decode cX9_readLine 222 = .ok (.getfield 411, 3) := dk_180 1 155 (dk_at dksX9_readLine_9 17 rfl rfl)
theorem dX9_readLine_225 : decode cX9_readLine 225 = .ok (.ifCond .ne 26, 3) := dk_154 0 26 (dk_at dksX9_readLine_9 20 rfl rfl)
theorem dX9_readLine_228 : decode cX9_readLine 228 = .ok (.aload_n 0, 1) := dk_42 (dk_at dksX9_readLine_9 23 rfl rfl)
theorem dX9_readLine_229 : decode cX9_readLine 229 = .ok (.iconst 1, 1) := dk_4 (dk_at dksX9_readLine_10 0 rfl rfl)
theorem dX9_readLine_230 : decode cX9_readLine 230 = .ok (.putfield 411, 3) := dk_181 1 155 (dk_at dksX9_readLine_10 1 rfl rfl)
theorem dX9_readLine_233 : decode cX9_readLine 233 = .ok (.aload_n 0, 1) := dk_42 (dk_at dksX9_readLine_10 4 rfl rfl)
theorem dX9_readLine_234 : decode cX9_readLine 234 = .ok (.aload_n 0, 1) := dk_42 (dk_at dksX9_readLine_10 5 rfl rfl)
theorem dX9_readLine_235 : decode cX9_readLine 235 = .ok (.ldc2_w 251, 3) := dk_20 0 251 (dk_at dksX9_readLine_10 6 rfl rfl)
theorem dX9_readLine_238 : decode cX9_readLine 238 = .ok (.iconst 0, 1) := dk_3 (dk_at dksX9_readLine_10 9 rfl rfl)
theorem dX9_readLine_239 : decode cX9_readLine 239 = .ok (.sipush 999, 3) := dk_17 3 231 (dk_at dksX9_readLine_10 10 rfl rfl)
theorem dX9_readLine_242 : decode cX9_readLine 242 = .ok (.invokevirtual 281, 3) := dk_182 1 25 (dk_at dksX9_readLine_10 13 rfl rfl)
theorem dX9_readLine_245 : decode cX9_readLine 245 = .ok (.putfield 414, 3) := dk_181 1 158 (dk_at dksX9_readLine_10 16 rfl rfl)
theorem dX9_readLine_248 : decode cX9_readLine 248 = .ok (.goto 8, 3) := dk_167 0 8 (dk_at dksX9_readLine_10 19 rfl rfl)
theorem dX9_readLine_251 : decode cX9_readLine 251 = .ok (.aload_n 0, 1) := dk_42 (dk_at dksX9_readLine_10 22 rfl rfl)
theorem dX9_readLine_252 : decode cX9_readLine 252 = .ok (.iconst 2, 1) := dk_5 (dk_at dksX9_readLine_10 23 rfl rfl)
theorem dX9_readLine_253 : decode cX9_readLine 253 = .ok (.invokevirtual 267, 3) := dk_182 1 11 (dk_at dksX9_readLine_11 0 rfl rfl)
theorem dX9_readLine_256 : decode cX9_readLine 256 = .ok (.aload_n 0, 1) := dk_42 (dk_at dksX9_readLine_11 3 rfl rfl)
theorem dX9_readLine_257 : decode cX9_readLine 257 = .ok (.getfield 212, 3) := dk_180 0 212 (dk_at dksX9_readLine_11 4 rfl rfl)
theorem dX9_readLine_260 : decode cX9_readLine 260 = .ok (.ifCond .ne 17, 3) := dk_154 0 17 (dk_at dksX9_readLine_11 7 rfl rfl)
theorem dX9_readLine_263 : decode cX9_readLine 263 = .ok (.aload_n 0, 1) := dk_42 (dk_at dksX9_readLine_11 10 rfl rfl)
theorem dX9_readLine_264 : decode cX9_readLine 264 = .ok (.getfield 199, 3) := dk_180 0 199 (dk_at dksX9_readLine_11 11 rfl rfl)
theorem dX9_readLine_267 : decode cX9_readLine 267 = .ok (.bipush 59, 2) := dk_16 59 (dk_at dksX9_readLine_11 14 rfl rfl)
theorem dX9_readLine_269 : decode cX9_readLine 269 = .ok (.if_icmp .eq 8, 3) := dk_159 0 8 (dk_at dksX9_readLine_11 16 rfl rfl)
theorem dX9_readLine_272 : decode cX9_readLine 272 = .ok (.aload_n 0, 1) := dk_42 (dk_at dksX9_readLine_11 19 rfl rfl)
theorem dX9_readLine_273 : decode cX9_readLine 273 = .ok (.iconst 2, 1) := dk_5 (dk_at dksX9_readLine_11 20 rfl rfl)
theorem dX9_readLine_274 : decode cX9_readLine 274 = .ok (.invokevirtual 267, 3) := dk_182 1 11 (dk_at dksX9_readLine_11 21 rfl rfl)
theorem dX9_readLine_277 : decode cX9_readLine 277 = .ok (.aload_n 0, 1) := dk_42 (dk_at dksX9_readLine_12 0 rfl rfl)
theorem dX9_readLine_278 : decode cX9_readLine 278 = .ok (.getfield 212, 3) := dk_180 0 212 (dk_at dksX9_readLine_12 1 rfl rfl)
theorem dX9_readLine_281 : decode cX9_readLine 281 = .ok (.ifCond .ne 7, 3) := dk_154 0 7 (dk_at dksX9_readLine_12 4 rfl rfl)
theorem dX9_readLine_284 : decode cX9_readLine 284 = .ok (.aload_n 0, 1) := dk_42 (dk_at dksX9_readLine_12 7 rfl rfl)
theorem dX9_readLine_285 : decode cX9_readLine 285 = .ok (.invokevirtual 270, 3) := dk_182 1 14 (dk_at dksX9_readLine_12 8 rfl rfl)
theorem dX9_readLine_288 : decode cX9_readLine 288 = .ok (.return_, 1) := dk_177 (dk_at dksX9_readLine_12 11 rfl rfl)
abbrev cX9_isWord : ByteArray := prog_24_method_11_code
def yX9_isWord : MethodName := ⟨RX9, "isWord", "(J)Z"⟩
def dkwX9_isWord_0 : List UInt8 := [42, 180, 0, 199, 4, 160, 0, 16, 42, 180, 0, 192, 31, 148, 154, 0, 7, 4, 167, 0, 4, 3, 172]
abbrev dktX9_isWord_0 : List UInt8 := dkwX9_isWord_0 ++ []
theorem dksX9_isWord_0 : cX9_isWord.data.toList.drop 0 = dktX9_isWord_0 := by decide +kernel
theorem dX9_isWord_0 : decode cX9_isWord 0 = .ok (.aload_n 0, 1) := dk_42 (dk_at dksX9_isWord_0 0 rfl rfl)
theorem dX9_isWord_1 : decode cX9_isWord 1 = .ok (.getfield 199, 3) := dk_180 0 199 (dk_at dksX9_isWord_0 1 rfl rfl)
theorem dX9_isWord_4 : decode cX9_isWord 4 = .ok (.iconst 1, 1) := dk_4 (dk_at dksX9_isWord_0 4 rfl rfl)
theorem dX9_isWord_5 : decode cX9_isWord 5 = .ok (.if_icmp .ne 16, 3) := dk_160 0 16 (dk_at dksX9_isWord_0 5 rfl rfl)
theorem dX9_isWord_8 : decode cX9_isWord 8 = .ok (.aload_n 0, 1) := dk_42 (dk_at dksX9_isWord_0 8 rfl rfl)
theorem dX9_isWord_9 : decode cX9_isWord 9 = .ok (.getfield 192, 3) := dk_180 0 192 (dk_at dksX9_isWord_0 9 rfl rfl)
theorem dX9_isWord_12 : decode cX9_isWord 12 = .ok (.lload_n 1, 1) := dk_31 (dk_at dksX9_isWord_0 12 rfl rfl)
theorem dX9_isWord_13 : decode cX9_isWord 13 = .ok (.lcmp, 1) := dk_148 (dk_at dksX9_isWord_0 13 rfl rfl)
theorem dX9_isWord_14 : decode cX9_isWord 14 = .ok (.ifCond .ne 7, 3) := dk_154 0 7 (dk_at dksX9_isWord_0 14 rfl rfl)
theorem dX9_isWord_17 : decode cX9_isWord 17 = .ok (.iconst 1, 1) := dk_4 (dk_at dksX9_isWord_0 17 rfl rfl)
theorem dX9_isWord_18 : decode cX9_isWord 18 = .ok (.goto 4, 3) := dk_167 0 4 (dk_at dksX9_isWord_0 18 rfl rfl)
theorem dX9_isWord_21 : decode cX9_isWord 21 = .ok (.iconst 0, 1) := dk_3 (dk_at dksX9_isWord_0 21 rfl rfl)
theorem dX9_isWord_22 : decode cX9_isWord 22 = .ok (.ireturn, 1) := dk_172 (dk_at dksX9_isWord_0 22 rfl rfl)
abbrev cX9_readMan : ByteArray := prog_24_method_37_code
def yX9_readMan : MethodName := ⟨RX9, "readMan", "()V"⟩
def dkwX9_readMan_6 : List UInt8 := [180, 0, 212, 154, 0, 13, 42, 89, 180, 1, 103, 4, 96, 181, 1, 103, 177]
abbrev dktX9_readMan_6 : List UInt8 := dkwX9_readMan_6 ++ []
def dkwX9_readMan_5 : List UInt8 := [96, 16, 156, 79, 42, 180, 0, 54, 16, 6, 28, 104, 27, 96, 16, 156, 79, 132, 2, 1, 167, 255, 221, 42]
abbrev dktX9_readMan_5 : List UInt8 := dkwX9_readMan_5 ++ dktX9_readMan_6
def dkwX9_readMan_4 : List UInt8 := [153, 0, 7, 42, 182, 1, 14, 3, 61, 28, 16, 6, 162, 0, 35, 42, 180, 0, 54, 16, 6, 27, 104, 28]
abbrev dktX9_readMan_4 : List UInt8 := dkwX9_readMan_4 ++ dktX9_readMan_5
def dkwX9_readMan_3 : List UInt8 := [167, 0, 4, 3, 184, 1, 88, 79, 42, 180, 0, 212, 154, 0, 17, 42, 20, 0, 221, 182, 1, 7]
abbrev dktX9_readMan_3 : List UInt8 := dkwX9_readMan_3 ++ dktX9_readMan_4
def dkwX9_readMan_2 : List UInt8 := [180, 0, 48, 27, 42, 180, 0, 212, 154, 0, 17, 42, 20, 0, 221, 182, 1, 7, 153, 0, 7, 4]
abbrev dktX9_readMan_2 : List UInt8 := dkwX9_readMan_2 ++ dktX9_readMan_3
def dkwX9_readMan_1 : List UInt8 := [16, 9, 3, 182, 1, 109, 79, 42, 180, 0, 45, 27, 42, 20, 0, 219, 4, 7, 5, 182, 1, 109, 79, 42]
abbrev dktX9_readMan_1 : List UInt8 := dkwX9_readMan_1 ++ dktX9_readMan_2
def dkwX9_readMan_0 : List UInt8 := [42, 3, 42, 180, 1, 103, 182, 1, 106, 42, 180, 1, 103, 60, 42, 180, 0, 42, 27, 42, 20, 0, 217, 3]
abbrev dktX9_readMan_0 : List UInt8 := dkwX9_readMan_0 ++ dktX9_readMan_1
theorem dksX9_readMan_0 : cX9_readMan.data.toList.drop 0 = dktX9_readMan_0 := by decide +kernel
theorem dksX9_readMan_1 : cX9_readMan.data.toList.drop 24 = dktX9_readMan_1 := dk_seg dksX9_readMan_0 24 rfl rfl
theorem dksX9_readMan_2 : cX9_readMan.data.toList.drop 48 = dktX9_readMan_2 := dk_seg dksX9_readMan_1 24 rfl rfl
theorem dksX9_readMan_3 : cX9_readMan.data.toList.drop 70 = dktX9_readMan_3 := dk_seg dksX9_readMan_2 22 rfl rfl
theorem dksX9_readMan_4 : cX9_readMan.data.toList.drop 92 = dktX9_readMan_4 := dk_seg dksX9_readMan_3 22 rfl rfl
theorem dksX9_readMan_5 : cX9_readMan.data.toList.drop 116 = dktX9_readMan_5 := dk_seg dksX9_readMan_4 24 rfl rfl
theorem dksX9_readMan_6 : cX9_readMan.data.toList.drop 140 = dktX9_readMan_6 := dk_seg dksX9_readMan_5 24 rfl rfl
theorem dX9_readMan_0 : decode cX9_readMan 0 = .ok (.aload_n 0, 1) := dk_42 (dk_at dksX9_readMan_0 0 rfl rfl)
theorem dX9_readMan_1 : decode cX9_readMan 1 = .ok (.iconst 0, 1) := dk_3 (dk_at dksX9_readMan_0 1 rfl rfl)
theorem dX9_readMan_2 : decode cX9_readMan 2 = .ok (.aload_n 0, 1) := dk_42 (dk_at dksX9_readMan_0 2 rfl rfl)
theorem dX9_readMan_3 : decode cX9_readMan 3 = .ok (.getfield 359, 3) := dk_180 1 103 (dk_at dksX9_readMan_0 3 rfl rfl)
theorem dX9_readMan_6 : decode cX9_readMan 6 = .ok (.invokevirtual 362, 3) := dk_182 1 106 (dk_at dksX9_readMan_0 6 rfl rfl)
theorem dX9_readMan_9 : decode cX9_readMan 9 = .ok (.aload_n 0, 1) := dk_42 (dk_at dksX9_readMan_0 9 rfl rfl)
theorem dX9_readMan_10 : decode cX9_readMan 10 = .ok (.getfield 359, 3) := dk_180 1 103 (dk_at dksX9_readMan_0 10 rfl rfl)
theorem dX9_readMan_13 : decode cX9_readMan 13 = .ok (.istore_n 1, 1) := dk_60 (dk_at dksX9_readMan_0 13 rfl rfl)
theorem dX9_readMan_14 : decode cX9_readMan 14 = .ok (.aload_n 0, 1) := dk_42 (dk_at dksX9_readMan_0 14 rfl rfl)
theorem dX9_readMan_15 : decode cX9_readMan 15 = .ok (.getfield 42, 3) := dk_180 0 42 (dk_at dksX9_readMan_0 15 rfl rfl)
theorem dX9_readMan_18 : decode cX9_readMan 18 = .ok (.iload_n 1, 1) := dk_27 (dk_at dksX9_readMan_0 18 rfl rfl)
theorem dX9_readMan_19 : decode cX9_readMan 19 = .ok (.aload_n 0, 1) := dk_42 (dk_at dksX9_readMan_0 19 rfl rfl)
theorem dX9_readMan_20 : decode cX9_readMan 20 = .ok (.ldc2_w 217, 3) := dk_20 0 217 (dk_at dksX9_readMan_0 20 rfl rfl)
theorem dX9_readMan_23 : decode cX9_readMan 23 = .ok (.iconst 0, 1) := dk_3 (dk_at dksX9_readMan_0 23 rfl rfl)
theorem dX9_readMan_24 : decode cX9_readMan 24 = .ok (.bipush 9, 2) := dk_16 9 (dk_at dksX9_readMan_1 0 rfl rfl)
theorem dX9_readMan_26 : decode cX9_readMan 26 = .ok (.iconst 0, 1) := dk_3 (dk_at dksX9_readMan_1 2 rfl rfl)
theorem dX9_readMan_27 : decode cX9_readMan 27 = .ok (.invokevirtual 365, 3) := dk_182 1 109 (dk_at dksX9_readMan_1 3 rfl rfl)
theorem dX9_readMan_30 : decode cX9_readMan 30 = .ok (.iastore, 1) := dk_79 (dk_at dksX9_readMan_1 6 rfl rfl)
theorem dX9_readMan_31 : decode cX9_readMan 31 = .ok (.aload_n 0, 1) := dk_42 (dk_at dksX9_readMan_1 7 rfl rfl)
theorem dX9_readMan_32 : decode cX9_readMan 32 = .ok (.getfield 45, 3) := dk_180 0 45 (dk_at dksX9_readMan_1 8 rfl rfl)
theorem dX9_readMan_35 : decode cX9_readMan 35 = .ok (.iload_n 1, 1) := dk_27 (dk_at dksX9_readMan_1 11 rfl rfl)
theorem dX9_readMan_36 : decode cX9_readMan 36 = .ok (.aload_n 0, 1) := dk_42 (dk_at dksX9_readMan_1 12 rfl rfl)
theorem dX9_readMan_37 : decode cX9_readMan 37 = .ok (.ldc2_w 219, 3) := dk_20 0 219 (dk_at dksX9_readMan_1 13 rfl rfl)
theorem dX9_readMan_40 : decode cX9_readMan 40 = .ok (.iconst 1, 1) := dk_4 (dk_at dksX9_readMan_1 16 rfl rfl)
theorem dX9_readMan_41 : decode cX9_readMan 41 = .ok (.iconst 4, 1) := dk_7 (dk_at dksX9_readMan_1 17 rfl rfl)
theorem dX9_readMan_42 : decode cX9_readMan 42 = .ok (.iconst 2, 1) := dk_5 (dk_at dksX9_readMan_1 18 rfl rfl)
theorem dX9_readMan_43 : decode cX9_readMan 43 = .ok (.invokevirtual 365, 3) := dk_182 1 109 (dk_at dksX9_readMan_1 19 rfl rfl)
theorem dX9_readMan_46 : decode cX9_readMan 46 = .ok (.iastore, 1) := dk_79 (dk_at dksX9_readMan_1 22 rfl rfl)
theorem dX9_readMan_47 : decode cX9_readMan 47 = .ok (.aload_n 0, 1) := dk_42 (dk_at dksX9_readMan_1 23 rfl rfl)
theorem dX9_readMan_48 : decode cX9_readMan 48 = .ok (.getfield 48, 3) := dk_180 0 48 (dk_at dksX9_readMan_2 0 rfl rfl)
theorem dX9_readMan_51 : decode cX9_readMan 51 = .ok (.iload_n 1, 1) := dk_27 (dk_at dksX9_readMan_2 3 rfl rfl)
theorem dX9_readMan_52 : decode cX9_readMan 52 = .ok (.aload_n 0, 1) := dk_42 (dk_at dksX9_readMan_2 4 rfl rfl)
theorem dX9_readMan_53 : decode cX9_readMan 53 = .ok (.getfield 212, 3) := dk_180 0 212 (dk_at dksX9_readMan_2 5 rfl rfl)
theorem dX9_readMan_56 : decode cX9_readMan 56 = .ok (.ifCond .ne 17, 3) := dk_154 0 17 (dk_at dksX9_readMan_2 8 rfl rfl)
theorem dX9_readMan_59 : decode cX9_readMan 59 = .ok (.aload_n 0, 1) := dk_42 (dk_at dksX9_readMan_2 11 rfl rfl)
theorem dX9_readMan_60 : decode cX9_readMan 60 = .ok (.ldc2_w 221, 3) := dk_20 0 221 (dk_at dksX9_readMan_2 12 rfl rfl)
theorem dX9_readMan_63 : decode cX9_readMan 63 = .ok (.invokevirtual 263, 3) := dk_182 1 7 (dk_at dksX9_readMan_2 15 rfl rfl)
theorem dX9_readMan_66 : decode cX9_readMan 66 = .ok (.ifCond .eq 7, 3) := dk_153 0 7 (dk_at dksX9_readMan_2 18 rfl rfl)
theorem dX9_readMan_69 : decode cX9_readMan 69 = .ok (.iconst 1, 1) := dk_4 (dk_at dksX9_readMan_2 21 rfl rfl)
theorem dX9_readMan_70 : decode cX9_readMan 70 = .ok (.goto 4, 3) := dk_167 0 4 (dk_at dksX9_readMan_3 0 rfl rfl)
theorem dX9_readMan_73 : decode cX9_readMan 73 = .ok (.iconst 0, 1) := dk_3 (dk_at dksX9_readMan_3 3 rfl rfl)
theorem dX9_readMan_74 : decode cX9_readMan 74 = .ok (.invokestatic 344, 3) := dk_184 1 88 (dk_at dksX9_readMan_3 4 rfl rfl)
theorem dX9_readMan_77 : decode cX9_readMan 77 = .ok (.iastore, 1) := dk_79 (dk_at dksX9_readMan_3 7 rfl rfl)
theorem dX9_readMan_78 : decode cX9_readMan 78 = .ok (.aload_n 0, 1) := dk_42 (dk_at dksX9_readMan_3 8 rfl rfl)
theorem dX9_readMan_79 : decode cX9_readMan 79 = .ok (.getfield 212, 3) := dk_180 0 212 (dk_at dksX9_readMan_3 9 rfl rfl)
theorem dX9_readMan_82 : decode cX9_readMan 82 = .ok (.ifCond .ne 17, 3) := dk_154 0 17 (dk_at dksX9_readMan_3 12 rfl rfl)
theorem dX9_readMan_85 : decode cX9_readMan 85 = .ok (.aload_n 0, 1) := dk_42 (dk_at dksX9_readMan_3 15 rfl rfl)
theorem dX9_readMan_86 : decode cX9_readMan 86 = .ok (.ldc2_w 221, 3) := dk_20 0 221 (dk_at dksX9_readMan_3 16 rfl rfl)
theorem dX9_readMan_89 : decode cX9_readMan 89 = .ok (.invokevirtual 263, 3) := dk_182 1 7 (dk_at dksX9_readMan_3 19 rfl rfl)
theorem dX9_readMan_92 : decode cX9_readMan 92 = .ok (.ifCond .eq 7, 3) := dk_153 0 7 (dk_at dksX9_readMan_4 0 rfl rfl)
theorem dX9_readMan_95 : decode cX9_readMan 95 = .ok (.aload_n 0, 1) := dk_42 (dk_at dksX9_readMan_4 3 rfl rfl)
theorem dX9_readMan_96 : decode cX9_readMan 96 = .ok (.invokevirtual 270, 3) := dk_182 1 14 (dk_at dksX9_readMan_4 4 rfl rfl)
theorem dX9_readMan_99 : decode cX9_readMan 99 = .ok (.iconst 0, 1) := dk_3 (dk_at dksX9_readMan_4 7 rfl rfl)
theorem dX9_readMan_100 : decode cX9_readMan 100 = .ok (.istore_n 2, 1) := dk_61 (dk_at dksX9_readMan_4 8 rfl rfl)
theorem dX9_readMan_101 : decode cX9_readMan 101 = .ok (.iload_n 2, 1) := dk_28 (dk_at dksX9_readMan_4 9 rfl rfl)
theorem dX9_readMan_102 : decode cX9_readMan 102 = .ok (.bipush 6, 2) := dk_16 6 (dk_at dksX9_readMan_4 10 rfl rfl)
theorem dX9_readMan_104 : decode cX9_readMan 104 = .ok (.if_icmp .ge 35, 3) := dk_162 0 35 (dk_at dksX9_readMan_4 12 rfl rfl)
theorem dX9_readMan_107 : decode cX9_readMan 107 = .ok (.aload_n 0, 1) := dk_42 (dk_at dksX9_readMan_4 15 rfl rfl)
theorem dX9_readMan_108 : decode cX9_readMan 108 = .ok (.getfield 54, 3) := dk_180 0 54 (dk_at dksX9_readMan_4 16 rfl rfl)
theorem dX9_readMan_111 : decode cX9_readMan 111 = .ok (.bipush 6, 2) := dk_16 6 (dk_at dksX9_readMan_4 19 rfl rfl)
theorem dX9_readMan_113 : decode cX9_readMan 113 = .ok (.iload_n 1, 1) := dk_27 (dk_at dksX9_readMan_4 21 rfl rfl)
theorem dX9_readMan_114 : decode cX9_readMan 114 = .ok (.imul, 1) := dk_104 (dk_at dksX9_readMan_4 22 rfl rfl)
theorem dX9_readMan_115 : decode cX9_readMan 115 = .ok (.iload_n 2, 1) := dk_28 (dk_at dksX9_readMan_4 23 rfl rfl)
theorem dX9_readMan_116 : decode cX9_readMan 116 = .ok (.iadd, 1) := dk_96 (dk_at dksX9_readMan_5 0 rfl rfl)
theorem dX9_readMan_117 : decode cX9_readMan 117 = .ok (.bipush (-100), 2) := dk_16 156 (dk_at dksX9_readMan_5 1 rfl rfl)
theorem dX9_readMan_119 : decode cX9_readMan 119 = .ok (.iastore, 1) := dk_79 (dk_at dksX9_readMan_5 3 rfl rfl)
theorem dX9_readMan_120 : decode cX9_readMan 120 = .ok (.aload_n 0, 1) := dk_42 (dk_at dksX9_readMan_5 4 rfl rfl)
theorem dX9_readMan_121 : decode cX9_readMan 121 = .ok (.getfield 54, 3) := dk_180 0 54 (dk_at dksX9_readMan_5 5 rfl rfl)
theorem dX9_readMan_124 : decode cX9_readMan 124 = .ok (.bipush 6, 2) := dk_16 6 (dk_at dksX9_readMan_5 8 rfl rfl)
theorem dX9_readMan_126 : decode cX9_readMan 126 = .ok (.iload_n 2, 1) := dk_28 (dk_at dksX9_readMan_5 10 rfl rfl)
theorem dX9_readMan_127 : decode cX9_readMan 127 = .ok (.imul, 1) := dk_104 (dk_at dksX9_readMan_5 11 rfl rfl)
theorem dX9_readMan_128 : decode cX9_readMan 128 = .ok (.iload_n 1, 1) := dk_27 (dk_at dksX9_readMan_5 12 rfl rfl)
theorem dX9_readMan_129 : decode cX9_readMan 129 = .ok (.iadd, 1) := dk_96 (dk_at dksX9_readMan_5 13 rfl rfl)
theorem dX9_readMan_130 : decode cX9_readMan 130 = .ok (.bipush (-100), 2) := dk_16 156 (dk_at dksX9_readMan_5 14 rfl rfl)
theorem dX9_readMan_132 : decode cX9_readMan 132 = .ok (.iastore, 1) := dk_79 (dk_at dksX9_readMan_5 16 rfl rfl)
theorem dX9_readMan_133 : decode cX9_readMan 133 = .ok (.iinc 2 1, 3) := dk_132 2 1 (dk_at dksX9_readMan_5 17 rfl rfl)
theorem dX9_readMan_136 : decode cX9_readMan 136 = .ok (.goto (-35), 3) := dk_167 255 221 (dk_at dksX9_readMan_5 20 rfl rfl)
theorem dX9_readMan_139 : decode cX9_readMan 139 = .ok (.aload_n 0, 1) := dk_42 (dk_at dksX9_readMan_5 23 rfl rfl)
theorem dX9_readMan_140 : decode cX9_readMan 140 = .ok (.getfield 212, 3) := dk_180 0 212 (dk_at dksX9_readMan_6 0 rfl rfl)
theorem dX9_readMan_143 : decode cX9_readMan 143 = .ok (.ifCond .ne 13, 3) := dk_154 0 13 (dk_at dksX9_readMan_6 3 rfl rfl)
theorem dX9_readMan_146 : decode cX9_readMan 146 = .ok (.aload_n 0, 1) := dk_42 (dk_at dksX9_readMan_6 6 rfl rfl)
theorem dX9_readMan_147 : decode cX9_readMan 147 = .ok (.dup, 1) := dk_89 (dk_at dksX9_readMan_6 7 rfl rfl)
theorem dX9_readMan_148 : decode cX9_readMan 148 = .ok (.getfield 359, 3) := dk_180 1 103 (dk_at dksX9_readMan_6 8 rfl rfl)
theorem dX9_readMan_151 : decode cX9_readMan 151 = .ok (.iconst 1, 1) := dk_4 (dk_at dksX9_readMan_6 11 rfl rfl)
theorem dX9_readMan_152 : decode cX9_readMan 152 = .ok (.iadd, 1) := dk_96 (dk_at dksX9_readMan_6 12 rfl rfl)
theorem dX9_readMan_153 : decode cX9_readMan 153 = .ok (.putfield 359, 3) := dk_181 1 103 (dk_at dksX9_readMan_6 13 rfl rfl)
theorem dX9_readMan_156 : decode cX9_readMan 156 = .ok (.return_, 1) := dk_177 (dk_at dksX9_readMan_6 16 rfl rfl)
abbrev cX9_newName : ByteArray := prog_24_method_19_code
def yX9_newName : MethodName := ⟨RX9, "newName", "(II)V"⟩
def dkwX9_newName_2 : List UInt8 := [28, 96, 42, 180, 0, 192, 80, 42, 182, 1, 14, 177]
abbrev dktX9_newName_2 : List UInt8 := dkwX9_newName_2 ++ []
def dkwX9_newName_1 : List UInt8 := [182, 1, 32, 155, 0, 8, 42, 6, 182, 1, 11, 42, 180, 0, 212, 158, 0, 4, 177, 42, 180, 0, 17, 27]
abbrev dktX9_newName_1 : List UInt8 := dkwX9_newName_1 ++ dktX9_newName_2
def dkwX9_newName_0 : List UInt8 := [42, 182, 1, 14, 42, 182, 1, 29, 154, 0, 11, 42, 5, 182, 1, 11, 167, 0, 17, 42, 27, 28]
abbrev dktX9_newName_0 : List UInt8 := dkwX9_newName_0 ++ dktX9_newName_1
theorem dksX9_newName_0 : cX9_newName.data.toList.drop 0 = dktX9_newName_0 := by decide +kernel
theorem dksX9_newName_1 : cX9_newName.data.toList.drop 22 = dktX9_newName_1 := dk_seg dksX9_newName_0 22 rfl rfl
theorem dksX9_newName_2 : cX9_newName.data.toList.drop 46 = dktX9_newName_2 := dk_seg dksX9_newName_1 24 rfl rfl
theorem dX9_newName_0 : decode cX9_newName 0 = .ok (.aload_n 0, 1) := dk_42 (dk_at dksX9_newName_0 0 rfl rfl)
theorem dX9_newName_1 : decode cX9_newName 1 = .ok (.invokevirtual 270, 3) := dk_182 1 14 (dk_at dksX9_newName_0 1 rfl rfl)
theorem dX9_newName_4 : decode cX9_newName 4 = .ok (.aload_n 0, 1) := dk_42 (dk_at dksX9_newName_0 4 rfl rfl)
theorem dX9_newName_5 : decode cX9_newName 5 = .ok (.invokevirtual 285, 3) := dk_182 1 29 (dk_at dksX9_newName_0 5 rfl rfl)
theorem dX9_newName_8 : decode cX9_newName 8 = .ok (.ifCond .ne 11, 3) := dk_154 0 11 (dk_at dksX9_newName_0 8 rfl rfl)
theorem dX9_newName_11 : decode cX9_newName 11 = .ok (.aload_n 0, 1) := dk_42 (dk_at dksX9_newName_0 11 rfl rfl)
theorem dX9_newName_12 : decode cX9_newName 12 = .ok (.iconst 2, 1) := dk_5 (dk_at dksX9_newName_0 12 rfl rfl)
theorem dX9_newName_13 : decode cX9_newName 13 = .ok (.invokevirtual 267, 3) := dk_182 1 11 (dk_at dksX9_newName_0 13 rfl rfl)
theorem dX9_newName_16 : decode cX9_newName 16 = .ok (.goto 17, 3) := dk_167 0 17 (dk_at dksX9_newName_0 16 rfl rfl)
theorem dX9_newName_19 : decode cX9_newName 19 = .ok (.aload_n 0, 1) := dk_42 (dk_at dksX9_newName_0 19 rfl rfl)
theorem dX9_newName_20 : decode cX9_newName 20 = .ok (.iload_n 1, 1) := dk_27 (dk_at dksX9_newName_0 20 rfl rfl)
theorem dX9_newName_21 : decode cX9_newName 21 = .ok (.iload_n 2, 1) := dk_28 (dk_at dksX9_newName_0 21 rfl rfl)
theorem dX9_newName_22 : decode cX9_newName 22 = .ok (.invokevirtual 288, 3) := dk_182 1 32 (dk_at dksX9_newName_1 0 rfl rfl)
theorem dX9_newName_25 : decode cX9_newName 25 = .ok (.ifCond .lt 8, 3) := dk_155 0 8 (dk_at dksX9_newName_1 3 rfl rfl)
theorem dX9_newName_28 : decode cX9_newName 28 = .ok (.aload_n 0, 1) := dk_42 (dk_at dksX9_newName_1 6 rfl rfl)
theorem dX9_newName_29 : decode cX9_newName 29 = .ok (.iconst 3, 1) := dk_6 (dk_at dksX9_newName_1 7 rfl rfl)
theorem dX9_newName_30 : decode cX9_newName 30 = .ok (.invokevirtual 267, 3) := dk_182 1 11 (dk_at dksX9_newName_1 8 rfl rfl)
theorem dX9_newName_33 : decode cX9_newName 33 = .ok (.aload_n 0, 1) := dk_42 (dk_at dksX9_newName_1 11 rfl rfl)
theorem dX9_newName_34 : decode cX9_newName 34 = .ok (.getfield 212, 3) := dk_180 0 212 (dk_at dksX9_newName_1 12 rfl rfl)
theorem dX9_newName_37 : decode cX9_newName 37 = .ok (.ifCond .le 4, 3) := dk_158 0 4 (dk_at dksX9_newName_1 15 rfl rfl)
theorem dX9_newName_40 : decode cX9_newName 40 = .ok (.return_, 1) := dk_177 (dk_at dksX9_newName_1 18 rfl rfl)
theorem dX9_newName_41 : decode cX9_newName 41 = .ok (.aload_n 0, 1) := dk_42 (dk_at dksX9_newName_1 19 rfl rfl)
theorem dX9_newName_42 : decode cX9_newName 42 = .ok (.getfield 17, 3) := dk_180 0 17 (dk_at dksX9_newName_1 20 rfl rfl)
theorem dX9_newName_45 : decode cX9_newName 45 = .ok (.iload_n 1, 1) := dk_27 (dk_at dksX9_newName_1 23 rfl rfl)
theorem dX9_newName_46 : decode cX9_newName 46 = .ok (.iload_n 2, 1) := dk_28 (dk_at dksX9_newName_2 0 rfl rfl)
theorem dX9_newName_47 : decode cX9_newName 47 = .ok (.iadd, 1) := dk_96 (dk_at dksX9_newName_2 1 rfl rfl)
theorem dX9_newName_48 : decode cX9_newName 48 = .ok (.aload_n 0, 1) := dk_42 (dk_at dksX9_newName_2 2 rfl rfl)
theorem dX9_newName_49 : decode cX9_newName 49 = .ok (.getfield 192, 3) := dk_180 0 192 (dk_at dksX9_newName_2 3 rfl rfl)
theorem dX9_newName_52 : decode cX9_newName 52 = .ok (.lastore, 1) := dk_80 (dk_at dksX9_newName_2 6 rfl rfl)
theorem dX9_newName_53 : decode cX9_newName 53 = .ok (.aload_n 0, 1) := dk_42 (dk_at dksX9_newName_2 7 rfl rfl)
theorem dX9_newName_54 : decode cX9_newName 54 = .ok (.invokevirtual 270, 3) := dk_182 1 14 (dk_at dksX9_newName_2 8 rfl rfl)
theorem dX9_newName_57 : decode cX9_newName 57 = .ok (.return_, 1) := dk_177 (dk_at dksX9_newName_2 11 rfl rfl)
abbrev cX9_isName : ByteArray := prog_24_method_13_code
def yX9_isName : MethodName := ⟨RX9, "isName", "()Z"⟩
def dkwX9_isName_0 : List UInt8 := [42, 180, 0, 199, 4, 160, 0, 14, 42, 182, 1, 3, 154, 0, 7, 4, 167, 0, 4, 3, 172]
abbrev dktX9_isName_0 : List UInt8 := dkwX9_isName_0 ++ []
theorem dksX9_isName_0 : cX9_isName.data.toList.drop 0 = dktX9_isName_0 := by decide +kernel
theorem dX9_isName_0 : decode cX9_isName 0 = .ok (.aload_n 0, 1) := dk_42 (dk_at dksX9_isName_0 0 rfl rfl)
theorem dX9_isName_1 : decode cX9_isName 1 = .ok (.getfield 199, 3) := dk_180 0 199 (dk_at dksX9_isName_0 1 rfl rfl)
theorem dX9_isName_4 : decode cX9_isName 4 = .ok (.iconst 1, 1) := dk_4 (dk_at dksX9_isName_0 4 rfl rfl)
theorem dX9_isName_5 : decode cX9_isName 5 = .ok (.if_icmp .ne 14, 3) := dk_160 0 14 (dk_at dksX9_isName_0 5 rfl rfl)
theorem dX9_isName_8 : decode cX9_isName 8 = .ok (.aload_n 0, 1) := dk_42 (dk_at dksX9_isName_0 8 rfl rfl)
theorem dX9_isName_9 : decode cX9_isName 9 = .ok (.invokevirtual 259, 3) := dk_182 1 3 (dk_at dksX9_isName_0 9 rfl rfl)
theorem dX9_isName_12 : decode cX9_isName 12 = .ok (.ifCond .ne 7, 3) := dk_154 0 7 (dk_at dksX9_isName_0 12 rfl rfl)
theorem dX9_isName_15 : decode cX9_isName 15 = .ok (.iconst 1, 1) := dk_4 (dk_at dksX9_isName_0 15 rfl rfl)
theorem dX9_isName_16 : decode cX9_isName 16 = .ok (.goto 4, 3) := dk_167 0 4 (dk_at dksX9_isName_0 16 rfl rfl)
theorem dX9_isName_19 : decode cX9_isName 19 = .ok (.iconst 0, 1) := dk_3 (dk_at dksX9_isName_0 19 rfl rfl)
theorem dX9_isName_20 : decode cX9_isName 20 = .ok (.ireturn, 1) := dk_172 (dk_at dksX9_isName_0 20 rfl rfl)
abbrev cX9_isOwn : ByteArray := prog_24_method_12_code
def yX9_isOwn : MethodName := ⟨RX9, "isOwn", "()Z"⟩
def dkwX9_isOwn_11 : List UInt8 := [167, 0, 4, 3, 172]
abbrev dktX9_isOwn_11 : List UInt8 := dkwX9_isOwn_11 ++ []
def dkwX9_isOwn_10 : List UInt8 := [180, 0, 192, 20, 0, 255, 148, 153, 0, 14, 42, 180, 0, 192, 20, 1, 1, 148, 154, 0, 7, 4]
abbrev dktX9_isOwn_10 : List UInt8 := dkwX9_isOwn_10 ++ dktX9_isOwn_11
def dkwX9_isOwn_9 : List UInt8 := [180, 0, 192, 20, 0, 251, 148, 153, 0, 36, 42, 180, 0, 192, 20, 0, 253, 148, 153, 0, 25, 42]
abbrev dktX9_isOwn_9 : List UInt8 := dkwX9_isOwn_9 ++ dktX9_isOwn_10
def dkwX9_isOwn_8 : List UInt8 := [180, 0, 192, 20, 0, 247, 148, 153, 0, 58, 42, 180, 0, 192, 20, 0, 249, 148, 153, 0, 47, 42]
abbrev dktX9_isOwn_8 : List UInt8 := dkwX9_isOwn_8 ++ dktX9_isOwn_9
def dkwX9_isOwn_7 : List UInt8 := [180, 0, 192, 20, 0, 243, 148, 153, 0, 80, 42, 180, 0, 192, 20, 0, 245, 148, 153, 0, 69, 42]
abbrev dktX9_isOwn_7 : List UInt8 := dkwX9_isOwn_7 ++ dktX9_isOwn_8
def dkwX9_isOwn_6 : List UInt8 := [180, 0, 192, 20, 0, 239, 148, 153, 0, 102, 42, 180, 0, 192, 20, 0, 241, 148, 153, 0, 91, 42]
abbrev dktX9_isOwn_6 : List UInt8 := dkwX9_isOwn_6 ++ dktX9_isOwn_7
def dkwX9_isOwn_5 : List UInt8 := [180, 0, 192, 20, 0, 235, 148, 153, 0, 124, 42, 180, 0, 192, 20, 0, 237, 148, 153, 0, 113, 42]
abbrev dktX9_isOwn_5 : List UInt8 := dkwX9_isOwn_5 ++ dktX9_isOwn_6
def dkwX9_isOwn_4 : List UInt8 := [180, 0, 192, 20, 0, 231, 148, 153, 0, 146, 42, 180, 0, 192, 20, 0, 233, 148, 153, 0, 135, 42]
abbrev dktX9_isOwn_4 : List UInt8 := dkwX9_isOwn_4 ++ dktX9_isOwn_5
def dkwX9_isOwn_3 : List UInt8 := [180, 0, 192, 20, 0, 227, 148, 153, 0, 168, 42, 180, 0, 192, 20, 0, 229, 148, 153, 0, 157, 42]
abbrev dktX9_isOwn_3 : List UInt8 := dkwX9_isOwn_3 ++ dktX9_isOwn_4
def dkwX9_isOwn_2 : List UInt8 := [180, 0, 192, 20, 0, 223, 148, 153, 0, 190, 42, 180, 0, 192, 20, 0, 225, 148, 153, 0, 179, 42]
abbrev dktX9_isOwn_2 : List UInt8 := dkwX9_isOwn_2 ++ dktX9_isOwn_3
def dkwX9_isOwn_1 : List UInt8 := [180, 0, 192, 20, 0, 219, 148, 153, 0, 212, 42, 180, 0, 192, 20, 0, 221, 148, 153, 0, 201, 42]
abbrev dktX9_isOwn_1 : List UInt8 := dkwX9_isOwn_1 ++ dktX9_isOwn_2
def dkwX9_isOwn_0 : List UInt8 := [42, 180, 0, 192, 20, 0, 215, 148, 153, 0, 234, 42, 180, 0, 192, 20, 0, 217, 148, 153, 0, 223, 42]
abbrev dktX9_isOwn_0 : List UInt8 := dkwX9_isOwn_0 ++ dktX9_isOwn_1
theorem dksX9_isOwn_0 : cX9_isOwn.data.toList.drop 0 = dktX9_isOwn_0 := by decide +kernel
theorem dksX9_isOwn_1 : cX9_isOwn.data.toList.drop 23 = dktX9_isOwn_1 := dk_seg dksX9_isOwn_0 23 rfl rfl
theorem dksX9_isOwn_2 : cX9_isOwn.data.toList.drop 45 = dktX9_isOwn_2 := dk_seg dksX9_isOwn_1 22 rfl rfl
theorem dksX9_isOwn_3 : cX9_isOwn.data.toList.drop 67 = dktX9_isOwn_3 := dk_seg dksX9_isOwn_2 22 rfl rfl
theorem dksX9_isOwn_4 : cX9_isOwn.data.toList.drop 89 = dktX9_isOwn_4 := dk_seg dksX9_isOwn_3 22 rfl rfl
theorem dksX9_isOwn_5 : cX9_isOwn.data.toList.drop 111 = dktX9_isOwn_5 := dk_seg dksX9_isOwn_4 22 rfl rfl
theorem dksX9_isOwn_6 : cX9_isOwn.data.toList.drop 133 = dktX9_isOwn_6 := dk_seg dksX9_isOwn_5 22 rfl rfl
theorem dksX9_isOwn_7 : cX9_isOwn.data.toList.drop 155 = dktX9_isOwn_7 := dk_seg dksX9_isOwn_6 22 rfl rfl
theorem dksX9_isOwn_8 : cX9_isOwn.data.toList.drop 177 = dktX9_isOwn_8 := dk_seg dksX9_isOwn_7 22 rfl rfl
theorem dksX9_isOwn_9 : cX9_isOwn.data.toList.drop 199 = dktX9_isOwn_9 := dk_seg dksX9_isOwn_8 22 rfl rfl
theorem dksX9_isOwn_10 : cX9_isOwn.data.toList.drop 221 = dktX9_isOwn_10 := dk_seg dksX9_isOwn_9 22 rfl rfl
theorem dksX9_isOwn_11 : cX9_isOwn.data.toList.drop 243 = dktX9_isOwn_11 := dk_seg dksX9_isOwn_10 22 rfl rfl
theorem dX9_isOwn_0 : decode cX9_isOwn 0 = .ok (.aload_n 0, 1) := dk_42 (dk_at dksX9_isOwn_0 0 rfl rfl)
theorem dX9_isOwn_1 : decode cX9_isOwn 1 = .ok (.getfield 192, 3) := dk_180 0 192 (dk_at dksX9_isOwn_0 1 rfl rfl)
theorem dX9_isOwn_4 : decode cX9_isOwn 4 = .ok (.ldc2_w 215, 3) := dk_20 0 215 (dk_at dksX9_isOwn_0 4 rfl rfl)
theorem dX9_isOwn_7 : decode cX9_isOwn 7 = .ok (.lcmp, 1) := dk_148 (dk_at dksX9_isOwn_0 7 rfl rfl)
theorem dX9_isOwn_8 : decode cX9_isOwn 8 = .ok (.ifCond .eq 234, 3) := dk_153 0 234 (dk_at dksX9_isOwn_0 8 rfl rfl)
theorem dX9_isOwn_11 : decode cX9_isOwn 11 = .ok (.aload_n 0, 1) := dk_42 (dk_at dksX9_isOwn_0 11 rfl rfl)
theorem dX9_isOwn_12 : decode cX9_isOwn 12 = .ok (.getfield 192, 3) := dk_180 0 192 (dk_at dksX9_isOwn_0 12 rfl rfl)
theorem dX9_isOwn_15 : decode cX9_isOwn 15 = .ok (.ldc2_w 217, 3) := dk_20 0 217 (dk_at dksX9_isOwn_0 15 rfl rfl)
theorem dX9_isOwn_18 : decode cX9_isOwn 18 = .ok (.lcmp, 1) := dk_148 (dk_at dksX9_isOwn_0 18 rfl rfl)
theorem dX9_isOwn_19 : decode cX9_isOwn 19 = .ok (.ifCond .eq 223, 3) := dk_153 0 223 (dk_at dksX9_isOwn_0 19 rfl rfl)
theorem dX9_isOwn_22 : decode cX9_isOwn 22 = .ok (.aload_n 0, 1) := dk_42 (dk_at dksX9_isOwn_0 22 rfl rfl)
theorem dX9_isOwn_23 : decode cX9_isOwn 23 = .ok (.getfield 192, 3) := dk_180 0 192 (dk_at dksX9_isOwn_1 0 rfl rfl)
theorem dX9_isOwn_26 : decode cX9_isOwn 26 = .ok (.ldc2_w 219, 3) := dk_20 0 219 (dk_at dksX9_isOwn_1 3 rfl rfl)
theorem dX9_isOwn_29 : decode cX9_isOwn 29 = .ok (.lcmp, 1) := dk_148 (dk_at dksX9_isOwn_1 6 rfl rfl)
theorem dX9_isOwn_30 : decode cX9_isOwn 30 = .ok (.ifCond .eq 212, 3) := dk_153 0 212 (dk_at dksX9_isOwn_1 7 rfl rfl)
theorem dX9_isOwn_33 : decode cX9_isOwn 33 = .ok (.aload_n 0, 1) := dk_42 (dk_at dksX9_isOwn_1 10 rfl rfl)
theorem dX9_isOwn_34 : decode cX9_isOwn 34 = .ok (.getfield 192, 3) := dk_180 0 192 (dk_at dksX9_isOwn_1 11 rfl rfl)
theorem dX9_isOwn_37 : decode cX9_isOwn 37 = .ok (.ldc2_w 221, 3) := dk_20 0 221 (dk_at dksX9_isOwn_1 14 rfl rfl)
theorem dX9_isOwn_40 : decode cX9_isOwn 40 = .ok (.lcmp, 1) := dk_148 (dk_at dksX9_isOwn_1 17 rfl rfl)
theorem dX9_isOwn_41 : decode cX9_isOwn 41 = .ok (.ifCond .eq 201, 3) := dk_153 0 201 (dk_at dksX9_isOwn_1 18 rfl rfl)
theorem dX9_isOwn_44 : decode cX9_isOwn 44 = .ok (.aload_n 0, 1) := dk_42 (dk_at dksX9_isOwn_1 21 rfl rfl)
theorem dX9_isOwn_45 : decode cX9_isOwn 45 = .ok (.getfield 192, 3) := dk_180 0 192 (dk_at dksX9_isOwn_2 0 rfl rfl)
theorem dX9_isOwn_48 : decode cX9_isOwn 48 = .ok (.ldc2_w 223, 3) := dk_20 0 223 (dk_at dksX9_isOwn_2 3 rfl rfl)
theorem dX9_isOwn_51 : decode cX9_isOwn 51 = .ok (.lcmp, 1) := dk_148 (dk_at dksX9_isOwn_2 6 rfl rfl)
theorem dX9_isOwn_52 : decode cX9_isOwn 52 = .ok (.ifCond .eq 190, 3) := dk_153 0 190 (dk_at dksX9_isOwn_2 7 rfl rfl)
theorem dX9_isOwn_55 : decode cX9_isOwn 55 = .ok (.aload_n 0, 1) := dk_42 (dk_at dksX9_isOwn_2 10 rfl rfl)
theorem dX9_isOwn_56 : decode cX9_isOwn 56 = .ok (.getfield 192, 3) := dk_180 0 192 (dk_at dksX9_isOwn_2 11 rfl rfl)
theorem dX9_isOwn_59 : decode cX9_isOwn 59 = .ok (.ldc2_w 225, 3) := dk_20 0 225 (dk_at dksX9_isOwn_2 14 rfl rfl)
theorem dX9_isOwn_62 : decode cX9_isOwn 62 = .ok (.lcmp, 1) := dk_148 (dk_at dksX9_isOwn_2 17 rfl rfl)
theorem dX9_isOwn_63 : decode cX9_isOwn 63 = .ok (.ifCond .eq 179, 3) := dk_153 0 179 (dk_at dksX9_isOwn_2 18 rfl rfl)
theorem dX9_isOwn_66 : decode cX9_isOwn 66 = .ok (.aload_n 0, 1) := dk_42 (dk_at dksX9_isOwn_2 21 rfl rfl)
theorem dX9_isOwn_67 : decode cX9_isOwn 67 = .ok (.getfield 192, 3) := dk_180 0 192 (dk_at dksX9_isOwn_3 0 rfl rfl)
theorem dX9_isOwn_70 : decode cX9_isOwn 70 = .ok (.ldc2_w 227, 3) := dk_20 0 227 (dk_at dksX9_isOwn_3 3 rfl rfl)
theorem dX9_isOwn_73 : decode cX9_isOwn 73 = .ok (.lcmp, 1) := dk_148 (dk_at dksX9_isOwn_3 6 rfl rfl)
theorem dX9_isOwn_74 : decode cX9_isOwn 74 = .ok (.ifCond .eq 168, 3) := dk_153 0 168 (dk_at dksX9_isOwn_3 7 rfl rfl)
theorem dX9_isOwn_77 : decode cX9_isOwn 77 = .ok (.aload_n 0, 1) := dk_42 (dk_at dksX9_isOwn_3 10 rfl rfl)
theorem dX9_isOwn_78 : decode cX9_isOwn 78 = .ok (.getfield 192, 3) := dk_180 0 192 (dk_at dksX9_isOwn_3 11 rfl rfl)
theorem dX9_isOwn_81 : decode cX9_isOwn 81 = .ok (.ldc2_w 229, 3) := dk_20 0 229 (dk_at dksX9_isOwn_3 14 rfl rfl)
theorem dX9_isOwn_84 : decode cX9_isOwn 84 = .ok (.lcmp, 1) := dk_148 (dk_at dksX9_isOwn_3 17 rfl rfl)
theorem dX9_isOwn_85 : decode cX9_isOwn 85 = .ok (.ifCond .eq 157, 3) := dk_153 0 157 (dk_at dksX9_isOwn_3 18 rfl rfl)
theorem dX9_isOwn_88 : decode cX9_isOwn 88 = .ok (.aload_n 0, 1) := dk_42 (dk_at dksX9_isOwn_3 21 rfl rfl)
theorem dX9_isOwn_89 : decode cX9_isOwn 89 = .ok (.getfield 192, 3) := dk_180 0 192 (dk_at dksX9_isOwn_4 0 rfl rfl)
theorem dX9_isOwn_92 : decode cX9_isOwn 92 = .ok (.ldc2_w 231, 3) := dk_20 0 231 (dk_at dksX9_isOwn_4 3 rfl rfl)
theorem dX9_isOwn_95 : decode cX9_isOwn 95 = .ok (.lcmp, 1) := dk_148 (dk_at dksX9_isOwn_4 6 rfl rfl)
theorem dX9_isOwn_96 : decode cX9_isOwn 96 = .ok (.ifCond .eq 146, 3) := dk_153 0 146 (dk_at dksX9_isOwn_4 7 rfl rfl)
theorem dX9_isOwn_99 : decode cX9_isOwn 99 = .ok (.aload_n 0, 1) := dk_42 (dk_at dksX9_isOwn_4 10 rfl rfl)
theorem dX9_isOwn_100 : decode cX9_isOwn 100 = .ok (.getfield 192, 3) := dk_180 0 192 (dk_at dksX9_isOwn_4 11 rfl rfl)
theorem dX9_isOwn_103 : decode cX9_isOwn 103 = .ok (.ldc2_w 233, 3) := dk_20 0 233 (dk_at dksX9_isOwn_4 14 rfl rfl)
theorem dX9_isOwn_106 : decode cX9_isOwn 106 = .ok (.lcmp, 1) := dk_148 (dk_at dksX9_isOwn_4 17 rfl rfl)
theorem dX9_isOwn_107 : decode cX9_isOwn 107 = .ok (.ifCond .eq 135, 3) := dk_153 0 135 (dk_at dksX9_isOwn_4 18 rfl rfl)
theorem dX9_isOwn_110 : decode cX9_isOwn 110 = .ok (.aload_n 0, 1) := dk_42 (dk_at dksX9_isOwn_4 21 rfl rfl)
theorem dX9_isOwn_111 : decode cX9_isOwn 111 = .ok (.getfield 192, 3) := dk_180 0 192 (dk_at dksX9_isOwn_5 0 rfl rfl)
theorem dX9_isOwn_114 : decode cX9_isOwn 114 = .ok (.ldc2_w 235, 3) := dk_20 0 235 (dk_at dksX9_isOwn_5 3 rfl rfl)
theorem dX9_isOwn_117 : decode cX9_isOwn 117 = .ok (.lcmp, 1) := dk_148 (dk_at dksX9_isOwn_5 6 rfl rfl)
theorem dX9_isOwn_118 : decode cX9_isOwn 118 = .ok (.ifCond .eq 124, 3) := dk_153 0 124 (dk_at dksX9_isOwn_5 7 rfl rfl)
theorem dX9_isOwn_121 : decode cX9_isOwn 121 = .ok (.aload_n 0, 1) := dk_42 (dk_at dksX9_isOwn_5 10 rfl rfl)
theorem dX9_isOwn_122 : decode cX9_isOwn 122 = .ok (.getfield 192, 3) := dk_180 0 192 (dk_at dksX9_isOwn_5 11 rfl rfl)
theorem dX9_isOwn_125 : decode cX9_isOwn 125 = .ok (.ldc2_w 237, 3) := dk_20 0 237 (dk_at dksX9_isOwn_5 14 rfl rfl)
theorem dX9_isOwn_128 : decode cX9_isOwn 128 = .ok (.lcmp, 1) := dk_148 (dk_at dksX9_isOwn_5 17 rfl rfl)
theorem dX9_isOwn_129 : decode cX9_isOwn 129 = .ok (.ifCond .eq 113, 3) := dk_153 0 113 (dk_at dksX9_isOwn_5 18 rfl rfl)
theorem dX9_isOwn_132 : decode cX9_isOwn 132 = .ok (.aload_n 0, 1) := dk_42 (dk_at dksX9_isOwn_5 21 rfl rfl)
theorem dX9_isOwn_133 : decode cX9_isOwn 133 = .ok (.getfield 192, 3) := dk_180 0 192 (dk_at dksX9_isOwn_6 0 rfl rfl)
theorem dX9_isOwn_136 : decode cX9_isOwn 136 = .ok (.ldc2_w 239, 3) := dk_20 0 239 (dk_at dksX9_isOwn_6 3 rfl rfl)
theorem dX9_isOwn_139 : decode cX9_isOwn 139 = .ok (.lcmp, 1) := dk_148 (dk_at dksX9_isOwn_6 6 rfl rfl)
theorem dX9_isOwn_140 : decode cX9_isOwn 140 = .ok (.ifCond .eq 102, 3) := dk_153 0 102 (dk_at dksX9_isOwn_6 7 rfl rfl)
theorem dX9_isOwn_143 : decode cX9_isOwn 143 = .ok (.aload_n 0, 1) := dk_42 (dk_at dksX9_isOwn_6 10 rfl rfl)
theorem dX9_isOwn_144 : decode cX9_isOwn 144 = .ok (.getfield 192, 3) := dk_180 0 192 (dk_at dksX9_isOwn_6 11 rfl rfl)
theorem dX9_isOwn_147 : decode cX9_isOwn 147 = .ok (.ldc2_w 241, 3) := dk_20 0 241 (dk_at dksX9_isOwn_6 14 rfl rfl)
theorem dX9_isOwn_150 : decode cX9_isOwn 150 = .ok (.lcmp, 1) := dk_148 (dk_at dksX9_isOwn_6 17 rfl rfl)
theorem dX9_isOwn_151 : decode cX9_isOwn 151 = .ok (.ifCond .eq 91, 3) := dk_153 0 91 (dk_at dksX9_isOwn_6 18 rfl rfl)
theorem dX9_isOwn_154 : decode cX9_isOwn 154 = .ok (.aload_n 0, 1) := dk_42 (dk_at dksX9_isOwn_6 21 rfl rfl)
theorem dX9_isOwn_155 : decode cX9_isOwn 155 = .ok (.getfield 192, 3) := dk_180 0 192 (dk_at dksX9_isOwn_7 0 rfl rfl)
theorem dX9_isOwn_158 : decode cX9_isOwn 158 = .ok (.ldc2_w 243, 3) := dk_20 0 243 (dk_at dksX9_isOwn_7 3 rfl rfl)
theorem dX9_isOwn_161 : decode cX9_isOwn 161 = .ok (.lcmp, 1) := dk_148 (dk_at dksX9_isOwn_7 6 rfl rfl)
theorem dX9_isOwn_162 : decode cX9_isOwn 162 = .ok (.ifCond .eq 80, 3) := dk_153 0 80 (dk_at dksX9_isOwn_7 7 rfl rfl)
theorem dX9_isOwn_165 : decode cX9_isOwn 165 = .ok (.aload_n 0, 1) := dk_42 (dk_at dksX9_isOwn_7 10 rfl rfl)
theorem dX9_isOwn_166 : decode cX9_isOwn 166 = .ok (.getfield 192, 3) := dk_180 0 192 (dk_at dksX9_isOwn_7 11 rfl rfl)
theorem dX9_isOwn_169 : decode cX9_isOwn 169 = .ok (.ldc2_w 245, 3) := dk_20 0 245 (dk_at dksX9_isOwn_7 14 rfl rfl)
theorem dX9_isOwn_172 : decode cX9_isOwn 172 = .ok (.lcmp, 1) := dk_148 (dk_at dksX9_isOwn_7 17 rfl rfl)
theorem dX9_isOwn_173 : decode cX9_isOwn 173 = .ok (.ifCond .eq 69, 3) := dk_153 0 69 (dk_at dksX9_isOwn_7 18 rfl rfl)
theorem dX9_isOwn_176 : decode cX9_isOwn 176 = .ok (.aload_n 0, 1) := dk_42 (dk_at dksX9_isOwn_7 21 rfl rfl)
theorem dX9_isOwn_177 : decode cX9_isOwn 177 = .ok (.getfield 192, 3) := dk_180 0 192 (dk_at dksX9_isOwn_8 0 rfl rfl)
theorem dX9_isOwn_180 : decode cX9_isOwn 180 = .ok (.ldc2_w 247, 3) := dk_20 0 247 (dk_at dksX9_isOwn_8 3 rfl rfl)
theorem dX9_isOwn_183 : decode cX9_isOwn 183 = .ok (.lcmp, 1) := dk_148 (dk_at dksX9_isOwn_8 6 rfl rfl)
theorem dX9_isOwn_184 : decode cX9_isOwn 184 = .ok (.ifCond .eq 58, 3) := dk_153 0 58 (dk_at dksX9_isOwn_8 7 rfl rfl)
theorem dX9_isOwn_187 : decode cX9_isOwn 187 = .ok (.aload_n 0, 1) := dk_42 (dk_at dksX9_isOwn_8 10 rfl rfl)
theorem dX9_isOwn_188 : decode cX9_isOwn 188 = .ok (.getfield 192, 3) := dk_180 0 192 (dk_at dksX9_isOwn_8 11 rfl rfl)
theorem dX9_isOwn_191 : decode cX9_isOwn 191 = .ok (.ldc2_w 249, 3) := dk_20 0 249 (dk_at dksX9_isOwn_8 14 rfl rfl)
theorem dX9_isOwn_194 : decode cX9_isOwn 194 = .ok (.lcmp, 1) := dk_148 (dk_at dksX9_isOwn_8 17 rfl rfl)
theorem dX9_isOwn_195 : decode cX9_isOwn 195 = .ok (.ifCond .eq 47, 3) := dk_153 0 47 (dk_at dksX9_isOwn_8 18 rfl rfl)
theorem dX9_isOwn_198 : decode cX9_isOwn 198 = .ok (.aload_n 0, 1) := dk_42 (dk_at dksX9_isOwn_8 21 rfl rfl)
theorem dX9_isOwn_199 : decode cX9_isOwn 199 = .ok (.getfield 192, 3) := dk_180 0 192 (dk_at dksX9_isOwn_9 0 rfl rfl)
theorem dX9_isOwn_202 : decode cX9_isOwn 202 = .ok (.ldc2_w 251, 3) := dk_20 0 251 (dk_at dksX9_isOwn_9 3 rfl rfl)
theorem dX9_isOwn_205 : decode cX9_isOwn 205 = .ok (.lcmp, 1) := dk_148 (dk_at dksX9_isOwn_9 6 rfl rfl)
theorem dX9_isOwn_206 : decode cX9_isOwn 206 = .ok (.ifCond .eq 36, 3) := dk_153 0 36 (dk_at dksX9_isOwn_9 7 rfl rfl)
theorem dX9_isOwn_209 : decode cX9_isOwn 209 = .ok (.aload_n 0, 1) := dk_42 (dk_at dksX9_isOwn_9 10 rfl rfl)
theorem dX9_isOwn_210 : decode cX9_isOwn 210 = .ok (.getfield 192, 3) := dk_180 0 192 (dk_at dksX9_isOwn_9 11 rfl rfl)
theorem dX9_isOwn_213 : decode cX9_isOwn 213 = .ok (.ldc2_w 253, 3) := dk_20 0 253 (dk_at dksX9_isOwn_9 14 rfl rfl)
theorem dX9_isOwn_216 : decode cX9_isOwn 216 = .ok (.lcmp, 1) := dk_148 (dk_at dksX9_isOwn_9 17 rfl rfl)
theorem dX9_isOwn_217 : decode cX9_isOwn 217 = .ok (.ifCond .eq 25, 3) := dk_153 0 25 (dk_at dksX9_isOwn_9 18 rfl rfl)
theorem dX9_isOwn_220 : decode cX9_isOwn 220 = .ok (.aload_n 0, 1) := dk_42 (dk_at dksX9_isOwn_9 21 rfl rfl)
theorem dX9_isOwn_221 : decode cX9_isOwn 221 = .ok (.getfield 192, 3) := dk_180 0 192 (dk_at dksX9_isOwn_10 0 rfl rfl)
theorem dX9_isOwn_224 : decode cX9_isOwn 224 = .ok (.ldc2_w 255, 3) := dk_20 0 255 (dk_at dksX9_isOwn_10 3 rfl rfl)
theorem dX9_isOwn_227 : decode cX9_isOwn 227 = .ok (.lcmp, 1) := dk_148 (dk_at dksX9_isOwn_10 6 rfl rfl)
theorem dX9_isOwn_228 : decode cX9_isOwn 228 = .ok (.ifCond .eq 14, 3) := dk_153 0 14 (dk_at dksX9_isOwn_10 7 rfl rfl)
theorem dX9_isOwn_231 : decode cX9_isOwn 231 = .ok (.aload_n 0, 1) := dk_42 (dk_at dksX9_isOwn_10 10 rfl rfl)
theorem dX9_isOwn_232 : decode cX9_isOwn 232 = .ok (.getfield 192, 3) := dk_180 0 192 (dk_at dksX9_isOwn_10 11 rfl rfl)
theorem dX9_isOwn_235 : decode cX9_isOwn 235 = .ok (.ldc2_w 257, 3) := dk_20 1 1 (dk_at dksX9_isOwn_10 14 rfl rfl)
theorem dX9_isOwn_238 : decode cX9_isOwn 238 = .ok (.lcmp, 1) := dk_148 (dk_at dksX9_isOwn_10 17 rfl rfl)
theorem dX9_isOwn_239 : decode cX9_isOwn 239 = .ok (.ifCond .ne 7, 3) := dk_154 0 7 (dk_at dksX9_isOwn_10 18 rfl rfl)
theorem dX9_isOwn_242 : decode cX9_isOwn 242 = .ok (.iconst 1, 1) := dk_4 (dk_at dksX9_isOwn_10 21 rfl rfl)
theorem dX9_isOwn_243 : decode cX9_isOwn 243 = .ok (.goto 4, 3) := dk_167 0 4 (dk_at dksX9_isOwn_11 0 rfl rfl)
theorem dX9_isOwn_246 : decode cX9_isOwn 246 = .ok (.iconst 0, 1) := dk_3 (dk_at dksX9_isOwn_11 3 rfl rfl)
theorem dX9_isOwn_247 : decode cX9_isOwn 247 = .ok (.ireturn, 1) := dk_172 (dk_at dksX9_isOwn_11 4 rfl rfl)
abbrev cX9_wrong : ByteArray := prog_24_method_10_code
def yX9_wrong : MethodName := ⟨RX9, "wrong", "(I)V"⟩
def dkwX9_wrong_1 : List UInt8 := [181, 0, 212, 42, 42, 180, 0, 189, 181, 0, 13, 177]
abbrev dktX9_wrong_1 : List UInt8 := dkwX9_wrong_1 ++ []
def dkwX9_wrong_0 : List UInt8 := [42, 180, 0, 212, 158, 0, 4, 177, 42, 42, 180, 0, 199, 6, 160, 0, 7, 4, 167, 0, 4, 27]
abbrev dktX9_wrong_0 : List UInt8 := dkwX9_wrong_0 ++ dktX9_wrong_1
theorem dksX9_wrong_0 : cX9_wrong.data.toList.drop 0 = dktX9_wrong_0 := by decide +kernel
theorem dksX9_wrong_1 : cX9_wrong.data.toList.drop 22 = dktX9_wrong_1 := dk_seg dksX9_wrong_0 22 rfl rfl
theorem dX9_wrong_0 : decode cX9_wrong 0 = .ok (.aload_n 0, 1) := dk_42 (dk_at dksX9_wrong_0 0 rfl rfl)
theorem dX9_wrong_1 : decode cX9_wrong 1 = .ok (.getfield 212, 3) := dk_180 0 212 (dk_at dksX9_wrong_0 1 rfl rfl)
theorem dX9_wrong_4 : decode cX9_wrong 4 = .ok (.ifCond .le 4, 3) := dk_158 0 4 (dk_at dksX9_wrong_0 4 rfl rfl)
theorem dX9_wrong_7 : decode cX9_wrong 7 = .ok (.return_, 1) := dk_177 (dk_at dksX9_wrong_0 7 rfl rfl)
theorem dX9_wrong_8 : decode cX9_wrong 8 = .ok (.aload_n 0, 1) := dk_42 (dk_at dksX9_wrong_0 8 rfl rfl)
theorem dX9_wrong_9 : decode cX9_wrong 9 = .ok (.aload_n 0, 1) := dk_42 (dk_at dksX9_wrong_0 9 rfl rfl)
theorem dX9_wrong_10 : decode cX9_wrong 10 = .ok (.getfield 199, 3) := dk_180 0 199 (dk_at dksX9_wrong_0 10 rfl rfl)
theorem dX9_wrong_13 : decode cX9_wrong 13 = .ok (.iconst 3, 1) := dk_6 (dk_at dksX9_wrong_0 13 rfl rfl)
theorem dX9_wrong_14 : decode cX9_wrong 14 = .ok (.if_icmp .ne 7, 3) := dk_160 0 7 (dk_at dksX9_wrong_0 14 rfl rfl)
theorem dX9_wrong_17 : decode cX9_wrong 17 = .ok (.iconst 1, 1) := dk_4 (dk_at dksX9_wrong_0 17 rfl rfl)
theorem dX9_wrong_18 : decode cX9_wrong 18 = .ok (.goto 4, 3) := dk_167 0 4 (dk_at dksX9_wrong_0 18 rfl rfl)
theorem dX9_wrong_21 : decode cX9_wrong 21 = .ok (.iload_n 1, 1) := dk_27 (dk_at dksX9_wrong_0 21 rfl rfl)
theorem dX9_wrong_22 : decode cX9_wrong 22 = .ok (.putfield 212, 3) := dk_181 0 212 (dk_at dksX9_wrong_1 0 rfl rfl)
theorem dX9_wrong_25 : decode cX9_wrong 25 = .ok (.aload_n 0, 1) := dk_42 (dk_at dksX9_wrong_1 3 rfl rfl)
theorem dX9_wrong_26 : decode cX9_wrong 26 = .ok (.aload_n 0, 1) := dk_42 (dk_at dksX9_wrong_1 4 rfl rfl)
theorem dX9_wrong_27 : decode cX9_wrong 27 = .ok (.getfield 189, 3) := dk_180 0 189 (dk_at dksX9_wrong_1 5 rfl rfl)
theorem dX9_wrong_30 : decode cX9_wrong 30 = .ok (.putfield 13, 3) := dk_181 0 13 (dk_at dksX9_wrong_1 8 rfl rfl)
theorem dX9_wrong_33 : decode cX9_wrong 33 = .ok (.return_, 1) := dk_177 (dk_at dksX9_wrong_1 11 rfl rfl)
abbrev cX9_find : ByteArray := prog_24_method_18_code
def yX9_find : MethodName := ⟨RX9, "find", "(II)I"⟩
def dkwX9_find_1 : List UInt8 := [148, 154, 0, 8, 21, 4, 167, 0, 4, 29, 62, 132, 4, 1, 167, 255, 223, 29, 172]
abbrev dktX9_find_1 : List UInt8 := dkwX9_find_1 ++ []
def dkwX9_find_0 : List UInt8 := [2, 62, 3, 54, 4, 21, 4, 28, 162, 0, 33, 42, 180, 0, 17, 27, 21, 4, 96, 47, 42, 180, 0, 192]
abbrev dktX9_find_0 : List UInt8 := dkwX9_find_0 ++ dktX9_find_1
theorem dksX9_find_0 : cX9_find.data.toList.drop 0 = dktX9_find_0 := by decide +kernel
theorem dksX9_find_1 : cX9_find.data.toList.drop 24 = dktX9_find_1 := dk_seg dksX9_find_0 24 rfl rfl
theorem dX9_find_0 : decode cX9_find 0 = .ok (.iconst (-1), 1) := dk_2 (dk_at dksX9_find_0 0 rfl rfl)
theorem dX9_find_1 : decode cX9_find 1 = .ok (.istore_n 3, 1) := dk_62 (dk_at dksX9_find_0 1 rfl rfl)
theorem dX9_find_2 : decode cX9_find 2 = .ok (.iconst 0, 1) := dk_3 (dk_at dksX9_find_0 2 rfl rfl)
theorem dX9_find_3 : decode cX9_find 3 = .ok (.istore 4, 2) := dk_54 4 (dk_at dksX9_find_0 3 rfl rfl)
theorem dX9_find_5 : decode cX9_find 5 = .ok (.iload 4, 2) := dk_21 4 (dk_at dksX9_find_0 5 rfl rfl)
theorem dX9_find_7 : decode cX9_find 7 = .ok (.iload_n 2, 1) := dk_28 (dk_at dksX9_find_0 7 rfl rfl)
theorem dX9_find_8 : decode cX9_find 8 = .ok (.if_icmp .ge 33, 3) := dk_162 0 33 (dk_at dksX9_find_0 8 rfl rfl)
theorem dX9_find_11 : decode cX9_find 11 = .ok (.aload_n 0, 1) := dk_42 (dk_at dksX9_find_0 11 rfl rfl)
theorem dX9_find_12 : decode cX9_find 12 = .ok (.getfield 17, 3) := dk_180 0 17 (dk_at dksX9_find_0 12 rfl rfl)
theorem dX9_find_15 : decode cX9_find 15 = .ok (.iload_n 1, 1) := dk_27 (dk_at dksX9_find_0 15 rfl rfl)
theorem dX9_find_16 : decode cX9_find 16 = .ok (.iload 4, 2) := dk_21 4 (dk_at dksX9_find_0 16 rfl rfl)
theorem dX9_find_18 : decode cX9_find 18 = .ok (.iadd, 1) := dk_96 (dk_at dksX9_find_0 18 rfl rfl)
theorem dX9_find_19 : decode cX9_find 19 = .ok (.laload, 1) := dk_47 (dk_at dksX9_find_0 19 rfl rfl)
theorem dX9_find_20 : decode cX9_find 20 = .ok (.aload_n 0, 1) := dk_42 (dk_at dksX9_find_0 20 rfl rfl)
theorem dX9_find_21 : decode cX9_find 21 = .ok (.getfield 192, 3) := dk_180 0 192 (dk_at dksX9_find_0 21 rfl rfl)
theorem dX9_find_24 : decode cX9_find 24 = .ok (.lcmp, 1) := dk_148 (dk_at dksX9_find_1 0 rfl rfl)
theorem dX9_find_25 : decode cX9_find 25 = .ok (.ifCond .ne 8, 3) := dk_154 0 8 (dk_at dksX9_find_1 1 rfl rfl)
theorem dX9_find_28 : decode cX9_find 28 = .ok (.iload 4, 2) := dk_21 4 (dk_at dksX9_find_1 4 rfl rfl)
theorem dX9_find_30 : decode cX9_find 30 = .ok (.goto 4, 3) := dk_167 0 4 (dk_at dksX9_find_1 6 rfl rfl)
theorem dX9_find_33 : decode cX9_find 33 = .ok (.iload_n 3, 1) := dk_29 (dk_at dksX9_find_1 9 rfl rfl)
theorem dX9_find_34 : decode cX9_find 34 = .ok (.istore_n 3, 1) := dk_62 (dk_at dksX9_find_1 10 rfl rfl)
theorem dX9_find_35 : decode cX9_find 35 = .ok (.iinc 4 1, 3) := dk_132 4 1 (dk_at dksX9_find_1 11 rfl rfl)
theorem dX9_find_38 : decode cX9_find 38 = .ok (.goto (-33), 3) := dk_167 255 223 (dk_at dksX9_find_1 14 rfl rfl)
theorem dX9_find_41 : decode cX9_find 41 = .ok (.iload_n 3, 1) := dk_29 (dk_at dksX9_find_1 17 rfl rfl)
theorem dX9_find_42 : decode cX9_find 42 = .ok (.ireturn, 1) := dk_172 (dk_at dksX9_find_1 18 rfl rfl)
abbrev cX9_option : ByteArray := prog_24_method_17_code
def yX9_option : MethodName := ⟨RX9, "option", "(JIII)I"⟩
def dkwX9_option_1 : List UInt8 := [167, 0, 5, 21, 5, 172]
abbrev dktX9_option_1 : List UInt8 := dkwX9_option_1 ++ []
def dkwX9_option_0 : List UInt8 := [42, 180, 0, 212, 154, 0, 22, 42, 31, 182, 1, 7, 153, 0, 14, 42, 31, 29, 21, 4, 182, 1, 25]
abbrev dktX9_option_0 : List UInt8 := dkwX9_option_0 ++ dktX9_option_1
theorem dksX9_option_0 : cX9_option.data.toList.drop 0 = dktX9_option_0 := by decide +kernel
theorem dksX9_option_1 : cX9_option.data.toList.drop 23 = dktX9_option_1 := dk_seg dksX9_option_0 23 rfl rfl
theorem dX9_option_0 : decode cX9_option 0 = .ok (.aload_n 0, 1) := dk_42 (dk_at dksX9_option_0 0 rfl rfl)
theorem dX9_option_1 : decode cX9_option 1 = .ok (.getfield 212, 3) := dk_180 0 212 (dk_at dksX9_option_0 1 rfl rfl)
theorem dX9_option_4 : decode cX9_option 4 = .ok (.ifCond .ne 22, 3) := dk_154 0 22 (dk_at dksX9_option_0 4 rfl rfl)
theorem dX9_option_7 : decode cX9_option 7 = .ok (.aload_n 0, 1) := dk_42 (dk_at dksX9_option_0 7 rfl rfl)
theorem dX9_option_8 : decode cX9_option 8 = .ok (.lload_n 1, 1) := dk_31 (dk_at dksX9_option_0 8 rfl rfl)
theorem dX9_option_9 : decode cX9_option 9 = .ok (.invokevirtual 263, 3) := dk_182 1 7 (dk_at dksX9_option_0 9 rfl rfl)
theorem dX9_option_12 : decode cX9_option 12 = .ok (.ifCond .eq 14, 3) := dk_153 0 14 (dk_at dksX9_option_0 12 rfl rfl)
theorem dX9_option_15 : decode cX9_option 15 = .ok (.aload_n 0, 1) := dk_42 (dk_at dksX9_option_0 15 rfl rfl)
theorem dX9_option_16 : decode cX9_option 16 = .ok (.lload_n 1, 1) := dk_31 (dk_at dksX9_option_0 16 rfl rfl)
theorem dX9_option_17 : decode cX9_option 17 = .ok (.iload_n 3, 1) := dk_29 (dk_at dksX9_option_0 17 rfl rfl)
theorem dX9_option_18 : decode cX9_option 18 = .ok (.iload 4, 2) := dk_21 4 (dk_at dksX9_option_0 18 rfl rfl)
theorem dX9_option_20 : decode cX9_option 20 = .ok (.invokevirtual 281, 3) := dk_182 1 25 (dk_at dksX9_option_0 20 rfl rfl)
theorem dX9_option_23 : decode cX9_option 23 = .ok (.goto 5, 3) := dk_167 0 5 (dk_at dksX9_option_1 0 rfl rfl)
theorem dX9_option_26 : decode cX9_option 26 = .ok (.iload 5, 2) := dk_21 5 (dk_at dksX9_option_1 3 rfl rfl)
theorem dX9_option_28 : decode cX9_option 28 = .ok (.ireturn, 1) := dk_172 (dk_at dksX9_option_1 5 rfl rfl)
abbrev cX9_told : ByteArray := prog_24_method_16_code
def yX9_told : MethodName := ⟨RX9, "told", "(JII)I"⟩
def dkwX9_told_0 : List UInt8 := [42, 31, 182, 1, 17, 42, 29, 21, 4, 182, 1, 21, 172]
abbrev dktX9_told_0 : List UInt8 := dkwX9_told_0 ++ []
theorem dksX9_told_0 : cX9_told.data.toList.drop 0 = dktX9_told_0 := by decide +kernel
theorem dX9_told_0 : decode cX9_told 0 = .ok (.aload_n 0, 1) := dk_42 (dk_at dksX9_told_0 0 rfl rfl)
theorem dX9_told_1 : decode cX9_told 1 = .ok (.lload_n 1, 1) := dk_31 (dk_at dksX9_told_0 1 rfl rfl)
theorem dX9_told_2 : decode cX9_told 2 = .ok (.invokevirtual 273, 3) := dk_182 1 17 (dk_at dksX9_told_0 2 rfl rfl)
theorem dX9_told_5 : decode cX9_told 5 = .ok (.aload_n 0, 1) := dk_42 (dk_at dksX9_told_0 5 rfl rfl)
theorem dX9_told_6 : decode cX9_told 6 = .ok (.iload_n 3, 1) := dk_29 (dk_at dksX9_told_0 6 rfl rfl)
theorem dX9_told_7 : decode cX9_told 7 = .ok (.iload 4, 2) := dk_21 4 (dk_at dksX9_told_0 7 rfl rfl)
theorem dX9_told_9 : decode cX9_told 9 = .ok (.invokevirtual 277, 3) := dk_182 1 21 (dk_at dksX9_told_0 9 rfl rfl)
theorem dX9_told_12 : decode cX9_told 12 = .ok (.ireturn, 1) := dk_172 (dk_at dksX9_told_0 12 rfl rfl)
abbrev cX9_want : ByteArray := prog_24_method_14_code
def yX9_want : MethodName := ⟨RX9, "want", "(J)V"⟩
def dkwX9_want_1 : List UInt8 := [42, 182, 1, 14, 177]
abbrev dktX9_want_1 : List UInt8 := dkwX9_want_1 ++ []
def dkwX9_want_0 : List UInt8 := [42, 180, 0, 212, 158, 0, 4, 177, 42, 31, 182, 1, 7, 154, 0, 11, 42, 5, 182, 1, 11, 167, 0, 7]
abbrev dktX9_want_0 : List UInt8 := dkwX9_want_0 ++ dktX9_want_1
theorem dksX9_want_0 : cX9_want.data.toList.drop 0 = dktX9_want_0 := by decide +kernel
theorem dksX9_want_1 : cX9_want.data.toList.drop 24 = dktX9_want_1 := dk_seg dksX9_want_0 24 rfl rfl
theorem dX9_want_0 : decode cX9_want 0 = .ok (.aload_n 0, 1) := dk_42 (dk_at dksX9_want_0 0 rfl rfl)
theorem dX9_want_1 : decode cX9_want 1 = .ok (.getfield 212, 3) := dk_180 0 212 (dk_at dksX9_want_0 1 rfl rfl)
theorem dX9_want_4 : decode cX9_want 4 = .ok (.ifCond .le 4, 3) := dk_158 0 4 (dk_at dksX9_want_0 4 rfl rfl)
theorem dX9_want_7 : decode cX9_want 7 = .ok (.return_, 1) := dk_177 (dk_at dksX9_want_0 7 rfl rfl)
theorem dX9_want_8 : decode cX9_want 8 = .ok (.aload_n 0, 1) := dk_42 (dk_at dksX9_want_0 8 rfl rfl)
theorem dX9_want_9 : decode cX9_want 9 = .ok (.lload_n 1, 1) := dk_31 (dk_at dksX9_want_0 9 rfl rfl)
theorem dX9_want_10 : decode cX9_want 10 = .ok (.invokevirtual 263, 3) := dk_182 1 7 (dk_at dksX9_want_0 10 rfl rfl)
theorem dX9_want_13 : decode cX9_want 13 = .ok (.ifCond .ne 11, 3) := dk_154 0 11 (dk_at dksX9_want_0 13 rfl rfl)
theorem dX9_want_16 : decode cX9_want 16 = .ok (.aload_n 0, 1) := dk_42 (dk_at dksX9_want_0 16 rfl rfl)
theorem dX9_want_17 : decode cX9_want 17 = .ok (.iconst 2, 1) := dk_5 (dk_at dksX9_want_0 17 rfl rfl)
theorem dX9_want_18 : decode cX9_want 18 = .ok (.invokevirtual 267, 3) := dk_182 1 11 (dk_at dksX9_want_0 18 rfl rfl)
theorem dX9_want_21 : decode cX9_want 21 = .ok (.goto 7, 3) := dk_167 0 7 (dk_at dksX9_want_0 21 rfl rfl)
theorem dX9_want_24 : decode cX9_want 24 = .ok (.aload_n 0, 1) := dk_42 (dk_at dksX9_want_1 0 rfl rfl)
theorem dX9_want_25 : decode cX9_want 25 = .ok (.invokevirtual 270, 3) := dk_182 1 14 (dk_at dksX9_want_1 1 rfl rfl)
theorem dX9_want_28 : decode cX9_want 28 = .ok (.return_, 1) := dk_177 (dk_at dksX9_want_1 4 rfl rfl)
abbrev cX9_toldNumber : ByteArray := prog_24_method_15_code
def yX9_toldNumber : MethodName := ⟨RX9, "toldNumbe\x72", "(II)I"⟩
def dkwX9_toldNumber_2 : List UInt8 := [42, 180, 0, 196, 62, 42, 180, 0, 212, 154, 0, 7, 42, 182, 1, 14, 29, 172]
abbrev dktX9_toldNumber_2 : List UInt8 := dkwX9_toldNumber_2 ++ []
def dkwX9_toldNumber_1 : List UInt8 := [167, 0, 24, 42, 180, 0, 196, 27, 161, 0, 11, 42, 180, 0, 196, 28, 164, 0, 8, 42, 7, 182, 1, 11]
abbrev dktX9_toldNumber_1 : List UInt8 := dkwX9_toldNumber_1 ++ dktX9_toldNumber_2
def dkwX9_toldNumber_0 : List UInt8 := [42, 180, 0, 212, 158, 0, 5, 3, 172, 42, 180, 0, 199, 5, 159, 0, 11, 42, 5, 182, 1, 11]
abbrev dktX9_toldNumber_0 : List UInt8 := dkwX9_toldNumber_0 ++ dktX9_toldNumber_1
theorem dksX9_toldNumber_0 : cX9_toldNumber.data.toList.drop 0 = dktX9_toldNumber_0 := by decide +kernel
theorem dksX9_toldNumber_1 : cX9_toldNumber.data.toList.drop 22 = dktX9_toldNumber_1 := dk_seg dksX9_toldNumber_0 22 rfl rfl
theorem dksX9_toldNumber_2 : cX9_toldNumber.data.toList.drop 46 = dktX9_toldNumber_2 := dk_seg dksX9_toldNumber_1 24 rfl rfl
theorem dX9_toldNumber_0 : decode cX9_toldNumber 0 = .ok (.aload_n 0, 1) := dk_42 (dk_at dksX9_toldNumber_0 0 rfl rfl)
theorem dX9_toldNumber_1 : decode cX9_toldNumber 1 = .ok (.getfield 212, 3) := dk_180 0 212 (dk_at dksX9_toldNumber_0 1 rfl rfl)
theorem dX9_toldNumber_4 : decode cX9_toldNumber 4 = .ok (.ifCond .le 5, 3) := dk_158 0 5 (dk_at dksX9_toldNumber_0 4 rfl rfl)
theorem dX9_toldNumber_7 : decode cX9_toldNumber 7 = .ok (.iconst 0, 1) := dk_3 (dk_at dksX9_toldNumber_0 7 rfl rfl)
theorem dX9_toldNumber_8 : decode cX9_toldNumber 8 = .ok (.ireturn, 1) := dk_172 (dk_at dksX9_toldNumber_0 8 rfl rfl)
theorem dX9_toldNumber_9 : decode cX9_toldNumber 9 = .ok (.aload_n 0, 1) := dk_42 (dk_at dksX9_toldNumber_0 9 rfl rfl)
theorem dX9_toldNumber_10 : decode cX9_toldNumber 10 = .ok (.getfield 199, 3) := dk_180 0 199 (dk_at dksX9_toldNumber_0 10 rfl rfl)
theorem dX9_toldNumber_13 : decode cX9_toldNumber 13 = .ok (.iconst 2, 1) := dk_5 (dk_at dksX9_toldNumber_0 13 rfl rfl)
theorem dX9_toldNumber_14 : decode cX9_toldNumber 14 = .ok (.if_icmp .eq 11, 3) := dk_159 0 11 (dk_at dksX9_toldNumber_0 14 rfl rfl)
theorem dX9_toldNumber_17 : decode cX9_toldNumber 17 = .ok (.aload_n 0, 1) := dk_42 (dk_at dksX9_toldNumber_0 17 rfl rfl)
theorem dX9_toldNumber_18 : decode cX9_toldNumber 18 = .ok (.iconst 2, 1) := dk_5 (dk_at dksX9_toldNumber_0 18 rfl rfl)
theorem dX9_toldNumber_19 : decode cX9_toldNumber 19 = .ok (.invokevirtual 267, 3) := dk_182 1 11 (dk_at dksX9_toldNumber_0 19 rfl rfl)
theorem dX9_toldNumber_22 : decode cX9_toldNumber 22 = .ok (.goto 24, 3) := dk_167 0 24 (dk_at dksX9_toldNumber_1 0 rfl rfl)
theorem dX9_toldNumber_25 : decode cX9_toldNumber 25 = .ok (.aload_n 0, 1) := dk_42 (dk_at dksX9_toldNumber_1 3 rfl rfl)
theorem dX9_toldNumber_26 : decode cX9_toldNumber 26 = .ok (.getfield 196, 3) := dk_180 0 196 (dk_at dksX9_toldNumber_1 4 rfl rfl)
theorem dX9_toldNumber_29 : decode cX9_toldNumber 29 = .ok (.iload_n 1, 1) := dk_27 (dk_at dksX9_toldNumber_1 7 rfl rfl)
theorem dX9_toldNumber_30 : decode cX9_toldNumber 30 = .ok (.if_icmp .lt 11, 3) := dk_161 0 11 (dk_at dksX9_toldNumber_1 8 rfl rfl)
theorem dX9_toldNumber_33 : decode cX9_toldNumber 33 = .ok (.aload_n 0, 1) := dk_42 (dk_at dksX9_toldNumber_1 11 rfl rfl)
theorem dX9_toldNumber_34 : decode cX9_toldNumber 34 = .ok (.getfield 196, 3) := dk_180 0 196 (dk_at dksX9_toldNumber_1 12 rfl rfl)
theorem dX9_toldNumber_37 : decode cX9_toldNumber 37 = .ok (.iload_n 2, 1) := dk_28 (dk_at dksX9_toldNumber_1 15 rfl rfl)
theorem dX9_toldNumber_38 : decode cX9_toldNumber 38 = .ok (.if_icmp .le 8, 3) := dk_164 0 8 (dk_at dksX9_toldNumber_1 16 rfl rfl)
theorem dX9_toldNumber_41 : decode cX9_toldNumber 41 = .ok (.aload_n 0, 1) := dk_42 (dk_at dksX9_toldNumber_1 19 rfl rfl)
theorem dX9_toldNumber_42 : decode cX9_toldNumber 42 = .ok (.iconst 4, 1) := dk_7 (dk_at dksX9_toldNumber_1 20 rfl rfl)
theorem dX9_toldNumber_43 : decode cX9_toldNumber 43 = .ok (.invokevirtual 267, 3) := dk_182 1 11 (dk_at dksX9_toldNumber_1 21 rfl rfl)
theorem dX9_toldNumber_46 : decode cX9_toldNumber 46 = .ok (.aload_n 0, 1) := dk_42 (dk_at dksX9_toldNumber_2 0 rfl rfl)
theorem dX9_toldNumber_47 : decode cX9_toldNumber 47 = .ok (.getfield 196, 3) := dk_180 0 196 (dk_at dksX9_toldNumber_2 1 rfl rfl)
theorem dX9_toldNumber_50 : decode cX9_toldNumber 50 = .ok (.istore_n 3, 1) := dk_62 (dk_at dksX9_toldNumber_2 4 rfl rfl)
theorem dX9_toldNumber_51 : decode cX9_toldNumber 51 = .ok (.aload_n 0, 1) := dk_42 (dk_at dksX9_toldNumber_2 5 rfl rfl)
theorem dX9_toldNumber_52 : decode cX9_toldNumber 52 = .ok (.getfield 212, 3) := dk_180 0 212 (dk_at dksX9_toldNumber_2 6 rfl rfl)
theorem dX9_toldNumber_55 : decode cX9_toldNumber 55 = .ok (.ifCond .ne 7, 3) := dk_154 0 7 (dk_at dksX9_toldNumber_2 9 rfl rfl)
theorem dX9_toldNumber_58 : decode cX9_toldNumber 58 = .ok (.aload_n 0, 1) := dk_42 (dk_at dksX9_toldNumber_2 12 rfl rfl)
theorem dX9_toldNumber_59 : decode cX9_toldNumber 59 = .ok (.invokevirtual 270, 3) := dk_182 1 14 (dk_at dksX9_toldNumber_2 13 rfl rfl)
theorem dX9_toldNumber_62 : decode cX9_toldNumber 62 = .ok (.iload_n 3, 1) := dk_29 (dk_at dksX9_toldNumber_2 16 rfl rfl)
theorem dX9_toldNumber_63 : decode cX9_toldNumber 63 = .ok (.ireturn, 1) := dk_172 (dk_at dksX9_toldNumber_2 17 rfl rfl)
abbrev cX9_truth : ByteArray := prog_24_method_34_code
def yX9_truth : MethodName := ⟨RX9, "truth", "(Z)I"⟩
def dkwX9_truth_0 : List UInt8 := [26, 153, 0, 7, 4, 167, 0, 4, 3, 172]
abbrev dktX9_truth_0 : List UInt8 := dkwX9_truth_0 ++ []
theorem dksX9_truth_0 : cX9_truth.data.toList.drop 0 = dktX9_truth_0 := by decide +kernel
theorem dX9_truth_0 : decode cX9_truth 0 = .ok (.iload_n 0, 1) := dk_26 (dk_at dksX9_truth_0 0 rfl rfl)
theorem dX9_truth_1 : decode cX9_truth 1 = .ok (.ifCond .eq 7, 3) := dk_153 0 7 (dk_at dksX9_truth_0 1 rfl rfl)
theorem dX9_truth_4 : decode cX9_truth 4 = .ok (.iconst 1, 1) := dk_4 (dk_at dksX9_truth_0 4 rfl rfl)
theorem dX9_truth_5 : decode cX9_truth 5 = .ok (.goto 4, 3) := dk_167 0 4 (dk_at dksX9_truth_0 5 rfl rfl)
theorem dX9_truth_8 : decode cX9_truth 8 = .ok (.iconst 0, 1) := dk_3 (dk_at dksX9_truth_0 8 rfl rfl)
theorem dX9_truth_9 : decode cX9_truth 9 = .ok (.ireturn, 1) := dk_172 (dk_at dksX9_truth_0 9 rfl rfl)
abbrev cX9_readDeed : ByteArray := prog_24_method_38_code
def yX9_readDeed : MethodName := ⟨RX9, "readDeed", "()V"⟩
def dkwX9_readDeed_1 : List UInt8 := [16, 24, 182, 1, 25, 79, 42, 180, 0, 212, 154, 0, 13, 42, 89, 180, 1, 113, 4, 96, 181, 1, 113, 177]
abbrev dktX9_readDeed_1 : List UInt8 := dkwX9_readDeed_1 ++ []
def dkwX9_readDeed_0 : List UInt8 := [42, 16, 6, 42, 180, 1, 113, 182, 1, 106, 42, 180, 0, 51, 42, 180, 1, 113, 42, 20, 0, 225, 4]
abbrev dktX9_readDeed_0 : List UInt8 := dkwX9_readDeed_0 ++ dktX9_readDeed_1
theorem dksX9_readDeed_0 : cX9_readDeed.data.toList.drop 0 = dktX9_readDeed_0 := by decide +kernel
theorem dksX9_readDeed_1 : cX9_readDeed.data.toList.drop 23 = dktX9_readDeed_1 := dk_seg dksX9_readDeed_0 23 rfl rfl
theorem dX9_readDeed_0 : decode cX9_readDeed 0 = .ok (.aload_n 0, 1) := dk_42 (dk_at dksX9_readDeed_0 0 rfl rfl)
theorem dX9_readDeed_1 : decode cX9_readDeed 1 = .ok (.bipush 6, 2) := dk_16 6 (dk_at dksX9_readDeed_0 1 rfl rfl)
theorem dX9_readDeed_3 : decode cX9_readDeed 3 = .ok (.aload_n 0, 1) := dk_42 (dk_at dksX9_readDeed_0 3 rfl rfl)
theorem dX9_readDeed_4 : decode cX9_readDeed 4 = .ok (.getfield 369, 3) := dk_180 1 113 (dk_at dksX9_readDeed_0 4 rfl rfl)
theorem dX9_readDeed_7 : decode cX9_readDeed 7 = .ok (.invokevirtual 362, 3) := dk_182 1 106 (dk_at dksX9_readDeed_0 7 rfl rfl)
theorem dX9_readDeed_10 : decode cX9_readDeed 10 = .ok (.aload_n 0, 1) := dk_42 (dk_at dksX9_readDeed_0 10 rfl rfl)
theorem dX9_readDeed_11 : decode cX9_readDeed 11 = .ok (.getfield 51, 3) := dk_180 0 51 (dk_at dksX9_readDeed_0 11 rfl rfl)
theorem dX9_readDeed_14 : decode cX9_readDeed 14 = .ok (.aload_n 0, 1) := dk_42 (dk_at dksX9_readDeed_0 14 rfl rfl)
theorem dX9_readDeed_15 : decode cX9_readDeed 15 = .ok (.getfield 369, 3) := dk_180 1 113 (dk_at dksX9_readDeed_0 15 rfl rfl)
theorem dX9_readDeed_18 : decode cX9_readDeed 18 = .ok (.aload_n 0, 1) := dk_42 (dk_at dksX9_readDeed_0 18 rfl rfl)
theorem dX9_readDeed_19 : decode cX9_readDeed 19 = .ok (.ldc2_w 225, 3) := dk_20 0 225 (dk_at dksX9_readDeed_0 19 rfl rfl)
theorem dX9_readDeed_22 : decode cX9_readDeed 22 = .ok (.iconst 1, 1) := dk_4 (dk_at dksX9_readDeed_0 22 rfl rfl)
theorem dX9_readDeed_23 : decode cX9_readDeed 23 = .ok (.bipush 24, 2) := dk_16 24 (dk_at dksX9_readDeed_1 0 rfl rfl)
theorem dX9_readDeed_25 : decode cX9_readDeed 25 = .ok (.invokevirtual 281, 3) := dk_182 1 25 (dk_at dksX9_readDeed_1 2 rfl rfl)
theorem dX9_readDeed_28 : decode cX9_readDeed 28 = .ok (.iastore, 1) := dk_79 (dk_at dksX9_readDeed_1 5 rfl rfl)
theorem dX9_readDeed_29 : decode cX9_readDeed 29 = .ok (.aload_n 0, 1) := dk_42 (dk_at dksX9_readDeed_1 6 rfl rfl)
theorem dX9_readDeed_30 : decode cX9_readDeed 30 = .ok (.getfield 212, 3) := dk_180 0 212 (dk_at dksX9_readDeed_1 7 rfl rfl)
theorem dX9_readDeed_33 : decode cX9_readDeed 33 = .ok (.ifCond .ne 13, 3) := dk_154 0 13 (dk_at dksX9_readDeed_1 10 rfl rfl)
theorem dX9_readDeed_36 : decode cX9_readDeed 36 = .ok (.aload_n 0, 1) := dk_42 (dk_at dksX9_readDeed_1 13 rfl rfl)
theorem dX9_readDeed_37 : decode cX9_readDeed 37 = .ok (.dup, 1) := dk_89 (dk_at dksX9_readDeed_1 14 rfl rfl)
theorem dX9_readDeed_38 : decode cX9_readDeed 38 = .ok (.getfield 369, 3) := dk_180 1 113 (dk_at dksX9_readDeed_1 15 rfl rfl)
theorem dX9_readDeed_41 : decode cX9_readDeed 41 = .ok (.iconst 1, 1) := dk_4 (dk_at dksX9_readDeed_1 18 rfl rfl)
theorem dX9_readDeed_42 : decode cX9_readDeed 42 = .ok (.iadd, 1) := dk_96 (dk_at dksX9_readDeed_1 19 rfl rfl)
theorem dX9_readDeed_43 : decode cX9_readDeed 43 = .ok (.putfield 369, 3) := dk_181 1 113 (dk_at dksX9_readDeed_1 20 rfl rfl)
theorem dX9_readDeed_46 : decode cX9_readDeed 46 = .ok (.return_, 1) := dk_177 (dk_at dksX9_readDeed_1 23 rfl rfl)
abbrev cX9_readButton : ByteArray := prog_24_method_39_code
def yX9_readButton : MethodName := ⟨RX9, "readButton", "()V"⟩
def dkwX9_readButton_12 : List UInt8 := [182, 1, 14, 42, 180, 0, 212, 154, 0, 13, 42, 89, 180, 1, 116, 4, 96, 181, 1, 116, 177]
abbrev dktX9_readButton_12 : List UInt8 := dkwX9_readButton_12 ++ []
def dkwX9_readButton_11 : List UInt8 := [180, 0, 87, 27, 42, 16, 12, 42, 180, 1, 116, 182, 1, 119, 79, 42, 180, 0, 212, 154, 0, 7, 42]
abbrev dktX9_readButton_11 : List UInt8 := dkwX9_readButton_11 ++ dktX9_readButton_12
def dkwX9_readButton_10 : List UInt8 := [42, 180, 0, 212, 154, 0, 44, 42, 20, 0, 241, 182, 1, 7, 153, 0, 34, 42, 182, 1, 14, 42]
abbrev dktX9_readButton_10 : List UInt8 := dkwX9_readButton_10 ++ dktX9_readButton_11
def dkwX9_readButton_9 : List UInt8 := [180, 0, 84, 27, 42, 20, 0, 239, 4, 16, 99, 16, 10, 182, 1, 109, 79, 42, 180, 0, 87, 27, 2, 79]
abbrev dktX9_readButton_9 : List UInt8 := dkwX9_readButton_9 ++ dktX9_readButton_10
def dkwX9_readButton_8 : List UInt8 := [182, 1, 14, 42, 180, 0, 81, 27, 42, 20, 0, 237, 4, 16, 60, 16, 60, 182, 1, 109, 79, 42]
abbrev dktX9_readButton_8 : List UInt8 := dkwX9_readButton_8 ++ dktX9_readButton_9
def dkwX9_readButton_7 : List UInt8 := [42, 180, 0, 78, 27, 42, 16, 6, 42, 180, 1, 113, 182, 1, 119, 79, 42, 180, 0, 212, 154, 0, 7, 42]
abbrev dktX9_readButton_7 : List UInt8 := dkwX9_readButton_7 ++ dktX9_readButton_8
def dkwX9_readButton_6 : List UInt8 := [42, 180, 0, 108, 27, 42, 20, 0, 233, 182, 1, 7, 84, 42, 180, 0, 212, 154, 0, 7, 42, 182, 1, 14]
abbrev dktX9_readButton_6 : List UInt8 := dkwX9_readButton_6 ++ dktX9_readButton_7
def dkwX9_readButton_5 : List UInt8 := [20, 0, 233, 182, 1, 7, 154, 0, 18, 42, 20, 0, 235, 182, 1, 7, 154, 0, 8, 42, 5, 182, 1, 11]
abbrev dktX9_readButton_5 : List UInt8 := dkwX9_readButton_5 ++ dktX9_readButton_6
def dkwX9_readButton_4 : List UInt8 := [6, 182, 1, 11, 42, 180, 0, 212, 154, 0, 7, 42, 182, 1, 14, 42, 180, 0, 212, 154, 0, 28, 42]
abbrev dktX9_readButton_4 : List UInt8 := dkwX9_readButton_4 ++ dktX9_readButton_5
def dkwX9_readButton_3 : List UInt8 := [79, 42, 180, 0, 212, 154, 0, 23, 42, 180, 0, 75, 27, 46, 42, 180, 0, 72, 27, 46, 160, 0, 8, 42]
abbrev dktX9_readButton_3 : List UInt8 := dkwX9_readButton_3 ++ dktX9_readButton_4
def dkwX9_readButton_2 : List UInt8 := [182, 1, 14, 42, 20, 0, 231, 182, 1, 17, 42, 180, 0, 75, 27, 42, 3, 42, 180, 1, 103, 182, 1, 119]
abbrev dktX9_readButton_2 : List UInt8 := dkwX9_readButton_2 ++ dktX9_readButton_3
def dkwX9_readButton_1 : List UInt8 := [180, 0, 72, 27, 42, 3, 42, 180, 1, 103, 182, 1, 119, 79, 42, 180, 0, 212, 154, 0, 7, 42]
abbrev dktX9_readButton_1 : List UInt8 := dkwX9_readButton_1 ++ dktX9_readButton_2
def dkwX9_readButton_0 : List UInt8 := [42, 16, 12, 42, 180, 1, 116, 182, 1, 106, 42, 180, 1, 116, 60, 42, 20, 0, 229, 182, 1, 17, 42]
abbrev dktX9_readButton_0 : List UInt8 := dkwX9_readButton_0 ++ dktX9_readButton_1
theorem dksX9_readButton_0 : cX9_readButton.data.toList.drop 0 = dktX9_readButton_0 := by decide +kernel
theorem dksX9_readButton_1 : cX9_readButton.data.toList.drop 23 = dktX9_readButton_1 := dk_seg dksX9_readButton_0 23 rfl rfl
theorem dksX9_readButton_2 : cX9_readButton.data.toList.drop 45 = dktX9_readButton_2 := dk_seg dksX9_readButton_1 22 rfl rfl
theorem dksX9_readButton_3 : cX9_readButton.data.toList.drop 69 = dktX9_readButton_3 := dk_seg dksX9_readButton_2 24 rfl rfl
theorem dksX9_readButton_4 : cX9_readButton.data.toList.drop 93 = dktX9_readButton_4 := dk_seg dksX9_readButton_3 24 rfl rfl
theorem dksX9_readButton_5 : cX9_readButton.data.toList.drop 116 = dktX9_readButton_5 := dk_seg dksX9_readButton_4 23 rfl rfl
theorem dksX9_readButton_6 : cX9_readButton.data.toList.drop 140 = dktX9_readButton_6 := dk_seg dksX9_readButton_5 24 rfl rfl
theorem dksX9_readButton_7 : cX9_readButton.data.toList.drop 164 = dktX9_readButton_7 := dk_seg dksX9_readButton_6 24 rfl rfl
theorem dksX9_readButton_8 : cX9_readButton.data.toList.drop 188 = dktX9_readButton_8 := dk_seg dksX9_readButton_7 24 rfl rfl
theorem dksX9_readButton_9 : cX9_readButton.data.toList.drop 210 = dktX9_readButton_9 := dk_seg dksX9_readButton_8 22 rfl rfl
theorem dksX9_readButton_10 : cX9_readButton.data.toList.drop 234 = dktX9_readButton_10 := dk_seg dksX9_readButton_9 24 rfl rfl
theorem dksX9_readButton_11 : cX9_readButton.data.toList.drop 256 = dktX9_readButton_11 := dk_seg dksX9_readButton_10 22 rfl rfl
theorem dksX9_readButton_12 : cX9_readButton.data.toList.drop 279 = dktX9_readButton_12 := dk_seg dksX9_readButton_11 23 rfl rfl
theorem dX9_readButton_0 : decode cX9_readButton 0 = .ok (.aload_n 0, 1) := dk_42 (dk_at dksX9_readButton_0 0 rfl rfl)
theorem dX9_readButton_1 : decode cX9_readButton 1 = .ok (.bipush 12, 2) := dk_16 12 (dk_at dksX9_readButton_0 1 rfl rfl)
theorem dX9_readButton_3 : decode cX9_readButton 3 = .ok (.aload_n 0, 1) := dk_42 (dk_at dksX9_readButton_0 3 rfl rfl)
theorem dX9_readButton_4 : decode cX9_readButton 4 = .ok (.getfield 372, 3) := dk_180 1 116 (dk_at dksX9_readButton_0 4 rfl rfl)
theorem dX9_readButton_7 : decode cX9_readButton 7 = .ok (.invokevirtual 362, 3) := dk_182 1 106 (dk_at dksX9_readButton_0 7 rfl rfl)
theorem dX9_readButton_10 : decode cX9_readButton 10 = .ok (.aload_n 0, 1) := dk_42 (dk_at dksX9_readButton_0 10 rfl rfl)
theorem dX9_readButton_11 : decode cX9_readButton 11 = .ok (.getfield 372, 3) := dk_180 1 116 (dk_at dksX9_readButton_0 11 rfl rfl)
theorem dX9_readButton_14 : decode cX9_readButton 14 = .ok (.istore_n 1, 1) := dk_60 (dk_at dksX9_readButton_0 14 rfl rfl)
theorem dX9_readButton_15 : decode cX9_readButton 15 = .ok (.aload_n 0, 1) := dk_42 (dk_at dksX9_readButton_0 15 rfl rfl)
theorem dX9_readButton_16 : decode cX9_readButton 16 = .ok (.ldc2_w 229, 3) := dk_20 0 229 (dk_at dksX9_readButton_0 16 rfl rfl)
theorem dX9_readButton_19 : decode cX9_readButton 19 = .ok (.invokevirtual 273, 3) := dk_182 1 17 (dk_at dksX9_readButton_0 19 rfl rfl)
theorem dX9_readButton_22 : decode cX9_readButton 22 = .ok (.aload_n 0, 1) := dk_42 (dk_at dksX9_readButton_0 22 rfl rfl)
theorem dX9_readButton_23 : decode cX9_readButton 23 = .ok (.getfield 72, 3) := dk_180 0 72 (dk_at dksX9_readButton_1 0 rfl rfl)
theorem dX9_readButton_26 : decode cX9_readButton 26 = .ok (.iload_n 1, 1) := dk_27 (dk_at dksX9_readButton_1 3 rfl rfl)
theorem dX9_readButton_27 : decode cX9_readButton 27 = .ok (.aload_n 0, 1) := dk_42 (dk_at dksX9_readButton_1 4 rfl rfl)
theorem dX9_readButton_28 : decode cX9_readButton 28 = .ok (.iconst 0, 1) := dk_3 (dk_at dksX9_readButton_1 5 rfl rfl)
theorem dX9_readButton_29 : decode cX9_readButton 29 = .ok (.aload_n 0, 1) := dk_42 (dk_at dksX9_readButton_1 6 rfl rfl)
theorem dX9_readButton_30 : decode cX9_readButton 30 = .ok (.getfield 359, 3) := dk_180 1 103 (dk_at dksX9_readButton_1 7 rfl rfl)
theorem dX9_readButton_33 : decode cX9_readButton 33 = .ok (.invokevirtual 375, 3) := dk_182 1 119 (dk_at dksX9_readButton_1 10 rfl rfl)
theorem dX9_readButton_36 : decode cX9_readButton 36 = .ok (.iastore, 1) := dk_79 (dk_at dksX9_readButton_1 13 rfl rfl)
theorem dX9_readButton_37 : decode cX9_readButton 37 = .ok (.aload_n 0, 1) := dk_42 (dk_at dksX9_readButton_1 14 rfl rfl)
theorem dX9_readButton_38 : decode cX9_readButton 38 = .ok (.getfield 212, 3) := dk_180 0 212 (dk_at dksX9_readButton_1 15 rfl rfl)
theorem dX9_readButton_41 : decode cX9_readButton 41 = .ok (.ifCond .ne 7, 3) := dk_154 0 7 (dk_at dksX9_readButton_1 18 rfl rfl)
theorem dX9_readButton_44 : decode cX9_readButton 44 = .ok (.aload_n 0, 1) := dk_42 (dk_at dksX9_readButton_1 21 rfl rfl)
theorem dX9_readButton_45 : decode cX9_readButton 45 = .ok (.invokevirtual 270, 3) := dk_182 1 14 (dk_at dksX9_readButton_2 0 rfl rfl)
theorem dX9_readButton_48 : decode cX9_readButton 48 = .ok (.aload_n 0, 1) := dk_42 (dk_at dksX9_readButton_2 3 rfl rfl)
theorem dX9_readButton_49 : decode cX9_readButton 49 = .ok (.ldc2_w 231, 3) := dk_20 0 231 (dk_at dksX9_readButton_2 4 rfl rfl)
theorem dX9_readButton_52 : decode cX9_readButton 52 = .ok (.invokevirtual 273, 3) := dk_182 1 17 (dk_at dksX9_readButton_2 7 rfl rfl)
theorem dX9_readButton_55 : decode cX9_readButton 55 = .ok (.aload_n 0, 1) := dk_42 (dk_at dksX9_readButton_2 10 rfl rfl)
theorem dX9_readButton_56 : decode cX9_readButton 56 = .ok (.getfield 75, 3) := dk_180 0 75 (dk_at dksX9_readButton_2 11 rfl rfl)
theorem dX9_readButton_59 : decode cX9_readButton 59 = .ok (.iload_n 1, 1) := dk_27 (dk_at dksX9_readButton_2 14 rfl rfl)
theorem dX9_readButton_60 : decode cX9_readButton 60 = .ok (.aload_n 0, 1) := dk_42 (dk_at dksX9_readButton_2 15 rfl rfl)
theorem dX9_readButton_61 : decode cX9_readButton 61 = .ok (.iconst 0, 1) := dk_3 (dk_at dksX9_readButton_2 16 rfl rfl)
theorem dX9_readButton_62 : decode cX9_readButton 62 = .ok (.aload_n 0, 1) := dk_42 (dk_at dksX9_readButton_2 17 rfl rfl)
theorem dX9_readButton_63 : decode cX9_readButton 63 = .ok (.getfield 359, 3) := dk_180 1 103 (dk_at dksX9_readButton_2 18 rfl rfl)
theorem dX9_readButton_66 : decode cX9_readButton 66 = .ok (.invokevirtual 375, 3) := dk_182 1 119 (dk_at dksX9_readButton_2 21 rfl rfl)
theorem dX9_readButton_69 : decode cX9_readButton 69 = .ok (.iastore, 1) := dk_79 (dk_at dksX9_readButton_3 0 rfl rfl)
theorem dX9_readButton_70 : decode cX9_readButton 70 = .ok (.aload_n 0, 1) := dk_42 (dk_at dksX9_readButton_3 1 rfl rfl)
theorem dX9_readButton_71 : decode cX9_readButton 71 = .ok (.getfield 212, 3) := dk_180 0 212 (dk_at dksX9_readButton_3 2 rfl rfl)
theorem dX9_readButton_74 : decode cX9_readButton 74 = .ok (.ifCond .ne 23, 3) := dk_154 0 23 (dk_at dksX9_readButton_3 5 rfl rfl)
theorem dX9_readButton_77 : decode cX9_readButton 77 = .ok (.aload_n 0, 1) := dk_42 (dk_at dksX9_readButton_3 8 rfl rfl)
theorem dX9_readButton_78 : decode cX9_readButton 78 = .ok (.getfield 75, 3) := dk_180 0 75 (dk_at dksX9_readButton_3 9 rfl rfl)
theorem dX9_readButton_81 : decode cX9_readButton 81 = .ok (.iload_n 1, 1) := dk_27 (dk_at dksX9_readButton_3 12 rfl rfl)
theorem dX9_readButton_82 : decode cX9_readButton 82 = .ok (.iaload, 1) := dk_46 (dk_at dksX9_readButton_3 13 rfl rfl)
theorem dX9_readButton_83 : decode cX9_readButton 83 = .ok (.aload_n 0, 1) := dk_42 (dk_at dksX9_readButton_3 14 rfl rfl)
theorem dX9_readButton_84 : decode cX9_readButton 84 = .ok (.getfield 72, 3) := dk_180 0 72 (dk_at dksX9_readButton_3 15 rfl rfl)
theorem dX9_readButton_87 : decode cX9_readButton 87 = .ok (.iload_n 1, 1) := dk_27 (dk_at dksX9_readButton_3 18 rfl rfl)
theorem dX9_readButton_88 : decode cX9_readButton 88 = .ok (.iaload, 1) := dk_46 (dk_at dksX9_readButton_3 19 rfl rfl)
theorem dX9_readButton_89 : decode cX9_readButton 89 = .ok (.if_icmp .ne 8, 3) := dk_160 0 8 (dk_at dksX9_readButton_3 20 rfl rfl)
theorem dX9_readButton_92 : decode cX9_readButton 92 = .ok (.aload_n 0, 1) := dk_42 (dk_at dksX9_readButton_3 23 rfl rfl)
theorem dX9_readButton_93 : decode cX9_readButton 93 = .ok (.iconst 3, 1) := dk_6 (dk_at dksX9_readButton_4 0 rfl rfl)
theorem dX9_readButton_94 : decode cX9_readButton 94 = .ok (.invokevirtual 267, 3) := dk_182 1 11 (dk_at dksX9_readButton_4 1 rfl rfl)
theorem dX9_readButton_97 : decode cX9_readButton 97 = .ok (.aload_n 0, 1) := dk_42 (dk_at dksX9_readButton_4 4 rfl rfl)
theorem dX9_readButton_98 : decode cX9_readButton 98 = .ok (.getfield 212, 3) := dk_180 0 212 (dk_at dksX9_readButton_4 5 rfl rfl)
theorem dX9_readButton_101 : decode cX9_readButton 101 = .ok (.ifCond .ne 7, 3) := dk_154 0 7 (dk_at dksX9_readButton_4 8 rfl rfl)
theorem dX9_readButton_104 : decode cX9_readButton 104 = .ok (.aload_n 0, 1) := dk_42 (dk_at dksX9_readButton_4 11 rfl rfl)
theorem dX9_readButton_105 : decode cX9_readButton 105 = .ok (.invokevirtual 270, 3) := dk_182 1 14 (dk_at dksX9_readButton_4 12 rfl rfl)
theorem dX9_readButton_108 : decode cX9_readButton 108 = .ok (.aload_n 0, 1) := dk_42 (dk_at dksX9_readButton_4 15 rfl rfl)
theorem dX9_readButton_109 : decode cX9_readButton 109 = .ok (.getfield 212, 3) := dk_180 0 212 (dk_at dksX9_readButton_4 16 rfl rfl)
theorem dX9_readButton_112 : decode cX9_readButton 112 = .ok (.ifCond .ne 28, 3) := dk_154 0 28 (dk_at dksX9_readButton_4 19 rfl rfl)
theorem dX9_readButton_115 : decode cX9_readButton 115 = .ok (.aload_n 0, 1) := dk_42 (dk_at dksX9_readButton_4 22 rfl rfl)
theorem dX9_readButton_116 : decode cX9_readButton 116 = .ok (.ldc2_w 233, 3) := dk_20 0 233 (dk_at dksX9_readButton_5 0 rfl rfl)
theorem dX9_readButton_119 : decode cX9_readButton 119 = .ok (.invokevirtual 263, 3) := dk_182 1 7 (dk_at dksX9_readButton_5 3 rfl rfl)
theorem dX9_readButton_122 : decode cX9_readButton 122 = .ok (.ifCond .ne 18, 3) := dk_154 0 18 (dk_at dksX9_readButton_5 6 rfl rfl)
theorem dX9_readButton_125 : decode cX9_readButton 125 = .ok (.aload_n 0, 1) := dk_42 (dk_at dksX9_readButton_5 9 rfl rfl)
theorem dX9_readButton_126 : decode cX9_readButton 126 = .ok (.ldc2_w 235, 3) := dk_20 0 235 (dk_at dksX9_readButton_5 10 rfl rfl)
theorem dX9_readButton_129 : decode cX9_readButton 129 = .ok (.invokevirtual 263, 3) := dk_182 1 7 (dk_at dksX9_readButton_5 13 rfl rfl)
theorem dX9_readButton_132 : decode cX9_readButton 132 = .ok (.ifCond .ne 8, 3) := dk_154 0 8 (dk_at dksX9_readButton_5 16 rfl rfl)
theorem dX9_readButton_135 : decode cX9_readButton 135 = .ok (.aload_n 0, 1) := dk_42 (dk_at dksX9_readButton_5 19 rfl rfl)
theorem dX9_readButton_136 : decode cX9_readButton 136 = .ok (.iconst 2, 1) := dk_5 (dk_at dksX9_readButton_5 20 rfl rfl)
theorem dX9_readButton_137 : decode cX9_readButton 137 = .ok (.invokevirtual 267, 3) := dk_182 1 11 (dk_at dksX9_readButton_5 21 rfl rfl)
theorem dX9_readButton_140 : decode cX9_readButton 140 = .ok (.aload_n 0, 1) := dk_42 (dk_at dksX9_readButton_6 0 rfl rfl)
theorem dX9_readButton_141 : decode cX9_readButton 141 = .ok (.getfield 108, 3) := dk_180 0 108 (dk_at dksX9_readButton_6 1 rfl rfl)
theorem dX9_readButton_144 : decode cX9_readButton 144 = .ok (.iload_n 1, 1) := dk_27 (dk_at dksX9_readButton_6 4 rfl rfl)
theorem dX9_readButton_145 : decode cX9_readButton 145 = .ok (.aload_n 0, 1) := dk_42 (dk_at dksX9_readButton_6 5 rfl rfl)
theorem dX9_readButton_146 : decode cX9_readButton 146 = .ok (.ldc2_w 233, 3) := dk_20 0 233 (dk_at dksX9_readButton_6 6 rfl rfl)
theorem dX9_readButton_149 : decode cX9_readButton 149 = .ok (.invokevirtual 263, 3) := dk_182 1 7 (dk_at dksX9_readButton_6 9 rfl rfl)
theorem dX9_readButton_152 : decode cX9_readButton 152 = .ok (.bastore, 1) := dk_84 (dk_at dksX9_readButton_6 12 rfl rfl)
theorem dX9_readButton_153 : decode cX9_readButton 153 = .ok (.aload_n 0, 1) := dk_42 (dk_at dksX9_readButton_6 13 rfl rfl)
theorem dX9_readButton_154 : decode cX9_readButton 154 = .ok (.getfield 212, 3) := dk_180 0 212 (dk_at dksX9_readButton_6 14 rfl rfl)
theorem dX9_readButton_157 : decode cX9_readButton 157 = .ok (.ifCond .ne 7, 3) := dk_154 0 7 (dk_at dksX9_readButton_6 17 rfl rfl)
theorem dX9_readButton_160 : decode cX9_readButton 160 = .ok (.aload_n 0, 1) := dk_42 (dk_at dksX9_readButton_6 20 rfl rfl)
theorem dX9_readButton_161 : decode cX9_readButton 161 = .ok (.invokevirtual 270, 3) := dk_182 1 14 (dk_at dksX9_readButton_6 21 rfl rfl)
theorem dX9_readButton_164 : decode cX9_readButton 164 = .ok (.aload_n 0, 1) := dk_42 (dk_at dksX9_readButton_7 0 rfl rfl)
theorem dX9_readButton_165 : decode cX9_readButton 165 = .ok (.getfield 78, 3) := dk_180 0 78 (dk_at dksX9_readButton_7 1 rfl rfl)
theorem dX9_readButton_168 : decode cX9_readButton 168 = .ok (.iload_n 1, 1) := dk_27 (dk_at dksX9_readButton_7 4 rfl rfl)
theorem dX9_readButton_169 : decode cX9_readButton 169 = .ok (.aload_n 0, 1) := dk_42 (dk_at dksX9_readButton_7 5 rfl rfl)
theorem dX9_readButton_170 : decode cX9_readButton 170 = .ok (.bipush 6, 2) := dk_16 6 (dk_at dksX9_readButton_7 6 rfl rfl)
theorem dX9_readButton_172 : decode cX9_readButton 172 = .ok (.aload_n 0, 1) := dk_42 (dk_at dksX9_readButton_7 8 rfl rfl)
theorem dX9_readButton_173 : decode cX9_readButton 173 = .ok (.getfield 369, 3) := dk_180 1 113 (dk_at dksX9_readButton_7 9 rfl rfl)
theorem dX9_readButton_176 : decode cX9_readButton 176 = .ok (.invokevirtual 375, 3) := dk_182 1 119 (dk_at dksX9_readButton_7 12 rfl rfl)
theorem dX9_readButton_179 : decode cX9_readButton 179 = .ok (.iastore, 1) := dk_79 (dk_at dksX9_readButton_7 15 rfl rfl)
theorem dX9_readButton_180 : decode cX9_readButton 180 = .ok (.aload_n 0, 1) := dk_42 (dk_at dksX9_readButton_7 16 rfl rfl)
theorem dX9_readButton_181 : decode cX9_readButton 181 = .ok (.getfield 212, 3) := dk_180 0 212 (dk_at dksX9_readButton_7 17 rfl rfl)
theorem dX9_readButton_184 : decode cX9_readButton 184 = .ok (.ifCond .ne 7, 3) := dk_154 0 7 (dk_at dksX9_readButton_7 20 rfl rfl)
theorem dX9_readButton_187 : decode cX9_readButton 187 = .ok (.aload_n 0, 1) := dk_42 (dk_at dksX9_readButton_7 23 rfl rfl)
theorem dX9_readButton_188 : decode cX9_readButton 188 = .ok (.invokevirtual 270, 3) := dk_182 1 14 (dk_at dksX9_readButton_8 0 rfl rfl)
theorem dX9_readButton_191 : decode cX9_readButton 191 = .ok (.aload_n 0, 1) := dk_42 (dk_at dksX9_readButton_8 3 rfl rfl)
theorem dX9_readButton_192 : decode cX9_readButton 192 = .ok (.getfield 81, 3) := dk_180 0 81 (dk_at dksX9_readButton_8 4 rfl rfl)
theorem dX9_readButton_195 : decode cX9_readButton 195 = .ok (.iload_n 1, 1) := dk_27 (dk_at dksX9_readButton_8 7 rfl rfl)
theorem dX9_readButton_196 : decode cX9_readButton 196 = .ok (.aload_n 0, 1) := dk_42 (dk_at dksX9_readButton_8 8 rfl rfl)
theorem dX9_readButton_197 : decode cX9_readButton 197 = .ok (.ldc2_w 237, 3) := dk_20 0 237 (dk_at dksX9_readButton_8 9 rfl rfl)
theorem dX9_readButton_200 : decode cX9_readButton 200 = .ok (.iconst 1, 1) := dk_4 (dk_at dksX9_readButton_8 12 rfl rfl)
theorem dX9_readButton_201 : decode cX9_readButton 201 = .ok (.bipush 60, 2) := dk_16 60 (dk_at dksX9_readButton_8 13 rfl rfl)
theorem dX9_readButton_203 : decode cX9_readButton 203 = .ok (.bipush 60, 2) := dk_16 60 (dk_at dksX9_readButton_8 15 rfl rfl)
theorem dX9_readButton_205 : decode cX9_readButton 205 = .ok (.invokevirtual 365, 3) := dk_182 1 109 (dk_at dksX9_readButton_8 17 rfl rfl)
theorem dX9_readButton_208 : decode cX9_readButton 208 = .ok (.iastore, 1) := dk_79 (dk_at dksX9_readButton_8 20 rfl rfl)
theorem dX9_readButton_209 : decode cX9_readButton 209 = .ok (.aload_n 0, 1) := dk_42 (dk_at dksX9_readButton_8 21 rfl rfl)
theorem dX9_readButton_210 : decode cX9_readButton 210 = .ok (.getfield 84, 3) := dk_180 0 84 (dk_at dksX9_readButton_9 0 rfl rfl)
theorem dX9_readButton_213 : decode cX9_readButton 213 = .ok (.iload_n 1, 1) := dk_27 (dk_at dksX9_readButton_9 3 rfl rfl)
theorem dX9_readButton_214 : decode cX9_readButton 214 = .ok (.aload_n 0, 1) := dk_42 (dk_at dksX9_readButton_9 4 rfl rfl)
theorem dX9_readButton_215 : decode cX9_readButton 215 = .ok (.ldc2_w 239, 3) := dk_20 0 239 (dk_at dksX9_readButton_9 5 rfl rfl)
theorem dX9_readButton_218 : decode cX9_readButton 218 = .ok (.iconst 1, 1) := dk_4 (dk_at dksX9_readButton_9 8 rfl rfl)
theorem dX9_readButton_219 : decode cX9_readButton 219 = .ok (.bipush 99, 2) := dk_16 99 (dk_at dksX9_readButton_9 9 rfl rfl)
theorem dX9_readButton_221 : decode cX9_readButton 221 = .ok (.bipush 10, 2) := dk_16 10 (dk_at dksX9_readButton_9 11 rfl rfl)
theorem dX9_readButton_223 : decode cX9_readButton 223 = .ok (.invokevirtual 365, 3) := dk_182 1 109 (dk_at dksX9_readButton_9 13 rfl rfl)
theorem dX9_readButton_226 : decode cX9_readButton 226 = .ok (.iastore, 1) := dk_79 (dk_at dksX9_readButton_9 16 rfl rfl)
theorem dX9_readButton_227 : decode cX9_readButton 227 = .ok (.aload_n 0, 1) := dk_42 (dk_at dksX9_readButton_9 17 rfl rfl)
theorem dX9_readButton_228 : decode cX9_readButton 228 = .ok (.getfield 87, 3) := dk_180 0 87 (dk_at dksX9_readButton_9 18 rfl rfl)
theorem dX9_readButton_231 : decode cX9_readButton 231 = .ok (.iload_n 1, 1) := dk_27 (dk_at dksX9_readButton_9 21 rfl rfl)
theorem dX9_readButton_232 : decode cX9_readButton 232 = .ok (.iconst (-1), 1) := dk_2 (dk_at dksX9_readButton_9 22 rfl rfl)
theorem dX9_readButton_233 : decode cX9_readButton 233 = .ok (.iastore, 1) := dk_79 (dk_at dksX9_readButton_9 23 rfl rfl)
theorem dX9_readButton_234 : decode cX9_readButton 234 = .ok (.aload_n 0, 1) := dk_42 (dk_at dksX9_readButton_10 0 rfl rfl)
theorem dX9_readButton_235 : decode cX9_readButton 235 = .ok (.getfield 212, 3) := dk_180 0 212 (dk_at dksX9_readButton_10 1 rfl rfl)
theorem dX9_readButton_238 : decode cX9_readButton 238 = .ok (.ifCond .ne 44, 3) := dk_154 0 44 (dk_at dksX9_readButton_10 4 rfl rfl)
theorem dX9_readButton_241 : decode cX9_readButton 241 = .ok (.aload_n 0, 1) := dk_42 (dk_at dksX9_readButton_10 7 rfl rfl)
theorem dX9_readButton_242 : decode cX9_readButton 242 = .ok (.ldc2_w 241, 3) := dk_20 0 241 (dk_at dksX9_readButton_10 8 rfl rfl)
theorem dX9_readButton_245 : decode cX9_readButton 245 = .ok (.invokevirtual 263, 3) := dk_182 1 7 (dk_at dksX9_readButton_10 11 rfl rfl)
theorem dX9_readButton_248 : decode cX9_readButton 248 = .ok (.ifCond .eq 34, 3) := dk_153 0 34 (dk_at dksX9_readButton_10 14 rfl rfl)
theorem dX9_readButton_251 : decode cX9_readButton 251 = .ok (.aload_n 0, 1) := dk_42 (dk_at dksX9_readButton_10 17 rfl rfl)
theorem dX9_readButton_252 : decode cX9_readButton 252 = .ok (.invokevirtual 270, 3) := dk_182 1 14 (dk_at dksX9_readButton_10 18 rfl rfl)
theorem dX9_readButton_255 : decode cX9_readButton 255 = .ok (.aload_n 0, 1) := dk_42 (dk_at dksX9_readButton_10 21 rfl rfl)
theorem dX9_readButton_256 : decode cX9_readButton 256 = .ok (.getfield 87, 3) := dk_180 0 87 (dk_at dksX9_readButton_11 0 rfl rfl)
theorem dX9_readButton_259 : decode cX9_readButton 259 = .ok (.iload_n 1, 1) := dk_27 (dk_at dksX9_readButton_11 3 rfl rfl)
theorem dX9_readButton_260 : decode cX9_readButton 260 = .ok (.aload_n 0, 1) := dk_42 (dk_at dksX9_readButton_11 4 rfl rfl)
theorem dX9_readButton_261 : decode cX9_readButton 261 = .ok (.bipush 12, 2) := dk_16 12 (dk_at dksX9_readButton_11 5 rfl rfl)
theorem dX9_readButton_263 : decode cX9_readButton 263 = .ok (.aload_n 0, 1) := dk_42 (dk_at dksX9_readButton_11 7 rfl rfl)
theorem dX9_readButton_264 : decode cX9_readButton 264 = .ok (.getfield 372, 3) := dk_180 1 116 (dk_at dksX9_readButton_11 8 rfl rfl)
theorem dX9_readButton_267 : decode cX9_readButton 267 = .ok (.invokevirtual 375, 3) := dk_182 1 119 (dk_at dksX9_readButton_11 11 rfl rfl)
theorem dX9_readButton_270 : decode cX9_readButton 270 = .ok (.iastore, 1) := dk_79 (dk_at dksX9_readButton_11 14 rfl rfl)
theorem dX9_readButton_271 : decode cX9_readButton 271 = .ok (.aload_n 0, 1) := dk_42 (dk_at dksX9_readButton_11 15 rfl rfl)
theorem dX9_readButton_272 : decode cX9_readButton 272 = .ok (.getfield 212, 3) := dk_180 0 212 (dk_at dksX9_readButton_11 16 rfl rfl)
theorem dX9_readButton_275 : decode cX9_readButton 275 = .ok (.ifCond .ne 7, 3) := dk_154 0 7 (dk_at dksX9_readButton_11 19 rfl rfl)
theorem dX9_readButton_278 : decode cX9_readButton 278 = .ok (.aload_n 0, 1) := dk_42 (dk_at dksX9_readButton_11 22 rfl rfl)
theorem dX9_readButton_279 : decode cX9_readButton 279 = .ok (.invokevirtual 270, 3) := dk_182 1 14 (dk_at dksX9_readButton_12 0 rfl rfl)
theorem dX9_readButton_282 : decode cX9_readButton 282 = .ok (.aload_n 0, 1) := dk_42 (dk_at dksX9_readButton_12 3 rfl rfl)
theorem dX9_readButton_283 : decode cX9_readButton 283 = .ok (.getfield 212, 3) := dk_180 0 212 (dk_at dksX9_readButton_12 4 rfl rfl)
theorem dX9_readButton_286 : decode cX9_readButton 286 = .ok (.ifCond .ne 13, 3) := dk_154 0 13 (dk_at dksX9_readButton_12 7 rfl rfl)
theorem dX9_readButton_289 : decode cX9_readButton 289 = .ok (.aload_n 0, 1) := dk_42 (dk_at dksX9_readButton_12 10 rfl rfl)
theorem dX9_readButton_290 : decode cX9_readButton 290 = .ok (.dup, 1) := dk_89 (dk_at dksX9_readButton_12 11 rfl rfl)
theorem dX9_readButton_291 : decode cX9_readButton 291 = .ok (.getfield 372, 3) := dk_180 1 116 (dk_at dksX9_readButton_12 12 rfl rfl)
theorem dX9_readButton_294 : decode cX9_readButton 294 = .ok (.iconst 1, 1) := dk_4 (dk_at dksX9_readButton_12 15 rfl rfl)
theorem dX9_readButton_295 : decode cX9_readButton 295 = .ok (.iadd, 1) := dk_96 (dk_at dksX9_readButton_12 16 rfl rfl)
theorem dX9_readButton_296 : decode cX9_readButton 296 = .ok (.putfield 372, 3) := dk_181 1 116 (dk_at dksX9_readButton_12 17 rfl rfl)
theorem dX9_readButton_299 : decode cX9_readButton 299 = .ok (.return_, 1) := dk_177 (dk_at dksX9_readButton_12 20 rfl rfl)
abbrev cX9_oldName : ByteArray := prog_24_method_20_code
def yX9_oldName : MethodName := ⟨RX9, "oldName", "(II)I"⟩
def dkwX9_oldName_2 : List UInt8 := [167, 0, 9, 42, 27, 28, 182, 1, 32, 172]
abbrev dktX9_oldName_2 : List UInt8 := dkwX9_oldName_2 ++ []
def dkwX9_oldName_1 : List UInt8 := [42, 27, 28, 182, 1, 32, 156, 0, 8, 42, 8, 182, 1, 11, 42, 180, 0, 212, 158, 0, 7, 3]
abbrev dktX9_oldName_1 : List UInt8 := dkwX9_oldName_1 ++ dktX9_oldName_2
def dkwX9_oldName_0 : List UInt8 := [42, 180, 0, 212, 158, 0, 5, 3, 172, 42, 182, 1, 29, 154, 0, 11, 42, 5, 182, 1, 11, 167, 0, 17]
abbrev dktX9_oldName_0 : List UInt8 := dkwX9_oldName_0 ++ dktX9_oldName_1
theorem dksX9_oldName_0 : cX9_oldName.data.toList.drop 0 = dktX9_oldName_0 := by decide +kernel
theorem dksX9_oldName_1 : cX9_oldName.data.toList.drop 24 = dktX9_oldName_1 := dk_seg dksX9_oldName_0 24 rfl rfl
theorem dksX9_oldName_2 : cX9_oldName.data.toList.drop 46 = dktX9_oldName_2 := dk_seg dksX9_oldName_1 22 rfl rfl
theorem dX9_oldName_0 : decode cX9_oldName 0 = .ok (.aload_n 0, 1) := dk_42 (dk_at dksX9_oldName_0 0 rfl rfl)
theorem dX9_oldName_1 : decode cX9_oldName 1 = .ok (.getfield 212, 3) := dk_180 0 212 (dk_at dksX9_oldName_0 1 rfl rfl)
theorem dX9_oldName_4 : decode cX9_oldName 4 = .ok (.ifCond .le 5, 3) := dk_158 0 5 (dk_at dksX9_oldName_0 4 rfl rfl)
theorem dX9_oldName_7 : decode cX9_oldName 7 = .ok (.iconst 0, 1) := dk_3 (dk_at dksX9_oldName_0 7 rfl rfl)
theorem dX9_oldName_8 : decode cX9_oldName 8 = .ok (.ireturn, 1) := dk_172 (dk_at dksX9_oldName_0 8 rfl rfl)
theorem dX9_oldName_9 : decode cX9_oldName 9 = .ok (.aload_n 0, 1) := dk_42 (dk_at dksX9_oldName_0 9 rfl rfl)
theorem dX9_oldName_10 : decode cX9_oldName 10 = .ok (.invokevirtual 285, 3) := dk_182 1 29 (dk_at dksX9_oldName_0 10 rfl rfl)
theorem dX9_oldName_13 : decode cX9_oldName 13 = .ok (.ifCond .ne 11, 3) := dk_154 0 11 (dk_at dksX9_oldName_0 13 rfl rfl)
theorem dX9_oldName_16 : decode cX9_oldName 16 = .ok (.aload_n 0, 1) := dk_42 (dk_at dksX9_oldName_0 16 rfl rfl)
theorem dX9_oldName_17 : decode cX9_oldName 17 = .ok (.iconst 2, 1) := dk_5 (dk_at dksX9_oldName_0 17 rfl rfl)
theorem dX9_oldName_18 : decode cX9_oldName 18 = .ok (.invokevirtual 267, 3) := dk_182 1 11 (dk_at dksX9_oldName_0 18 rfl rfl)
theorem dX9_oldName_21 : decode cX9_oldName 21 = .ok (.goto 17, 3) := dk_167 0 17 (dk_at dksX9_oldName_0 21 rfl rfl)
theorem dX9_oldName_24 : decode cX9_oldName 24 = .ok (.aload_n 0, 1) := dk_42 (dk_at dksX9_oldName_1 0 rfl rfl)
theorem dX9_oldName_25 : decode cX9_oldName 25 = .ok (.iload_n 1, 1) := dk_27 (dk_at dksX9_oldName_1 1 rfl rfl)
theorem dX9_oldName_26 : decode cX9_oldName 26 = .ok (.iload_n 2, 1) := dk_28 (dk_at dksX9_oldName_1 2 rfl rfl)
theorem dX9_oldName_27 : decode cX9_oldName 27 = .ok (.invokevirtual 288, 3) := dk_182 1 32 (dk_at dksX9_oldName_1 3 rfl rfl)
theorem dX9_oldName_30 : decode cX9_oldName 30 = .ok (.ifCond .ge 8, 3) := dk_156 0 8 (dk_at dksX9_oldName_1 6 rfl rfl)
theorem dX9_oldName_33 : decode cX9_oldName 33 = .ok (.aload_n 0, 1) := dk_42 (dk_at dksX9_oldName_1 9 rfl rfl)
theorem dX9_oldName_34 : decode cX9_oldName 34 = .ok (.iconst 5, 1) := dk_8 (dk_at dksX9_oldName_1 10 rfl rfl)
theorem dX9_oldName_35 : decode cX9_oldName 35 = .ok (.invokevirtual 267, 3) := dk_182 1 11 (dk_at dksX9_oldName_1 11 rfl rfl)
theorem dX9_oldName_38 : decode cX9_oldName 38 = .ok (.aload_n 0, 1) := dk_42 (dk_at dksX9_oldName_1 14 rfl rfl)
theorem dX9_oldName_39 : decode cX9_oldName 39 = .ok (.getfield 212, 3) := dk_180 0 212 (dk_at dksX9_oldName_1 15 rfl rfl)
theorem dX9_oldName_42 : decode cX9_oldName 42 = .ok (.ifCond .le 7, 3) := dk_158 0 7 (dk_at dksX9_oldName_1 18 rfl rfl)
theorem dX9_oldName_45 : decode cX9_oldName 45 = .ok (.iconst 0, 1) := dk_3 (dk_at dksX9_oldName_1 21 rfl rfl)
theorem dX9_oldName_46 : decode cX9_oldName 46 = .ok (.goto 9, 3) := dk_167 0 9 (dk_at dksX9_oldName_2 0 rfl rfl)
theorem dX9_oldName_49 : decode cX9_oldName 49 = .ok (.aload_n 0, 1) := dk_42 (dk_at dksX9_oldName_2 3 rfl rfl)
theorem dX9_oldName_50 : decode cX9_oldName 50 = .ok (.iload_n 1, 1) := dk_27 (dk_at dksX9_oldName_2 4 rfl rfl)
theorem dX9_oldName_51 : decode cX9_oldName 51 = .ok (.iload_n 2, 1) := dk_28 (dk_at dksX9_oldName_2 5 rfl rfl)
theorem dX9_oldName_52 : decode cX9_oldName 52 = .ok (.invokevirtual 288, 3) := dk_182 1 32 (dk_at dksX9_oldName_2 6 rfl rfl)
theorem dX9_oldName_55 : decode cX9_oldName 55 = .ok (.ireturn, 1) := dk_172 (dk_at dksX9_oldName_2 9 rfl rfl)
abbrev cX9_readFriend : ByteArray := prog_24_method_40_code
def yX9_readFriend : MethodName := ⟨RX9, "readFriend", "()V"⟩
def dkwX9_readFriend_9 : List UInt8 := [181, 1, 122, 177]
abbrev dktX9_readFriend_9 : List UInt8 := dkwX9_readFriend_9 ++ []
def dkwX9_readFriend_8 : List UInt8 := [27, 96, 21, 4, 153, 0, 9, 21, 5, 116, 167, 0, 5, 21, 5, 79, 42, 89, 180, 1, 122, 4, 96]
abbrev dktX9_readFriend_8 : List UInt8 := dkwX9_readFriend_8 ++ dktX9_readFriend_9
def dkwX9_readFriend_7 : List UInt8 := [28, 96, 21, 4, 153, 0, 9, 21, 5, 116, 167, 0, 5, 21, 5, 79, 42, 180, 0, 54, 16, 6, 28, 104]
abbrev dktX9_readFriend_7 : List UInt8 := dkwX9_readFriend_7 ++ dktX9_readFriend_8
def dkwX9_readFriend_6 : List UInt8 := [153, 0, 8, 42, 29, 181, 0, 13, 42, 180, 0, 212, 158, 0, 4, 177, 42, 180, 0, 54, 16, 6, 27, 104]
abbrev dktX9_readFriend_6 : List UInt8 := dkwX9_readFriend_6 ++ dktX9_readFriend_7
def dkwX9_readFriend_5 : List UInt8 := [182, 1, 14, 42, 3, 16, 9, 182, 1, 21, 54, 5, 42, 180, 0, 212, 7, 160, 0, 13, 21, 4]
abbrev dktX9_readFriend_5 : List UInt8 := dkwX9_readFriend_5 ++ dktX9_readFriend_6
def dkwX9_readFriend_4 : List UInt8 := [42, 180, 0, 199, 16, 45, 160, 0, 7, 4, 167, 0, 4, 3, 54, 4, 21, 4, 153, 0, 7, 42]
abbrev dktX9_readFriend_4 : List UInt8 := dkwX9_readFriend_4 ++ dktX9_readFriend_5
def dkwX9_readFriend_3 : List UInt8 := [42, 180, 0, 212, 154, 0, 7, 42, 182, 1, 14, 42, 180, 0, 212, 158, 0, 4, 177, 42, 180, 0, 189, 62]
abbrev dktX9_readFriend_3 : List UInt8 := dkwX9_readFriend_3 ++ dktX9_readFriend_4
def dkwX9_readFriend_2 : List UInt8 := [159, 0, 19, 42, 180, 0, 54, 16, 6, 27, 104, 28, 96, 46, 16, 156, 159, 0, 8, 42, 6, 182, 1, 11]
abbrev dktX9_readFriend_2 : List UInt8 := dkwX9_readFriend_2 ++ dktX9_readFriend_3
def dkwX9_readFriend_1 : List UInt8 := [182, 1, 14, 42, 3, 42, 180, 1, 103, 182, 1, 119, 61, 42, 180, 0, 212, 154, 0, 29, 27, 28]
abbrev dktX9_readFriend_1 : List UInt8 := dkwX9_readFriend_1 ++ dktX9_readFriend_2
def dkwX9_readFriend_0 : List UInt8 := [42, 182, 1, 14, 42, 3, 42, 180, 1, 103, 182, 1, 119, 60, 42, 180, 0, 212, 154, 0, 7, 42]
abbrev dktX9_readFriend_0 : List UInt8 := dkwX9_readFriend_0 ++ dktX9_readFriend_1
theorem dksX9_readFriend_0 : cX9_readFriend.data.toList.drop 0 = dktX9_readFriend_0 := by decide +kernel
theorem dksX9_readFriend_1 : cX9_readFriend.data.toList.drop 22 = dktX9_readFriend_1 := dk_seg dksX9_readFriend_0 22 rfl rfl
theorem dksX9_readFriend_2 : cX9_readFriend.data.toList.drop 44 = dktX9_readFriend_2 := dk_seg dksX9_readFriend_1 22 rfl rfl
theorem dksX9_readFriend_3 : cX9_readFriend.data.toList.drop 68 = dktX9_readFriend_3 := dk_seg dksX9_readFriend_2 24 rfl rfl
theorem dksX9_readFriend_4 : cX9_readFriend.data.toList.drop 92 = dktX9_readFriend_4 := dk_seg dksX9_readFriend_3 24 rfl rfl
theorem dksX9_readFriend_5 : cX9_readFriend.data.toList.drop 114 = dktX9_readFriend_5 := dk_seg dksX9_readFriend_4 22 rfl rfl
theorem dksX9_readFriend_6 : cX9_readFriend.data.toList.drop 136 = dktX9_readFriend_6 := dk_seg dksX9_readFriend_5 22 rfl rfl
theorem dksX9_readFriend_7 : cX9_readFriend.data.toList.drop 160 = dktX9_readFriend_7 := dk_seg dksX9_readFriend_6 24 rfl rfl
theorem dksX9_readFriend_8 : cX9_readFriend.data.toList.drop 184 = dktX9_readFriend_8 := dk_seg dksX9_readFriend_7 24 rfl rfl
theorem dksX9_readFriend_9 : cX9_readFriend.data.toList.drop 207 = dktX9_readFriend_9 := dk_seg dksX9_readFriend_8 23 rfl rfl
theorem dX9_readFriend_0 : decode cX9_readFriend 0 = .ok (.aload_n 0, 1) := dk_42 (dk_at dksX9_readFriend_0 0 rfl rfl)
theorem dX9_readFriend_1 : decode cX9_readFriend 1 = .ok (.invokevirtual 270, 3) := dk_182 1 14 (dk_at dksX9_readFriend_0 1 rfl rfl)
theorem dX9_readFriend_4 : decode cX9_readFriend 4 = .ok (.aload_n 0, 1) := dk_42 (dk_at dksX9_readFriend_0 4 rfl rfl)
theorem dX9_readFriend_5 : decode cX9_readFriend 5 = .ok (.iconst 0, 1) := dk_3 (dk_at dksX9_readFriend_0 5 rfl rfl)
theorem dX9_readFriend_6 : decode cX9_readFriend 6 = .ok (.aload_n 0, 1) := dk_42 (dk_at dksX9_readFriend_0 6 rfl rfl)
theorem dX9_readFriend_7 : decode cX9_readFriend 7 = .ok (.getfield 359, 3) := dk_180 1 103 (dk_at dksX9_readFriend_0 7 rfl rfl)
theorem dX9_readFriend_10 : decode cX9_readFriend 10 = .ok (.invokevirtual 375, 3) := dk_182 1 119 (dk_at dksX9_readFriend_0 10 rfl rfl)
theorem dX9_readFriend_13 : decode cX9_readFriend 13 = .ok (.istore_n 1, 1) := dk_60 (dk_at dksX9_readFriend_0 13 rfl rfl)
theorem dX9_readFriend_14 : decode cX9_readFriend 14 = .ok (.aload_n 0, 1) := dk_42 (dk_at dksX9_readFriend_0 14 rfl rfl)
theorem dX9_readFriend_15 : decode cX9_readFriend 15 = .ok (.getfield 212, 3) := dk_180 0 212 (dk_at dksX9_readFriend_0 15 rfl rfl)
theorem dX9_readFriend_18 : decode cX9_readFriend 18 = .ok (.ifCond .ne 7, 3) := dk_154 0 7 (dk_at dksX9_readFriend_0 18 rfl rfl)
theorem dX9_readFriend_21 : decode cX9_readFriend 21 = .ok (.aload_n 0, 1) := dk_42 (dk_at dksX9_readFriend_0 21 rfl rfl)
theorem dX9_readFriend_22 : decode cX9_readFriend 22 = .ok (.invokevirtual 270, 3) := dk_182 1 14 (dk_at dksX9_readFriend_1 0 rfl rfl)
theorem dX9_readFriend_25 : decode cX9_readFriend 25 = .ok (.aload_n 0, 1) := dk_42 (dk_at dksX9_readFriend_1 3 rfl rfl)
theorem dX9_readFriend_26 : decode cX9_readFriend 26 = .ok (.iconst 0, 1) := dk_3 (dk_at dksX9_readFriend_1 4 rfl rfl)
theorem dX9_readFriend_27 : decode cX9_readFriend 27 = .ok (.aload_n 0, 1) := dk_42 (dk_at dksX9_readFriend_1 5 rfl rfl)
theorem dX9_readFriend_28 : decode cX9_readFriend 28 = .ok (.getfield 359, 3) := dk_180 1 103 (dk_at dksX9_readFriend_1 6 rfl rfl)
theorem dX9_readFriend_31 : decode cX9_readFriend 31 = .ok (.invokevirtual 375, 3) := dk_182 1 119 (dk_at dksX9_readFriend_1 9 rfl rfl)
theorem dX9_readFriend_34 : decode cX9_readFriend 34 = .ok (.istore_n 2, 1) := dk_61 (dk_at dksX9_readFriend_1 12 rfl rfl)
theorem dX9_readFriend_35 : decode cX9_readFriend 35 = .ok (.aload_n 0, 1) := dk_42 (dk_at dksX9_readFriend_1 13 rfl rfl)
theorem dX9_readFriend_36 : decode cX9_readFriend 36 = .ok (.getfield 212, 3) := dk_180 0 212 (dk_at dksX9_readFriend_1 14 rfl rfl)
theorem dX9_readFriend_39 : decode cX9_readFriend 39 = .ok (.ifCond .ne 29, 3) := dk_154 0 29 (dk_at dksX9_readFriend_1 17 rfl rfl)
theorem dX9_readFriend_42 : decode cX9_readFriend 42 = .ok (.iload_n 1, 1) := dk_27 (dk_at dksX9_readFriend_1 20 rfl rfl)
theorem dX9_readFriend_43 : decode cX9_readFriend 43 = .ok (.iload_n 2, 1) := dk_28 (dk_at dksX9_readFriend_1 21 rfl rfl)
theorem dX9_readFriend_44 : decode cX9_readFriend 44 = .ok (.if_icmp .eq 19, 3) := dk_159 0 19 (dk_at dksX9_readFriend_2 0 rfl rfl)
theorem dX9_readFriend_47 : decode cX9_readFriend 47 = .ok (.aload_n 0, 1) := dk_42 (dk_at dksX9_readFriend_2 3 rfl rfl)
theorem dX9_readFriend_48 : decode cX9_readFriend 48 = .ok (.getfield 54, 3) := dk_180 0 54 (dk_at dksX9_readFriend_2 4 rfl rfl)
theorem dX9_readFriend_51 : decode cX9_readFriend 51 = .ok (.bipush 6, 2) := dk_16 6 (dk_at dksX9_readFriend_2 7 rfl rfl)
theorem dX9_readFriend_53 : decode cX9_readFriend 53 = .ok (.iload_n 1, 1) := dk_27 (dk_at dksX9_readFriend_2 9 rfl rfl)
theorem dX9_readFriend_54 : decode cX9_readFriend 54 = .ok (.imul, 1) := dk_104 (dk_at dksX9_readFriend_2 10 rfl rfl)
theorem dX9_readFriend_55 : decode cX9_readFriend 55 = .ok (.iload_n 2, 1) := dk_28 (dk_at dksX9_readFriend_2 11 rfl rfl)
theorem dX9_readFriend_56 : decode cX9_readFriend 56 = .ok (.iadd, 1) := dk_96 (dk_at dksX9_readFriend_2 12 rfl rfl)
theorem dX9_readFriend_57 : decode cX9_readFriend 57 = .ok (.iaload, 1) := dk_46 (dk_at dksX9_readFriend_2 13 rfl rfl)
theorem dX9_readFriend_58 : decode cX9_readFriend 58 = .ok (.bipush (-100), 2) := dk_16 156 (dk_at dksX9_readFriend_2 14 rfl rfl)
theorem dX9_readFriend_60 : decode cX9_readFriend 60 = .ok (.if_icmp .eq 8, 3) := dk_159 0 8 (dk_at dksX9_readFriend_2 16 rfl rfl)
theorem dX9_readFriend_63 : decode cX9_readFriend 63 = .ok (.aload_n 0, 1) := dk_42 (dk_at dksX9_readFriend_2 19 rfl rfl)
theorem dX9_readFriend_64 : decode cX9_readFriend 64 = .ok (.iconst 3, 1) := dk_6 (dk_at dksX9_readFriend_2 20 rfl rfl)
theorem dX9_readFriend_65 : decode cX9_readFriend 65 = .ok (.invokevirtual 267, 3) := dk_182 1 11 (dk_at dksX9_readFriend_2 21 rfl rfl)
theorem dX9_readFriend_68 : decode cX9_readFriend 68 = .ok (.aload_n 0, 1) := dk_42 (dk_at dksX9_readFriend_3 0 rfl rfl)
theorem dX9_readFriend_69 : decode cX9_readFriend 69 = .ok (.getfield 212, 3) := dk_180 0 212 (dk_at dksX9_readFriend_3 1 rfl rfl)
theorem dX9_readFriend_72 : decode cX9_readFriend 72 = .ok (.ifCond .ne 7, 3) := dk_154 0 7 (dk_at dksX9_readFriend_3 4 rfl rfl)
theorem dX9_readFriend_75 : decode cX9_readFriend 75 = .ok (.aload_n 0, 1) := dk_42 (dk_at dksX9_readFriend_3 7 rfl rfl)
theorem dX9_readFriend_76 : decode cX9_readFriend 76 = .ok (.invokevirtual 270, 3) := dk_182 1 14 (dk_at dksX9_readFriend_3 8 rfl rfl)
theorem dX9_readFriend_79 : decode cX9_readFriend 79 = .ok (.aload_n 0, 1) := dk_42 (dk_at dksX9_readFriend_3 11 rfl rfl)
theorem dX9_readFriend_80 : decode cX9_readFriend 80 = .ok (.getfield 212, 3) := dk_180 0 212 (dk_at dksX9_readFriend_3 12 rfl rfl)
theorem dX9_readFriend_83 : decode cX9_readFriend 83 = .ok (.ifCond .le 4, 3) := dk_158 0 4 (dk_at dksX9_readFriend_3 15 rfl rfl)
theorem dX9_readFriend_86 : decode cX9_readFriend 86 = .ok (.return_, 1) := dk_177 (dk_at dksX9_readFriend_3 18 rfl rfl)
theorem dX9_readFriend_87 : decode cX9_readFriend 87 = .ok (.aload_n 0, 1) := dk_42 (dk_at dksX9_readFriend_3 19 rfl rfl)
theorem dX9_readFriend_88 : decode cX9_readFriend 88 = .ok (.getfield 189, 3) := dk_180 0 189 (dk_at dksX9_readFriend_3 20 rfl rfl)
theorem dX9_readFriend_91 : decode cX9_readFriend 91 = .ok (.istore_n 3, 1) := dk_62 (dk_at dksX9_readFriend_3 23 rfl rfl)
theorem dX9_readFriend_92 : decode cX9_readFriend 92 = .ok (.aload_n 0, 1) := dk_42 (dk_at dksX9_readFriend_4 0 rfl rfl)
theorem dX9_readFriend_93 : decode cX9_readFriend 93 = .ok (.getfield 199, 3) := dk_180 0 199 (dk_at dksX9_readFriend_4 1 rfl rfl)
theorem dX9_readFriend_96 : decode cX9_readFriend 96 = .ok (.bipush 45, 2) := dk_16 45 (dk_at dksX9_readFriend_4 4 rfl rfl)
theorem dX9_readFriend_98 : decode cX9_readFriend 98 = .ok (.if_icmp .ne 7, 3) := dk_160 0 7 (dk_at dksX9_readFriend_4 6 rfl rfl)
theorem dX9_readFriend_101 : decode cX9_readFriend 101 = .ok (.iconst 1, 1) := dk_4 (dk_at dksX9_readFriend_4 9 rfl rfl)
theorem dX9_readFriend_102 : decode cX9_readFriend 102 = .ok (.goto 4, 3) := dk_167 0 4 (dk_at dksX9_readFriend_4 10 rfl rfl)
theorem dX9_readFriend_105 : decode cX9_readFriend 105 = .ok (.iconst 0, 1) := dk_3 (dk_at dksX9_readFriend_4 13 rfl rfl)
theorem dX9_readFriend_106 : decode cX9_readFriend 106 = .ok (.istore 4, 2) := dk_54 4 (dk_at dksX9_readFriend_4 14 rfl rfl)
theorem dX9_readFriend_108 : decode cX9_readFriend 108 = .ok (.iload 4, 2) := dk_21 4 (dk_at dksX9_readFriend_4 16 rfl rfl)
theorem dX9_readFriend_110 : decode cX9_readFriend 110 = .ok (.ifCond .eq 7, 3) := dk_153 0 7 (dk_at dksX9_readFriend_4 18 rfl rfl)
theorem dX9_readFriend_113 : decode cX9_readFriend 113 = .ok (.aload_n 0, 1) := dk_42 (dk_at dksX9_readFriend_4 21 rfl rfl)
theorem dX9_readFriend_114 : decode cX9_readFriend 114 = .ok (.invokevirtual 270, 3) := dk_182 1 14 (dk_at dksX9_readFriend_5 0 rfl rfl)
theorem dX9_readFriend_117 : decode cX9_readFriend 117 = .ok (.aload_n 0, 1) := dk_42 (dk_at dksX9_readFriend_5 3 rfl rfl)
theorem dX9_readFriend_118 : decode cX9_readFriend 118 = .ok (.iconst 0, 1) := dk_3 (dk_at dksX9_readFriend_5 4 rfl rfl)
theorem dX9_readFriend_119 : decode cX9_readFriend 119 = .ok (.bipush 9, 2) := dk_16 9 (dk_at dksX9_readFriend_5 5 rfl rfl)
theorem dX9_readFriend_121 : decode cX9_readFriend 121 = .ok (.invokevirtual 277, 3) := dk_182 1 21 (dk_at dksX9_readFriend_5 7 rfl rfl)
theorem dX9_readFriend_124 : decode cX9_readFriend 124 = .ok (.istore 5, 2) := dk_54 5 (dk_at dksX9_readFriend_5 10 rfl rfl)
theorem dX9_readFriend_126 : decode cX9_readFriend 126 = .ok (.aload_n 0, 1) := dk_42 (dk_at dksX9_readFriend_5 12 rfl rfl)
theorem dX9_readFriend_127 : decode cX9_readFriend 127 = .ok (.getfield 212, 3) := dk_180 0 212 (dk_at dksX9_readFriend_5 13 rfl rfl)
theorem dX9_readFriend_130 : decode cX9_readFriend 130 = .ok (.iconst 4, 1) := dk_7 (dk_at dksX9_readFriend_5 16 rfl rfl)
theorem dX9_readFriend_131 : decode cX9_readFriend 131 = .ok (.if_icmp .ne 13, 3) := dk_160 0 13 (dk_at dksX9_readFriend_5 17 rfl rfl)
theorem dX9_readFriend_134 : decode cX9_readFriend 134 = .ok (.iload 4, 2) := dk_21 4 (dk_at dksX9_readFriend_5 20 rfl rfl)
theorem dX9_readFriend_136 : decode cX9_readFriend 136 = .ok (.ifCond .eq 8, 3) := dk_153 0 8 (dk_at dksX9_readFriend_6 0 rfl rfl)
theorem dX9_readFriend_139 : decode cX9_readFriend 139 = .ok (.aload_n 0, 1) := dk_42 (dk_at dksX9_readFriend_6 3 rfl rfl)
theorem dX9_readFriend_140 : decode cX9_readFriend 140 = .ok (.iload_n 3, 1) := dk_29 (dk_at dksX9_readFriend_6 4 rfl rfl)
theorem dX9_readFriend_141 : decode cX9_readFriend 141 = .ok (.putfield 13, 3) := dk_181 0 13 (dk_at dksX9_readFriend_6 5 rfl rfl)
theorem dX9_readFriend_144 : decode cX9_readFriend 144 = .ok (.aload_n 0, 1) := dk_42 (dk_at dksX9_readFriend_6 8 rfl rfl)
theorem dX9_readFriend_145 : decode cX9_readFriend 145 = .ok (.getfield 212, 3) := dk_180 0 212 (dk_at dksX9_readFriend_6 9 rfl rfl)
theorem dX9_readFriend_148 : decode cX9_readFriend 148 = .ok (.ifCond .le 4, 3) := dk_158 0 4 (dk_at dksX9_readFriend_6 12 rfl rfl)
theorem dX9_readFriend_151 : decode cX9_readFriend 151 = .ok (.return_, 1) := dk_177 (dk_at dksX9_readFriend_6 15 rfl rfl)
theorem dX9_readFriend_152 : decode cX9_readFriend 152 = .ok (.aload_n 0, 1) := dk_42 (dk_at dksX9_readFriend_6 16 rfl rfl)
theorem dX9_readFriend_153 : decode cX9_readFriend 153 = .ok (.getfield 54, 3) := dk_180 0 54 (dk_at dksX9_readFriend_6 17 rfl rfl)
theorem dX9_readFriend_156 : decode cX9_readFriend 156 = .ok (.bipush 6, 2) := dk_16 6 (dk_at dksX9_readFriend_6 20 rfl rfl)
theorem dX9_readFriend_158 : decode cX9_readFriend 158 = .ok (.iload_n 1, 1) := dk_27 (dk_at dksX9_readFriend_6 22 rfl rfl)
theorem dX9_readFriend_159 : decode cX9_readFriend 159 = .ok (.imul, 1) := dk_104 (dk_at dksX9_readFriend_6 23 rfl rfl)
theorem dX9_readFriend_160 : decode cX9_readFriend 160 = .ok (.iload_n 2, 1) := dk_28 (dk_at dksX9_readFriend_7 0 rfl rfl)
theorem dX9_readFriend_161 : decode cX9_readFriend 161 = .ok (.iadd, 1) := dk_96 (dk_at dksX9_readFriend_7 1 rfl rfl)
theorem dX9_readFriend_162 : decode cX9_readFriend 162 = .ok (.iload 4, 2) := dk_21 4 (dk_at dksX9_readFriend_7 2 rfl rfl)
theorem dX9_readFriend_164 : decode cX9_readFriend 164 = .ok (.ifCond .eq 9, 3) := dk_153 0 9 (dk_at dksX9_readFriend_7 4 rfl rfl)
theorem dX9_readFriend_167 : decode cX9_readFriend 167 = .ok (.iload 5, 2) := dk_21 5 (dk_at dksX9_readFriend_7 7 rfl rfl)
theorem dX9_readFriend_169 : decode cX9_readFriend 169 = .ok (.ineg, 1) := dk_116 (dk_at dksX9_readFriend_7 9 rfl rfl)
theorem dX9_readFriend_170 : decode cX9_readFriend 170 = .ok (.goto 5, 3) := dk_167 0 5 (dk_at dksX9_readFriend_7 10 rfl rfl)
theorem dX9_readFriend_173 : decode cX9_readFriend 173 = .ok (.iload 5, 2) := dk_21 5 (dk_at dksX9_readFriend_7 13 rfl rfl)
theorem dX9_readFriend_175 : decode cX9_readFriend 175 = .ok (.iastore, 1) := dk_79 (dk_at dksX9_readFriend_7 15 rfl rfl)
theorem dX9_readFriend_176 : decode cX9_readFriend 176 = .ok (.aload_n 0, 1) := dk_42 (dk_at dksX9_readFriend_7 16 rfl rfl)
theorem dX9_readFriend_177 : decode cX9_readFriend 177 = .ok (.getfield 54, 3) := dk_180 0 54 (dk_at dksX9_readFriend_7 17 rfl rfl)
theorem dX9_readFriend_180 : decode cX9_readFriend 180 = .ok (.bipush 6, 2) := dk_16 6 (dk_at dksX9_readFriend_7 20 rfl rfl)
theorem dX9_readFriend_182 : decode cX9_readFriend 182 = .ok (.iload_n 2, 1) := dk_28 (dk_at dksX9_readFriend_7 22 rfl rfl)
theorem dX9_readFriend_183 : decode cX9_readFriend 183 = .ok (.imul, 1) := dk_104 (dk_at dksX9_readFriend_7 23 rfl rfl)
theorem dX9_readFriend_184 : decode cX9_readFriend 184 = .ok (.iload_n 1, 1) := dk_27 (dk_at dksX9_readFriend_8 0 rfl rfl)
theorem dX9_readFriend_185 : decode cX9_readFriend 185 = .ok (.iadd, 1) := dk_96 (dk_at dksX9_readFriend_8 1 rfl rfl)
theorem dX9_readFriend_186 : decode cX9_readFriend 186 = .ok (.iload 4, 2) := dk_21 4 (dk_at dksX9_readFriend_8 2 rfl rfl)
theorem dX9_readFriend_188 : decode cX9_readFriend 188 = .ok (.ifCond .eq 9, 3) := dk_153 0 9 (dk_at dksX9_readFriend_8 4 rfl rfl)
theorem dX9_readFriend_191 : decode cX9_readFriend 191 = .ok (.iload 5, 2) := dk_21 5 (dk_at dksX9_readFriend_8 7 rfl rfl)
theorem dX9_readFriend_193 : decode cX9_readFriend 193 = .ok (.ineg, 1) := dk_116 (dk_at dksX9_readFriend_8 9 rfl rfl)
theorem dX9_readFriend_194 : decode cX9_readFriend 194 = .ok (.goto 5, 3) := dk_167 0 5 (dk_at dksX9_readFriend_8 10 rfl rfl)
theorem dX9_readFriend_197 : decode cX9_readFriend 197 = .ok (.iload 5, 2) := dk_21 5 (dk_at dksX9_readFriend_8 13 rfl rfl)
theorem dX9_readFriend_199 : decode cX9_readFriend 199 = .ok (.iastore, 1) := dk_79 (dk_at dksX9_readFriend_8 15 rfl rfl)
theorem dX9_readFriend_200 : decode cX9_readFriend 200 = .ok (.aload_n 0, 1) := dk_42 (dk_at dksX9_readFriend_8 16 rfl rfl)
theorem dX9_readFriend_201 : decode cX9_readFriend 201 = .ok (.dup, 1) := dk_89 (dk_at dksX9_readFriend_8 17 rfl rfl)
theorem dX9_readFriend_202 : decode cX9_readFriend 202 = .ok (.getfield 378, 3) := dk_180 1 122 (dk_at dksX9_readFriend_8 18 rfl rfl)
theorem dX9_readFriend_205 : decode cX9_readFriend 205 = .ok (.iconst 1, 1) := dk_4 (dk_at dksX9_readFriend_8 21 rfl rfl)
theorem dX9_readFriend_206 : decode cX9_readFriend 206 = .ok (.iadd, 1) := dk_96 (dk_at dksX9_readFriend_8 22 rfl rfl)
theorem dX9_readFriend_207 : decode cX9_readFriend 207 = .ok (.putfield 378, 3) := dk_181 1 122 (dk_at dksX9_readFriend_9 0 rfl rfl)
theorem dX9_readFriend_210 : decode cX9_readFriend 210 = .ok (.return_, 1) := dk_177 (dk_at dksX9_readFriend_9 3 rfl rfl)
abbrev cX9_readWear : ByteArray := prog_24_method_33_code
def yX9_readWear : MethodName := ⟨RX9, "readWea\x72", "()V"⟩
def dkwX9_readWear_8 : List UInt8 := [182, 1, 82, 177]
abbrev dktX9_readWear_8 : List UInt8 := dkwX9_readWear_8 ++ []
def dkwX9_readWear_7 : List UInt8 := [154, 0, 15, 42, 182, 1, 79, 153, 0, 8, 42, 5, 182, 1, 11, 42, 180, 0, 212, 154, 0, 8, 42, 3]
abbrev dktX9_readWear_7 : List UInt8 := dkwX9_readWear_7 ++ dktX9_readWear_8
def dkwX9_readWear_6 : List UInt8 := [181, 1, 38, 42, 182, 1, 14, 42, 182, 1, 73, 167, 0, 5, 3, 60, 167, 255, 132, 42, 180, 0, 212]
abbrev dktX9_readWear_6 : List UInt8 := dkwX9_readWear_6 ++ dktX9_readWear_7
def dkwX9_readWear_5 : List UInt8 := [184, 1, 41, 182, 1, 82, 42, 180, 0, 33, 42, 180, 1, 38, 28, 79, 42, 89, 180, 1, 38, 4, 96]
abbrev dktX9_readWear_5 : List UInt8 := dkwX9_readWear_5 ++ dktX9_readWear_6
def dkwX9_readWear_4 : List UInt8 := [167, 0, 63, 28, 153, 0, 57, 28, 184, 1, 41, 7, 160, 0, 10, 42, 182, 1, 85, 154, 0, 42, 42, 28]
abbrev dktX9_readWear_4 : List UInt8 := dkwX9_readWear_4 ++ dktX9_readWear_5
def dkwX9_readWear_3 : List UInt8 := [180, 1, 38, 4, 100, 181, 1, 38, 42, 89, 180, 1, 48, 4, 100, 181, 1, 48, 42, 182, 1, 14]
abbrev dktX9_readWear_3 : List UInt8 := dkwX9_readWear_3 ++ dktX9_readWear_4
def dkwX9_readWear_2 : List UInt8 := [180, 0, 199, 16, 41, 160, 0, 42, 42, 182, 1, 79, 153, 0, 35, 42, 3, 182, 1, 82, 42, 89]
abbrev dktX9_readWear_2 : List UInt8 := dkwX9_readWear_2 ++ dktX9_readWear_3
def dkwX9_readWear_1 : List UInt8 := [42, 182, 1, 73, 4, 60, 27, 153, 0, 126, 42, 180, 0, 212, 154, 0, 119, 42, 182, 1, 76, 61, 42]
abbrev dktX9_readWear_1 : List UInt8 := dkwX9_readWear_1 ++ dktX9_readWear_2
def dkwX9_readWear_0 : List UInt8 := [42, 182, 1, 14, 42, 3, 181, 1, 35, 42, 3, 181, 1, 38, 42, 3, 181, 1, 48, 42, 3, 181, 1, 54]
abbrev dktX9_readWear_0 : List UInt8 := dkwX9_readWear_0 ++ dktX9_readWear_1
theorem dksX9_readWear_0 : cX9_readWear.data.toList.drop 0 = dktX9_readWear_0 := by decide +kernel
theorem dksX9_readWear_1 : cX9_readWear.data.toList.drop 24 = dktX9_readWear_1 := dk_seg dksX9_readWear_0 24 rfl rfl
theorem dksX9_readWear_2 : cX9_readWear.data.toList.drop 47 = dktX9_readWear_2 := dk_seg dksX9_readWear_1 23 rfl rfl
theorem dksX9_readWear_3 : cX9_readWear.data.toList.drop 69 = dktX9_readWear_3 := dk_seg dksX9_readWear_2 22 rfl rfl
theorem dksX9_readWear_4 : cX9_readWear.data.toList.drop 91 = dktX9_readWear_4 := dk_seg dksX9_readWear_3 22 rfl rfl
theorem dksX9_readWear_5 : cX9_readWear.data.toList.drop 115 = dktX9_readWear_5 := dk_seg dksX9_readWear_4 24 rfl rfl
theorem dksX9_readWear_6 : cX9_readWear.data.toList.drop 138 = dktX9_readWear_6 := dk_seg dksX9_readWear_5 23 rfl rfl
theorem dksX9_readWear_7 : cX9_readWear.data.toList.drop 161 = dktX9_readWear_7 := dk_seg dksX9_readWear_6 23 rfl rfl
theorem dksX9_readWear_8 : cX9_readWear.data.toList.drop 185 = dktX9_readWear_8 := dk_seg dksX9_readWear_7 24 rfl rfl
theorem dX9_readWear_0 : decode cX9_readWear 0 = .ok (.aload_n 0, 1) := dk_42 (dk_at dksX9_readWear_0 0 rfl rfl)
theorem dX9_readWear_1 : decode cX9_readWear 1 = .ok (.invokevirtual 270, 3) := dk_182 1 14 (dk_at dksX9_readWear_0 1 rfl rfl)
theorem dX9_readWear_4 : decode cX9_readWear 4 = .ok (.aload_n 0, 1) := dk_42 (dk_at dksX9_readWear_0 4 rfl rfl)
theorem dX9_readWear_5 : decode cX9_readWear 5 = .ok (.iconst 0, 1) := dk_3 (dk_at dksX9_readWear_0 5 rfl rfl)
theorem dX9_readWear_6 : decode cX9_readWear 6 = .ok (.putfield 291, 3) := dk_181 1 35 (dk_at dksX9_readWear_0 6 rfl rfl)
theorem dX9_readWear_9 : decode cX9_readWear 9 = .ok (.aload_n 0, 1) := dk_42 (dk_at dksX9_readWear_0 9 rfl rfl)
theorem dX9_readWear_10 : decode cX9_readWear 10 = .ok (.iconst 0, 1) := dk_3 (dk_at dksX9_readWear_0 10 rfl rfl)
theorem dX9_readWear_11 : decode cX9_readWear 11 = .ok (.putfield 294, 3) := dk_181 1 38 (dk_at dksX9_readWear_0 11 rfl rfl)
theorem dX9_readWear_14 : decode cX9_readWear 14 = .ok (.aload_n 0, 1) := dk_42 (dk_at dksX9_readWear_0 14 rfl rfl)
theorem dX9_readWear_15 : decode cX9_readWear 15 = .ok (.iconst 0, 1) := dk_3 (dk_at dksX9_readWear_0 15 rfl rfl)
theorem dX9_readWear_16 : decode cX9_readWear 16 = .ok (.putfield 304, 3) := dk_181 1 48 (dk_at dksX9_readWear_0 16 rfl rfl)
theorem dX9_readWear_19 : decode cX9_readWear 19 = .ok (.aload_n 0, 1) := dk_42 (dk_at dksX9_readWear_0 19 rfl rfl)
theorem dX9_readWear_20 : decode cX9_readWear 20 = .ok (.iconst 0, 1) := dk_3 (dk_at dksX9_readWear_0 20 rfl rfl)
theorem dX9_readWear_21 : decode cX9_readWear 21 = .ok (.putfield 310, 3) := dk_181 1 54 (dk_at dksX9_readWear_0 21 rfl rfl)
theorem dX9_readWear_24 : decode cX9_readWear 24 = .ok (.aload_n 0, 1) := dk_42 (dk_at dksX9_readWear_1 0 rfl rfl)
theorem dX9_readWear_25 : decode cX9_readWear 25 = .ok (.invokevirtual 329, 3) := dk_182 1 73 (dk_at dksX9_readWear_1 1 rfl rfl)
theorem dX9_readWear_28 : decode cX9_readWear 28 = .ok (.iconst 1, 1) := dk_4 (dk_at dksX9_readWear_1 4 rfl rfl)
theorem dX9_readWear_29 : decode cX9_readWear 29 = .ok (.istore_n 1, 1) := dk_60 (dk_at dksX9_readWear_1 5 rfl rfl)
theorem dX9_readWear_30 : decode cX9_readWear 30 = .ok (.iload_n 1, 1) := dk_27 (dk_at dksX9_readWear_1 6 rfl rfl)
theorem dX9_readWear_31 : decode cX9_readWear 31 = .ok (.ifCond .eq 126, 3) := dk_153 0 126 (dk_at dksX9_readWear_1 7 rfl rfl)
theorem dX9_readWear_34 : decode cX9_readWear 34 = .ok (.aload_n 0, 1) := dk_42 (dk_at dksX9_readWear_1 10 rfl rfl)
theorem dX9_readWear_35 : decode cX9_readWear 35 = .ok (.getfield 212, 3) := dk_180 0 212 (dk_at dksX9_readWear_1 11 rfl rfl)
theorem dX9_readWear_38 : decode cX9_readWear 38 = .ok (.ifCond .ne 119, 3) := dk_154 0 119 (dk_at dksX9_readWear_1 14 rfl rfl)
theorem dX9_readWear_41 : decode cX9_readWear 41 = .ok (.aload_n 0, 1) := dk_42 (dk_at dksX9_readWear_1 17 rfl rfl)
theorem dX9_readWear_42 : decode cX9_readWear 42 = .ok (.invokevirtual 332, 3) := dk_182 1 76 (dk_at dksX9_readWear_1 18 rfl rfl)
theorem dX9_readWear_45 : decode cX9_readWear 45 = .ok (.istore_n 2, 1) := dk_61 (dk_at dksX9_readWear_1 21 rfl rfl)
theorem dX9_readWear_46 : decode cX9_readWear 46 = .ok (.aload_n 0, 1) := dk_42 (dk_at dksX9_readWear_1 22 rfl rfl)
theorem dX9_readWear_47 : decode cX9_readWear 47 = .ok (.getfield 199, 3) := dk_180 0 199 (dk_at dksX9_readWear_2 0 rfl rfl)
theorem dX9_readWear_50 : decode cX9_readWear 50 = .ok (.bipush 41, 2) := dk_16 41 (dk_at dksX9_readWear_2 3 rfl rfl)
theorem dX9_readWear_52 : decode cX9_readWear 52 = .ok (.if_icmp .ne 42, 3) := dk_160 0 42 (dk_at dksX9_readWear_2 5 rfl rfl)
theorem dX9_readWear_55 : decode cX9_readWear 55 = .ok (.aload_n 0, 1) := dk_42 (dk_at dksX9_readWear_2 8 rfl rfl)
theorem dX9_readWear_56 : decode cX9_readWear 56 = .ok (.invokevirtual 335, 3) := dk_182 1 79 (dk_at dksX9_readWear_2 9 rfl rfl)
theorem dX9_readWear_59 : decode cX9_readWear 59 = .ok (.ifCond .eq 35, 3) := dk_153 0 35 (dk_at dksX9_readWear_2 12 rfl rfl)
theorem dX9_readWear_62 : decode cX9_readWear 62 = .ok (.aload_n 0, 1) := dk_42 (dk_at dksX9_readWear_2 15 rfl rfl)
theorem dX9_readWear_63 : decode cX9_readWear 63 = .ok (.iconst 0, 1) := dk_3 (dk_at dksX9_readWear_2 16 rfl rfl)
theorem dX9_readWear_64 : decode cX9_readWear 64 = .ok (.invokevirtual 338, 3) := dk_182 1 82 (dk_at dksX9_readWear_2 17 rfl rfl)
theorem dX9_readWear_67 : decode cX9_readWear 67 = .ok (.aload_n 0, 1) := dk_42 (dk_at dksX9_readWear_2 20 rfl rfl)
theorem dX9_readWear_68 : decode cX9_readWear 68 = .ok (.dup, 1) := dk_89 (dk_at dksX9_readWear_2 21 rfl rfl)
theorem dX9_readWear_69 : decode cX9_readWear 69 = .ok (.getfield 294, 3) := dk_180 1 38 (dk_at dksX9_readWear_3 0 rfl rfl)
theorem dX9_readWear_72 : decode cX9_readWear 72 = .ok (.iconst 1, 1) := dk_4 (dk_at dksX9_readWear_3 3 rfl rfl)
theorem dX9_readWear_73 : decode cX9_readWear 73 = .ok (.isub, 1) := dk_100 (dk_at dksX9_readWear_3 4 rfl rfl)
theorem dX9_readWear_74 : decode cX9_readWear 74 = .ok (.putfield 294, 3) := dk_181 1 38 (dk_at dksX9_readWear_3 5 rfl rfl)
theorem dX9_readWear_77 : decode cX9_readWear 77 = .ok (.aload_n 0, 1) := dk_42 (dk_at dksX9_readWear_3 8 rfl rfl)
theorem dX9_readWear_78 : decode cX9_readWear 78 = .ok (.dup, 1) := dk_89 (dk_at dksX9_readWear_3 9 rfl rfl)
theorem dX9_readWear_79 : decode cX9_readWear 79 = .ok (.getfield 304, 3) := dk_180 1 48 (dk_at dksX9_readWear_3 10 rfl rfl)
theorem dX9_readWear_82 : decode cX9_readWear 82 = .ok (.iconst 1, 1) := dk_4 (dk_at dksX9_readWear_3 13 rfl rfl)
theorem dX9_readWear_83 : decode cX9_readWear 83 = .ok (.isub, 1) := dk_100 (dk_at dksX9_readWear_3 14 rfl rfl)
theorem dX9_readWear_84 : decode cX9_readWear 84 = .ok (.putfield 304, 3) := dk_181 1 48 (dk_at dksX9_readWear_3 15 rfl rfl)
theorem dX9_readWear_87 : decode cX9_readWear 87 = .ok (.aload_n 0, 1) := dk_42 (dk_at dksX9_readWear_3 18 rfl rfl)
theorem dX9_readWear_88 : decode cX9_readWear 88 = .ok (.invokevirtual 270, 3) := dk_182 1 14 (dk_at dksX9_readWear_3 19 rfl rfl)
theorem dX9_readWear_91 : decode cX9_readWear 91 = .ok (.goto 63, 3) := dk_167 0 63 (dk_at dksX9_readWear_4 0 rfl rfl)
theorem dX9_readWear_94 : decode cX9_readWear 94 = .ok (.iload_n 2, 1) := dk_28 (dk_at dksX9_readWear_4 3 rfl rfl)
theorem dX9_readWear_95 : decode cX9_readWear 95 = .ok (.ifCond .eq 57, 3) := dk_153 0 57 (dk_at dksX9_readWear_4 4 rfl rfl)
theorem dX9_readWear_98 : decode cX9_readWear 98 = .ok (.iload_n 2, 1) := dk_28 (dk_at dksX9_readWear_4 7 rfl rfl)
theorem dX9_readWear_99 : decode cX9_readWear 99 = .ok (.invokestatic 297, 3) := dk_184 1 41 (dk_at dksX9_readWear_4 8 rfl rfl)
theorem dX9_readWear_102 : decode cX9_readWear 102 = .ok (.iconst 4, 1) := dk_7 (dk_at dksX9_readWear_4 11 rfl rfl)
theorem dX9_readWear_103 : decode cX9_readWear 103 = .ok (.if_icmp .ne 10, 3) := dk_160 0 10 (dk_at dksX9_readWear_4 12 rfl rfl)
theorem dX9_readWear_106 : decode cX9_readWear 106 = .ok (.aload_n 0, 1) := dk_42 (dk_at dksX9_readWear_4 15 rfl rfl)
theorem dX9_readWear_107 : decode cX9_readWear 107 = .ok (.invokevirtual 341, 3) := dk_182 1 85 (dk_at dksX9_readWear_4 16 rfl rfl)
theorem dX9_readWear_110 : decode cX9_readWear 110 = .ok (.ifCond .ne 42, 3) := dk_154 0 42 (dk_at dksX9_readWear_4 19 rfl rfl)
theorem dX9_readWear_113 : decode cX9_readWear 113 = .ok (.aload_n 0, 1) := dk_42 (dk_at dksX9_readWear_4 22 rfl rfl)
theorem dX9_readWear_114 : decode cX9_readWear 114 = .ok (.iload_n 2, 1) := dk_28 (dk_at dksX9_readWear_4 23 rfl rfl)
theorem dX9_readWear_115 : decode cX9_readWear 115 = .ok (.invokestatic 297, 3) := dk_184 1 41 (dk_at dksX9_readWear_5 0 rfl rfl)
theorem dX9_readWear_118 : decode cX9_readWear 118 = .ok (.invokevirtual 338, 3) := dk_182 1 82 (dk_at dksX9_readWear_5 3 rfl rfl)
theorem dX9_readWear_121 : decode cX9_readWear 121 = .ok (.aload_n 0, 1) := dk_42 (dk_at dksX9_readWear_5 6 rfl rfl)
theorem dX9_readWear_122 : decode cX9_readWear 122 = .ok (.getfield 33, 3) := dk_180 0 33 (dk_at dksX9_readWear_5 7 rfl rfl)
theorem dX9_readWear_125 : decode cX9_readWear 125 = .ok (.aload_n 0, 1) := dk_42 (dk_at dksX9_readWear_5 10 rfl rfl)
theorem dX9_readWear_126 : decode cX9_readWear 126 = .ok (.getfield 294, 3) := dk_180 1 38 (dk_at dksX9_readWear_5 11 rfl rfl)
theorem dX9_readWear_129 : decode cX9_readWear 129 = .ok (.iload_n 2, 1) := dk_28 (dk_at dksX9_readWear_5 14 rfl rfl)
theorem dX9_readWear_130 : decode cX9_readWear 130 = .ok (.iastore, 1) := dk_79 (dk_at dksX9_readWear_5 15 rfl rfl)
theorem dX9_readWear_131 : decode cX9_readWear 131 = .ok (.aload_n 0, 1) := dk_42 (dk_at dksX9_readWear_5 16 rfl rfl)
theorem dX9_readWear_132 : decode cX9_readWear 132 = .ok (.dup, 1) := dk_89 (dk_at dksX9_readWear_5 17 rfl rfl)
theorem dX9_readWear_133 : decode cX9_readWear 133 = .ok (.getfield 294, 3) := dk_180 1 38 (dk_at dksX9_readWear_5 18 rfl rfl)
theorem dX9_readWear_136 : decode cX9_readWear 136 = .ok (.iconst 1, 1) := dk_4 (dk_at dksX9_readWear_5 21 rfl rfl)
theorem dX9_readWear_137 : decode cX9_readWear 137 = .ok (.iadd, 1) := dk_96 (dk_at dksX9_readWear_5 22 rfl rfl)
theorem dX9_readWear_138 : decode cX9_readWear 138 = .ok (.putfield 294, 3) := dk_181 1 38 (dk_at dksX9_readWear_6 0 rfl rfl)
theorem dX9_readWear_141 : decode cX9_readWear 141 = .ok (.aload_n 0, 1) := dk_42 (dk_at dksX9_readWear_6 3 rfl rfl)
theorem dX9_readWear_142 : decode cX9_readWear 142 = .ok (.invokevirtual 270, 3) := dk_182 1 14 (dk_at dksX9_readWear_6 4 rfl rfl)
theorem dX9_readWear_145 : decode cX9_readWear 145 = .ok (.aload_n 0, 1) := dk_42 (dk_at dksX9_readWear_6 7 rfl rfl)
theorem dX9_readWear_146 : decode cX9_readWear 146 = .ok (.invokevirtual 329, 3) := dk_182 1 73 (dk_at dksX9_readWear_6 8 rfl rfl)
theorem dX9_readWear_149 : decode cX9_readWear 149 = .ok (.goto 5, 3) := dk_167 0 5 (dk_at dksX9_readWear_6 11 rfl rfl)
theorem dX9_readWear_152 : decode cX9_readWear 152 = .ok (.iconst 0, 1) := dk_3 (dk_at dksX9_readWear_6 14 rfl rfl)
theorem dX9_readWear_153 : decode cX9_readWear 153 = .ok (.istore_n 1, 1) := dk_60 (dk_at dksX9_readWear_6 15 rfl rfl)
theorem dX9_readWear_154 : decode cX9_readWear 154 = .ok (.goto (-124), 3) := dk_167 255 132 (dk_at dksX9_readWear_6 16 rfl rfl)
theorem dX9_readWear_157 : decode cX9_readWear 157 = .ok (.aload_n 0, 1) := dk_42 (dk_at dksX9_readWear_6 19 rfl rfl)
theorem dX9_readWear_158 : decode cX9_readWear 158 = .ok (.getfield 212, 3) := dk_180 0 212 (dk_at dksX9_readWear_6 20 rfl rfl)
theorem dX9_readWear_161 : decode cX9_readWear 161 = .ok (.ifCond .ne 15, 3) := dk_154 0 15 (dk_at dksX9_readWear_7 0 rfl rfl)
theorem dX9_readWear_164 : decode cX9_readWear 164 = .ok (.aload_n 0, 1) := dk_42 (dk_at dksX9_readWear_7 3 rfl rfl)
theorem dX9_readWear_165 : decode cX9_readWear 165 = .ok (.invokevirtual 335, 3) := dk_182 1 79 (dk_at dksX9_readWear_7 4 rfl rfl)
theorem dX9_readWear_168 : decode cX9_readWear 168 = .ok (.ifCond .eq 8, 3) := dk_153 0 8 (dk_at dksX9_readWear_7 7 rfl rfl)
theorem dX9_readWear_171 : decode cX9_readWear 171 = .ok (.aload_n 0, 1) := dk_42 (dk_at dksX9_readWear_7 10 rfl rfl)
theorem dX9_readWear_172 : decode cX9_readWear 172 = .ok (.iconst 2, 1) := dk_5 (dk_at dksX9_readWear_7 11 rfl rfl)
theorem dX9_readWear_173 : decode cX9_readWear 173 = .ok (.invokevirtual 267, 3) := dk_182 1 11 (dk_at dksX9_readWear_7 12 rfl rfl)
theorem dX9_readWear_176 : decode cX9_readWear 176 = .ok (.aload_n 0, 1) := dk_42 (dk_at dksX9_readWear_7 15 rfl rfl)
theorem dX9_readWear_177 : decode cX9_readWear 177 = .ok (.getfield 212, 3) := dk_180 0 212 (dk_at dksX9_readWear_7 16 rfl rfl)
theorem dX9_readWear_180 : decode cX9_readWear 180 = .ok (.ifCond .ne 8, 3) := dk_154 0 8 (dk_at dksX9_readWear_7 19 rfl rfl)
theorem dX9_readWear_183 : decode cX9_readWear 183 = .ok (.aload_n 0, 1) := dk_42 (dk_at dksX9_readWear_7 22 rfl rfl)
theorem dX9_readWear_184 : decode cX9_readWear 184 = .ok (.iconst 0, 1) := dk_3 (dk_at dksX9_readWear_7 23 rfl rfl)
theorem dX9_readWear_185 : decode cX9_readWear 185 = .ok (.invokevirtual 338, 3) := dk_182 1 82 (dk_at dksX9_readWear_8 0 rfl rfl)
theorem dX9_readWear_188 : decode cX9_readWear 188 = .ok (.return_, 1) := dk_177 (dk_at dksX9_readWear_8 3 rfl rfl)
abbrev cX9_unit : ByteArray := prog_24_method_30_code
def yX9_unit : MethodName := ⟨RX9, "unit", "()V"⟩
def dkwX9_unit_7 : List UInt8 := [156, 0, 10, 42, 180, 0, 196, 167, 0, 4, 28, 182, 1, 44, 42, 182, 1, 14, 177]
abbrev dktX9_unit_7 : List UInt8 := dkwX9_unit_7 ++ []
def dkwX9_unit_6 : List UInt8 := [180, 0, 212, 158, 0, 4, 177, 42, 182, 1, 66, 42, 28, 156, 0, 7, 3, 167, 0, 4, 4, 28]
abbrev dktX9_unit_6 : List UInt8 := dkwX9_unit_6 ++ dktX9_unit_7
def dkwX9_unit_5 : List UInt8 := [180, 0, 199, 5, 159, 0, 7, 28, 155, 0, 10, 42, 182, 1, 63, 153, 0, 8, 42, 5, 182, 1, 11, 42]
abbrev dktX9_unit_5 : List UInt8 := dkwX9_unit_5 ++ dktX9_unit_6
def dkwX9_unit_4 : List UInt8 := [167, 255, 165, 3, 60, 167, 255, 160, 42, 180, 0, 212, 158, 0, 4, 177, 42, 182, 1, 69, 61, 42]
abbrev dktX9_unit_4 : List UInt8 := dkwX9_unit_4 ++ dktX9_unit_5
def dkwX9_unit_3 : List UInt8 := [180, 1, 48, 16, 6, 164, 0, 8, 42, 5, 182, 1, 11, 42, 182, 1, 66, 42, 16, 20, 182, 1, 60]
abbrev dktX9_unit_3 : List UInt8 := dkwX9_unit_3 ++ dktX9_unit_4
def dkwX9_unit_2 : List UInt8 := [182, 1, 60, 167, 255, 208, 42, 180, 0, 199, 16, 40, 160, 0, 37, 42, 182, 1, 63, 154, 0, 12, 42]
abbrev dktX9_unit_2 : List UInt8 := dkwX9_unit_2 ++ dktX9_unit_3
def dkwX9_unit_1 : List UInt8 := [182, 1, 57, 153, 0, 26, 42, 180, 1, 48, 16, 6, 164, 0, 8, 42, 5, 182, 1, 11, 42, 16, 21]
abbrev dktX9_unit_1 : List UInt8 := dkwX9_unit_1 ++ dktX9_unit_2
def dkwX9_unit_0 : List UInt8 := [4, 60, 27, 153, 0, 98, 42, 180, 0, 212, 154, 0, 91, 42, 20, 1, 1, 182, 1, 7, 153, 0, 33, 42]
abbrev dktX9_unit_0 : List UInt8 := dkwX9_unit_0 ++ dktX9_unit_1
theorem dksX9_unit_0 : cX9_unit.data.toList.drop 0 = dktX9_unit_0 := by decide +kernel
theorem dksX9_unit_1 : cX9_unit.data.toList.drop 24 = dktX9_unit_1 := dk_seg dksX9_unit_0 24 rfl rfl
theorem dksX9_unit_2 : cX9_unit.data.toList.drop 47 = dktX9_unit_2 := dk_seg dksX9_unit_1 23 rfl rfl
theorem dksX9_unit_3 : cX9_unit.data.toList.drop 70 = dktX9_unit_3 := dk_seg dksX9_unit_2 23 rfl rfl
theorem dksX9_unit_4 : cX9_unit.data.toList.drop 93 = dktX9_unit_4 := dk_seg dksX9_unit_3 23 rfl rfl
theorem dksX9_unit_5 : cX9_unit.data.toList.drop 115 = dktX9_unit_5 := dk_seg dksX9_unit_4 22 rfl rfl
theorem dksX9_unit_6 : cX9_unit.data.toList.drop 139 = dktX9_unit_6 := dk_seg dksX9_unit_5 24 rfl rfl
theorem dksX9_unit_7 : cX9_unit.data.toList.drop 161 = dktX9_unit_7 := dk_seg dksX9_unit_6 22 rfl rfl
theorem dX9_unit_0 : decode cX9_unit 0 = .ok (.iconst 1, 1) := dk_4 (dk_at dksX9_unit_0 0 rfl rfl)
theorem dX9_unit_1 : decode cX9_unit 1 = .ok (.istore_n 1, 1) := dk_60 (dk_at dksX9_unit_0 1 rfl rfl)
theorem dX9_unit_2 : decode cX9_unit 2 = .ok (.iload_n 1, 1) := dk_27 (dk_at dksX9_unit_0 2 rfl rfl)
theorem dX9_unit_3 : decode cX9_unit 3 = .ok (.ifCond .eq 98, 3) := dk_153 0 98 (dk_at dksX9_unit_0 3 rfl rfl)
theorem dX9_unit_6 : decode cX9_unit 6 = .ok (.aload_n 0, 1) := dk_42 (dk_at dksX9_unit_0 6 rfl rfl)
theorem dX9_unit_7 : decode cX9_unit 7 = .ok (.getfield 212, 3) := dk_180 0 212 (dk_at dksX9_unit_0 7 rfl rfl)
theorem dX9_unit_10 : decode cX9_unit 10 = .ok (.ifCond .ne 91, 3) := dk_154 0 91 (dk_at dksX9_unit_0 10 rfl rfl)
theorem dX9_unit_13 : decode cX9_unit 13 = .ok (.aload_n 0, 1) := dk_42 (dk_at dksX9_unit_0 13 rfl rfl)
theorem dX9_unit_14 : decode cX9_unit 14 = .ok (.ldc2_w 257, 3) := dk_20 1 1 (dk_at dksX9_unit_0 14 rfl rfl)
theorem dX9_unit_17 : decode cX9_unit 17 = .ok (.invokevirtual 263, 3) := dk_182 1 7 (dk_at dksX9_unit_0 17 rfl rfl)
theorem dX9_unit_20 : decode cX9_unit 20 = .ok (.ifCond .eq 33, 3) := dk_153 0 33 (dk_at dksX9_unit_0 20 rfl rfl)
theorem dX9_unit_23 : decode cX9_unit 23 = .ok (.aload_n 0, 1) := dk_42 (dk_at dksX9_unit_0 23 rfl rfl)
theorem dX9_unit_24 : decode cX9_unit 24 = .ok (.invokevirtual 313, 3) := dk_182 1 57 (dk_at dksX9_unit_1 0 rfl rfl)
theorem dX9_unit_27 : decode cX9_unit 27 = .ok (.ifCond .eq 26, 3) := dk_153 0 26 (dk_at dksX9_unit_1 3 rfl rfl)
theorem dX9_unit_30 : decode cX9_unit 30 = .ok (.aload_n 0, 1) := dk_42 (dk_at dksX9_unit_1 6 rfl rfl)
theorem dX9_unit_31 : decode cX9_unit 31 = .ok (.getfield 304, 3) := dk_180 1 48 (dk_at dksX9_unit_1 7 rfl rfl)
theorem dX9_unit_34 : decode cX9_unit 34 = .ok (.bipush 6, 2) := dk_16 6 (dk_at dksX9_unit_1 10 rfl rfl)
theorem dX9_unit_36 : decode cX9_unit 36 = .ok (.if_icmp .le 8, 3) := dk_164 0 8 (dk_at dksX9_unit_1 12 rfl rfl)
theorem dX9_unit_39 : decode cX9_unit 39 = .ok (.aload_n 0, 1) := dk_42 (dk_at dksX9_unit_1 15 rfl rfl)
theorem dX9_unit_40 : decode cX9_unit 40 = .ok (.iconst 2, 1) := dk_5 (dk_at dksX9_unit_1 16 rfl rfl)
theorem dX9_unit_41 : decode cX9_unit 41 = .ok (.invokevirtual 267, 3) := dk_182 1 11 (dk_at dksX9_unit_1 17 rfl rfl)
theorem dX9_unit_44 : decode cX9_unit 44 = .ok (.aload_n 0, 1) := dk_42 (dk_at dksX9_unit_1 20 rfl rfl)
theorem dX9_unit_45 : decode cX9_unit 45 = .ok (.bipush 21, 2) := dk_16 21 (dk_at dksX9_unit_1 21 rfl rfl)
theorem dX9_unit_47 : decode cX9_unit 47 = .ok (.invokevirtual 316, 3) := dk_182 1 60 (dk_at dksX9_unit_2 0 rfl rfl)
theorem dX9_unit_50 : decode cX9_unit 50 = .ok (.goto (-48), 3) := dk_167 255 208 (dk_at dksX9_unit_2 3 rfl rfl)
theorem dX9_unit_53 : decode cX9_unit 53 = .ok (.aload_n 0, 1) := dk_42 (dk_at dksX9_unit_2 6 rfl rfl)
theorem dX9_unit_54 : decode cX9_unit 54 = .ok (.getfield 199, 3) := dk_180 0 199 (dk_at dksX9_unit_2 7 rfl rfl)
theorem dX9_unit_57 : decode cX9_unit 57 = .ok (.bipush 40, 2) := dk_16 40 (dk_at dksX9_unit_2 10 rfl rfl)
theorem dX9_unit_59 : decode cX9_unit 59 = .ok (.if_icmp .ne 37, 3) := dk_160 0 37 (dk_at dksX9_unit_2 12 rfl rfl)
theorem dX9_unit_62 : decode cX9_unit 62 = .ok (.aload_n 0, 1) := dk_42 (dk_at dksX9_unit_2 15 rfl rfl)
theorem dX9_unit_63 : decode cX9_unit 63 = .ok (.invokevirtual 319, 3) := dk_182 1 63 (dk_at dksX9_unit_2 16 rfl rfl)
theorem dX9_unit_66 : decode cX9_unit 66 = .ok (.ifCond .ne 12, 3) := dk_154 0 12 (dk_at dksX9_unit_2 19 rfl rfl)
theorem dX9_unit_69 : decode cX9_unit 69 = .ok (.aload_n 0, 1) := dk_42 (dk_at dksX9_unit_2 22 rfl rfl)
theorem dX9_unit_70 : decode cX9_unit 70 = .ok (.getfield 304, 3) := dk_180 1 48 (dk_at dksX9_unit_3 0 rfl rfl)
theorem dX9_unit_73 : decode cX9_unit 73 = .ok (.bipush 6, 2) := dk_16 6 (dk_at dksX9_unit_3 3 rfl rfl)
theorem dX9_unit_75 : decode cX9_unit 75 = .ok (.if_icmp .le 8, 3) := dk_164 0 8 (dk_at dksX9_unit_3 5 rfl rfl)
theorem dX9_unit_78 : decode cX9_unit 78 = .ok (.aload_n 0, 1) := dk_42 (dk_at dksX9_unit_3 8 rfl rfl)
theorem dX9_unit_79 : decode cX9_unit 79 = .ok (.iconst 2, 1) := dk_5 (dk_at dksX9_unit_3 9 rfl rfl)
theorem dX9_unit_80 : decode cX9_unit 80 = .ok (.invokevirtual 267, 3) := dk_182 1 11 (dk_at dksX9_unit_3 10 rfl rfl)
theorem dX9_unit_83 : decode cX9_unit 83 = .ok (.aload_n 0, 1) := dk_42 (dk_at dksX9_unit_3 13 rfl rfl)
theorem dX9_unit_84 : decode cX9_unit 84 = .ok (.invokevirtual 322, 3) := dk_182 1 66 (dk_at dksX9_unit_3 14 rfl rfl)
theorem dX9_unit_87 : decode cX9_unit 87 = .ok (.aload_n 0, 1) := dk_42 (dk_at dksX9_unit_3 17 rfl rfl)
theorem dX9_unit_88 : decode cX9_unit 88 = .ok (.bipush 20, 2) := dk_16 20 (dk_at dksX9_unit_3 18 rfl rfl)
theorem dX9_unit_90 : decode cX9_unit 90 = .ok (.invokevirtual 316, 3) := dk_182 1 60 (dk_at dksX9_unit_3 20 rfl rfl)
theorem dX9_unit_93 : decode cX9_unit 93 = .ok (.goto (-91), 3) := dk_167 255 165 (dk_at dksX9_unit_4 0 rfl rfl)
theorem dX9_unit_96 : decode cX9_unit 96 = .ok (.iconst 0, 1) := dk_3 (dk_at dksX9_unit_4 3 rfl rfl)
theorem dX9_unit_97 : decode cX9_unit 97 = .ok (.istore_n 1, 1) := dk_60 (dk_at dksX9_unit_4 4 rfl rfl)
theorem dX9_unit_98 : decode cX9_unit 98 = .ok (.goto (-96), 3) := dk_167 255 160 (dk_at dksX9_unit_4 5 rfl rfl)
theorem dX9_unit_101 : decode cX9_unit 101 = .ok (.aload_n 0, 1) := dk_42 (dk_at dksX9_unit_4 8 rfl rfl)
theorem dX9_unit_102 : decode cX9_unit 102 = .ok (.getfield 212, 3) := dk_180 0 212 (dk_at dksX9_unit_4 9 rfl rfl)
theorem dX9_unit_105 : decode cX9_unit 105 = .ok (.ifCond .le 4, 3) := dk_158 0 4 (dk_at dksX9_unit_4 12 rfl rfl)
theorem dX9_unit_108 : decode cX9_unit 108 = .ok (.return_, 1) := dk_177 (dk_at dksX9_unit_4 15 rfl rfl)
theorem dX9_unit_109 : decode cX9_unit 109 = .ok (.aload_n 0, 1) := dk_42 (dk_at dksX9_unit_4 16 rfl rfl)
theorem dX9_unit_110 : decode cX9_unit 110 = .ok (.invokevirtual 325, 3) := dk_182 1 69 (dk_at dksX9_unit_4 17 rfl rfl)
theorem dX9_unit_113 : decode cX9_unit 113 = .ok (.istore_n 2, 1) := dk_61 (dk_at dksX9_unit_4 20 rfl rfl)
theorem dX9_unit_114 : decode cX9_unit 114 = .ok (.aload_n 0, 1) := dk_42 (dk_at dksX9_unit_4 21 rfl rfl)
theorem dX9_unit_115 : decode cX9_unit 115 = .ok (.getfield 199, 3) := dk_180 0 199 (dk_at dksX9_unit_5 0 rfl rfl)
theorem dX9_unit_118 : decode cX9_unit 118 = .ok (.iconst 2, 1) := dk_5 (dk_at dksX9_unit_5 3 rfl rfl)
theorem dX9_unit_119 : decode cX9_unit 119 = .ok (.if_icmp .eq 7, 3) := dk_159 0 7 (dk_at dksX9_unit_5 4 rfl rfl)
theorem dX9_unit_122 : decode cX9_unit 122 = .ok (.iload_n 2, 1) := dk_28 (dk_at dksX9_unit_5 7 rfl rfl)
theorem dX9_unit_123 : decode cX9_unit 123 = .ok (.ifCond .lt 10, 3) := dk_155 0 10 (dk_at dksX9_unit_5 8 rfl rfl)
theorem dX9_unit_126 : decode cX9_unit 126 = .ok (.aload_n 0, 1) := dk_42 (dk_at dksX9_unit_5 11 rfl rfl)
theorem dX9_unit_127 : decode cX9_unit 127 = .ok (.invokevirtual 319, 3) := dk_182 1 63 (dk_at dksX9_unit_5 12 rfl rfl)
theorem dX9_unit_130 : decode cX9_unit 130 = .ok (.ifCond .eq 8, 3) := dk_153 0 8 (dk_at dksX9_unit_5 15 rfl rfl)
theorem dX9_unit_133 : decode cX9_unit 133 = .ok (.aload_n 0, 1) := dk_42 (dk_at dksX9_unit_5 18 rfl rfl)
theorem dX9_unit_134 : decode cX9_unit 134 = .ok (.iconst 2, 1) := dk_5 (dk_at dksX9_unit_5 19 rfl rfl)
theorem dX9_unit_135 : decode cX9_unit 135 = .ok (.invokevirtual 267, 3) := dk_182 1 11 (dk_at dksX9_unit_5 20 rfl rfl)
theorem dX9_unit_138 : decode cX9_unit 138 = .ok (.aload_n 0, 1) := dk_42 (dk_at dksX9_unit_5 23 rfl rfl)
theorem dX9_unit_139 : decode cX9_unit 139 = .ok (.getfield 212, 3) := dk_180 0 212 (dk_at dksX9_unit_6 0 rfl rfl)
theorem dX9_unit_142 : decode cX9_unit 142 = .ok (.ifCond .le 4, 3) := dk_158 0 4 (dk_at dksX9_unit_6 3 rfl rfl)
theorem dX9_unit_145 : decode cX9_unit 145 = .ok (.return_, 1) := dk_177 (dk_at dksX9_unit_6 6 rfl rfl)
theorem dX9_unit_146 : decode cX9_unit 146 = .ok (.aload_n 0, 1) := dk_42 (dk_at dksX9_unit_6 7 rfl rfl)
theorem dX9_unit_147 : decode cX9_unit 147 = .ok (.invokevirtual 322, 3) := dk_182 1 66 (dk_at dksX9_unit_6 8 rfl rfl)
theorem dX9_unit_150 : decode cX9_unit 150 = .ok (.aload_n 0, 1) := dk_42 (dk_at dksX9_unit_6 11 rfl rfl)
theorem dX9_unit_151 : decode cX9_unit 151 = .ok (.iload_n 2, 1) := dk_28 (dk_at dksX9_unit_6 12 rfl rfl)
theorem dX9_unit_152 : decode cX9_unit 152 = .ok (.ifCond .ge 7, 3) := dk_156 0 7 (dk_at dksX9_unit_6 13 rfl rfl)
theorem dX9_unit_155 : decode cX9_unit 155 = .ok (.iconst 0, 1) := dk_3 (dk_at dksX9_unit_6 16 rfl rfl)
theorem dX9_unit_156 : decode cX9_unit 156 = .ok (.goto 4, 3) := dk_167 0 4 (dk_at dksX9_unit_6 17 rfl rfl)
theorem dX9_unit_159 : decode cX9_unit 159 = .ok (.iconst 1, 1) := dk_4 (dk_at dksX9_unit_6 20 rfl rfl)
theorem dX9_unit_160 : decode cX9_unit 160 = .ok (.iload_n 2, 1) := dk_28 (dk_at dksX9_unit_6 21 rfl rfl)
theorem dX9_unit_161 : decode cX9_unit 161 = .ok (.ifCond .ge 10, 3) := dk_156 0 10 (dk_at dksX9_unit_7 0 rfl rfl)
theorem dX9_unit_164 : decode cX9_unit 164 = .ok (.aload_n 0, 1) := dk_42 (dk_at dksX9_unit_7 3 rfl rfl)
theorem dX9_unit_165 : decode cX9_unit 165 = .ok (.getfield 196, 3) := dk_180 0 196 (dk_at dksX9_unit_7 4 rfl rfl)
theorem dX9_unit_168 : decode cX9_unit 168 = .ok (.goto 4, 3) := dk_167 0 4 (dk_at dksX9_unit_7 7 rfl rfl)
theorem dX9_unit_171 : decode cX9_unit 171 = .ok (.iload_n 2, 1) := dk_28 (dk_at dksX9_unit_7 10 rfl rfl)
theorem dX9_unit_172 : decode cX9_unit 172 = .ok (.invokevirtual 300, 3) := dk_182 1 44 (dk_at dksX9_unit_7 11 rfl rfl)
theorem dX9_unit_175 : decode cX9_unit 175 = .ok (.aload_n 0, 1) := dk_42 (dk_at dksX9_unit_7 14 rfl rfl)
theorem dX9_unit_176 : decode cX9_unit 176 = .ok (.invokevirtual 270, 3) := dk_182 1 14 (dk_at dksX9_unit_7 15 rfl rfl)
theorem dX9_unit_179 : decode cX9_unit 179 = .ok (.return_, 1) := dk_177 (dk_at dksX9_unit_7 18 rfl rfl)
abbrev cX9_mayNot : ByteArray := prog_24_method_25_code
def yX9_mayNot : MethodName := ⟨RX9, "mayNot", "()Z"⟩
def dkwX9_mayNot_1 : List UInt8 := [180, 0, 33, 42, 180, 1, 38, 4, 100, 46, 184, 1, 41, 7, 162, 0, 7, 4, 167, 0, 4, 3, 172]
abbrev dktX9_mayNot_1 : List UInt8 := dkwX9_mayNot_1 ++ []
def dkwX9_mayNot_0 : List UInt8 := [42, 180, 1, 38, 153, 0, 37, 42, 180, 0, 33, 42, 180, 1, 38, 4, 100, 46, 16, 20, 159, 0, 21, 42]
abbrev dktX9_mayNot_0 : List UInt8 := dkwX9_mayNot_0 ++ dktX9_mayNot_1
theorem dksX9_mayNot_0 : cX9_mayNot.data.toList.drop 0 = dktX9_mayNot_0 := by decide +kernel
theorem dksX9_mayNot_1 : cX9_mayNot.data.toList.drop 24 = dktX9_mayNot_1 := dk_seg dksX9_mayNot_0 24 rfl rfl
theorem dX9_mayNot_0 : decode cX9_mayNot 0 = .ok (.aload_n 0, 1) := dk_42 (dk_at dksX9_mayNot_0 0 rfl rfl)
theorem dX9_mayNot_1 : decode cX9_mayNot 1 = .ok (.getfield 294, 3) := dk_180 1 38 (dk_at dksX9_mayNot_0 1 rfl rfl)
theorem dX9_mayNot_4 : decode cX9_mayNot 4 = .ok (.ifCond .eq 37, 3) := dk_153 0 37 (dk_at dksX9_mayNot_0 4 rfl rfl)
theorem dX9_mayNot_7 : decode cX9_mayNot 7 = .ok (.aload_n 0, 1) := dk_42 (dk_at dksX9_mayNot_0 7 rfl rfl)
theorem dX9_mayNot_8 : decode cX9_mayNot 8 = .ok (.getfield 33, 3) := dk_180 0 33 (dk_at dksX9_mayNot_0 8 rfl rfl)
theorem dX9_mayNot_11 : decode cX9_mayNot 11 = .ok (.aload_n 0, 1) := dk_42 (dk_at dksX9_mayNot_0 11 rfl rfl)
theorem dX9_mayNot_12 : decode cX9_mayNot 12 = .ok (.getfield 294, 3) := dk_180 1 38 (dk_at dksX9_mayNot_0 12 rfl rfl)
theorem dX9_mayNot_15 : decode cX9_mayNot 15 = .ok (.iconst 1, 1) := dk_4 (dk_at dksX9_mayNot_0 15 rfl rfl)
theorem dX9_mayNot_16 : decode cX9_mayNot 16 = .ok (.isub, 1) := dk_100 (dk_at dksX9_mayNot_0 16 rfl rfl)
theorem dX9_mayNot_17 : decode cX9_mayNot 17 = .ok (.iaload, 1) := dk_46 (dk_at dksX9_mayNot_0 17 rfl rfl)
theorem dX9_mayNot_18 : decode cX9_mayNot 18 = .ok (.bipush 20, 2) := dk_16 20 (dk_at dksX9_mayNot_0 18 rfl rfl)
theorem dX9_mayNot_20 : decode cX9_mayNot 20 = .ok (.if_icmp .eq 21, 3) := dk_159 0 21 (dk_at dksX9_mayNot_0 20 rfl rfl)
theorem dX9_mayNot_23 : decode cX9_mayNot 23 = .ok (.aload_n 0, 1) := dk_42 (dk_at dksX9_mayNot_0 23 rfl rfl)
theorem dX9_mayNot_24 : decode cX9_mayNot 24 = .ok (.getfield 33, 3) := dk_180 0 33 (dk_at dksX9_mayNot_1 0 rfl rfl)
theorem dX9_mayNot_27 : decode cX9_mayNot 27 = .ok (.aload_n 0, 1) := dk_42 (dk_at dksX9_mayNot_1 3 rfl rfl)
theorem dX9_mayNot_28 : decode cX9_mayNot 28 = .ok (.getfield 294, 3) := dk_180 1 38 (dk_at dksX9_mayNot_1 4 rfl rfl)
theorem dX9_mayNot_31 : decode cX9_mayNot 31 = .ok (.iconst 1, 1) := dk_4 (dk_at dksX9_mayNot_1 7 rfl rfl)
theorem dX9_mayNot_32 : decode cX9_mayNot 32 = .ok (.isub, 1) := dk_100 (dk_at dksX9_mayNot_1 8 rfl rfl)
theorem dX9_mayNot_33 : decode cX9_mayNot 33 = .ok (.iaload, 1) := dk_46 (dk_at dksX9_mayNot_1 9 rfl rfl)
theorem dX9_mayNot_34 : decode cX9_mayNot 34 = .ok (.invokestatic 297, 3) := dk_184 1 41 (dk_at dksX9_mayNot_1 10 rfl rfl)
theorem dX9_mayNot_37 : decode cX9_mayNot 37 = .ok (.iconst 4, 1) := dk_7 (dk_at dksX9_mayNot_1 13 rfl rfl)
theorem dX9_mayNot_38 : decode cX9_mayNot 38 = .ok (.if_icmp .ge 7, 3) := dk_162 0 7 (dk_at dksX9_mayNot_1 14 rfl rfl)
theorem dX9_mayNot_41 : decode cX9_mayNot 41 = .ok (.iconst 1, 1) := dk_4 (dk_at dksX9_mayNot_1 17 rfl rfl)
theorem dX9_mayNot_42 : decode cX9_mayNot 42 = .ok (.goto 4, 3) := dk_167 0 4 (dk_at dksX9_mayNot_1 18 rfl rfl)
theorem dX9_mayNot_45 : decode cX9_mayNot 45 = .ok (.iconst 0, 1) := dk_3 (dk_at dksX9_mayNot_1 21 rfl rfl)
theorem dX9_mayNot_46 : decode cX9_mayNot 46 = .ok (.ireturn, 1) := dk_172 (dk_at dksX9_mayNot_1 22 rfl rfl)
abbrev cX9_tight : ByteArray := prog_24_method_22_code
def yX9_tight : MethodName := ⟨RX9, "tight", "(I)I"⟩
def dkwX9_tight_2 : List UInt8 := [4, 172, 5, 172, 6, 172, 7, 172, 8, 172, 16, 6, 172]
abbrev dktX9_tight_2 : List UInt8 := dkwX9_tight_2 ++ []
def dkwX9_tight_1 : List UInt8 := [171, 0, 0, 0, 0, 0, 85, 0, 0, 0, 8, 0, 0, 0, 21, 0, 0, 0, 79, 0, 0, 0, 38, 0, 0, 0, 77, 0, 0, 0, 43, 0, 0, 0, 83, 0, 0, 0, 45, 0, 0, 0, 83, 0, 0, 0, 60, 0, 0, 0, 81, 0, 0, 0, 61, 0, 0, 0, 81, 0, 0, 0, 62, 0, 0, 0, 81, 0, 0, 0, 124, 0, 0, 0, 75]
abbrev dktX9_tight_1 : List UInt8 := dkwX9_tight_1 ++ dktX9_tight_2
def dkwX9_tight_0 : List UInt8 := [26]
abbrev dktX9_tight_0 : List UInt8 := dkwX9_tight_0 ++ dktX9_tight_1
theorem dksX9_tight_0 : cX9_tight.data.toList.drop 0 = dktX9_tight_0 := by decide +kernel
theorem dksX9_tight_1 : cX9_tight.data.toList.drop 1 = dktX9_tight_1 := dk_seg dksX9_tight_0 1 rfl rfl
theorem dksX9_tight_2 : cX9_tight.data.toList.drop 76 = dktX9_tight_2 := dk_seg dksX9_tight_1 75 rfl rfl
theorem dX9_tight_0 : decode cX9_tight 0 = .ok (.iload_n 0, 1) := dk_26 (dk_at dksX9_tight_0 0 rfl rfl)
theorem dX9_tight_1 : decode cX9_tight 1 = .ok (.lookupswitch 85 #[(21, 79), (38, 77), (43, 83), (45, 83), (60, 81), (61, 81), (62, 81), (124, 75)], 75) := by decide +kernel
theorem dX9_tight_76 : decode cX9_tight 76 = .ok (.iconst 1, 1) := dk_4 (dk_at dksX9_tight_2 0 rfl rfl)
theorem dX9_tight_77 : decode cX9_tight 77 = .ok (.ireturn, 1) := dk_172 (dk_at dksX9_tight_2 1 rfl rfl)
theorem dX9_tight_78 : decode cX9_tight 78 = .ok (.iconst 2, 1) := dk_5 (dk_at dksX9_tight_2 2 rfl rfl)
theorem dX9_tight_79 : decode cX9_tight 79 = .ok (.ireturn, 1) := dk_172 (dk_at dksX9_tight_2 3 rfl rfl)
theorem dX9_tight_80 : decode cX9_tight 80 = .ok (.iconst 3, 1) := dk_6 (dk_at dksX9_tight_2 4 rfl rfl)
theorem dX9_tight_81 : decode cX9_tight 81 = .ok (.ireturn, 1) := dk_172 (dk_at dksX9_tight_2 5 rfl rfl)
theorem dX9_tight_82 : decode cX9_tight 82 = .ok (.iconst 4, 1) := dk_7 (dk_at dksX9_tight_2 6 rfl rfl)
theorem dX9_tight_83 : decode cX9_tight 83 = .ok (.ireturn, 1) := dk_172 (dk_at dksX9_tight_2 7 rfl rfl)
theorem dX9_tight_84 : decode cX9_tight 84 = .ok (.iconst 5, 1) := dk_8 (dk_at dksX9_tight_2 8 rfl rfl)
theorem dX9_tight_85 : decode cX9_tight 85 = .ok (.ireturn, 1) := dk_172 (dk_at dksX9_tight_2 9 rfl rfl)
theorem dX9_tight_86 : decode cX9_tight 86 = .ok (.bipush 6, 2) := dk_16 6 (dk_at dksX9_tight_2 10 rfl rfl)
theorem dX9_tight_88 : decode cX9_tight 88 = .ok (.ireturn, 1) := dk_172 (dk_at dksX9_tight_2 12 rfl rfl)
abbrev cX9_openUp : ByteArray := prog_24_method_29_code
def yX9_openUp : MethodName := ⟨RX9, "openUp", "(I)V"⟩
def dkwX9_openUp_1 : List UInt8 := [180, 1, 48, 4, 96, 181, 1, 48, 42, 180, 0, 212, 154, 0, 7, 42, 182, 1, 14, 177]
abbrev dktX9_openUp_1 : List UInt8 := dkwX9_openUp_1 ++ []
def dkwX9_openUp_0 : List UInt8 := [42, 180, 0, 33, 42, 180, 1, 38, 27, 79, 42, 89, 180, 1, 38, 4, 96, 181, 1, 38, 42, 89]
abbrev dktX9_openUp_0 : List UInt8 := dkwX9_openUp_0 ++ dktX9_openUp_1
theorem dksX9_openUp_0 : cX9_openUp.data.toList.drop 0 = dktX9_openUp_0 := by decide +kernel
theorem dksX9_openUp_1 : cX9_openUp.data.toList.drop 22 = dktX9_openUp_1 := dk_seg dksX9_openUp_0 22 rfl rfl
theorem dX9_openUp_0 : decode cX9_openUp 0 = .ok (.aload_n 0, 1) := dk_42 (dk_at dksX9_openUp_0 0 rfl rfl)
theorem dX9_openUp_1 : decode cX9_openUp 1 = .ok (.getfield 33, 3) := dk_180 0 33 (dk_at dksX9_openUp_0 1 rfl rfl)
theorem dX9_openUp_4 : decode cX9_openUp 4 = .ok (.aload_n 0, 1) := dk_42 (dk_at dksX9_openUp_0 4 rfl rfl)
theorem dX9_openUp_5 : decode cX9_openUp 5 = .ok (.getfield 294, 3) := dk_180 1 38 (dk_at dksX9_openUp_0 5 rfl rfl)
theorem dX9_openUp_8 : decode cX9_openUp 8 = .ok (.iload_n 1, 1) := dk_27 (dk_at dksX9_openUp_0 8 rfl rfl)
theorem dX9_openUp_9 : decode cX9_openUp 9 = .ok (.iastore, 1) := dk_79 (dk_at dksX9_openUp_0 9 rfl rfl)
theorem dX9_openUp_10 : decode cX9_openUp 10 = .ok (.aload_n 0, 1) := dk_42 (dk_at dksX9_openUp_0 10 rfl rfl)
theorem dX9_openUp_11 : decode cX9_openUp 11 = .ok (.dup, 1) := dk_89 (dk_at dksX9_openUp_0 11 rfl rfl)
theorem dX9_openUp_12 : decode cX9_openUp 12 = .ok (.getfield 294, 3) := dk_180 1 38 (dk_at dksX9_openUp_0 12 rfl rfl)
theorem dX9_openUp_15 : decode cX9_openUp 15 = .ok (.iconst 1, 1) := dk_4 (dk_at dksX9_openUp_0 15 rfl rfl)
theorem dX9_openUp_16 : decode cX9_openUp 16 = .ok (.iadd, 1) := dk_96 (dk_at dksX9_openUp_0 16 rfl rfl)
theorem dX9_openUp_17 : decode cX9_openUp 17 = .ok (.putfield 294, 3) := dk_181 1 38 (dk_at dksX9_openUp_0 17 rfl rfl)
theorem dX9_openUp_20 : decode cX9_openUp 20 = .ok (.aload_n 0, 1) := dk_42 (dk_at dksX9_openUp_0 20 rfl rfl)
theorem dX9_openUp_21 : decode cX9_openUp 21 = .ok (.dup, 1) := dk_89 (dk_at dksX9_openUp_0 21 rfl rfl)
theorem dX9_openUp_22 : decode cX9_openUp 22 = .ok (.getfield 304, 3) := dk_180 1 48 (dk_at dksX9_openUp_1 0 rfl rfl)
theorem dX9_openUp_25 : decode cX9_openUp 25 = .ok (.iconst 1, 1) := dk_4 (dk_at dksX9_openUp_1 3 rfl rfl)
theorem dX9_openUp_26 : decode cX9_openUp 26 = .ok (.iadd, 1) := dk_96 (dk_at dksX9_openUp_1 4 rfl rfl)
theorem dX9_openUp_27 : decode cX9_openUp 27 = .ok (.putfield 304, 3) := dk_181 1 48 (dk_at dksX9_openUp_1 5 rfl rfl)
theorem dX9_openUp_30 : decode cX9_openUp 30 = .ok (.aload_n 0, 1) := dk_42 (dk_at dksX9_openUp_1 8 rfl rfl)
theorem dX9_openUp_31 : decode cX9_openUp 31 = .ok (.getfield 212, 3) := dk_180 0 212 (dk_at dksX9_openUp_1 9 rfl rfl)
theorem dX9_openUp_34 : decode cX9_openUp 34 = .ok (.ifCond .ne 7, 3) := dk_154 0 7 (dk_at dksX9_openUp_1 12 rfl rfl)
theorem dX9_openUp_37 : decode cX9_openUp 37 = .ok (.aload_n 0, 1) := dk_42 (dk_at dksX9_openUp_1 15 rfl rfl)
theorem dX9_openUp_38 : decode cX9_openUp 38 = .ok (.invokevirtual 270, 3) := dk_182 1 14 (dk_at dksX9_openUp_1 16 rfl rfl)
theorem dX9_openUp_41 : decode cX9_openUp 41 = .ok (.return_, 1) := dk_177 (dk_at dksX9_openUp_1 19 rfl rfl)
abbrev cX9_isFull : ByteArray := prog_24_method_27_code
def yX9_isFull : MethodName := ⟨RX9, "isFull", "()Z"⟩
def dkwX9_isFull_0 : List UInt8 := [42, 180, 1, 51, 16, 60, 159, 0, 12, 42, 180, 1, 54, 16, 30, 160, 0, 7, 4, 167, 0, 4, 3, 172]
abbrev dktX9_isFull_0 : List UInt8 := dkwX9_isFull_0 ++ []
theorem dksX9_isFull_0 : cX9_isFull.data.toList.drop 0 = dktX9_isFull_0 := by decide +kernel
theorem dX9_isFull_0 : decode cX9_isFull 0 = .ok (.aload_n 0, 1) := dk_42 (dk_at dksX9_isFull_0 0 rfl rfl)
theorem dX9_isFull_1 : decode cX9_isFull 1 = .ok (.getfield 307, 3) := dk_180 1 51 (dk_at dksX9_isFull_0 1 rfl rfl)
theorem dX9_isFull_4 : decode cX9_isFull 4 = .ok (.bipush 60, 2) := dk_16 60 (dk_at dksX9_isFull_0 4 rfl rfl)
theorem dX9_isFull_6 : decode cX9_isFull 6 = .ok (.if_icmp .eq 12, 3) := dk_159 0 12 (dk_at dksX9_isFull_0 6 rfl rfl)
theorem dX9_isFull_9 : decode cX9_isFull 9 = .ok (.aload_n 0, 1) := dk_42 (dk_at dksX9_isFull_0 9 rfl rfl)
theorem dX9_isFull_10 : decode cX9_isFull 10 = .ok (.getfield 310, 3) := dk_180 1 54 (dk_at dksX9_isFull_0 10 rfl rfl)
theorem dX9_isFull_13 : decode cX9_isFull 13 = .ok (.bipush 30, 2) := dk_16 30 (dk_at dksX9_isFull_0 13 rfl rfl)
theorem dX9_isFull_15 : decode cX9_isFull 15 = .ok (.if_icmp .ne 7, 3) := dk_160 0 7 (dk_at dksX9_isFull_0 15 rfl rfl)
theorem dX9_isFull_18 : decode cX9_isFull 18 = .ok (.iconst 1, 1) := dk_4 (dk_at dksX9_isFull_0 18 rfl rfl)
theorem dX9_isFull_19 : decode cX9_isFull 19 = .ok (.goto 4, 3) := dk_167 0 4 (dk_at dksX9_isFull_0 19 rfl rfl)
theorem dX9_isFull_22 : decode cX9_isFull 22 = .ok (.iconst 0, 1) := dk_3 (dk_at dksX9_isFull_0 22 rfl rfl)
theorem dX9_isFull_23 : decode cX9_isFull 23 = .ok (.ireturn, 1) := dk_172 (dk_at dksX9_isFull_0 23 rfl rfl)
abbrev cX9_countUnit : ByteArray := prog_24_method_28_code
def yX9_countUnit : MethodName := ⟨RX9, "countUnit", "()V"⟩
def dkwX9_countUnit_0 : List UInt8 := [42, 89, 180, 1, 51, 4, 96, 181, 1, 51, 42, 89, 180, 1, 54, 4, 96, 181, 1, 54, 177]
abbrev dktX9_countUnit_0 : List UInt8 := dkwX9_countUnit_0 ++ []
theorem dksX9_countUnit_0 : cX9_countUnit.data.toList.drop 0 = dktX9_countUnit_0 := by decide +kernel
theorem dX9_countUnit_0 : decode cX9_countUnit 0 = .ok (.aload_n 0, 1) := dk_42 (dk_at dksX9_countUnit_0 0 rfl rfl)
theorem dX9_countUnit_1 : decode cX9_countUnit 1 = .ok (.dup, 1) := dk_89 (dk_at dksX9_countUnit_0 1 rfl rfl)
theorem dX9_countUnit_2 : decode cX9_countUnit 2 = .ok (.getfield 307, 3) := dk_180 1 51 (dk_at dksX9_countUnit_0 2 rfl rfl)
theorem dX9_countUnit_5 : decode cX9_countUnit 5 = .ok (.iconst 1, 1) := dk_4 (dk_at dksX9_countUnit_0 5 rfl rfl)
theorem dX9_countUnit_6 : decode cX9_countUnit 6 = .ok (.iadd, 1) := dk_96 (dk_at dksX9_countUnit_0 6 rfl rfl)
theorem dX9_countUnit_7 : decode cX9_countUnit 7 = .ok (.putfield 307, 3) := dk_181 1 51 (dk_at dksX9_countUnit_0 7 rfl rfl)
theorem dX9_countUnit_10 : decode cX9_countUnit 10 = .ok (.aload_n 0, 1) := dk_42 (dk_at dksX9_countUnit_0 10 rfl rfl)
theorem dX9_countUnit_11 : decode cX9_countUnit 11 = .ok (.dup, 1) := dk_89 (dk_at dksX9_countUnit_0 11 rfl rfl)
theorem dX9_countUnit_12 : decode cX9_countUnit 12 = .ok (.getfield 310, 3) := dk_180 1 54 (dk_at dksX9_countUnit_0 12 rfl rfl)
theorem dX9_countUnit_15 : decode cX9_countUnit 15 = .ok (.iconst 1, 1) := dk_4 (dk_at dksX9_countUnit_0 15 rfl rfl)
theorem dX9_countUnit_16 : decode cX9_countUnit 16 = .ok (.iadd, 1) := dk_96 (dk_at dksX9_countUnit_0 16 rfl rfl)
theorem dX9_countUnit_17 : decode cX9_countUnit 17 = .ok (.putfield 310, 3) := dk_181 1 54 (dk_at dksX9_countUnit_0 17 rfl rfl)
theorem dX9_countUnit_20 : decode cX9_countUnit 20 = .ok (.return_, 1) := dk_177 (dk_at dksX9_countUnit_0 20 rfl rfl)
abbrev cX9_asked : ByteArray := prog_24_method_26_code
def yX9_asked : MethodName := ⟨RX9, "asked", "()I"⟩
def dkwX9_asked_2 : List UInt8 := [172, 42, 180, 0, 192, 20, 0, 247, 148, 154, 0, 7, 6, 167, 0, 4, 2, 172]
abbrev dktX9_asked_2 : List UInt8 := dkwX9_asked_2 ++ []
def dkwX9_asked_1 : List UInt8 := [180, 0, 192, 20, 0, 219, 148, 154, 0, 5, 4, 172, 42, 180, 0, 192, 20, 0, 249, 148, 154, 0, 5, 5]
abbrev dktX9_asked_1 : List UInt8 := dkwX9_asked_1 ++ dktX9_asked_2
def dkwX9_asked_0 : List UInt8 := [42, 180, 0, 199, 4, 159, 0, 5, 2, 172, 42, 180, 0, 192, 20, 0, 239, 148, 154, 0, 5, 3, 172, 42]
abbrev dktX9_asked_0 : List UInt8 := dkwX9_asked_0 ++ dktX9_asked_1
theorem dksX9_asked_0 : cX9_asked.data.toList.drop 0 = dktX9_asked_0 := by decide +kernel
theorem dksX9_asked_1 : cX9_asked.data.toList.drop 24 = dktX9_asked_1 := dk_seg dksX9_asked_0 24 rfl rfl
theorem dksX9_asked_2 : cX9_asked.data.toList.drop 48 = dktX9_asked_2 := dk_seg dksX9_asked_1 24 rfl rfl
theorem dX9_asked_0 : decode cX9_asked 0 = .ok (.aload_n 0, 1) := dk_42 (dk_at dksX9_asked_0 0 rfl rfl)
theorem dX9_asked_1 : decode cX9_asked 1 = .ok (.getfield 199, 3) := dk_180 0 199 (dk_at dksX9_asked_0 1 rfl rfl)
theorem dX9_asked_4 : decode cX9_asked 4 = .ok (.iconst 1, 1) := dk_4 (dk_at dksX9_asked_0 4 rfl rfl)
theorem dX9_asked_5 : decode cX9_asked 5 = .ok (.if_icmp .eq 5, 3) := dk_159 0 5 (dk_at dksX9_asked_0 5 rfl rfl)
theorem dX9_asked_8 : decode cX9_asked 8 = .ok (.iconst (-1), 1) := dk_2 (dk_at dksX9_asked_0 8 rfl rfl)
theorem dX9_asked_9 : decode cX9_asked 9 = .ok (.ireturn, 1) := dk_172 (dk_at dksX9_asked_0 9 rfl rfl)
theorem dX9_asked_10 : decode cX9_asked 10 = .ok (.aload_n 0, 1) := dk_42 (dk_at dksX9_asked_0 10 rfl rfl)
theorem dX9_asked_11 : decode cX9_asked 11 = .ok (.getfield 192, 3) := dk_180 0 192 (dk_at dksX9_asked_0 11 rfl rfl)
theorem dX9_asked_14 : decode cX9_asked 14 = .ok (.ldc2_w 239, 3) := dk_20 0 239 (dk_at dksX9_asked_0 14 rfl rfl)
theorem dX9_asked_17 : decode cX9_asked 17 = .ok (.lcmp, 1) := dk_148 (dk_at dksX9_asked_0 17 rfl rfl)
theorem dX9_asked_18 : decode cX9_asked 18 = .ok (.ifCond .ne 5, 3) := dk_154 0 5 (dk_at dksX9_asked_0 18 rfl rfl)
theorem dX9_asked_21 : decode cX9_asked 21 = .ok (.iconst 0, 1) := dk_3 (dk_at dksX9_asked_0 21 rfl rfl)
theorem dX9_asked_22 : decode cX9_asked 22 = .ok (.ireturn, 1) := dk_172 (dk_at dksX9_asked_0 22 rfl rfl)
theorem dX9_asked_23 : decode cX9_asked 23 = .ok (.aload_n 0, 1) := dk_42 (dk_at dksX9_asked_0 23 rfl rfl)
theorem dX9_asked_24 : decode cX9_asked 24 = .ok (.getfield 192, 3) := dk_180 0 192 (dk_at dksX9_asked_1 0 rfl rfl)
theorem dX9_asked_27 : decode cX9_asked 27 = .ok (.ldc2_w 219, 3) := dk_20 0 219 (dk_at dksX9_asked_1 3 rfl rfl)
theorem dX9_asked_30 : decode cX9_asked 30 = .ok (.lcmp, 1) := dk_148 (dk_at dksX9_asked_1 6 rfl rfl)
theorem dX9_asked_31 : decode cX9_asked 31 = .ok (.ifCond .ne 5, 3) := dk_154 0 5 (dk_at dksX9_asked_1 7 rfl rfl)
theorem dX9_asked_34 : decode cX9_asked 34 = .ok (.iconst 1, 1) := dk_4 (dk_at dksX9_asked_1 10 rfl rfl)
theorem dX9_asked_35 : decode cX9_asked 35 = .ok (.ireturn, 1) := dk_172 (dk_at dksX9_asked_1 11 rfl rfl)
theorem dX9_asked_36 : decode cX9_asked 36 = .ok (.aload_n 0, 1) := dk_42 (dk_at dksX9_asked_1 12 rfl rfl)
theorem dX9_asked_37 : decode cX9_asked 37 = .ok (.getfield 192, 3) := dk_180 0 192 (dk_at dksX9_asked_1 13 rfl rfl)
theorem dX9_asked_40 : decode cX9_asked 40 = .ok (.ldc2_w 249, 3) := dk_20 0 249 (dk_at dksX9_asked_1 16 rfl rfl)
theorem dX9_asked_43 : decode cX9_asked 43 = .ok (.lcmp, 1) := dk_148 (dk_at dksX9_asked_1 19 rfl rfl)
theorem dX9_asked_44 : decode cX9_asked 44 = .ok (.ifCond .ne 5, 3) := dk_154 0 5 (dk_at dksX9_asked_1 20 rfl rfl)
theorem dX9_asked_47 : decode cX9_asked 47 = .ok (.iconst 2, 1) := dk_5 (dk_at dksX9_asked_1 23 rfl rfl)
theorem dX9_asked_48 : decode cX9_asked 48 = .ok (.ireturn, 1) := dk_172 (dk_at dksX9_asked_2 0 rfl rfl)
theorem dX9_asked_49 : decode cX9_asked 49 = .ok (.aload_n 0, 1) := dk_42 (dk_at dksX9_asked_2 1 rfl rfl)
theorem dX9_asked_50 : decode cX9_asked 50 = .ok (.getfield 192, 3) := dk_180 0 192 (dk_at dksX9_asked_2 2 rfl rfl)
theorem dX9_asked_53 : decode cX9_asked 53 = .ok (.ldc2_w 247, 3) := dk_20 0 247 (dk_at dksX9_asked_2 5 rfl rfl)
theorem dX9_asked_56 : decode cX9_asked 56 = .ok (.lcmp, 1) := dk_148 (dk_at dksX9_asked_2 8 rfl rfl)
theorem dX9_asked_57 : decode cX9_asked 57 = .ok (.ifCond .ne 7, 3) := dk_154 0 7 (dk_at dksX9_asked_2 9 rfl rfl)
theorem dX9_asked_60 : decode cX9_asked 60 = .ok (.iconst 3, 1) := dk_6 (dk_at dksX9_asked_2 12 rfl rfl)
theorem dX9_asked_61 : decode cX9_asked 61 = .ok (.goto 4, 3) := dk_167 0 4 (dk_at dksX9_asked_2 13 rfl rfl)
theorem dX9_asked_64 : decode cX9_asked 64 = .ok (.iconst (-1), 1) := dk_2 (dk_at dksX9_asked_2 16 rfl rfl)
theorem dX9_asked_65 : decode cX9_asked 65 = .ok (.ireturn, 1) := dk_172 (dk_at dksX9_asked_2 17 rfl rfl)
abbrev cX9_add : ByteArray := prog_24_method_21_code
def yX9_add : MethodName := ⟨RX9, "add", "(II)V"⟩
def dkwX9_add_1 : List UInt8 := [180, 1, 35, 4, 96, 181, 1, 35, 177]
abbrev dktX9_add_1 : List UInt8 := dkwX9_add_1 ++ []
def dkwX9_add_0 : List UInt8 := [42, 180, 0, 21, 42, 180, 1, 35, 27, 79, 42, 180, 0, 24, 42, 180, 1, 35, 28, 79, 42, 89]
abbrev dktX9_add_0 : List UInt8 := dkwX9_add_0 ++ dktX9_add_1
theorem dksX9_add_0 : cX9_add.data.toList.drop 0 = dktX9_add_0 := by decide +kernel
theorem dksX9_add_1 : cX9_add.data.toList.drop 22 = dktX9_add_1 := dk_seg dksX9_add_0 22 rfl rfl
theorem dX9_add_0 : decode cX9_add 0 = .ok (.aload_n 0, 1) := dk_42 (dk_at dksX9_add_0 0 rfl rfl)
theorem dX9_add_1 : decode cX9_add 1 = .ok (.getfield 21, 3) := dk_180 0 21 (dk_at dksX9_add_0 1 rfl rfl)
theorem dX9_add_4 : decode cX9_add 4 = .ok (.aload_n 0, 1) := dk_42 (dk_at dksX9_add_0 4 rfl rfl)
theorem dX9_add_5 : decode cX9_add 5 = .ok (.getfield 291, 3) := dk_180 1 35 (dk_at dksX9_add_0 5 rfl rfl)
theorem dX9_add_8 : decode cX9_add 8 = .ok (.iload_n 1, 1) := dk_27 (dk_at dksX9_add_0 8 rfl rfl)
theorem dX9_add_9 : decode cX9_add 9 = .ok (.iastore, 1) := dk_79 (dk_at dksX9_add_0 9 rfl rfl)
theorem dX9_add_10 : decode cX9_add 10 = .ok (.aload_n 0, 1) := dk_42 (dk_at dksX9_add_0 10 rfl rfl)
theorem dX9_add_11 : decode cX9_add 11 = .ok (.getfield 24, 3) := dk_180 0 24 (dk_at dksX9_add_0 11 rfl rfl)
theorem dX9_add_14 : decode cX9_add 14 = .ok (.aload_n 0, 1) := dk_42 (dk_at dksX9_add_0 14 rfl rfl)
theorem dX9_add_15 : decode cX9_add 15 = .ok (.getfield 291, 3) := dk_180 1 35 (dk_at dksX9_add_0 15 rfl rfl)
theorem dX9_add_18 : decode cX9_add 18 = .ok (.iload_n 2, 1) := dk_28 (dk_at dksX9_add_0 18 rfl rfl)
theorem dX9_add_19 : decode cX9_add 19 = .ok (.iastore, 1) := dk_79 (dk_at dksX9_add_0 19 rfl rfl)
theorem dX9_add_20 : decode cX9_add 20 = .ok (.aload_n 0, 1) := dk_42 (dk_at dksX9_add_0 20 rfl rfl)
theorem dX9_add_21 : decode cX9_add 21 = .ok (.dup, 1) := dk_89 (dk_at dksX9_add_0 21 rfl rfl)
theorem dX9_add_22 : decode cX9_add 22 = .ok (.getfield 291, 3) := dk_180 1 35 (dk_at dksX9_add_1 0 rfl rfl)
theorem dX9_add_25 : decode cX9_add 25 = .ok (.iconst 1, 1) := dk_4 (dk_at dksX9_add_1 3 rfl rfl)
theorem dX9_add_26 : decode cX9_add 26 = .ok (.iadd, 1) := dk_96 (dk_at dksX9_add_1 4 rfl rfl)
theorem dX9_add_27 : decode cX9_add 27 = .ok (.putfield 291, 3) := dk_181 1 35 (dk_at dksX9_add_1 5 rfl rfl)
theorem dX9_add_30 : decode cX9_add 30 = .ok (.return_, 1) := dk_177 (dk_at dksX9_add_1 8 rfl rfl)
abbrev cX9_sign : ByteArray := prog_24_method_31_code
def yX9_sign : MethodName := ⟨RX9, "sign", "()I"⟩
def dkwX9_sign_4 : List UInt8 := [180, 0, 199, 16, 37, 160, 0, 10, 42, 180, 0, 199, 167, 0, 4, 3, 172]
abbrev dktX9_sign_4 : List UInt8 := dkwX9_sign_4 ++ []
def dkwX9_sign_3 : List UInt8 := [159, 0, 30, 42, 180, 0, 199, 16, 42, 159, 0, 21, 42, 180, 0, 199, 16, 47, 159, 0, 12, 42]
abbrev dktX9_sign_3 : List UInt8 := dkwX9_sign_3 ++ dktX9_sign_4
def dkwX9_sign_2 : List UInt8 := [180, 0, 199, 16, 61, 159, 0, 48, 42, 180, 0, 199, 16, 43, 159, 0, 39, 42, 180, 0, 199, 16, 45]
abbrev dktX9_sign_2 : List UInt8 := dkwX9_sign_2 ++ dktX9_sign_3
def dkwX9_sign_1 : List UInt8 := [16, 124, 172, 42, 180, 0, 199, 16, 60, 159, 0, 66, 42, 180, 0, 199, 16, 62, 159, 0, 57, 42]
abbrev dktX9_sign_1 : List UInt8 := dkwX9_sign_1 ++ dktX9_sign_2
def dkwX9_sign_0 : List UInt8 := [42, 20, 0, 253, 182, 1, 7, 153, 0, 6, 16, 38, 172, 42, 20, 0, 255, 182, 1, 7, 153, 0, 6]
abbrev dktX9_sign_0 : List UInt8 := dkwX9_sign_0 ++ dktX9_sign_1
theorem dksX9_sign_0 : cX9_sign.data.toList.drop 0 = dktX9_sign_0 := by decide +kernel
theorem dksX9_sign_1 : cX9_sign.data.toList.drop 23 = dktX9_sign_1 := dk_seg dksX9_sign_0 23 rfl rfl
theorem dksX9_sign_2 : cX9_sign.data.toList.drop 45 = dktX9_sign_2 := dk_seg dksX9_sign_1 22 rfl rfl
theorem dksX9_sign_3 : cX9_sign.data.toList.drop 68 = dktX9_sign_3 := dk_seg dksX9_sign_2 23 rfl rfl
theorem dksX9_sign_4 : cX9_sign.data.toList.drop 90 = dktX9_sign_4 := dk_seg dksX9_sign_3 22 rfl rfl
theorem dX9_sign_0 : decode cX9_sign 0 = .ok (.aload_n 0, 1) := dk_42 (dk_at dksX9_sign_0 0 rfl rfl)
theorem dX9_sign_1 : decode cX9_sign 1 = .ok (.ldc2_w 253, 3) := dk_20 0 253 (dk_at dksX9_sign_0 1 rfl rfl)
theorem dX9_sign_4 : decode cX9_sign 4 = .ok (.invokevirtual 263, 3) := dk_182 1 7 (dk_at dksX9_sign_0 4 rfl rfl)
theorem dX9_sign_7 : decode cX9_sign 7 = .ok (.ifCond .eq 6, 3) := dk_153 0 6 (dk_at dksX9_sign_0 7 rfl rfl)
theorem dX9_sign_10 : decode cX9_sign 10 = .ok (.bipush 38, 2) := dk_16 38 (dk_at dksX9_sign_0 10 rfl rfl)
theorem dX9_sign_12 : decode cX9_sign 12 = .ok (.ireturn, 1) := dk_172 (dk_at dksX9_sign_0 12 rfl rfl)
theorem dX9_sign_13 : decode cX9_sign 13 = .ok (.aload_n 0, 1) := dk_42 (dk_at dksX9_sign_0 13 rfl rfl)
theorem dX9_sign_14 : decode cX9_sign 14 = .ok (.ldc2_w 255, 3) := dk_20 0 255 (dk_at dksX9_sign_0 14 rfl rfl)
theorem dX9_sign_17 : decode cX9_sign 17 = .ok (.invokevirtual 263, 3) := dk_182 1 7 (dk_at dksX9_sign_0 17 rfl rfl)
theorem dX9_sign_20 : decode cX9_sign 20 = .ok (.ifCond .eq 6, 3) := dk_153 0 6 (dk_at dksX9_sign_0 20 rfl rfl)
theorem dX9_sign_23 : decode cX9_sign 23 = .ok (.bipush 124, 2) := dk_16 124 (dk_at dksX9_sign_1 0 rfl rfl)
theorem dX9_sign_25 : decode cX9_sign 25 = .ok (.ireturn, 1) := dk_172 (dk_at dksX9_sign_1 2 rfl rfl)
theorem dX9_sign_26 : decode cX9_sign 26 = .ok (.aload_n 0, 1) := dk_42 (dk_at dksX9_sign_1 3 rfl rfl)
theorem dX9_sign_27 : decode cX9_sign 27 = .ok (.getfield 199, 3) := dk_180 0 199 (dk_at dksX9_sign_1 4 rfl rfl)
theorem dX9_sign_30 : decode cX9_sign 30 = .ok (.bipush 60, 2) := dk_16 60 (dk_at dksX9_sign_1 7 rfl rfl)
theorem dX9_sign_32 : decode cX9_sign 32 = .ok (.if_icmp .eq 66, 3) := dk_159 0 66 (dk_at dksX9_sign_1 9 rfl rfl)
theorem dX9_sign_35 : decode cX9_sign 35 = .ok (.aload_n 0, 1) := dk_42 (dk_at dksX9_sign_1 12 rfl rfl)
theorem dX9_sign_36 : decode cX9_sign 36 = .ok (.getfield 199, 3) := dk_180 0 199 (dk_at dksX9_sign_1 13 rfl rfl)
theorem dX9_sign_39 : decode cX9_sign 39 = .ok (.bipush 62, 2) := dk_16 62 (dk_at dksX9_sign_1 16 rfl rfl)
theorem dX9_sign_41 : decode cX9_sign 41 = .ok (.if_icmp .eq 57, 3) := dk_159 0 57 (dk_at dksX9_sign_1 18 rfl rfl)
theorem dX9_sign_44 : decode cX9_sign 44 = .ok (.aload_n 0, 1) := dk_42 (dk_at dksX9_sign_1 21 rfl rfl)
theorem dX9_sign_45 : decode cX9_sign 45 = .ok (.getfield 199, 3) := dk_180 0 199 (dk_at dksX9_sign_2 0 rfl rfl)
theorem dX9_sign_48 : decode cX9_sign 48 = .ok (.bipush 61, 2) := dk_16 61 (dk_at dksX9_sign_2 3 rfl rfl)
theorem dX9_sign_50 : decode cX9_sign 50 = .ok (.if_icmp .eq 48, 3) := dk_159 0 48 (dk_at dksX9_sign_2 5 rfl rfl)
theorem dX9_sign_53 : decode cX9_sign 53 = .ok (.aload_n 0, 1) := dk_42 (dk_at dksX9_sign_2 8 rfl rfl)
theorem dX9_sign_54 : decode cX9_sign 54 = .ok (.getfield 199, 3) := dk_180 0 199 (dk_at dksX9_sign_2 9 rfl rfl)
theorem dX9_sign_57 : decode cX9_sign 57 = .ok (.bipush 43, 2) := dk_16 43 (dk_at dksX9_sign_2 12 rfl rfl)
theorem dX9_sign_59 : decode cX9_sign 59 = .ok (.if_icmp .eq 39, 3) := dk_159 0 39 (dk_at dksX9_sign_2 14 rfl rfl)
theorem dX9_sign_62 : decode cX9_sign 62 = .ok (.aload_n 0, 1) := dk_42 (dk_at dksX9_sign_2 17 rfl rfl)
theorem dX9_sign_63 : decode cX9_sign 63 = .ok (.getfield 199, 3) := dk_180 0 199 (dk_at dksX9_sign_2 18 rfl rfl)
theorem dX9_sign_66 : decode cX9_sign 66 = .ok (.bipush 45, 2) := dk_16 45 (dk_at dksX9_sign_2 21 rfl rfl)
theorem dX9_sign_68 : decode cX9_sign 68 = .ok (.if_icmp .eq 30, 3) := dk_159 0 30 (dk_at dksX9_sign_3 0 rfl rfl)
theorem dX9_sign_71 : decode cX9_sign 71 = .ok (.aload_n 0, 1) := dk_42 (dk_at dksX9_sign_3 3 rfl rfl)
theorem dX9_sign_72 : decode cX9_sign 72 = .ok (.getfield 199, 3) := dk_180 0 199 (dk_at dksX9_sign_3 4 rfl rfl)
theorem dX9_sign_75 : decode cX9_sign 75 = .ok (.bipush 42, 2) := dk_16 42 (dk_at dksX9_sign_3 7 rfl rfl)
theorem dX9_sign_77 : decode cX9_sign 77 = .ok (.if_icmp .eq 21, 3) := dk_159 0 21 (dk_at dksX9_sign_3 9 rfl rfl)
theorem dX9_sign_80 : decode cX9_sign 80 = .ok (.aload_n 0, 1) := dk_42 (dk_at dksX9_sign_3 12 rfl rfl)
theorem dX9_sign_81 : decode cX9_sign 81 = .ok (.getfield 199, 3) := dk_180 0 199 (dk_at dksX9_sign_3 13 rfl rfl)
theorem dX9_sign_84 : decode cX9_sign 84 = .ok (.bipush 47, 2) := dk_16 47 (dk_at dksX9_sign_3 16 rfl rfl)
theorem dX9_sign_86 : decode cX9_sign 86 = .ok (.if_icmp .eq 12, 3) := dk_159 0 12 (dk_at dksX9_sign_3 18 rfl rfl)
theorem dX9_sign_89 : decode cX9_sign 89 = .ok (.aload_n 0, 1) := dk_42 (dk_at dksX9_sign_3 21 rfl rfl)
theorem dX9_sign_90 : decode cX9_sign 90 = .ok (.getfield 199, 3) := dk_180 0 199 (dk_at dksX9_sign_4 0 rfl rfl)
theorem dX9_sign_93 : decode cX9_sign 93 = .ok (.bipush 37, 2) := dk_16 37 (dk_at dksX9_sign_4 3 rfl rfl)
theorem dX9_sign_95 : decode cX9_sign 95 = .ok (.if_icmp .ne 10, 3) := dk_160 0 10 (dk_at dksX9_sign_4 5 rfl rfl)
theorem dX9_sign_98 : decode cX9_sign 98 = .ok (.aload_n 0, 1) := dk_42 (dk_at dksX9_sign_4 8 rfl rfl)
theorem dX9_sign_99 : decode cX9_sign 99 = .ok (.getfield 199, 3) := dk_180 0 199 (dk_at dksX9_sign_4 9 rfl rfl)
theorem dX9_sign_102 : decode cX9_sign 102 = .ok (.goto 4, 3) := dk_167 0 4 (dk_at dksX9_sign_4 12 rfl rfl)
theorem dX9_sign_105 : decode cX9_sign 105 = .ok (.iconst 0, 1) := dk_3 (dk_at dksX9_sign_4 15 rfl rfl)
theorem dX9_sign_106 : decode cX9_sign 106 = .ok (.ireturn, 1) := dk_172 (dk_at dksX9_sign_4 16 rfl rfl)
abbrev cX9_hasBracket : ByteArray := prog_24_method_32_code
def yX9_hasBracket : MethodName := ⟨RX9, "hasBracket", "()Z"⟩
def dkwX9_hasBracket_1 : List UInt8 := [160, 0, 7, 4, 167, 0, 4, 3, 60, 132, 2, 1, 167, 255, 224, 27, 172]
abbrev dktX9_hasBracket_1 : List UInt8 := dkwX9_hasBracket_1 ++ []
def dkwX9_hasBracket_0 : List UInt8 := [3, 60, 3, 61, 28, 42, 180, 1, 38, 162, 0, 30, 27, 154, 0, 14, 42, 180, 0, 33, 28, 46, 16, 20]
abbrev dktX9_hasBracket_0 : List UInt8 := dkwX9_hasBracket_0 ++ dktX9_hasBracket_1
theorem dksX9_hasBracket_0 : cX9_hasBracket.data.toList.drop 0 = dktX9_hasBracket_0 := by decide +kernel
theorem dksX9_hasBracket_1 : cX9_hasBracket.data.toList.drop 24 = dktX9_hasBracket_1 := dk_seg dksX9_hasBracket_0 24 rfl rfl
theorem dX9_hasBracket_0 : decode cX9_hasBracket 0 = .ok (.iconst 0, 1) := dk_3 (dk_at dksX9_hasBracket_0 0 rfl rfl)
theorem dX9_hasBracket_1 : decode cX9_hasBracket 1 = .ok (.istore_n 1, 1) := dk_60 (dk_at dksX9_hasBracket_0 1 rfl rfl)
theorem dX9_hasBracket_2 : decode cX9_hasBracket 2 = .ok (.iconst 0, 1) := dk_3 (dk_at dksX9_hasBracket_0 2 rfl rfl)
theorem dX9_hasBracket_3 : decode cX9_hasBracket 3 = .ok (.istore_n 2, 1) := dk_61 (dk_at dksX9_hasBracket_0 3 rfl rfl)
theorem dX9_hasBracket_4 : decode cX9_hasBracket 4 = .ok (.iload_n 2, 1) := dk_28 (dk_at dksX9_hasBracket_0 4 rfl rfl)
theorem dX9_hasBracket_5 : decode cX9_hasBracket 5 = .ok (.aload_n 0, 1) := dk_42 (dk_at dksX9_hasBracket_0 5 rfl rfl)
theorem dX9_hasBracket_6 : decode cX9_hasBracket 6 = .ok (.getfield 294, 3) := dk_180 1 38 (dk_at dksX9_hasBracket_0 6 rfl rfl)
theorem dX9_hasBracket_9 : decode cX9_hasBracket 9 = .ok (.if_icmp .ge 30, 3) := dk_162 0 30 (dk_at dksX9_hasBracket_0 9 rfl rfl)
theorem dX9_hasBracket_12 : decode cX9_hasBracket 12 = .ok (.iload_n 1, 1) := dk_27 (dk_at dksX9_hasBracket_0 12 rfl rfl)
theorem dX9_hasBracket_13 : decode cX9_hasBracket 13 = .ok (.ifCond .ne 14, 3) := dk_154 0 14 (dk_at dksX9_hasBracket_0 13 rfl rfl)
theorem dX9_hasBracket_16 : decode cX9_hasBracket 16 = .ok (.aload_n 0, 1) := dk_42 (dk_at dksX9_hasBracket_0 16 rfl rfl)
theorem dX9_hasBracket_17 : decode cX9_hasBracket 17 = .ok (.getfield 33, 3) := dk_180 0 33 (dk_at dksX9_hasBracket_0 17 rfl rfl)
theorem dX9_hasBracket_20 : decode cX9_hasBracket 20 = .ok (.iload_n 2, 1) := dk_28 (dk_at dksX9_hasBracket_0 20 rfl rfl)
theorem dX9_hasBracket_21 : decode cX9_hasBracket 21 = .ok (.iaload, 1) := dk_46 (dk_at dksX9_hasBracket_0 21 rfl rfl)
theorem dX9_hasBracket_22 : decode cX9_hasBracket 22 = .ok (.bipush 20, 2) := dk_16 20 (dk_at dksX9_hasBracket_0 22 rfl rfl)
theorem dX9_hasBracket_24 : decode cX9_hasBracket 24 = .ok (.if_icmp .ne 7, 3) := dk_160 0 7 (dk_at dksX9_hasBracket_1 0 rfl rfl)
theorem dX9_hasBracket_27 : decode cX9_hasBracket 27 = .ok (.iconst 1, 1) := dk_4 (dk_at dksX9_hasBracket_1 3 rfl rfl)
theorem dX9_hasBracket_28 : decode cX9_hasBracket 28 = .ok (.goto 4, 3) := dk_167 0 4 (dk_at dksX9_hasBracket_1 4 rfl rfl)
theorem dX9_hasBracket_31 : decode cX9_hasBracket 31 = .ok (.iconst 0, 1) := dk_3 (dk_at dksX9_hasBracket_1 7 rfl rfl)
theorem dX9_hasBracket_32 : decode cX9_hasBracket 32 = .ok (.istore_n 1, 1) := dk_60 (dk_at dksX9_hasBracket_1 8 rfl rfl)
theorem dX9_hasBracket_33 : decode cX9_hasBracket 33 = .ok (.iinc 2 1, 3) := dk_132 2 1 (dk_at dksX9_hasBracket_1 9 rfl rfl)
theorem dX9_hasBracket_36 : decode cX9_hasBracket 36 = .ok (.goto (-32), 3) := dk_167 255 224 (dk_at dksX9_hasBracket_1 12 rfl rfl)
theorem dX9_hasBracket_39 : decode cX9_hasBracket 39 = .ok (.iload_n 1, 1) := dk_27 (dk_at dksX9_hasBracket_1 15 rfl rfl)
theorem dX9_hasBracket_40 : decode cX9_hasBracket 40 = .ok (.ireturn, 1) := dk_172 (dk_at dksX9_hasBracket_1 16 rfl rfl)
abbrev cX9_close : ByteArray := prog_24_method_23_code
def yX9_close : MethodName := ⟨RX9, "close", "(I)V"⟩
def dkwX9_close_4 : List UInt8 := [182, 1, 44, 167, 255, 158, 177]
abbrev dktX9_close_4 : List UInt8 := dkwX9_close_4 ++ []
def dkwX9_close_3 : List UInt8 := [89, 180, 1, 48, 4, 100, 181, 1, 48, 167, 255, 175, 42, 6, 42, 180, 0, 33, 42, 180, 1, 38, 46]
abbrev dktX9_close_3 : List UInt8 := dkwX9_close_3 ++ dktX9_close_4
def dkwX9_close_2 : List UInt8 := [181, 1, 38, 42, 180, 0, 33, 42, 180, 1, 38, 46, 16, 21, 160, 0, 22, 42, 5, 3, 182, 1, 44, 42]
abbrev dktX9_close_2 : List UInt8 := dkwX9_close_2 ++ dktX9_close_3
def dkwX9_close_1 : List UInt8 := [180, 0, 33, 42, 180, 1, 38, 4, 100, 46, 184, 1, 41, 27, 161, 0, 63, 42, 89, 180, 1, 38, 4, 100]
abbrev dktX9_close_1 : List UInt8 := dkwX9_close_1 ++ dktX9_close_2
def dkwX9_close_0 : List UInt8 := [42, 180, 1, 38, 158, 0, 97, 42, 180, 0, 33, 42, 180, 1, 38, 4, 100, 46, 16, 20, 159, 0, 81, 42]
abbrev dktX9_close_0 : List UInt8 := dkwX9_close_0 ++ dktX9_close_1
theorem dksX9_close_0 : cX9_close.data.toList.drop 0 = dktX9_close_0 := by decide +kernel
theorem dksX9_close_1 : cX9_close.data.toList.drop 24 = dktX9_close_1 := dk_seg dksX9_close_0 24 rfl rfl
theorem dksX9_close_2 : cX9_close.data.toList.drop 48 = dktX9_close_2 := dk_seg dksX9_close_1 24 rfl rfl
theorem dksX9_close_3 : cX9_close.data.toList.drop 72 = dktX9_close_3 := dk_seg dksX9_close_2 24 rfl rfl
theorem dksX9_close_4 : cX9_close.data.toList.drop 95 = dktX9_close_4 := dk_seg dksX9_close_3 23 rfl rfl
theorem dX9_close_0 : decode cX9_close 0 = .ok (.aload_n 0, 1) := dk_42 (dk_at dksX9_close_0 0 rfl rfl)
theorem dX9_close_1 : decode cX9_close 1 = .ok (.getfield 294, 3) := dk_180 1 38 (dk_at dksX9_close_0 1 rfl rfl)
theorem dX9_close_4 : decode cX9_close 4 = .ok (.ifCond .le 97, 3) := dk_158 0 97 (dk_at dksX9_close_0 4 rfl rfl)
theorem dX9_close_7 : decode cX9_close 7 = .ok (.aload_n 0, 1) := dk_42 (dk_at dksX9_close_0 7 rfl rfl)
theorem dX9_close_8 : decode cX9_close 8 = .ok (.getfield 33, 3) := dk_180 0 33 (dk_at dksX9_close_0 8 rfl rfl)
theorem dX9_close_11 : decode cX9_close 11 = .ok (.aload_n 0, 1) := dk_42 (dk_at dksX9_close_0 11 rfl rfl)
theorem dX9_close_12 : decode cX9_close 12 = .ok (.getfield 294, 3) := dk_180 1 38 (dk_at dksX9_close_0 12 rfl rfl)
theorem dX9_close_15 : decode cX9_close 15 = .ok (.iconst 1, 1) := dk_4 (dk_at dksX9_close_0 15 rfl rfl)
theorem dX9_close_16 : decode cX9_close 16 = .ok (.isub, 1) := dk_100 (dk_at dksX9_close_0 16 rfl rfl)
theorem dX9_close_17 : decode cX9_close 17 = .ok (.iaload, 1) := dk_46 (dk_at dksX9_close_0 17 rfl rfl)
theorem dX9_close_18 : decode cX9_close 18 = .ok (.bipush 20, 2) := dk_16 20 (dk_at dksX9_close_0 18 rfl rfl)
theorem dX9_close_20 : decode cX9_close 20 = .ok (.if_icmp .eq 81, 3) := dk_159 0 81 (dk_at dksX9_close_0 20 rfl rfl)
theorem dX9_close_23 : decode cX9_close 23 = .ok (.aload_n 0, 1) := dk_42 (dk_at dksX9_close_0 23 rfl rfl)
theorem dX9_close_24 : decode cX9_close 24 = .ok (.getfield 33, 3) := dk_180 0 33 (dk_at dksX9_close_1 0 rfl rfl)
theorem dX9_close_27 : decode cX9_close 27 = .ok (.aload_n 0, 1) := dk_42 (dk_at dksX9_close_1 3 rfl rfl)
theorem dX9_close_28 : decode cX9_close 28 = .ok (.getfield 294, 3) := dk_180 1 38 (dk_at dksX9_close_1 4 rfl rfl)
theorem dX9_close_31 : decode cX9_close 31 = .ok (.iconst 1, 1) := dk_4 (dk_at dksX9_close_1 7 rfl rfl)
theorem dX9_close_32 : decode cX9_close 32 = .ok (.isub, 1) := dk_100 (dk_at dksX9_close_1 8 rfl rfl)
theorem dX9_close_33 : decode cX9_close 33 = .ok (.iaload, 1) := dk_46 (dk_at dksX9_close_1 9 rfl rfl)
theorem dX9_close_34 : decode cX9_close 34 = .ok (.invokestatic 297, 3) := dk_184 1 41 (dk_at dksX9_close_1 10 rfl rfl)
theorem dX9_close_37 : decode cX9_close 37 = .ok (.iload_n 1, 1) := dk_27 (dk_at dksX9_close_1 13 rfl rfl)
theorem dX9_close_38 : decode cX9_close 38 = .ok (.if_icmp .lt 63, 3) := dk_161 0 63 (dk_at dksX9_close_1 14 rfl rfl)
theorem dX9_close_41 : decode cX9_close 41 = .ok (.aload_n 0, 1) := dk_42 (dk_at dksX9_close_1 17 rfl rfl)
theorem dX9_close_42 : decode cX9_close 42 = .ok (.dup, 1) := dk_89 (dk_at dksX9_close_1 18 rfl rfl)
theorem dX9_close_43 : decode cX9_close 43 = .ok (.getfield 294, 3) := dk_180 1 38 (dk_at dksX9_close_1 19 rfl rfl)
theorem dX9_close_46 : decode cX9_close 46 = .ok (.iconst 1, 1) := dk_4 (dk_at dksX9_close_1 22 rfl rfl)
theorem dX9_close_47 : decode cX9_close 47 = .ok (.isub, 1) := dk_100 (dk_at dksX9_close_1 23 rfl rfl)
theorem dX9_close_48 : decode cX9_close 48 = .ok (.putfield 294, 3) := dk_181 1 38 (dk_at dksX9_close_2 0 rfl rfl)
theorem dX9_close_51 : decode cX9_close 51 = .ok (.aload_n 0, 1) := dk_42 (dk_at dksX9_close_2 3 rfl rfl)
theorem dX9_close_52 : decode cX9_close 52 = .ok (.getfield 33, 3) := dk_180 0 33 (dk_at dksX9_close_2 4 rfl rfl)
theorem dX9_close_55 : decode cX9_close 55 = .ok (.aload_n 0, 1) := dk_42 (dk_at dksX9_close_2 7 rfl rfl)
theorem dX9_close_56 : decode cX9_close 56 = .ok (.getfield 294, 3) := dk_180 1 38 (dk_at dksX9_close_2 8 rfl rfl)
theorem dX9_close_59 : decode cX9_close 59 = .ok (.iaload, 1) := dk_46 (dk_at dksX9_close_2 11 rfl rfl)
theorem dX9_close_60 : decode cX9_close 60 = .ok (.bipush 21, 2) := dk_16 21 (dk_at dksX9_close_2 12 rfl rfl)
theorem dX9_close_62 : decode cX9_close 62 = .ok (.if_icmp .ne 22, 3) := dk_160 0 22 (dk_at dksX9_close_2 14 rfl rfl)
theorem dX9_close_65 : decode cX9_close 65 = .ok (.aload_n 0, 1) := dk_42 (dk_at dksX9_close_2 17 rfl rfl)
theorem dX9_close_66 : decode cX9_close 66 = .ok (.iconst 2, 1) := dk_5 (dk_at dksX9_close_2 18 rfl rfl)
theorem dX9_close_67 : decode cX9_close 67 = .ok (.iconst 0, 1) := dk_3 (dk_at dksX9_close_2 19 rfl rfl)
theorem dX9_close_68 : decode cX9_close 68 = .ok (.invokevirtual 300, 3) := dk_182 1 44 (dk_at dksX9_close_2 20 rfl rfl)
theorem dX9_close_71 : decode cX9_close 71 = .ok (.aload_n 0, 1) := dk_42 (dk_at dksX9_close_2 23 rfl rfl)
theorem dX9_close_72 : decode cX9_close 72 = .ok (.dup, 1) := dk_89 (dk_at dksX9_close_3 0 rfl rfl)
theorem dX9_close_73 : decode cX9_close 73 = .ok (.getfield 304, 3) := dk_180 1 48 (dk_at dksX9_close_3 1 rfl rfl)
theorem dX9_close_76 : decode cX9_close 76 = .ok (.iconst 1, 1) := dk_4 (dk_at dksX9_close_3 4 rfl rfl)
theorem dX9_close_77 : decode cX9_close 77 = .ok (.isub, 1) := dk_100 (dk_at dksX9_close_3 5 rfl rfl)
theorem dX9_close_78 : decode cX9_close 78 = .ok (.putfield 304, 3) := dk_181 1 48 (dk_at dksX9_close_3 6 rfl rfl)
theorem dX9_close_81 : decode cX9_close 81 = .ok (.goto (-81), 3) := dk_167 255 175 (dk_at dksX9_close_3 9 rfl rfl)
theorem dX9_close_84 : decode cX9_close 84 = .ok (.aload_n 0, 1) := dk_42 (dk_at dksX9_close_3 12 rfl rfl)
theorem dX9_close_85 : decode cX9_close 85 = .ok (.iconst 3, 1) := dk_6 (dk_at dksX9_close_3 13 rfl rfl)
theorem dX9_close_86 : decode cX9_close 86 = .ok (.aload_n 0, 1) := dk_42 (dk_at dksX9_close_3 14 rfl rfl)
theorem dX9_close_87 : decode cX9_close 87 = .ok (.getfield 33, 3) := dk_180 0 33 (dk_at dksX9_close_3 15 rfl rfl)
theorem dX9_close_90 : decode cX9_close 90 = .ok (.aload_n 0, 1) := dk_42 (dk_at dksX9_close_3 18 rfl rfl)
theorem dX9_close_91 : decode cX9_close 91 = .ok (.getfield 294, 3) := dk_180 1 38 (dk_at dksX9_close_3 19 rfl rfl)
theorem dX9_close_94 : decode cX9_close 94 = .ok (.iaload, 1) := dk_46 (dk_at dksX9_close_3 22 rfl rfl)
theorem dX9_close_95 : decode cX9_close 95 = .ok (.invokevirtual 300, 3) := dk_182 1 44 (dk_at dksX9_close_4 0 rfl rfl)
theorem dX9_close_98 : decode cX9_close 98 = .ok (.goto (-98), 3) := dk_167 255 158 (dk_at dksX9_close_4 3 rfl rfl)
theorem dX9_close_101 : decode cX9_close 101 = .ok (.return_, 1) := dk_177 (dk_at dksX9_close_4 6 rfl rfl)
abbrev cX9_hasRelation : ByteArray := prog_24_method_24_code
def yX9_hasRelation : MethodName := ⟨RX9, "hasRelation", "()Z"⟩
def dkwX9_hasRelation_3 : List UInt8 := [167, 0, 4, 3, 172]
abbrev dktX9_hasRelation_3 : List UInt8 := dkwX9_hasRelation_3 ++ []
def dkwX9_hasRelation_2 : List UInt8 := [180, 0, 33, 27, 46, 16, 20, 159, 0, 20, 42, 180, 0, 33, 27, 46, 184, 1, 41, 7, 160, 0, 7, 4]
abbrev dktX9_hasRelation_2 : List UInt8 := dkwX9_hasRelation_2 ++ dktX9_hasRelation_3
def dkwX9_hasRelation_1 : List UInt8 := [180, 0, 33, 27, 46, 184, 1, 41, 7, 164, 0, 9, 132, 1, 255, 167, 255, 225, 27, 155, 0, 31, 42]
abbrev dktX9_hasRelation_1 : List UInt8 := dkwX9_hasRelation_1 ++ dktX9_hasRelation_2
def dkwX9_hasRelation_0 : List UInt8 := [42, 180, 1, 38, 4, 100, 60, 27, 155, 0, 33, 42, 180, 0, 33, 27, 46, 16, 20, 159, 0, 22, 42]
abbrev dktX9_hasRelation_0 : List UInt8 := dkwX9_hasRelation_0 ++ dktX9_hasRelation_1
theorem dksX9_hasRelation_0 : cX9_hasRelation.data.toList.drop 0 = dktX9_hasRelation_0 := by decide +kernel
theorem dksX9_hasRelation_1 : cX9_hasRelation.data.toList.drop 23 = dktX9_hasRelation_1 := dk_seg dksX9_hasRelation_0 23 rfl rfl
theorem dksX9_hasRelation_2 : cX9_hasRelation.data.toList.drop 46 = dktX9_hasRelation_2 := dk_seg dksX9_hasRelation_1 23 rfl rfl
theorem dksX9_hasRelation_3 : cX9_hasRelation.data.toList.drop 70 = dktX9_hasRelation_3 := dk_seg dksX9_hasRelation_2 24 rfl rfl
theorem dX9_hasRelation_0 : decode cX9_hasRelation 0 = .ok (.aload_n 0, 1) := dk_42 (dk_at dksX9_hasRelation_0 0 rfl rfl)
theorem dX9_hasRelation_1 : decode cX9_hasRelation 1 = .ok (.getfield 294, 3) := dk_180 1 38 (dk_at dksX9_hasRelation_0 1 rfl rfl)
theorem dX9_hasRelation_4 : decode cX9_hasRelation 4 = .ok (.iconst 1, 1) := dk_4 (dk_at dksX9_hasRelation_0 4 rfl rfl)
theorem dX9_hasRelation_5 : decode cX9_hasRelation 5 = .ok (.isub, 1) := dk_100 (dk_at dksX9_hasRelation_0 5 rfl rfl)
theorem dX9_hasRelation_6 : decode cX9_hasRelation 6 = .ok (.istore_n 1, 1) := dk_60 (dk_at dksX9_hasRelation_0 6 rfl rfl)
theorem dX9_hasRelation_7 : decode cX9_hasRelation 7 = .ok (.iload_n 1, 1) := dk_27 (dk_at dksX9_hasRelation_0 7 rfl rfl)
theorem dX9_hasRelation_8 : decode cX9_hasRelation 8 = .ok (.ifCond .lt 33, 3) := dk_155 0 33 (dk_at dksX9_hasRelation_0 8 rfl rfl)
theorem dX9_hasRelation_11 : decode cX9_hasRelation 11 = .ok (.aload_n 0, 1) := dk_42 (dk_at dksX9_hasRelation_0 11 rfl rfl)
theorem dX9_hasRelation_12 : decode cX9_hasRelation 12 = .ok (.getfield 33, 3) := dk_180 0 33 (dk_at dksX9_hasRelation_0 12 rfl rfl)
theorem dX9_hasRelation_15 : decode cX9_hasRelation 15 = .ok (.iload_n 1, 1) := dk_27 (dk_at dksX9_hasRelation_0 15 rfl rfl)
theorem dX9_hasRelation_16 : decode cX9_hasRelation 16 = .ok (.iaload, 1) := dk_46 (dk_at dksX9_hasRelation_0 16 rfl rfl)
theorem dX9_hasRelation_17 : decode cX9_hasRelation 17 = .ok (.bipush 20, 2) := dk_16 20 (dk_at dksX9_hasRelation_0 17 rfl rfl)
theorem dX9_hasRelation_19 : decode cX9_hasRelation 19 = .ok (.if_icmp .eq 22, 3) := dk_159 0 22 (dk_at dksX9_hasRelation_0 19 rfl rfl)
theorem dX9_hasRelation_22 : decode cX9_hasRelation 22 = .ok (.aload_n 0, 1) := dk_42 (dk_at dksX9_hasRelation_0 22 rfl rfl)
theorem dX9_hasRelation_23 : decode cX9_hasRelation 23 = .ok (.getfield 33, 3) := dk_180 0 33 (dk_at dksX9_hasRelation_1 0 rfl rfl)
theorem dX9_hasRelation_26 : decode cX9_hasRelation 26 = .ok (.iload_n 1, 1) := dk_27 (dk_at dksX9_hasRelation_1 3 rfl rfl)
theorem dX9_hasRelation_27 : decode cX9_hasRelation 27 = .ok (.iaload, 1) := dk_46 (dk_at dksX9_hasRelation_1 4 rfl rfl)
theorem dX9_hasRelation_28 : decode cX9_hasRelation 28 = .ok (.invokestatic 297, 3) := dk_184 1 41 (dk_at dksX9_hasRelation_1 5 rfl rfl)
theorem dX9_hasRelation_31 : decode cX9_hasRelation 31 = .ok (.iconst 4, 1) := dk_7 (dk_at dksX9_hasRelation_1 8 rfl rfl)
theorem dX9_hasRelation_32 : decode cX9_hasRelation 32 = .ok (.if_icmp .le 9, 3) := dk_164 0 9 (dk_at dksX9_hasRelation_1 9 rfl rfl)
theorem dX9_hasRelation_35 : decode cX9_hasRelation 35 = .ok (.iinc 1 (-1), 3) := dk_132 1 255 (dk_at dksX9_hasRelation_1 12 rfl rfl)
theorem dX9_hasRelation_38 : decode cX9_hasRelation 38 = .ok (.goto (-31), 3) := dk_167 255 225 (dk_at dksX9_hasRelation_1 15 rfl rfl)
theorem dX9_hasRelation_41 : decode cX9_hasRelation 41 = .ok (.iload_n 1, 1) := dk_27 (dk_at dksX9_hasRelation_1 18 rfl rfl)
theorem dX9_hasRelation_42 : decode cX9_hasRelation 42 = .ok (.ifCond .lt 31, 3) := dk_155 0 31 (dk_at dksX9_hasRelation_1 19 rfl rfl)
theorem dX9_hasRelation_45 : decode cX9_hasRelation 45 = .ok (.aload_n 0, 1) := dk_42 (dk_at dksX9_hasRelation_1 22 rfl rfl)
theorem dX9_hasRelation_46 : decode cX9_hasRelation 46 = .ok (.getfield 33, 3) := dk_180 0 33 (dk_at dksX9_hasRelation_2 0 rfl rfl)
theorem dX9_hasRelation_49 : decode cX9_hasRelation 49 = .ok (.iload_n 1, 1) := dk_27 (dk_at dksX9_hasRelation_2 3 rfl rfl)
theorem dX9_hasRelation_50 : decode cX9_hasRelation 50 = .ok (.iaload, 1) := dk_46 (dk_at dksX9_hasRelation_2 4 rfl rfl)
theorem dX9_hasRelation_51 : decode cX9_hasRelation 51 = .ok (.bipush 20, 2) := dk_16 20 (dk_at dksX9_hasRelation_2 5 rfl rfl)
theorem dX9_hasRelation_53 : decode cX9_hasRelation 53 = .ok (.if_icmp .eq 20, 3) := dk_159 0 20 (dk_at dksX9_hasRelation_2 7 rfl rfl)
theorem dX9_hasRelation_56 : decode cX9_hasRelation 56 = .ok (.aload_n 0, 1) := dk_42 (dk_at dksX9_hasRelation_2 10 rfl rfl)
theorem dX9_hasRelation_57 : decode cX9_hasRelation 57 = .ok (.getfield 33, 3) := dk_180 0 33 (dk_at dksX9_hasRelation_2 11 rfl rfl)
theorem dX9_hasRelation_60 : decode cX9_hasRelation 60 = .ok (.iload_n 1, 1) := dk_27 (dk_at dksX9_hasRelation_2 14 rfl rfl)
theorem dX9_hasRelation_61 : decode cX9_hasRelation 61 = .ok (.iaload, 1) := dk_46 (dk_at dksX9_hasRelation_2 15 rfl rfl)
theorem dX9_hasRelation_62 : decode cX9_hasRelation 62 = .ok (.invokestatic 297, 3) := dk_184 1 41 (dk_at dksX9_hasRelation_2 16 rfl rfl)
theorem dX9_hasRelation_65 : decode cX9_hasRelation 65 = .ok (.iconst 4, 1) := dk_7 (dk_at dksX9_hasRelation_2 19 rfl rfl)
theorem dX9_hasRelation_66 : decode cX9_hasRelation 66 = .ok (.if_icmp .ne 7, 3) := dk_160 0 7 (dk_at dksX9_hasRelation_2 20 rfl rfl)
theorem dX9_hasRelation_69 : decode cX9_hasRelation 69 = .ok (.iconst 1, 1) := dk_4 (dk_at dksX9_hasRelation_2 23 rfl rfl)
theorem dX9_hasRelation_70 : decode cX9_hasRelation 70 = .ok (.goto 4, 3) := dk_167 0 4 (dk_at dksX9_hasRelation_3 0 rfl rfl)
theorem dX9_hasRelation_73 : decode cX9_hasRelation 73 = .ok (.iconst 0, 1) := dk_3 (dk_at dksX9_hasRelation_3 3 rfl rfl)
theorem dX9_hasRelation_74 : decode cX9_hasRelation 74 = .ok (.ireturn, 1) := dk_172 (dk_at dksX9_hasRelation_3 4 rfl rfl)
abbrev cX9_fault : ByteArray := prog_24_method_44_code
def yX9_fault : MethodName := ⟨RX9, "fault", "(I)I"⟩
def dkwX9_fault_1 : List UInt8 := [172]
abbrev dktX9_fault_1 : List UInt8 := dkwX9_fault_1 ++ []
def dkwX9_fault_0 : List UInt8 := [27, 154, 0, 10, 42, 180, 0, 212, 167, 0, 16, 27, 4, 160, 0, 10, 42, 180, 0, 13, 167, 0, 4, 2]
abbrev dktX9_fault_0 : List UInt8 := dkwX9_fault_0 ++ dktX9_fault_1
theorem dksX9_fault_0 : cX9_fault.data.toList.drop 0 = dktX9_fault_0 := by decide +kernel
theorem dksX9_fault_1 : cX9_fault.data.toList.drop 24 = dktX9_fault_1 := dk_seg dksX9_fault_0 24 rfl rfl
theorem dX9_fault_0 : decode cX9_fault 0 = .ok (.iload_n 1, 1) := dk_27 (dk_at dksX9_fault_0 0 rfl rfl)
theorem dX9_fault_1 : decode cX9_fault 1 = .ok (.ifCond .ne 10, 3) := dk_154 0 10 (dk_at dksX9_fault_0 1 rfl rfl)
theorem dX9_fault_4 : decode cX9_fault 4 = .ok (.aload_n 0, 1) := dk_42 (dk_at dksX9_fault_0 4 rfl rfl)
theorem dX9_fault_5 : decode cX9_fault 5 = .ok (.getfield 212, 3) := dk_180 0 212 (dk_at dksX9_fault_0 5 rfl rfl)
theorem dX9_fault_8 : decode cX9_fault 8 = .ok (.goto 16, 3) := dk_167 0 16 (dk_at dksX9_fault_0 8 rfl rfl)
theorem dX9_fault_11 : decode cX9_fault 11 = .ok (.iload_n 1, 1) := dk_27 (dk_at dksX9_fault_0 11 rfl rfl)
theorem dX9_fault_12 : decode cX9_fault 12 = .ok (.iconst 1, 1) := dk_4 (dk_at dksX9_fault_0 12 rfl rfl)
theorem dX9_fault_13 : decode cX9_fault 13 = .ok (.if_icmp .ne 10, 3) := dk_160 0 10 (dk_at dksX9_fault_0 13 rfl rfl)
theorem dX9_fault_16 : decode cX9_fault 16 = .ok (.aload_n 0, 1) := dk_42 (dk_at dksX9_fault_0 16 rfl rfl)
theorem dX9_fault_17 : decode cX9_fault 17 = .ok (.getfield 13, 3) := dk_180 0 13 (dk_at dksX9_fault_0 17 rfl rfl)
theorem dX9_fault_20 : decode cX9_fault 20 = .ok (.goto 4, 3) := dk_167 0 4 (dk_at dksX9_fault_0 20 rfl rfl)
theorem dX9_fault_23 : decode cX9_fault 23 = .ok (.iconst (-1), 1) := dk_2 (dk_at dksX9_fault_0 23 rfl rfl)
theorem dX9_fault_24 : decode cX9_fault 24 = .ok (.ireturn, 1) := dk_172 (dk_at dksX9_fault_1 0 rfl rfl)
abbrev cX9_button : ByteArray := prog_24_method_50_code
def yX9_button : MethodName := ⟨RX9, "button", "(II)I"⟩
def dkwX9_button_4 : List UInt8 := [42, 180, 0, 99, 27, 46, 172, 42, 180, 0, 105, 27, 46, 172, 16, 254, 172]
abbrev dktX9_button_4 : List UInt8 := dkwX9_button_4 ++ []
def dkwX9_button_3 : List UInt8 := [42, 180, 0, 93, 27, 46, 172, 42, 180, 0, 96, 27, 46, 172, 42, 180, 0, 112, 27, 51, 184, 1, 88, 172]
abbrev dktX9_button_3 : List UInt8 := dkwX9_button_3 ++ dktX9_button_4
def dkwX9_button_2 : List UInt8 := [42, 180, 0, 118, 27, 46, 172, 42, 180, 0, 118, 16, 10, 27, 96, 46, 172, 42, 180, 0, 90, 27, 46, 172]
abbrev dktX9_button_2 : List UInt8 := dkwX9_button_2 ++ dktX9_button_3
def dkwX9_button_1 : List UInt8 := [170, 0, 0, 0, 0, 0, 0, 110, 0, 0, 0, 0, 0, 0, 0, 7, 0, 0, 0, 48, 0, 0, 0, 55, 0, 0, 0, 65, 0, 0, 0, 72, 0, 0, 0, 79, 0, 0, 0, 86, 0, 0, 0, 96, 0, 0, 0, 103]
abbrev dktX9_button_1 : List UInt8 := dkwX9_button_1 ++ dktX9_button_2
def dkwX9_button_0 : List UInt8 := [42, 27, 182, 1, 201, 154, 0, 6, 16, 254, 172, 28]
abbrev dktX9_button_0 : List UInt8 := dkwX9_button_0 ++ dktX9_button_1
theorem dksX9_button_0 : cX9_button.data.toList.drop 0 = dktX9_button_0 := by decide +kernel
theorem dksX9_button_1 : cX9_button.data.toList.drop 12 = dktX9_button_1 := dk_seg dksX9_button_0 12 rfl rfl
theorem dksX9_button_2 : cX9_button.data.toList.drop 60 = dktX9_button_2 := dk_seg dksX9_button_1 48 rfl rfl
theorem dksX9_button_3 : cX9_button.data.toList.drop 84 = dktX9_button_3 := dk_seg dksX9_button_2 24 rfl rfl
theorem dksX9_button_4 : cX9_button.data.toList.drop 108 = dktX9_button_4 := dk_seg dksX9_button_3 24 rfl rfl
theorem dX9_button_0 : decode cX9_button 0 = .ok (.aload_n 0, 1) := dk_42 (dk_at dksX9_button_0 0 rfl rfl)
theorem dX9_button_1 : decode cX9_button 1 = .ok (.iload_n 1, 1) := dk_27 (dk_at dksX9_button_0 1 rfl rfl)
theorem dX9_button_2 : decode cX9_button 2 = .ok (.invokevirtual 457, 3) := dk_182 1 201 (dk_at dksX9_button_0 2 rfl rfl)
theorem dX9_button_5 : decode cX9_button 5 = .ok (.ifCond .ne 6, 3) := dk_154 0 6 (dk_at dksX9_button_0 5 rfl rfl)
theorem dX9_button_8 : decode cX9_button 8 = .ok (.bipush (-2), 2) := dk_16 254 (dk_at dksX9_button_0 8 rfl rfl)
theorem dX9_button_10 : decode cX9_button 10 = .ok (.ireturn, 1) := dk_172 (dk_at dksX9_button_0 10 rfl rfl)
theorem dX9_button_11 : decode cX9_button 11 = .ok (.iload_n 2, 1) := dk_28 (dk_at dksX9_button_0 11 rfl rfl)
theorem dX9_button_12 : decode cX9_button 12 = .ok (.tableswitch 110 0 7 #[48, 55, 65, 72, 79, 86, 96, 103], 48) := by decide +kernel
theorem dX9_button_60 : decode cX9_button 60 = .ok (.aload_n 0, 1) := dk_42 (dk_at dksX9_button_2 0 rfl rfl)
theorem dX9_button_61 : decode cX9_button 61 = .ok (.getfield 118, 3) := dk_180 0 118 (dk_at dksX9_button_2 1 rfl rfl)
theorem dX9_button_64 : decode cX9_button 64 = .ok (.iload_n 1, 1) := dk_27 (dk_at dksX9_button_2 4 rfl rfl)
theorem dX9_button_65 : decode cX9_button 65 = .ok (.iaload, 1) := dk_46 (dk_at dksX9_button_2 5 rfl rfl)
theorem dX9_button_66 : decode cX9_button 66 = .ok (.ireturn, 1) := dk_172 (dk_at dksX9_button_2 6 rfl rfl)
theorem dX9_button_67 : decode cX9_button 67 = .ok (.aload_n 0, 1) := dk_42 (dk_at dksX9_button_2 7 rfl rfl)
theorem dX9_button_68 : decode cX9_button 68 = .ok (.getfield 118, 3) := dk_180 0 118 (dk_at dksX9_button_2 8 rfl rfl)
theorem dX9_button_71 : decode cX9_button 71 = .ok (.bipush 10, 2) := dk_16 10 (dk_at dksX9_button_2 11 rfl rfl)
theorem dX9_button_73 : decode cX9_button 73 = .ok (.iload_n 1, 1) := dk_27 (dk_at dksX9_button_2 13 rfl rfl)
theorem dX9_button_74 : decode cX9_button 74 = .ok (.iadd, 1) := dk_96 (dk_at dksX9_button_2 14 rfl rfl)
theorem dX9_button_75 : decode cX9_button 75 = .ok (.iaload, 1) := dk_46 (dk_at dksX9_button_2 15 rfl rfl)
theorem dX9_button_76 : decode cX9_button 76 = .ok (.ireturn, 1) := dk_172 (dk_at dksX9_button_2 16 rfl rfl)
theorem dX9_button_77 : decode cX9_button 77 = .ok (.aload_n 0, 1) := dk_42 (dk_at dksX9_button_2 17 rfl rfl)
theorem dX9_button_78 : decode cX9_button 78 = .ok (.getfield 90, 3) := dk_180 0 90 (dk_at dksX9_button_2 18 rfl rfl)
theorem dX9_button_81 : decode cX9_button 81 = .ok (.iload_n 1, 1) := dk_27 (dk_at dksX9_button_2 21 rfl rfl)
theorem dX9_button_82 : decode cX9_button 82 = .ok (.iaload, 1) := dk_46 (dk_at dksX9_button_2 22 rfl rfl)
theorem dX9_button_83 : decode cX9_button 83 = .ok (.ireturn, 1) := dk_172 (dk_at dksX9_button_2 23 rfl rfl)
theorem dX9_button_84 : decode cX9_button 84 = .ok (.aload_n 0, 1) := dk_42 (dk_at dksX9_button_3 0 rfl rfl)
theorem dX9_button_85 : decode cX9_button 85 = .ok (.getfield 93, 3) := dk_180 0 93 (dk_at dksX9_button_3 1 rfl rfl)
theorem dX9_button_88 : decode cX9_button 88 = .ok (.iload_n 1, 1) := dk_27 (dk_at dksX9_button_3 4 rfl rfl)
theorem dX9_button_89 : decode cX9_button 89 = .ok (.iaload, 1) := dk_46 (dk_at dksX9_button_3 5 rfl rfl)
theorem dX9_button_90 : decode cX9_button 90 = .ok (.ireturn, 1) := dk_172 (dk_at dksX9_button_3 6 rfl rfl)
theorem dX9_button_91 : decode cX9_button 91 = .ok (.aload_n 0, 1) := dk_42 (dk_at dksX9_button_3 7 rfl rfl)
theorem dX9_button_92 : decode cX9_button 92 = .ok (.getfield 96, 3) := dk_180 0 96 (dk_at dksX9_button_3 8 rfl rfl)
theorem dX9_button_95 : decode cX9_button 95 = .ok (.iload_n 1, 1) := dk_27 (dk_at dksX9_button_3 11 rfl rfl)
theorem dX9_button_96 : decode cX9_button 96 = .ok (.iaload, 1) := dk_46 (dk_at dksX9_button_3 12 rfl rfl)
theorem dX9_button_97 : decode cX9_button 97 = .ok (.ireturn, 1) := dk_172 (dk_at dksX9_button_3 13 rfl rfl)
theorem dX9_button_98 : decode cX9_button 98 = .ok (.aload_n 0, 1) := dk_42 (dk_at dksX9_button_3 14 rfl rfl)
theorem dX9_button_99 : decode cX9_button 99 = .ok (.getfield 112, 3) := dk_180 0 112 (dk_at dksX9_button_3 15 rfl rfl)
theorem dX9_button_102 : decode cX9_button 102 = .ok (.iload_n 1, 1) := dk_27 (dk_at dksX9_button_3 18 rfl rfl)
theorem dX9_button_103 : decode cX9_button 103 = .ok (.baload, 1) := dk_51 (dk_at dksX9_button_3 19 rfl rfl)
theorem dX9_button_104 : decode cX9_button 104 = .ok (.invokestatic 344, 3) := dk_184 1 88 (dk_at dksX9_button_3 20 rfl rfl)
theorem dX9_button_107 : decode cX9_button 107 = .ok (.ireturn, 1) := dk_172 (dk_at dksX9_button_3 23 rfl rfl)
theorem dX9_button_108 : decode cX9_button 108 = .ok (.aload_n 0, 1) := dk_42 (dk_at dksX9_button_4 0 rfl rfl)
theorem dX9_button_109 : decode cX9_button 109 = .ok (.getfield 99, 3) := dk_180 0 99 (dk_at dksX9_button_4 1 rfl rfl)
theorem dX9_button_112 : decode cX9_button 112 = .ok (.iload_n 1, 1) := dk_27 (dk_at dksX9_button_4 4 rfl rfl)
theorem dX9_button_113 : decode cX9_button 113 = .ok (.iaload, 1) := dk_46 (dk_at dksX9_button_4 5 rfl rfl)
theorem dX9_button_114 : decode cX9_button 114 = .ok (.ireturn, 1) := dk_172 (dk_at dksX9_button_4 6 rfl rfl)
theorem dX9_button_115 : decode cX9_button 115 = .ok (.aload_n 0, 1) := dk_42 (dk_at dksX9_button_4 7 rfl rfl)
theorem dX9_button_116 : decode cX9_button 116 = .ok (.getfield 105, 3) := dk_180 0 105 (dk_at dksX9_button_4 8 rfl rfl)
theorem dX9_button_119 : decode cX9_button 119 = .ok (.iload_n 1, 1) := dk_27 (dk_at dksX9_button_4 11 rfl rfl)
theorem dX9_button_120 : decode cX9_button 120 = .ok (.iaload, 1) := dk_46 (dk_at dksX9_button_4 12 rfl rfl)
theorem dX9_button_121 : decode cX9_button 121 = .ok (.ireturn, 1) := dk_172 (dk_at dksX9_button_4 13 rfl rfl)
theorem dX9_button_122 : decode cX9_button 122 = .ok (.bipush (-2), 2) := dk_16 254 (dk_at dksX9_button_4 14 rfl rfl)
theorem dX9_button_124 : decode cX9_button 124 = .ok (.ireturn, 1) := dk_172 (dk_at dksX9_button_4 16 rfl rfl)
abbrev cX9_isButton : ByteArray := prog_24_method_48_code
def yX9_isButton : MethodName := ⟨RX9, "isButton", "(I)Z"⟩
def dkwX9_isButton_0 : List UInt8 := [27, 3, 42, 180, 1, 173, 4, 100, 184, 1, 197, 172]
abbrev dktX9_isButton_0 : List UInt8 := dkwX9_isButton_0 ++ []
theorem dksX9_isButton_0 : cX9_isButton.data.toList.drop 0 = dktX9_isButton_0 := by decide +kernel
theorem dX9_isButton_0 : decode cX9_isButton 0 = .ok (.iload_n 1, 1) := dk_27 (dk_at dksX9_isButton_0 0 rfl rfl)
theorem dX9_isButton_1 : decode cX9_isButton 1 = .ok (.iconst 0, 1) := dk_3 (dk_at dksX9_isButton_0 1 rfl rfl)
theorem dX9_isButton_2 : decode cX9_isButton 2 = .ok (.aload_n 0, 1) := dk_42 (dk_at dksX9_isButton_0 2 rfl rfl)
theorem dX9_isButton_3 : decode cX9_isButton 3 = .ok (.getfield 429, 3) := dk_180 1 173 (dk_at dksX9_isButton_0 3 rfl rfl)
theorem dX9_isButton_6 : decode cX9_isButton 6 = .ok (.iconst 1, 1) := dk_4 (dk_at dksX9_isButton_0 6 rfl rfl)
theorem dX9_isButton_7 : decode cX9_isButton 7 = .ok (.isub, 1) := dk_100 (dk_at dksX9_isButton_0 7 rfl rfl)
theorem dX9_isButton_8 : decode cX9_isButton 8 = .ok (.invokestatic 453, 3) := dk_184 1 197 (dk_at dksX9_isButton_0 8 rfl rfl)
theorem dX9_isButton_11 : decode cX9_isButton 11 = .ok (.ireturn, 1) := dk_172 (dk_at dksX9_isButton_0 11 rfl rfl)
abbrev cX9_isIn : ByteArray := prog_24_method_45_code
def yX9_isIn : MethodName := ⟨RX9, "isIn", "(III)Z"⟩
def dkwX9_isIn_0 : List UInt8 := [26, 27, 161, 0, 12, 26, 28, 163, 0, 7, 4, 167, 0, 4, 3, 172]
abbrev dktX9_isIn_0 : List UInt8 := dkwX9_isIn_0 ++ []
theorem dksX9_isIn_0 : cX9_isIn.data.toList.drop 0 = dktX9_isIn_0 := by decide +kernel
theorem dX9_isIn_0 : decode cX9_isIn 0 = .ok (.iload_n 0, 1) := dk_26 (dk_at dksX9_isIn_0 0 rfl rfl)
theorem dX9_isIn_1 : decode cX9_isIn 1 = .ok (.iload_n 1, 1) := dk_27 (dk_at dksX9_isIn_0 1 rfl rfl)
theorem dX9_isIn_2 : decode cX9_isIn 2 = .ok (.if_icmp .lt 12, 3) := dk_161 0 12 (dk_at dksX9_isIn_0 2 rfl rfl)
theorem dX9_isIn_5 : decode cX9_isIn 5 = .ok (.iload_n 0, 1) := dk_26 (dk_at dksX9_isIn_0 5 rfl rfl)
theorem dX9_isIn_6 : decode cX9_isIn 6 = .ok (.iload_n 2, 1) := dk_28 (dk_at dksX9_isIn_0 6 rfl rfl)
theorem dX9_isIn_7 : decode cX9_isIn 7 = .ok (.if_icmp .gt 7, 3) := dk_163 0 7 (dk_at dksX9_isIn_0 7 rfl rfl)
theorem dX9_isIn_10 : decode cX9_isIn 10 = .ok (.iconst 1, 1) := dk_4 (dk_at dksX9_isIn_0 10 rfl rfl)
theorem dX9_isIn_11 : decode cX9_isIn 11 = .ok (.goto 4, 3) := dk_167 0 4 (dk_at dksX9_isIn_0 11 rfl rfl)
theorem dX9_isIn_14 : decode cX9_isIn 14 = .ok (.iconst 0, 1) := dk_3 (dk_at dksX9_isIn_0 14 rfl rfl)
theorem dX9_isIn_15 : decode cX9_isIn 15 = .ok (.ireturn, 1) := dk_172 (dk_at dksX9_isIn_0 15 rfl rfl)
abbrev cX9_coat : ByteArray := prog_24_method_51_code
def yX9_coat : MethodName := ⟨RX9, "coat", "(II)I"⟩
def dkwX9_coat_4 : List UInt8 := [167, 0, 4, 3, 184, 1, 88, 21, 5, 120, 128, 54, 4, 132, 5, 1, 167, 255, 191, 21, 4, 172]
abbrev dktX9_coat_4 : List UInt8 := dkwX9_coat_4 ++ []
def dkwX9_coat_3 : List UInt8 := [42, 180, 0, 93, 21, 5, 46, 167, 0, 10, 42, 180, 0, 90, 21, 5, 46, 27, 160, 0, 7, 4]
abbrev dktX9_coat_3 : List UInt8 := dkwX9_coat_3 ++ dktX9_coat_4
def dkwX9_coat_2 : List UInt8 := [180, 1, 173, 162, 0, 62, 21, 4, 42, 180, 0, 118, 21, 5, 46, 29, 160, 0, 33, 28, 4, 160, 0, 13]
abbrev dktX9_coat_2 : List UInt8 := dkwX9_coat_2 ++ dktX9_coat_3
def dkwX9_coat_1 : List UInt8 := [3, 167, 0, 13, 28, 5, 160, 0, 7, 6, 167, 0, 4, 7, 62, 3, 54, 4, 3, 54, 5, 21, 5, 42]
abbrev dktX9_coat_1 : List UInt8 := dkwX9_coat_1 ++ dktX9_coat_2
def dkwX9_coat_0 : List UInt8 := [42, 27, 182, 1, 204, 153, 0, 12, 28, 3, 6, 184, 1, 197, 154, 0, 5, 2, 172, 28, 5, 162, 0, 7]
abbrev dktX9_coat_0 : List UInt8 := dkwX9_coat_0 ++ dktX9_coat_1
theorem dksX9_coat_0 : cX9_coat.data.toList.drop 0 = dktX9_coat_0 := by decide +kernel
theorem dksX9_coat_1 : cX9_coat.data.toList.drop 24 = dktX9_coat_1 := dk_seg dksX9_coat_0 24 rfl rfl
theorem dksX9_coat_2 : cX9_coat.data.toList.drop 48 = dktX9_coat_2 := dk_seg dksX9_coat_1 24 rfl rfl
theorem dksX9_coat_3 : cX9_coat.data.toList.drop 72 = dktX9_coat_3 := dk_seg dksX9_coat_2 24 rfl rfl
theorem dksX9_coat_4 : cX9_coat.data.toList.drop 94 = dktX9_coat_4 := dk_seg dksX9_coat_3 22 rfl rfl
theorem dX9_coat_0 : decode cX9_coat 0 = .ok (.aload_n 0, 1) := dk_42 (dk_at dksX9_coat_0 0 rfl rfl)
theorem dX9_coat_1 : decode cX9_coat 1 = .ok (.iload_n 1, 1) := dk_27 (dk_at dksX9_coat_0 1 rfl rfl)
theorem dX9_coat_2 : decode cX9_coat 2 = .ok (.invokevirtual 460, 3) := dk_182 1 204 (dk_at dksX9_coat_0 2 rfl rfl)
theorem dX9_coat_5 : decode cX9_coat 5 = .ok (.ifCond .eq 12, 3) := dk_153 0 12 (dk_at dksX9_coat_0 5 rfl rfl)
theorem dX9_coat_8 : decode cX9_coat 8 = .ok (.iload_n 2, 1) := dk_28 (dk_at dksX9_coat_0 8 rfl rfl)
theorem dX9_coat_9 : decode cX9_coat 9 = .ok (.iconst 0, 1) := dk_3 (dk_at dksX9_coat_0 9 rfl rfl)
theorem dX9_coat_10 : decode cX9_coat 10 = .ok (.iconst 3, 1) := dk_6 (dk_at dksX9_coat_0 10 rfl rfl)
theorem dX9_coat_11 : decode cX9_coat 11 = .ok (.invokestatic 453, 3) := dk_184 1 197 (dk_at dksX9_coat_0 11 rfl rfl)
theorem dX9_coat_14 : decode cX9_coat 14 = .ok (.ifCond .ne 5, 3) := dk_154 0 5 (dk_at dksX9_coat_0 14 rfl rfl)
theorem dX9_coat_17 : decode cX9_coat 17 = .ok (.iconst (-1), 1) := dk_2 (dk_at dksX9_coat_0 17 rfl rfl)
theorem dX9_coat_18 : decode cX9_coat 18 = .ok (.ireturn, 1) := dk_172 (dk_at dksX9_coat_0 18 rfl rfl)
theorem dX9_coat_19 : decode cX9_coat 19 = .ok (.iload_n 2, 1) := dk_28 (dk_at dksX9_coat_0 19 rfl rfl)
theorem dX9_coat_20 : decode cX9_coat 20 = .ok (.iconst 2, 1) := dk_5 (dk_at dksX9_coat_0 20 rfl rfl)
theorem dX9_coat_21 : decode cX9_coat 21 = .ok (.if_icmp .ge 7, 3) := dk_162 0 7 (dk_at dksX9_coat_0 21 rfl rfl)
theorem dX9_coat_24 : decode cX9_coat 24 = .ok (.iconst 0, 1) := dk_3 (dk_at dksX9_coat_1 0 rfl rfl)
theorem dX9_coat_25 : decode cX9_coat 25 = .ok (.goto 13, 3) := dk_167 0 13 (dk_at dksX9_coat_1 1 rfl rfl)
theorem dX9_coat_28 : decode cX9_coat 28 = .ok (.iload_n 2, 1) := dk_28 (dk_at dksX9_coat_1 4 rfl rfl)
theorem dX9_coat_29 : decode cX9_coat 29 = .ok (.iconst 2, 1) := dk_5 (dk_at dksX9_coat_1 5 rfl rfl)
theorem dX9_coat_30 : decode cX9_coat 30 = .ok (.if_icmp .ne 7, 3) := dk_160 0 7 (dk_at dksX9_coat_1 6 rfl rfl)
theorem dX9_coat_33 : decode cX9_coat 33 = .ok (.iconst 3, 1) := dk_6 (dk_at dksX9_coat_1 9 rfl rfl)
theorem dX9_coat_34 : decode cX9_coat 34 = .ok (.goto 4, 3) := dk_167 0 4 (dk_at dksX9_coat_1 10 rfl rfl)
theorem dX9_coat_37 : decode cX9_coat 37 = .ok (.iconst 4, 1) := dk_7 (dk_at dksX9_coat_1 13 rfl rfl)
theorem dX9_coat_38 : decode cX9_coat 38 = .ok (.istore_n 3, 1) := dk_62 (dk_at dksX9_coat_1 14 rfl rfl)
theorem dX9_coat_39 : decode cX9_coat 39 = .ok (.iconst 0, 1) := dk_3 (dk_at dksX9_coat_1 15 rfl rfl)
theorem dX9_coat_40 : decode cX9_coat 40 = .ok (.istore 4, 2) := dk_54 4 (dk_at dksX9_coat_1 16 rfl rfl)
theorem dX9_coat_42 : decode cX9_coat 42 = .ok (.iconst 0, 1) := dk_3 (dk_at dksX9_coat_1 18 rfl rfl)
theorem dX9_coat_43 : decode cX9_coat 43 = .ok (.istore 5, 2) := dk_54 5 (dk_at dksX9_coat_1 19 rfl rfl)
theorem dX9_coat_45 : decode cX9_coat 45 = .ok (.iload 5, 2) := dk_21 5 (dk_at dksX9_coat_1 21 rfl rfl)
theorem dX9_coat_47 : decode cX9_coat 47 = .ok (.aload_n 0, 1) := dk_42 (dk_at dksX9_coat_1 23 rfl rfl)
theorem dX9_coat_48 : decode cX9_coat 48 = .ok (.getfield 429, 3) := dk_180 1 173 (dk_at dksX9_coat_2 0 rfl rfl)
theorem dX9_coat_51 : decode cX9_coat 51 = .ok (.if_icmp .ge 62, 3) := dk_162 0 62 (dk_at dksX9_coat_2 3 rfl rfl)
theorem dX9_coat_54 : decode cX9_coat 54 = .ok (.iload 4, 2) := dk_21 4 (dk_at dksX9_coat_2 6 rfl rfl)
theorem dX9_coat_56 : decode cX9_coat 56 = .ok (.aload_n 0, 1) := dk_42 (dk_at dksX9_coat_2 8 rfl rfl)
theorem dX9_coat_57 : decode cX9_coat 57 = .ok (.getfield 118, 3) := dk_180 0 118 (dk_at dksX9_coat_2 9 rfl rfl)
theorem dX9_coat_60 : decode cX9_coat 60 = .ok (.iload 5, 2) := dk_21 5 (dk_at dksX9_coat_2 12 rfl rfl)
theorem dX9_coat_62 : decode cX9_coat 62 = .ok (.iaload, 1) := dk_46 (dk_at dksX9_coat_2 14 rfl rfl)
theorem dX9_coat_63 : decode cX9_coat 63 = .ok (.iload_n 3, 1) := dk_29 (dk_at dksX9_coat_2 15 rfl rfl)
theorem dX9_coat_64 : decode cX9_coat 64 = .ok (.if_icmp .ne 33, 3) := dk_160 0 33 (dk_at dksX9_coat_2 16 rfl rfl)
theorem dX9_coat_67 : decode cX9_coat 67 = .ok (.iload_n 2, 1) := dk_28 (dk_at dksX9_coat_2 19 rfl rfl)
theorem dX9_coat_68 : decode cX9_coat 68 = .ok (.iconst 1, 1) := dk_4 (dk_at dksX9_coat_2 20 rfl rfl)
theorem dX9_coat_69 : decode cX9_coat 69 = .ok (.if_icmp .ne 13, 3) := dk_160 0 13 (dk_at dksX9_coat_2 21 rfl rfl)
theorem dX9_coat_72 : decode cX9_coat 72 = .ok (.aload_n 0, 1) := dk_42 (dk_at dksX9_coat_3 0 rfl rfl)
theorem dX9_coat_73 : decode cX9_coat 73 = .ok (.getfield 93, 3) := dk_180 0 93 (dk_at dksX9_coat_3 1 rfl rfl)
theorem dX9_coat_76 : decode cX9_coat 76 = .ok (.iload 5, 2) := dk_21 5 (dk_at dksX9_coat_3 4 rfl rfl)
theorem dX9_coat_78 : decode cX9_coat 78 = .ok (.iaload, 1) := dk_46 (dk_at dksX9_coat_3 6 rfl rfl)
theorem dX9_coat_79 : decode cX9_coat 79 = .ok (.goto 10, 3) := dk_167 0 10 (dk_at dksX9_coat_3 7 rfl rfl)
theorem dX9_coat_82 : decode cX9_coat 82 = .ok (.aload_n 0, 1) := dk_42 (dk_at dksX9_coat_3 10 rfl rfl)
theorem dX9_coat_83 : decode cX9_coat 83 = .ok (.getfield 90, 3) := dk_180 0 90 (dk_at dksX9_coat_3 11 rfl rfl)
theorem dX9_coat_86 : decode cX9_coat 86 = .ok (.iload 5, 2) := dk_21 5 (dk_at dksX9_coat_3 14 rfl rfl)
theorem dX9_coat_88 : decode cX9_coat 88 = .ok (.iaload, 1) := dk_46 (dk_at dksX9_coat_3 16 rfl rfl)
theorem dX9_coat_89 : decode cX9_coat 89 = .ok (.iload_n 1, 1) := dk_27 (dk_at dksX9_coat_3 17 rfl rfl)
theorem dX9_coat_90 : decode cX9_coat 90 = .ok (.if_icmp .ne 7, 3) := dk_160 0 7 (dk_at dksX9_coat_3 18 rfl rfl)
theorem dX9_coat_93 : decode cX9_coat 93 = .ok (.iconst 1, 1) := dk_4 (dk_at dksX9_coat_3 21 rfl rfl)
theorem dX9_coat_94 : decode cX9_coat 94 = .ok (.goto 4, 3) := dk_167 0 4 (dk_at dksX9_coat_4 0 rfl rfl)
theorem dX9_coat_97 : decode cX9_coat 97 = .ok (.iconst 0, 1) := dk_3 (dk_at dksX9_coat_4 3 rfl rfl)
theorem dX9_coat_98 : decode cX9_coat 98 = .ok (.invokestatic 344, 3) := dk_184 1 88 (dk_at dksX9_coat_4 4 rfl rfl)
theorem dX9_coat_101 : decode cX9_coat 101 = .ok (.iload 5, 2) := dk_21 5 (dk_at dksX9_coat_4 7 rfl rfl)
theorem dX9_coat_103 : decode cX9_coat 103 = .ok (.ishl, 1) := dk_120 (dk_at dksX9_coat_4 9 rfl rfl)
theorem dX9_coat_104 : decode cX9_coat 104 = .ok (.ior, 1) := dk_128 (dk_at dksX9_coat_4 10 rfl rfl)
theorem dX9_coat_105 : decode cX9_coat 105 = .ok (.istore 4, 2) := dk_54 4 (dk_at dksX9_coat_4 11 rfl rfl)
theorem dX9_coat_107 : decode cX9_coat 107 = .ok (.iinc 5 1, 3) := dk_132 5 1 (dk_at dksX9_coat_4 13 rfl rfl)
theorem dX9_coat_110 : decode cX9_coat 110 = .ok (.goto (-65), 3) := dk_167 255 191 (dk_at dksX9_coat_4 16 rfl rfl)
theorem dX9_coat_113 : decode cX9_coat 113 = .ok (.iload 4, 2) := dk_21 4 (dk_at dksX9_coat_4 19 rfl rfl)
theorem dX9_coat_115 : decode cX9_coat 115 = .ok (.ireturn, 1) := dk_172 (dk_at dksX9_coat_4 21 rfl rfl)
abbrev cX9_isMan : ByteArray := prog_24_method_46_code
def yX9_isMan : MethodName := ⟨RX9, "isMan", "(I)Z"⟩
def dkwX9_isMan_0 : List UInt8 := [27, 3, 42, 180, 1, 167, 4, 100, 184, 1, 197, 172]
abbrev dktX9_isMan_0 : List UInt8 := dkwX9_isMan_0 ++ []
theorem dksX9_isMan_0 : cX9_isMan.data.toList.drop 0 = dktX9_isMan_0 := by decide +kernel
theorem dX9_isMan_0 : decode cX9_isMan 0 = .ok (.iload_n 1, 1) := dk_27 (dk_at dksX9_isMan_0 0 rfl rfl)
theorem dX9_isMan_1 : decode cX9_isMan 1 = .ok (.iconst 0, 1) := dk_3 (dk_at dksX9_isMan_0 1 rfl rfl)
theorem dX9_isMan_2 : decode cX9_isMan 2 = .ok (.aload_n 0, 1) := dk_42 (dk_at dksX9_isMan_0 2 rfl rfl)
theorem dX9_isMan_3 : decode cX9_isMan 3 = .ok (.getfield 423, 3) := dk_180 1 167 (dk_at dksX9_isMan_0 3 rfl rfl)
theorem dX9_isMan_6 : decode cX9_isMan 6 = .ok (.iconst 1, 1) := dk_4 (dk_at dksX9_isMan_0 6 rfl rfl)
theorem dX9_isMan_7 : decode cX9_isMan 7 = .ok (.isub, 1) := dk_100 (dk_at dksX9_isMan_0 7 rfl rfl)
theorem dX9_isMan_8 : decode cX9_isMan 8 = .ok (.invokestatic 453, 3) := dk_184 1 197 (dk_at dksX9_isMan_0 8 rfl rfl)
theorem dX9_isMan_11 : decode cX9_isMan 11 = .ok (.ireturn, 1) := dk_172 (dk_at dksX9_isMan_0 11 rfl rfl)
abbrev cX9_free : ByteArray := prog_24_method_52_code
def yX9_free : MethodName := ⟨RX9, "free", "()I"⟩
def dkwX9_free_1 : List UInt8 := [167, 0, 4, 3, 184, 1, 88, 28, 120, 128, 60, 132, 2, 1, 167, 255, 223, 27, 172]
abbrev dktX9_free_1 : List UInt8 := dkwX9_free_1 ++ []
def dkwX9_free_0 : List UInt8 := [3, 60, 3, 61, 28, 42, 180, 1, 167, 162, 0, 31, 27, 42, 28, 3, 182, 1, 207, 154, 0, 7, 4]
abbrev dktX9_free_0 : List UInt8 := dkwX9_free_0 ++ dktX9_free_1
theorem dksX9_free_0 : cX9_free.data.toList.drop 0 = dktX9_free_0 := by decide +kernel
theorem dksX9_free_1 : cX9_free.data.toList.drop 23 = dktX9_free_1 := dk_seg dksX9_free_0 23 rfl rfl
theorem dX9_free_0 : decode cX9_free 0 = .ok (.iconst 0, 1) := dk_3 (dk_at dksX9_free_0 0 rfl rfl)
theorem dX9_free_1 : decode cX9_free 1 = .ok (.istore_n 1, 1) := dk_60 (dk_at dksX9_free_0 1 rfl rfl)
theorem dX9_free_2 : decode cX9_free 2 = .ok (.iconst 0, 1) := dk_3 (dk_at dksX9_free_0 2 rfl rfl)
theorem dX9_free_3 : decode cX9_free 3 = .ok (.istore_n 2, 1) := dk_61 (dk_at dksX9_free_0 3 rfl rfl)
theorem dX9_free_4 : decode cX9_free 4 = .ok (.iload_n 2, 1) := dk_28 (dk_at dksX9_free_0 4 rfl rfl)
theorem dX9_free_5 : decode cX9_free 5 = .ok (.aload_n 0, 1) := dk_42 (dk_at dksX9_free_0 5 rfl rfl)
theorem dX9_free_6 : decode cX9_free 6 = .ok (.getfield 423, 3) := dk_180 1 167 (dk_at dksX9_free_0 6 rfl rfl)
theorem dX9_free_9 : decode cX9_free 9 = .ok (.if_icmp .ge 31, 3) := dk_162 0 31 (dk_at dksX9_free_0 9 rfl rfl)
theorem dX9_free_12 : decode cX9_free 12 = .ok (.iload_n 1, 1) := dk_27 (dk_at dksX9_free_0 12 rfl rfl)
theorem dX9_free_13 : decode cX9_free 13 = .ok (.aload_n 0, 1) := dk_42 (dk_at dksX9_free_0 13 rfl rfl)
theorem dX9_free_14 : decode cX9_free 14 = .ok (.iload_n 2, 1) := dk_28 (dk_at dksX9_free_0 14 rfl rfl)
theorem dX9_free_15 : decode cX9_free 15 = .ok (.iconst 0, 1) := dk_3 (dk_at dksX9_free_0 15 rfl rfl)
theorem dX9_free_16 : decode cX9_free 16 = .ok (.invokevirtual 463, 3) := dk_182 1 207 (dk_at dksX9_free_0 16 rfl rfl)
theorem dX9_free_19 : decode cX9_free 19 = .ok (.ifCond .ne 7, 3) := dk_154 0 7 (dk_at dksX9_free_0 19 rfl rfl)
theorem dX9_free_22 : decode cX9_free 22 = .ok (.iconst 1, 1) := dk_4 (dk_at dksX9_free_0 22 rfl rfl)
theorem dX9_free_23 : decode cX9_free 23 = .ok (.goto 4, 3) := dk_167 0 4 (dk_at dksX9_free_1 0 rfl rfl)
theorem dX9_free_26 : decode cX9_free 26 = .ok (.iconst 0, 1) := dk_3 (dk_at dksX9_free_1 3 rfl rfl)
theorem dX9_free_27 : decode cX9_free 27 = .ok (.invokestatic 344, 3) := dk_184 1 88 (dk_at dksX9_free_1 4 rfl rfl)
theorem dX9_free_30 : decode cX9_free 30 = .ok (.iload_n 2, 1) := dk_28 (dk_at dksX9_free_1 7 rfl rfl)
theorem dX9_free_31 : decode cX9_free 31 = .ok (.ishl, 1) := dk_120 (dk_at dksX9_free_1 8 rfl rfl)
theorem dX9_free_32 : decode cX9_free 32 = .ok (.ior, 1) := dk_128 (dk_at dksX9_free_1 9 rfl rfl)
theorem dX9_free_33 : decode cX9_free 33 = .ok (.istore_n 1, 1) := dk_60 (dk_at dksX9_free_1 10 rfl rfl)
theorem dX9_free_34 : decode cX9_free 34 = .ok (.iinc 2 1, 3) := dk_132 2 1 (dk_at dksX9_free_1 11 rfl rfl)
theorem dX9_free_37 : decode cX9_free 37 = .ok (.goto (-33), 3) := dk_167 255 223 (dk_at dksX9_free_1 14 rfl rfl)
theorem dX9_free_40 : decode cX9_free 40 = .ok (.iload_n 1, 1) := dk_27 (dk_at dksX9_free_1 17 rfl rfl)
theorem dX9_free_41 : decode cX9_free 41 = .ok (.ireturn, 1) := dk_172 (dk_at dksX9_free_1 18 rfl rfl)
abbrev cX9_sworn : ByteArray := prog_24_method_53_code
def yX9_sworn : MethodName := ⟨RX9, "sworn", "(II)I"⟩
def dkwX9_sworn_3 : List UInt8 := [29, 4, 42, 180, 0, 90, 21, 4, 46, 120, 128, 62, 132, 4, 1, 167, 255, 193, 29, 172]
abbrev dktX9_sworn_3 : List UInt8 := dkwX9_sworn_3 ++ []
def dkwX9_sworn_2 : List UInt8 := [46, 27, 160, 0, 34, 42, 180, 0, 112, 21, 4, 51, 28, 154, 0, 7, 4, 167, 0, 4, 3, 160, 0, 15]
abbrev dktX9_sworn_2 : List UInt8 := dkwX9_sworn_2 ++ dktX9_sworn_3
def dkwX9_sworn_1 : List UInt8 := [21, 4, 42, 180, 1, 173, 162, 0, 60, 42, 21, 4, 182, 1, 213, 153, 0, 45, 42, 180, 0, 96, 21, 4]
abbrev dktX9_sworn_1 : List UInt8 := dkwX9_sworn_1 ++ dktX9_sworn_2
def dkwX9_sworn_0 : List UInt8 := [42, 27, 182, 1, 210, 153, 0, 12, 28, 3, 4, 184, 1, 197, 154, 0, 5, 2, 172, 3, 62, 3, 54, 4]
abbrev dktX9_sworn_0 : List UInt8 := dkwX9_sworn_0 ++ dktX9_sworn_1
theorem dksX9_sworn_0 : cX9_sworn.data.toList.drop 0 = dktX9_sworn_0 := by decide +kernel
theorem dksX9_sworn_1 : cX9_sworn.data.toList.drop 24 = dktX9_sworn_1 := dk_seg dksX9_sworn_0 24 rfl rfl
theorem dksX9_sworn_2 : cX9_sworn.data.toList.drop 48 = dktX9_sworn_2 := dk_seg dksX9_sworn_1 24 rfl rfl
theorem dksX9_sworn_3 : cX9_sworn.data.toList.drop 72 = dktX9_sworn_3 := dk_seg dksX9_sworn_2 24 rfl rfl
theorem dX9_sworn_0 : decode cX9_sworn 0 = .ok (.aload_n 0, 1) := dk_42 (dk_at dksX9_sworn_0 0 rfl rfl)
theorem dX9_sworn_1 : decode cX9_sworn 1 = .ok (.iload_n 1, 1) := dk_27 (dk_at dksX9_sworn_0 1 rfl rfl)
theorem dX9_sworn_2 : decode cX9_sworn 2 = .ok (.invokevirtual 466, 3) := dk_182 1 210 (dk_at dksX9_sworn_0 2 rfl rfl)
theorem dX9_sworn_5 : decode cX9_sworn 5 = .ok (.ifCond .eq 12, 3) := dk_153 0 12 (dk_at dksX9_sworn_0 5 rfl rfl)
theorem dX9_sworn_8 : decode cX9_sworn 8 = .ok (.iload_n 2, 1) := dk_28 (dk_at dksX9_sworn_0 8 rfl rfl)
theorem dX9_sworn_9 : decode cX9_sworn 9 = .ok (.iconst 0, 1) := dk_3 (dk_at dksX9_sworn_0 9 rfl rfl)
theorem dX9_sworn_10 : decode cX9_sworn 10 = .ok (.iconst 1, 1) := dk_4 (dk_at dksX9_sworn_0 10 rfl rfl)
theorem dX9_sworn_11 : decode cX9_sworn 11 = .ok (.invokestatic 453, 3) := dk_184 1 197 (dk_at dksX9_sworn_0 11 rfl rfl)
theorem dX9_sworn_14 : decode cX9_sworn 14 = .ok (.ifCond .ne 5, 3) := dk_154 0 5 (dk_at dksX9_sworn_0 14 rfl rfl)
theorem dX9_sworn_17 : decode cX9_sworn 17 = .ok (.iconst (-1), 1) := dk_2 (dk_at dksX9_sworn_0 17 rfl rfl)
theorem dX9_sworn_18 : decode cX9_sworn 18 = .ok (.ireturn, 1) := dk_172 (dk_at dksX9_sworn_0 18 rfl rfl)
theorem dX9_sworn_19 : decode cX9_sworn 19 = .ok (.iconst 0, 1) := dk_3 (dk_at dksX9_sworn_0 19 rfl rfl)
theorem dX9_sworn_20 : decode cX9_sworn 20 = .ok (.istore_n 3, 1) := dk_62 (dk_at dksX9_sworn_0 20 rfl rfl)
theorem dX9_sworn_21 : decode cX9_sworn 21 = .ok (.iconst 0, 1) := dk_3 (dk_at dksX9_sworn_0 21 rfl rfl)
theorem dX9_sworn_22 : decode cX9_sworn 22 = .ok (.istore 4, 2) := dk_54 4 (dk_at dksX9_sworn_0 22 rfl rfl)
theorem dX9_sworn_24 : decode cX9_sworn 24 = .ok (.iload 4, 2) := dk_21 4 (dk_at dksX9_sworn_1 0 rfl rfl)
theorem dX9_sworn_26 : decode cX9_sworn 26 = .ok (.aload_n 0, 1) := dk_42 (dk_at dksX9_sworn_1 2 rfl rfl)
theorem dX9_sworn_27 : decode cX9_sworn 27 = .ok (.getfield 429, 3) := dk_180 1 173 (dk_at dksX9_sworn_1 3 rfl rfl)
theorem dX9_sworn_30 : decode cX9_sworn 30 = .ok (.if_icmp .ge 60, 3) := dk_162 0 60 (dk_at dksX9_sworn_1 6 rfl rfl)
theorem dX9_sworn_33 : decode cX9_sworn 33 = .ok (.aload_n 0, 1) := dk_42 (dk_at dksX9_sworn_1 9 rfl rfl)
theorem dX9_sworn_34 : decode cX9_sworn 34 = .ok (.iload 4, 2) := dk_21 4 (dk_at dksX9_sworn_1 10 rfl rfl)
theorem dX9_sworn_36 : decode cX9_sworn 36 = .ok (.invokevirtual 469, 3) := dk_182 1 213 (dk_at dksX9_sworn_1 12 rfl rfl)
theorem dX9_sworn_39 : decode cX9_sworn 39 = .ok (.ifCond .eq 45, 3) := dk_153 0 45 (dk_at dksX9_sworn_1 15 rfl rfl)
theorem dX9_sworn_42 : decode cX9_sworn 42 = .ok (.aload_n 0, 1) := dk_42 (dk_at dksX9_sworn_1 18 rfl rfl)
theorem dX9_sworn_43 : decode cX9_sworn 43 = .ok (.getfield 96, 3) := dk_180 0 96 (dk_at dksX9_sworn_1 19 rfl rfl)
theorem dX9_sworn_46 : decode cX9_sworn 46 = .ok (.iload 4, 2) := dk_21 4 (dk_at dksX9_sworn_1 22 rfl rfl)
theorem dX9_sworn_48 : decode cX9_sworn 48 = .ok (.iaload, 1) := dk_46 (dk_at dksX9_sworn_2 0 rfl rfl)
theorem dX9_sworn_49 : decode cX9_sworn 49 = .ok (.iload_n 1, 1) := dk_27 (dk_at dksX9_sworn_2 1 rfl rfl)
theorem dX9_sworn_50 : decode cX9_sworn 50 = .ok (.if_icmp .ne 34, 3) := dk_160 0 34 (dk_at dksX9_sworn_2 2 rfl rfl)
theorem dX9_sworn_53 : decode cX9_sworn 53 = .ok (.aload_n 0, 1) := dk_42 (dk_at dksX9_sworn_2 5 rfl rfl)
theorem dX9_sworn_54 : decode cX9_sworn 54 = .ok (.getfield 112, 3) := dk_180 0 112 (dk_at dksX9_sworn_2 6 rfl rfl)
theorem dX9_sworn_57 : decode cX9_sworn 57 = .ok (.iload 4, 2) := dk_21 4 (dk_at dksX9_sworn_2 9 rfl rfl)
theorem dX9_sworn_59 : decode cX9_sworn 59 = .ok (.baload, 1) := dk_51 (dk_at dksX9_sworn_2 11 rfl rfl)
theorem dX9_sworn_60 : decode cX9_sworn 60 = .ok (.iload_n 2, 1) := dk_28 (dk_at dksX9_sworn_2 12 rfl rfl)
theorem dX9_sworn_61 : decode cX9_sworn 61 = .ok (.ifCond .ne 7, 3) := dk_154 0 7 (dk_at dksX9_sworn_2 13 rfl rfl)
theorem dX9_sworn_64 : decode cX9_sworn 64 = .ok (.iconst 1, 1) := dk_4 (dk_at dksX9_sworn_2 16 rfl rfl)
theorem dX9_sworn_65 : decode cX9_sworn 65 = .ok (.goto 4, 3) := dk_167 0 4 (dk_at dksX9_sworn_2 17 rfl rfl)
theorem dX9_sworn_68 : decode cX9_sworn 68 = .ok (.iconst 0, 1) := dk_3 (dk_at dksX9_sworn_2 20 rfl rfl)
theorem dX9_sworn_69 : decode cX9_sworn 69 = .ok (.if_icmp .ne 15, 3) := dk_160 0 15 (dk_at dksX9_sworn_2 21 rfl rfl)
theorem dX9_sworn_72 : decode cX9_sworn 72 = .ok (.iload_n 3, 1) := dk_29 (dk_at dksX9_sworn_3 0 rfl rfl)
theorem dX9_sworn_73 : decode cX9_sworn 73 = .ok (.iconst 1, 1) := dk_4 (dk_at dksX9_sworn_3 1 rfl rfl)
theorem dX9_sworn_74 : decode cX9_sworn 74 = .ok (.aload_n 0, 1) := dk_42 (dk_at dksX9_sworn_3 2 rfl rfl)
theorem dX9_sworn_75 : decode cX9_sworn 75 = .ok (.getfield 90, 3) := dk_180 0 90 (dk_at dksX9_sworn_3 3 rfl rfl)
theorem dX9_sworn_78 : decode cX9_sworn 78 = .ok (.iload 4, 2) := dk_21 4 (dk_at dksX9_sworn_3 6 rfl rfl)
theorem dX9_sworn_80 : decode cX9_sworn 80 = .ok (.iaload, 1) := dk_46 (dk_at dksX9_sworn_3 8 rfl rfl)
theorem dX9_sworn_81 : decode cX9_sworn 81 = .ok (.ishl, 1) := dk_120 (dk_at dksX9_sworn_3 9 rfl rfl)
theorem dX9_sworn_82 : decode cX9_sworn 82 = .ok (.ior, 1) := dk_128 (dk_at dksX9_sworn_3 10 rfl rfl)
theorem dX9_sworn_83 : decode cX9_sworn 83 = .ok (.istore_n 3, 1) := dk_62 (dk_at dksX9_sworn_3 11 rfl rfl)
theorem dX9_sworn_84 : decode cX9_sworn 84 = .ok (.iinc 4 1, 3) := dk_132 4 1 (dk_at dksX9_sworn_3 12 rfl rfl)
theorem dX9_sworn_87 : decode cX9_sworn 87 = .ok (.goto (-63), 3) := dk_167 255 193 (dk_at dksX9_sworn_3 15 rfl rfl)
theorem dX9_sworn_90 : decode cX9_sworn 90 = .ok (.iload_n 3, 1) := dk_29 (dk_at dksX9_sworn_3 18 rfl rfl)
theorem dX9_sworn_91 : decode cX9_sworn 91 = .ok (.ireturn, 1) := dk_172 (dk_at dksX9_sworn_3 19 rfl rfl)
abbrev cX9_isDeed : ByteArray := prog_24_method_47_code
def yX9_isDeed : MethodName := ⟨RX9, "isDeed", "(I)Z"⟩
def dkwX9_isDeed_0 : List UInt8 := [27, 3, 42, 180, 1, 170, 4, 100, 184, 1, 197, 172]
abbrev dktX9_isDeed_0 : List UInt8 := dkwX9_isDeed_0 ++ []
theorem dksX9_isDeed_0 : cX9_isDeed.data.toList.drop 0 = dktX9_isDeed_0 := by decide +kernel
theorem dX9_isDeed_0 : decode cX9_isDeed 0 = .ok (.iload_n 1, 1) := dk_27 (dk_at dksX9_isDeed_0 0 rfl rfl)
theorem dX9_isDeed_1 : decode cX9_isDeed 1 = .ok (.iconst 0, 1) := dk_3 (dk_at dksX9_isDeed_0 1 rfl rfl)
theorem dX9_isDeed_2 : decode cX9_isDeed 2 = .ok (.aload_n 0, 1) := dk_42 (dk_at dksX9_isDeed_0 2 rfl rfl)
theorem dX9_isDeed_3 : decode cX9_isDeed 3 = .ok (.getfield 426, 3) := dk_180 1 170 (dk_at dksX9_isDeed_0 3 rfl rfl)
theorem dX9_isDeed_6 : decode cX9_isDeed 6 = .ok (.iconst 1, 1) := dk_4 (dk_at dksX9_isDeed_0 6 rfl rfl)
theorem dX9_isDeed_7 : decode cX9_isDeed 7 = .ok (.isub, 1) := dk_100 (dk_at dksX9_isDeed_0 7 rfl rfl)
theorem dX9_isDeed_8 : decode cX9_isDeed 8 = .ok (.invokestatic 453, 3) := dk_184 1 197 (dk_at dksX9_isDeed_0 8 rfl rfl)
theorem dX9_isDeed_11 : decode cX9_isDeed 11 = .ok (.ireturn, 1) := dk_172 (dk_at dksX9_isDeed_0 11 rfl rfl)
abbrev cX9_isOn : ByteArray := prog_24_method_49_code
def yX9_isOn : MethodName := ⟨RX9, "isOn", "(I)Z"⟩
def dkwX9_isOn_0 : List UInt8 := [42, 180, 0, 118, 27, 46, 154, 0, 7, 4, 167, 0, 4, 3, 172]
abbrev dktX9_isOn_0 : List UInt8 := dkwX9_isOn_0 ++ []
theorem dksX9_isOn_0 : cX9_isOn.data.toList.drop 0 = dktX9_isOn_0 := by decide +kernel
theorem dX9_isOn_0 : decode cX9_isOn 0 = .ok (.aload_n 0, 1) := dk_42 (dk_at dksX9_isOn_0 0 rfl rfl)
theorem dX9_isOn_1 : decode cX9_isOn 1 = .ok (.getfield 118, 3) := dk_180 0 118 (dk_at dksX9_isOn_0 1 rfl rfl)
theorem dX9_isOn_4 : decode cX9_isOn 4 = .ok (.iload_n 1, 1) := dk_27 (dk_at dksX9_isOn_0 4 rfl rfl)
theorem dX9_isOn_5 : decode cX9_isOn 5 = .ok (.iaload, 1) := dk_46 (dk_at dksX9_isOn_0 5 rfl rfl)
theorem dX9_isOn_6 : decode cX9_isOn 6 = .ok (.ifCond .ne 7, 3) := dk_154 0 7 (dk_at dksX9_isOn_0 6 rfl rfl)
theorem dX9_isOn_9 : decode cX9_isOn 9 = .ok (.iconst 1, 1) := dk_4 (dk_at dksX9_isOn_0 9 rfl rfl)
theorem dX9_isOn_10 : decode cX9_isOn 10 = .ok (.goto 4, 3) := dk_167 0 4 (dk_at dksX9_isOn_0 10 rfl rfl)
theorem dX9_isOn_13 : decode cX9_isOn 13 = .ok (.iconst 0, 1) := dk_3 (dk_at dksX9_isOn_0 13 rfl rfl)
theorem dX9_isOn_14 : decode cX9_isOn 14 = .ok (.ireturn, 1) := dk_172 (dk_at dksX9_isOn_0 14 rfl rfl)
abbrev cX9_many : ByteArray := prog_24_method_54_code
def yX9_many : MethodName := ⟨RX9, "many", "(I)I"⟩
def dkwX9_many_2 : List UInt8 := [167, 255, 224, 28, 172]
abbrev dktX9_many_2 : List UInt8 := dkwX9_many_2 ++ []
def dkwX9_many_1 : List UInt8 := [42, 180, 0, 118, 29, 46, 27, 160, 0, 7, 4, 167, 0, 4, 3, 184, 1, 88, 96, 61, 132, 3, 1]
abbrev dktX9_many_1 : List UInt8 := dkwX9_many_1 ++ dktX9_many_2
def dkwX9_many_0 : List UInt8 := [27, 3, 7, 184, 1, 197, 154, 0, 5, 2, 172, 3, 61, 3, 62, 29, 42, 180, 1, 173, 162, 0, 30, 28]
abbrev dktX9_many_0 : List UInt8 := dkwX9_many_0 ++ dktX9_many_1
theorem dksX9_many_0 : cX9_many.data.toList.drop 0 = dktX9_many_0 := by decide +kernel
theorem dksX9_many_1 : cX9_many.data.toList.drop 24 = dktX9_many_1 := dk_seg dksX9_many_0 24 rfl rfl
theorem dksX9_many_2 : cX9_many.data.toList.drop 47 = dktX9_many_2 := dk_seg dksX9_many_1 23 rfl rfl
theorem dX9_many_0 : decode cX9_many 0 = .ok (.iload_n 1, 1) := dk_27 (dk_at dksX9_many_0 0 rfl rfl)
theorem dX9_many_1 : decode cX9_many 1 = .ok (.iconst 0, 1) := dk_3 (dk_at dksX9_many_0 1 rfl rfl)
theorem dX9_many_2 : decode cX9_many 2 = .ok (.iconst 4, 1) := dk_7 (dk_at dksX9_many_0 2 rfl rfl)
theorem dX9_many_3 : decode cX9_many 3 = .ok (.invokestatic 453, 3) := dk_184 1 197 (dk_at dksX9_many_0 3 rfl rfl)
theorem dX9_many_6 : decode cX9_many 6 = .ok (.ifCond .ne 5, 3) := dk_154 0 5 (dk_at dksX9_many_0 6 rfl rfl)
theorem dX9_many_9 : decode cX9_many 9 = .ok (.iconst (-1), 1) := dk_2 (dk_at dksX9_many_0 9 rfl rfl)
theorem dX9_many_10 : decode cX9_many 10 = .ok (.ireturn, 1) := dk_172 (dk_at dksX9_many_0 10 rfl rfl)
theorem dX9_many_11 : decode cX9_many 11 = .ok (.iconst 0, 1) := dk_3 (dk_at dksX9_many_0 11 rfl rfl)
theorem dX9_many_12 : decode cX9_many 12 = .ok (.istore_n 2, 1) := dk_61 (dk_at dksX9_many_0 12 rfl rfl)
theorem dX9_many_13 : decode cX9_many 13 = .ok (.iconst 0, 1) := dk_3 (dk_at dksX9_many_0 13 rfl rfl)
theorem dX9_many_14 : decode cX9_many 14 = .ok (.istore_n 3, 1) := dk_62 (dk_at dksX9_many_0 14 rfl rfl)
theorem dX9_many_15 : decode cX9_many 15 = .ok (.iload_n 3, 1) := dk_29 (dk_at dksX9_many_0 15 rfl rfl)
theorem dX9_many_16 : decode cX9_many 16 = .ok (.aload_n 0, 1) := dk_42 (dk_at dksX9_many_0 16 rfl rfl)
theorem dX9_many_17 : decode cX9_many 17 = .ok (.getfield 429, 3) := dk_180 1 173 (dk_at dksX9_many_0 17 rfl rfl)
theorem dX9_many_20 : decode cX9_many 20 = .ok (.if_icmp .ge 30, 3) := dk_162 0 30 (dk_at dksX9_many_0 20 rfl rfl)
theorem dX9_many_23 : decode cX9_many 23 = .ok (.iload_n 2, 1) := dk_28 (dk_at dksX9_many_0 23 rfl rfl)
theorem dX9_many_24 : decode cX9_many 24 = .ok (.aload_n 0, 1) := dk_42 (dk_at dksX9_many_1 0 rfl rfl)
theorem dX9_many_25 : decode cX9_many 25 = .ok (.getfield 118, 3) := dk_180 0 118 (dk_at dksX9_many_1 1 rfl rfl)
theorem dX9_many_28 : decode cX9_many 28 = .ok (.iload_n 3, 1) := dk_29 (dk_at dksX9_many_1 4 rfl rfl)
theorem dX9_many_29 : decode cX9_many 29 = .ok (.iaload, 1) := dk_46 (dk_at dksX9_many_1 5 rfl rfl)
theorem dX9_many_30 : decode cX9_many 30 = .ok (.iload_n 1, 1) := dk_27 (dk_at dksX9_many_1 6 rfl rfl)
theorem dX9_many_31 : decode cX9_many 31 = .ok (.if_icmp .ne 7, 3) := dk_160 0 7 (dk_at dksX9_many_1 7 rfl rfl)
theorem dX9_many_34 : decode cX9_many 34 = .ok (.iconst 1, 1) := dk_4 (dk_at dksX9_many_1 10 rfl rfl)
theorem dX9_many_35 : decode cX9_many 35 = .ok (.goto 4, 3) := dk_167 0 4 (dk_at dksX9_many_1 11 rfl rfl)
theorem dX9_many_38 : decode cX9_many 38 = .ok (.iconst 0, 1) := dk_3 (dk_at dksX9_many_1 14 rfl rfl)
theorem dX9_many_39 : decode cX9_many 39 = .ok (.invokestatic 344, 3) := dk_184 1 88 (dk_at dksX9_many_1 15 rfl rfl)
theorem dX9_many_42 : decode cX9_many 42 = .ok (.iadd, 1) := dk_96 (dk_at dksX9_many_1 18 rfl rfl)
theorem dX9_many_43 : decode cX9_many 43 = .ok (.istore_n 2, 1) := dk_61 (dk_at dksX9_many_1 19 rfl rfl)
theorem dX9_many_44 : decode cX9_many 44 = .ok (.iinc 3 1, 3) := dk_132 3 1 (dk_at dksX9_many_1 20 rfl rfl)
theorem dX9_many_47 : decode cX9_many 47 = .ok (.goto (-32), 3) := dk_167 255 224 (dk_at dksX9_many_2 0 rfl rfl)
theorem dX9_many_50 : decode cX9_many 50 = .ok (.iload_n 2, 1) := dk_28 (dk_at dksX9_many_2 3 rfl rfl)
theorem dX9_many_51 : decode cX9_many 51 = .ok (.ireturn, 1) := dk_172 (dk_at dksX9_many_2 4 rfl rfl)
abbrev cX9_does : ByteArray := prog_24_method_57_code
def yX9_does : MethodName := ⟨RX9, "does", "(II)I"⟩
def dkwX9_does_6 : List UInt8 := [21, 4, 96, 172]
abbrev dktX9_does_6 : List UInt8 := dkwX9_does_6 ++ []
def dkwX9_does_5 : List UInt8 := [154, 0, 7, 4, 167, 0, 4, 3, 184, 1, 88, 96, 54, 4, 132, 5, 1, 167, 255, 152, 16, 100, 29, 104]
abbrev dktX9_does_5 : List UInt8 := dkwX9_does_5 ++ dktX9_does_6
def dkwX9_does_4 : List UInt8 := [79, 29, 42, 180, 0, 112, 21, 5, 51, 184, 1, 88, 96, 62, 21, 4, 42, 180, 0, 112, 21, 5, 51]
abbrev dktX9_does_4 : List UInt8 := dkwX9_does_4 ++ dktX9_does_5
def dkwX9_does_3 : List UInt8 := [167, 0, 61, 42, 180, 0, 118, 21, 5, 42, 180, 0, 112, 21, 5, 51, 153, 0, 7, 4, 167, 0, 4, 6]
abbrev dktX9_does_3 : List UInt8 := dkwX9_does_3 ++ dktX9_does_4
def dkwX9_does_2 : List UInt8 := [42, 180, 0, 90, 21, 5, 46, 27, 160, 0, 75, 42, 180, 0, 96, 21, 5, 46, 28, 159, 0, 6]
abbrev dktX9_does_2 : List UInt8 := dkwX9_does_2 ++ dktX9_does_3
def dkwX9_does_1 : List UInt8 := [3, 54, 4, 3, 54, 5, 21, 5, 42, 180, 1, 173, 162, 0, 101, 42, 21, 5, 182, 1, 213, 153, 0, 86]
abbrev dktX9_does_1 : List UInt8 := dkwX9_does_1 ++ dktX9_does_2
def dkwX9_does_0 : List UInt8 := [42, 27, 182, 1, 204, 153, 0, 11, 42, 28, 182, 1, 210, 154, 0, 5, 2, 172, 42, 182, 1, 216, 3, 62]
abbrev dktX9_does_0 : List UInt8 := dkwX9_does_0 ++ dktX9_does_1
theorem dksX9_does_0 : cX9_does.data.toList.drop 0 = dktX9_does_0 := by decide +kernel
theorem dksX9_does_1 : cX9_does.data.toList.drop 24 = dktX9_does_1 := dk_seg dksX9_does_0 24 rfl rfl
theorem dksX9_does_2 : cX9_does.data.toList.drop 48 = dktX9_does_2 := dk_seg dksX9_does_1 24 rfl rfl
theorem dksX9_does_3 : cX9_does.data.toList.drop 70 = dktX9_does_3 := dk_seg dksX9_does_2 22 rfl rfl
theorem dksX9_does_4 : cX9_does.data.toList.drop 94 = dktX9_does_4 := dk_seg dksX9_does_3 24 rfl rfl
theorem dksX9_does_5 : cX9_does.data.toList.drop 117 = dktX9_does_5 := dk_seg dksX9_does_4 23 rfl rfl
theorem dksX9_does_6 : cX9_does.data.toList.drop 141 = dktX9_does_6 := dk_seg dksX9_does_5 24 rfl rfl
theorem dX9_does_0 : decode cX9_does 0 = .ok (.aload_n 0, 1) := dk_42 (dk_at dksX9_does_0 0 rfl rfl)
theorem dX9_does_1 : decode cX9_does 1 = .ok (.iload_n 1, 1) := dk_27 (dk_at dksX9_does_0 1 rfl rfl)
theorem dX9_does_2 : decode cX9_does 2 = .ok (.invokevirtual 460, 3) := dk_182 1 204 (dk_at dksX9_does_0 2 rfl rfl)
theorem dX9_does_5 : decode cX9_does 5 = .ok (.ifCond .eq 11, 3) := dk_153 0 11 (dk_at dksX9_does_0 5 rfl rfl)
theorem dX9_does_8 : decode cX9_does 8 = .ok (.aload_n 0, 1) := dk_42 (dk_at dksX9_does_0 8 rfl rfl)
theorem dX9_does_9 : decode cX9_does 9 = .ok (.iload_n 2, 1) := dk_28 (dk_at dksX9_does_0 9 rfl rfl)
theorem dX9_does_10 : decode cX9_does 10 = .ok (.invokevirtual 466, 3) := dk_182 1 210 (dk_at dksX9_does_0 10 rfl rfl)
theorem dX9_does_13 : decode cX9_does 13 = .ok (.ifCond .ne 5, 3) := dk_154 0 5 (dk_at dksX9_does_0 13 rfl rfl)
theorem dX9_does_16 : decode cX9_does 16 = .ok (.iconst (-1), 1) := dk_2 (dk_at dksX9_does_0 16 rfl rfl)
theorem dX9_does_17 : decode cX9_does 17 = .ok (.ireturn, 1) := dk_172 (dk_at dksX9_does_0 17 rfl rfl)
theorem dX9_does_18 : decode cX9_does 18 = .ok (.aload_n 0, 1) := dk_42 (dk_at dksX9_does_0 18 rfl rfl)
theorem dX9_does_19 : decode cX9_does 19 = .ok (.invokevirtual 472, 3) := dk_182 1 216 (dk_at dksX9_does_0 19 rfl rfl)
theorem dX9_does_22 : decode cX9_does 22 = .ok (.iconst 0, 1) := dk_3 (dk_at dksX9_does_0 22 rfl rfl)
theorem dX9_does_23 : decode cX9_does 23 = .ok (.istore_n 3, 1) := dk_62 (dk_at dksX9_does_0 23 rfl rfl)
theorem dX9_does_24 : decode cX9_does 24 = .ok (.iconst 0, 1) := dk_3 (dk_at dksX9_does_1 0 rfl rfl)
theorem dX9_does_25 : decode cX9_does 25 = .ok (.istore 4, 2) := dk_54 4 (dk_at dksX9_does_1 1 rfl rfl)
theorem dX9_does_27 : decode cX9_does 27 = .ok (.iconst 0, 1) := dk_3 (dk_at dksX9_does_1 3 rfl rfl)
theorem dX9_does_28 : decode cX9_does 28 = .ok (.istore 5, 2) := dk_54 5 (dk_at dksX9_does_1 4 rfl rfl)
theorem dX9_does_30 : decode cX9_does 30 = .ok (.iload 5, 2) := dk_21 5 (dk_at dksX9_does_1 6 rfl rfl)
theorem dX9_does_32 : decode cX9_does 32 = .ok (.aload_n 0, 1) := dk_42 (dk_at dksX9_does_1 8 rfl rfl)
theorem dX9_does_33 : decode cX9_does 33 = .ok (.getfield 429, 3) := dk_180 1 173 (dk_at dksX9_does_1 9 rfl rfl)
theorem dX9_does_36 : decode cX9_does 36 = .ok (.if_icmp .ge 101, 3) := dk_162 0 101 (dk_at dksX9_does_1 12 rfl rfl)
theorem dX9_does_39 : decode cX9_does 39 = .ok (.aload_n 0, 1) := dk_42 (dk_at dksX9_does_1 15 rfl rfl)
theorem dX9_does_40 : decode cX9_does 40 = .ok (.iload 5, 2) := dk_21 5 (dk_at dksX9_does_1 16 rfl rfl)
theorem dX9_does_42 : decode cX9_does 42 = .ok (.invokevirtual 469, 3) := dk_182 1 213 (dk_at dksX9_does_1 18 rfl rfl)
theorem dX9_does_45 : decode cX9_does 45 = .ok (.ifCond .eq 86, 3) := dk_153 0 86 (dk_at dksX9_does_1 21 rfl rfl)
theorem dX9_does_48 : decode cX9_does 48 = .ok (.aload_n 0, 1) := dk_42 (dk_at dksX9_does_2 0 rfl rfl)
theorem dX9_does_49 : decode cX9_does 49 = .ok (.getfield 90, 3) := dk_180 0 90 (dk_at dksX9_does_2 1 rfl rfl)
theorem dX9_does_52 : decode cX9_does 52 = .ok (.iload 5, 2) := dk_21 5 (dk_at dksX9_does_2 4 rfl rfl)
theorem dX9_does_54 : decode cX9_does 54 = .ok (.iaload, 1) := dk_46 (dk_at dksX9_does_2 6 rfl rfl)
theorem dX9_does_55 : decode cX9_does 55 = .ok (.iload_n 1, 1) := dk_27 (dk_at dksX9_does_2 7 rfl rfl)
theorem dX9_does_56 : decode cX9_does 56 = .ok (.if_icmp .ne 75, 3) := dk_160 0 75 (dk_at dksX9_does_2 8 rfl rfl)
theorem dX9_does_59 : decode cX9_does 59 = .ok (.aload_n 0, 1) := dk_42 (dk_at dksX9_does_2 11 rfl rfl)
theorem dX9_does_60 : decode cX9_does 60 = .ok (.getfield 96, 3) := dk_180 0 96 (dk_at dksX9_does_2 12 rfl rfl)
theorem dX9_does_63 : decode cX9_does 63 = .ok (.iload 5, 2) := dk_21 5 (dk_at dksX9_does_2 15 rfl rfl)
theorem dX9_does_65 : decode cX9_does 65 = .ok (.iaload, 1) := dk_46 (dk_at dksX9_does_2 17 rfl rfl)
theorem dX9_does_66 : decode cX9_does 66 = .ok (.iload_n 2, 1) := dk_28 (dk_at dksX9_does_2 18 rfl rfl)
theorem dX9_does_67 : decode cX9_does 67 = .ok (.if_icmp .eq 6, 3) := dk_159 0 6 (dk_at dksX9_does_2 19 rfl rfl)
theorem dX9_does_70 : decode cX9_does 70 = .ok (.goto 61, 3) := dk_167 0 61 (dk_at dksX9_does_3 0 rfl rfl)
theorem dX9_does_73 : decode cX9_does 73 = .ok (.aload_n 0, 1) := dk_42 (dk_at dksX9_does_3 3 rfl rfl)
theorem dX9_does_74 : decode cX9_does 74 = .ok (.getfield 118, 3) := dk_180 0 118 (dk_at dksX9_does_3 4 rfl rfl)
theorem dX9_does_77 : decode cX9_does 77 = .ok (.iload 5, 2) := dk_21 5 (dk_at dksX9_does_3 7 rfl rfl)
theorem dX9_does_79 : decode cX9_does 79 = .ok (.aload_n 0, 1) := dk_42 (dk_at dksX9_does_3 9 rfl rfl)
theorem dX9_does_80 : decode cX9_does 80 = .ok (.getfield 112, 3) := dk_180 0 112 (dk_at dksX9_does_3 10 rfl rfl)
theorem dX9_does_83 : decode cX9_does 83 = .ok (.iload 5, 2) := dk_21 5 (dk_at dksX9_does_3 13 rfl rfl)
theorem dX9_does_85 : decode cX9_does 85 = .ok (.baload, 1) := dk_51 (dk_at dksX9_does_3 15 rfl rfl)
theorem dX9_does_86 : decode cX9_does 86 = .ok (.ifCond .eq 7, 3) := dk_153 0 7 (dk_at dksX9_does_3 16 rfl rfl)
theorem dX9_does_89 : decode cX9_does 89 = .ok (.iconst 1, 1) := dk_4 (dk_at dksX9_does_3 19 rfl rfl)
theorem dX9_does_90 : decode cX9_does 90 = .ok (.goto 4, 3) := dk_167 0 4 (dk_at dksX9_does_3 20 rfl rfl)
theorem dX9_does_93 : decode cX9_does 93 = .ok (.iconst 3, 1) := dk_6 (dk_at dksX9_does_3 23 rfl rfl)
theorem dX9_does_94 : decode cX9_does 94 = .ok (.iastore, 1) := dk_79 (dk_at dksX9_does_4 0 rfl rfl)
theorem dX9_does_95 : decode cX9_does 95 = .ok (.iload_n 3, 1) := dk_29 (dk_at dksX9_does_4 1 rfl rfl)
theorem dX9_does_96 : decode cX9_does 96 = .ok (.aload_n 0, 1) := dk_42 (dk_at dksX9_does_4 2 rfl rfl)
theorem dX9_does_97 : decode cX9_does 97 = .ok (.getfield 112, 3) := dk_180 0 112 (dk_at dksX9_does_4 3 rfl rfl)
theorem dX9_does_100 : decode cX9_does 100 = .ok (.iload 5, 2) := dk_21 5 (dk_at dksX9_does_4 6 rfl rfl)
theorem dX9_does_102 : decode cX9_does 102 = .ok (.baload, 1) := dk_51 (dk_at dksX9_does_4 8 rfl rfl)
theorem dX9_does_103 : decode cX9_does 103 = .ok (.invokestatic 344, 3) := dk_184 1 88 (dk_at dksX9_does_4 9 rfl rfl)
theorem dX9_does_106 : decode cX9_does 106 = .ok (.iadd, 1) := dk_96 (dk_at dksX9_does_4 12 rfl rfl)
theorem dX9_does_107 : decode cX9_does 107 = .ok (.istore_n 3, 1) := dk_62 (dk_at dksX9_does_4 13 rfl rfl)
theorem dX9_does_108 : decode cX9_does 108 = .ok (.iload 4, 2) := dk_21 4 (dk_at dksX9_does_4 14 rfl rfl)
theorem dX9_does_110 : decode cX9_does 110 = .ok (.aload_n 0, 1) := dk_42 (dk_at dksX9_does_4 16 rfl rfl)
theorem dX9_does_111 : decode cX9_does 111 = .ok (.getfield 112, 3) := dk_180 0 112 (dk_at dksX9_does_4 17 rfl rfl)
theorem dX9_does_114 : decode cX9_does 114 = .ok (.iload 5, 2) := dk_21 5 (dk_at dksX9_does_4 20 rfl rfl)
theorem dX9_does_116 : decode cX9_does 116 = .ok (.baload, 1) := dk_51 (dk_at dksX9_does_4 22 rfl rfl)
theorem dX9_does_117 : decode cX9_does 117 = .ok (.ifCond .ne 7, 3) := dk_154 0 7 (dk_at dksX9_does_5 0 rfl rfl)
theorem dX9_does_120 : decode cX9_does 120 = .ok (.iconst 1, 1) := dk_4 (dk_at dksX9_does_5 3 rfl rfl)
theorem dX9_does_121 : decode cX9_does 121 = .ok (.goto 4, 3) := dk_167 0 4 (dk_at dksX9_does_5 4 rfl rfl)
theorem dX9_does_124 : decode cX9_does 124 = .ok (.iconst 0, 1) := dk_3 (dk_at dksX9_does_5 7 rfl rfl)
theorem dX9_does_125 : decode cX9_does 125 = .ok (.invokestatic 344, 3) := dk_184 1 88 (dk_at dksX9_does_5 8 rfl rfl)
theorem dX9_does_128 : decode cX9_does 128 = .ok (.iadd, 1) := dk_96 (dk_at dksX9_does_5 11 rfl rfl)
theorem dX9_does_129 : decode cX9_does 129 = .ok (.istore 4, 2) := dk_54 4 (dk_at dksX9_does_5 12 rfl rfl)
theorem dX9_does_131 : decode cX9_does 131 = .ok (.iinc 5 1, 3) := dk_132 5 1 (dk_at dksX9_does_5 14 rfl rfl)
theorem dX9_does_134 : decode cX9_does 134 = .ok (.goto (-104), 3) := dk_167 255 152 (dk_at dksX9_does_5 17 rfl rfl)
theorem dX9_does_137 : decode cX9_does 137 = .ok (.bipush 100, 2) := dk_16 100 (dk_at dksX9_does_5 20 rfl rfl)
theorem dX9_does_139 : decode cX9_does 139 = .ok (.iload_n 3, 1) := dk_29 (dk_at dksX9_does_5 22 rfl rfl)
theorem dX9_does_140 : decode cX9_does 140 = .ok (.imul, 1) := dk_104 (dk_at dksX9_does_5 23 rfl rfl)
theorem dX9_does_141 : decode cX9_does 141 = .ok (.iload 4, 2) := dk_21 4 (dk_at dksX9_does_6 0 rfl rfl)
theorem dX9_does_143 : decode cX9_does 143 = .ok (.iadd, 1) := dk_96 (dk_at dksX9_does_6 2 rfl rfl)
theorem dX9_does_144 : decode cX9_does 144 = .ok (.ireturn, 1) := dk_172 (dk_at dksX9_does_6 3 rfl rfl)
abbrev cX9_act : ByteArray := prog_24_method_55_code
def yX9_act : MethodName := ⟨RX9, "act", "()V"⟩
def dkwX9_act_4 : List UInt8 := [3, 181, 1, 188, 177]
abbrev dktX9_act_4 : List UInt8 := dkwX9_act_4 ++ []
def dkwX9_act_3 : List UInt8 := [42, 180, 0, 118, 27, 46, 79, 132, 1, 1, 167, 255, 227, 42, 89, 180, 1, 185, 4, 96, 181, 1, 185, 42]
abbrev dktX9_act_3 : List UInt8 := dkwX9_act_3 ++ dktX9_act_4
def dkwX9_act_2 : List UInt8 := [181, 1, 185, 3, 60, 27, 16, 23, 162, 0, 29, 42, 180, 0, 121, 16, 24, 42, 180, 1, 185, 104, 27, 96]
abbrev dktX9_act_2 : List UInt8 := dkwX9_act_2 ++ dktX9_act_3
def dkwX9_act_1 : List UInt8 := [180, 0, 121, 16, 24, 27, 96, 46, 79, 132, 1, 1, 167, 255, 231, 42, 89, 180, 1, 185, 4, 100]
abbrev dktX9_act_1 : List UInt8 := dkwX9_act_1 ++ dktX9_act_2
def dkwX9_act_0 : List UInt8 := [42, 180, 1, 185, 16, 40, 160, 0, 43, 3, 60, 27, 17, 3, 168, 162, 0, 24, 42, 180, 0, 121, 27, 42]
abbrev dktX9_act_0 : List UInt8 := dkwX9_act_0 ++ dktX9_act_1
theorem dksX9_act_0 : cX9_act.data.toList.drop 0 = dktX9_act_0 := by decide +kernel
theorem dksX9_act_1 : cX9_act.data.toList.drop 24 = dktX9_act_1 := dk_seg dksX9_act_0 24 rfl rfl
theorem dksX9_act_2 : cX9_act.data.toList.drop 46 = dktX9_act_2 := dk_seg dksX9_act_1 22 rfl rfl
theorem dksX9_act_3 : cX9_act.data.toList.drop 70 = dktX9_act_3 := dk_seg dksX9_act_2 24 rfl rfl
theorem dksX9_act_4 : cX9_act.data.toList.drop 94 = dktX9_act_4 := dk_seg dksX9_act_3 24 rfl rfl
theorem dX9_act_0 : decode cX9_act 0 = .ok (.aload_n 0, 1) := dk_42 (dk_at dksX9_act_0 0 rfl rfl)
theorem dX9_act_1 : decode cX9_act 1 = .ok (.getfield 441, 3) := dk_180 1 185 (dk_at dksX9_act_0 1 rfl rfl)
theorem dX9_act_4 : decode cX9_act 4 = .ok (.bipush 40, 2) := dk_16 40 (dk_at dksX9_act_0 4 rfl rfl)
theorem dX9_act_6 : decode cX9_act 6 = .ok (.if_icmp .ne 43, 3) := dk_160 0 43 (dk_at dksX9_act_0 6 rfl rfl)
theorem dX9_act_9 : decode cX9_act 9 = .ok (.iconst 0, 1) := dk_3 (dk_at dksX9_act_0 9 rfl rfl)
theorem dX9_act_10 : decode cX9_act 10 = .ok (.istore_n 1, 1) := dk_60 (dk_at dksX9_act_0 10 rfl rfl)
theorem dX9_act_11 : decode cX9_act 11 = .ok (.iload_n 1, 1) := dk_27 (dk_at dksX9_act_0 11 rfl rfl)
theorem dX9_act_12 : decode cX9_act 12 = .ok (.sipush 936, 3) := dk_17 3 168 (dk_at dksX9_act_0 12 rfl rfl)
theorem dX9_act_15 : decode cX9_act 15 = .ok (.if_icmp .ge 24, 3) := dk_162 0 24 (dk_at dksX9_act_0 15 rfl rfl)
theorem dX9_act_18 : decode cX9_act 18 = .ok (.aload_n 0, 1) := dk_42 (dk_at dksX9_act_0 18 rfl rfl)
theorem dX9_act_19 : decode cX9_act 19 = .ok (.getfield 121, 3) := dk_180 0 121 (dk_at dksX9_act_0 19 rfl rfl)
theorem dX9_act_22 : decode cX9_act 22 = .ok (.iload_n 1, 1) := dk_27 (dk_at dksX9_act_0 22 rfl rfl)
theorem dX9_act_23 : decode cX9_act 23 = .ok (.aload_n 0, 1) := dk_42 (dk_at dksX9_act_0 23 rfl rfl)
theorem dX9_act_24 : decode cX9_act 24 = .ok (.getfield 121, 3) := dk_180 0 121 (dk_at dksX9_act_1 0 rfl rfl)
theorem dX9_act_27 : decode cX9_act 27 = .ok (.bipush 24, 2) := dk_16 24 (dk_at dksX9_act_1 3 rfl rfl)
theorem dX9_act_29 : decode cX9_act 29 = .ok (.iload_n 1, 1) := dk_27 (dk_at dksX9_act_1 5 rfl rfl)
theorem dX9_act_30 : decode cX9_act 30 = .ok (.iadd, 1) := dk_96 (dk_at dksX9_act_1 6 rfl rfl)
theorem dX9_act_31 : decode cX9_act 31 = .ok (.iaload, 1) := dk_46 (dk_at dksX9_act_1 7 rfl rfl)
theorem dX9_act_32 : decode cX9_act 32 = .ok (.iastore, 1) := dk_79 (dk_at dksX9_act_1 8 rfl rfl)
theorem dX9_act_33 : decode cX9_act 33 = .ok (.iinc 1 1, 3) := dk_132 1 1 (dk_at dksX9_act_1 9 rfl rfl)
theorem dX9_act_36 : decode cX9_act 36 = .ok (.goto (-25), 3) := dk_167 255 231 (dk_at dksX9_act_1 12 rfl rfl)
theorem dX9_act_39 : decode cX9_act 39 = .ok (.aload_n 0, 1) := dk_42 (dk_at dksX9_act_1 15 rfl rfl)
theorem dX9_act_40 : decode cX9_act 40 = .ok (.dup, 1) := dk_89 (dk_at dksX9_act_1 16 rfl rfl)
theorem dX9_act_41 : decode cX9_act 41 = .ok (.getfield 441, 3) := dk_180 1 185 (dk_at dksX9_act_1 17 rfl rfl)
theorem dX9_act_44 : decode cX9_act 44 = .ok (.iconst 1, 1) := dk_4 (dk_at dksX9_act_1 20 rfl rfl)
theorem dX9_act_45 : decode cX9_act 45 = .ok (.isub, 1) := dk_100 (dk_at dksX9_act_1 21 rfl rfl)
theorem dX9_act_46 : decode cX9_act 46 = .ok (.putfield 441, 3) := dk_181 1 185 (dk_at dksX9_act_2 0 rfl rfl)
theorem dX9_act_49 : decode cX9_act 49 = .ok (.iconst 0, 1) := dk_3 (dk_at dksX9_act_2 3 rfl rfl)
theorem dX9_act_50 : decode cX9_act 50 = .ok (.istore_n 1, 1) := dk_60 (dk_at dksX9_act_2 4 rfl rfl)
theorem dX9_act_51 : decode cX9_act 51 = .ok (.iload_n 1, 1) := dk_27 (dk_at dksX9_act_2 5 rfl rfl)
theorem dX9_act_52 : decode cX9_act 52 = .ok (.bipush 23, 2) := dk_16 23 (dk_at dksX9_act_2 6 rfl rfl)
theorem dX9_act_54 : decode cX9_act 54 = .ok (.if_icmp .ge 29, 3) := dk_162 0 29 (dk_at dksX9_act_2 8 rfl rfl)
theorem dX9_act_57 : decode cX9_act 57 = .ok (.aload_n 0, 1) := dk_42 (dk_at dksX9_act_2 11 rfl rfl)
theorem dX9_act_58 : decode cX9_act 58 = .ok (.getfield 121, 3) := dk_180 0 121 (dk_at dksX9_act_2 12 rfl rfl)
theorem dX9_act_61 : decode cX9_act 61 = .ok (.bipush 24, 2) := dk_16 24 (dk_at dksX9_act_2 15 rfl rfl)
theorem dX9_act_63 : decode cX9_act 63 = .ok (.aload_n 0, 1) := dk_42 (dk_at dksX9_act_2 17 rfl rfl)
theorem dX9_act_64 : decode cX9_act 64 = .ok (.getfield 441, 3) := dk_180 1 185 (dk_at dksX9_act_2 18 rfl rfl)
theorem dX9_act_67 : decode cX9_act 67 = .ok (.imul, 1) := dk_104 (dk_at dksX9_act_2 21 rfl rfl)
theorem dX9_act_68 : decode cX9_act 68 = .ok (.iload_n 1, 1) := dk_27 (dk_at dksX9_act_2 22 rfl rfl)
theorem dX9_act_69 : decode cX9_act 69 = .ok (.iadd, 1) := dk_96 (dk_at dksX9_act_2 23 rfl rfl)
theorem dX9_act_70 : decode cX9_act 70 = .ok (.aload_n 0, 1) := dk_42 (dk_at dksX9_act_3 0 rfl rfl)
theorem dX9_act_71 : decode cX9_act 71 = .ok (.getfield 118, 3) := dk_180 0 118 (dk_at dksX9_act_3 1 rfl rfl)
theorem dX9_act_74 : decode cX9_act 74 = .ok (.iload_n 1, 1) := dk_27 (dk_at dksX9_act_3 4 rfl rfl)
theorem dX9_act_75 : decode cX9_act 75 = .ok (.iaload, 1) := dk_46 (dk_at dksX9_act_3 5 rfl rfl)
theorem dX9_act_76 : decode cX9_act 76 = .ok (.iastore, 1) := dk_79 (dk_at dksX9_act_3 6 rfl rfl)
theorem dX9_act_77 : decode cX9_act 77 = .ok (.iinc 1 1, 3) := dk_132 1 1 (dk_at dksX9_act_3 7 rfl rfl)
theorem dX9_act_80 : decode cX9_act 80 = .ok (.goto (-29), 3) := dk_167 255 227 (dk_at dksX9_act_3 10 rfl rfl)
theorem dX9_act_83 : decode cX9_act 83 = .ok (.aload_n 0, 1) := dk_42 (dk_at dksX9_act_3 13 rfl rfl)
theorem dX9_act_84 : decode cX9_act 84 = .ok (.dup, 1) := dk_89 (dk_at dksX9_act_3 14 rfl rfl)
theorem dX9_act_85 : decode cX9_act 85 = .ok (.getfield 441, 3) := dk_180 1 185 (dk_at dksX9_act_3 15 rfl rfl)
theorem dX9_act_88 : decode cX9_act 88 = .ok (.iconst 1, 1) := dk_4 (dk_at dksX9_act_3 18 rfl rfl)
theorem dX9_act_89 : decode cX9_act 89 = .ok (.iadd, 1) := dk_96 (dk_at dksX9_act_3 19 rfl rfl)
theorem dX9_act_90 : decode cX9_act 90 = .ok (.putfield 441, 3) := dk_181 1 185 (dk_at dksX9_act_3 20 rfl rfl)
theorem dX9_act_93 : decode cX9_act 93 = .ok (.aload_n 0, 1) := dk_42 (dk_at dksX9_act_3 23 rfl rfl)
theorem dX9_act_94 : decode cX9_act 94 = .ok (.iconst 0, 1) := dk_3 (dk_at dksX9_act_4 0 rfl rfl)
theorem dX9_act_95 : decode cX9_act 95 = .ok (.putfield 444, 3) := dk_181 1 188 (dk_at dksX9_act_4 1 rfl rfl)
theorem dX9_act_98 : decode cX9_act 98 = .ok (.return_, 1) := dk_177 (dk_at dksX9_act_4 4 rfl rfl)
abbrev cX9_undoes : ByteArray := prog_24_method_58_code
def yX9_undoes : MethodName := ⟨RX9, "undoes", "(I)Z"⟩
def dkwX9_undoes_2 : List UInt8 := [180, 0, 118, 27, 5, 79, 4, 172]
abbrev dktX9_undoes_2 : List UInt8 := dkwX9_undoes_2 ++ []
def dkwX9_undoes_1 : List UInt8 := [155, 0, 18, 42, 42, 180, 0, 105, 27, 46, 182, 1, 213, 153, 0, 5, 3, 172, 42, 182, 1, 216, 42]
abbrev dktX9_undoes_1 : List UInt8 := dkwX9_undoes_1 ++ dktX9_undoes_2
def dkwX9_undoes_0 : List UInt8 := [42, 27, 182, 1, 201, 153, 0, 33, 42, 27, 182, 1, 213, 153, 0, 25, 42, 180, 0, 105, 27, 46]
abbrev dktX9_undoes_0 : List UInt8 := dkwX9_undoes_0 ++ dktX9_undoes_1
theorem dksX9_undoes_0 : cX9_undoes.data.toList.drop 0 = dktX9_undoes_0 := by decide +kernel
theorem dksX9_undoes_1 : cX9_undoes.data.toList.drop 22 = dktX9_undoes_1 := dk_seg dksX9_undoes_0 22 rfl rfl
theorem dksX9_undoes_2 : cX9_undoes.data.toList.drop 45 = dktX9_undoes_2 := dk_seg dksX9_undoes_1 23 rfl rfl
theorem dX9_undoes_0 : decode cX9_undoes 0 = .ok (.aload_n 0, 1) := dk_42 (dk_at dksX9_undoes_0 0 rfl rfl)
theorem dX9_undoes_1 : decode cX9_undoes 1 = .ok (.iload_n 1, 1) := dk_27 (dk_at dksX9_undoes_0 1 rfl rfl)
theorem dX9_undoes_2 : decode cX9_undoes 2 = .ok (.invokevirtual 457, 3) := dk_182 1 201 (dk_at dksX9_undoes_0 2 rfl rfl)
theorem dX9_undoes_5 : decode cX9_undoes 5 = .ok (.ifCond .eq 33, 3) := dk_153 0 33 (dk_at dksX9_undoes_0 5 rfl rfl)
theorem dX9_undoes_8 : decode cX9_undoes 8 = .ok (.aload_n 0, 1) := dk_42 (dk_at dksX9_undoes_0 8 rfl rfl)
theorem dX9_undoes_9 : decode cX9_undoes 9 = .ok (.iload_n 1, 1) := dk_27 (dk_at dksX9_undoes_0 9 rfl rfl)
theorem dX9_undoes_10 : decode cX9_undoes 10 = .ok (.invokevirtual 469, 3) := dk_182 1 213 (dk_at dksX9_undoes_0 10 rfl rfl)
theorem dX9_undoes_13 : decode cX9_undoes 13 = .ok (.ifCond .eq 25, 3) := dk_153 0 25 (dk_at dksX9_undoes_0 13 rfl rfl)
theorem dX9_undoes_16 : decode cX9_undoes 16 = .ok (.aload_n 0, 1) := dk_42 (dk_at dksX9_undoes_0 16 rfl rfl)
theorem dX9_undoes_17 : decode cX9_undoes 17 = .ok (.getfield 105, 3) := dk_180 0 105 (dk_at dksX9_undoes_0 17 rfl rfl)
theorem dX9_undoes_20 : decode cX9_undoes 20 = .ok (.iload_n 1, 1) := dk_27 (dk_at dksX9_undoes_0 20 rfl rfl)
theorem dX9_undoes_21 : decode cX9_undoes 21 = .ok (.iaload, 1) := dk_46 (dk_at dksX9_undoes_0 21 rfl rfl)
theorem dX9_undoes_22 : decode cX9_undoes 22 = .ok (.ifCond .lt 18, 3) := dk_155 0 18 (dk_at dksX9_undoes_1 0 rfl rfl)
theorem dX9_undoes_25 : decode cX9_undoes 25 = .ok (.aload_n 0, 1) := dk_42 (dk_at dksX9_undoes_1 3 rfl rfl)
theorem dX9_undoes_26 : decode cX9_undoes 26 = .ok (.aload_n 0, 1) := dk_42 (dk_at dksX9_undoes_1 4 rfl rfl)
theorem dX9_undoes_27 : decode cX9_undoes 27 = .ok (.getfield 105, 3) := dk_180 0 105 (dk_at dksX9_undoes_1 5 rfl rfl)
theorem dX9_undoes_30 : decode cX9_undoes 30 = .ok (.iload_n 1, 1) := dk_27 (dk_at dksX9_undoes_1 8 rfl rfl)
theorem dX9_undoes_31 : decode cX9_undoes 31 = .ok (.iaload, 1) := dk_46 (dk_at dksX9_undoes_1 9 rfl rfl)
theorem dX9_undoes_32 : decode cX9_undoes 32 = .ok (.invokevirtual 469, 3) := dk_182 1 213 (dk_at dksX9_undoes_1 10 rfl rfl)
theorem dX9_undoes_35 : decode cX9_undoes 35 = .ok (.ifCond .eq 5, 3) := dk_153 0 5 (dk_at dksX9_undoes_1 13 rfl rfl)
theorem dX9_undoes_38 : decode cX9_undoes 38 = .ok (.iconst 0, 1) := dk_3 (dk_at dksX9_undoes_1 16 rfl rfl)
theorem dX9_undoes_39 : decode cX9_undoes 39 = .ok (.ireturn, 1) := dk_172 (dk_at dksX9_undoes_1 17 rfl rfl)
theorem dX9_undoes_40 : decode cX9_undoes 40 = .ok (.aload_n 0, 1) := dk_42 (dk_at dksX9_undoes_1 18 rfl rfl)
theorem dX9_undoes_41 : decode cX9_undoes 41 = .ok (.invokevirtual 472, 3) := dk_182 1 216 (dk_at dksX9_undoes_1 19 rfl rfl)
theorem dX9_undoes_44 : decode cX9_undoes 44 = .ok (.aload_n 0, 1) := dk_42 (dk_at dksX9_undoes_1 22 rfl rfl)
theorem dX9_undoes_45 : decode cX9_undoes 45 = .ok (.getfield 118, 3) := dk_180 0 118 (dk_at dksX9_undoes_2 0 rfl rfl)
theorem dX9_undoes_48 : decode cX9_undoes 48 = .ok (.iload_n 1, 1) := dk_27 (dk_at dksX9_undoes_2 3 rfl rfl)
theorem dX9_undoes_49 : decode cX9_undoes 49 = .ok (.iconst 2, 1) := dk_5 (dk_at dksX9_undoes_2 4 rfl rfl)
theorem dX9_undoes_50 : decode cX9_undoes 50 = .ok (.iastore, 1) := dk_79 (dk_at dksX9_undoes_2 5 rfl rfl)
theorem dX9_undoes_51 : decode cX9_undoes 51 = .ok (.iconst 1, 1) := dk_4 (dk_at dksX9_undoes_2 6 rfl rfl)
theorem dX9_undoes_52 : decode cX9_undoes 52 = .ok (.ireturn, 1) := dk_172 (dk_at dksX9_undoes_2 7 rfl rfl)
abbrev cX9_cut : ByteArray := prog_24_method_59_code
def yX9_cut : MethodName := ⟨RX9, "cut", "(I)I"⟩
def dkwX9_cut_2 : List UInt8 := [4, 96, 79, 42, 180, 0, 118, 16, 22, 46, 172]
abbrev dktX9_cut_2 : List UInt8 := dkwX9_cut_2 ++ []
def dkwX9_cut_1 : List UInt8 := [160, 0, 5, 2, 172, 42, 182, 1, 216, 42, 180, 0, 118, 27, 5, 79, 42, 180, 0, 118, 16, 22, 92, 46]
abbrev dktX9_cut_1 : List UInt8 := dkwX9_cut_1 ++ dktX9_cut_2
def dkwX9_cut_0 : List UInt8 := [42, 27, 182, 1, 201, 153, 0, 22, 42, 27, 182, 1, 213, 153, 0, 14, 42, 180, 0, 118, 16, 22, 46, 6]
abbrev dktX9_cut_0 : List UInt8 := dkwX9_cut_0 ++ dktX9_cut_1
theorem dksX9_cut_0 : cX9_cut.data.toList.drop 0 = dktX9_cut_0 := by decide +kernel
theorem dksX9_cut_1 : cX9_cut.data.toList.drop 24 = dktX9_cut_1 := dk_seg dksX9_cut_0 24 rfl rfl
theorem dksX9_cut_2 : cX9_cut.data.toList.drop 48 = dktX9_cut_2 := dk_seg dksX9_cut_1 24 rfl rfl
theorem dX9_cut_0 : decode cX9_cut 0 = .ok (.aload_n 0, 1) := dk_42 (dk_at dksX9_cut_0 0 rfl rfl)
theorem dX9_cut_1 : decode cX9_cut 1 = .ok (.iload_n 1, 1) := dk_27 (dk_at dksX9_cut_0 1 rfl rfl)
theorem dX9_cut_2 : decode cX9_cut 2 = .ok (.invokevirtual 457, 3) := dk_182 1 201 (dk_at dksX9_cut_0 2 rfl rfl)
theorem dX9_cut_5 : decode cX9_cut 5 = .ok (.ifCond .eq 22, 3) := dk_153 0 22 (dk_at dksX9_cut_0 5 rfl rfl)
theorem dX9_cut_8 : decode cX9_cut 8 = .ok (.aload_n 0, 1) := dk_42 (dk_at dksX9_cut_0 8 rfl rfl)
theorem dX9_cut_9 : decode cX9_cut 9 = .ok (.iload_n 1, 1) := dk_27 (dk_at dksX9_cut_0 9 rfl rfl)
theorem dX9_cut_10 : decode cX9_cut 10 = .ok (.invokevirtual 469, 3) := dk_182 1 213 (dk_at dksX9_cut_0 10 rfl rfl)
theorem dX9_cut_13 : decode cX9_cut 13 = .ok (.ifCond .eq 14, 3) := dk_153 0 14 (dk_at dksX9_cut_0 13 rfl rfl)
theorem dX9_cut_16 : decode cX9_cut 16 = .ok (.aload_n 0, 1) := dk_42 (dk_at dksX9_cut_0 16 rfl rfl)
theorem dX9_cut_17 : decode cX9_cut 17 = .ok (.getfield 118, 3) := dk_180 0 118 (dk_at dksX9_cut_0 17 rfl rfl)
theorem dX9_cut_20 : decode cX9_cut 20 = .ok (.bipush 22, 2) := dk_16 22 (dk_at dksX9_cut_0 20 rfl rfl)
theorem dX9_cut_22 : decode cX9_cut 22 = .ok (.iaload, 1) := dk_46 (dk_at dksX9_cut_0 22 rfl rfl)
theorem dX9_cut_23 : decode cX9_cut 23 = .ok (.iconst 3, 1) := dk_6 (dk_at dksX9_cut_0 23 rfl rfl)
theorem dX9_cut_24 : decode cX9_cut 24 = .ok (.if_icmp .ne 5, 3) := dk_160 0 5 (dk_at dksX9_cut_1 0 rfl rfl)
theorem dX9_cut_27 : decode cX9_cut 27 = .ok (.iconst (-1), 1) := dk_2 (dk_at dksX9_cut_1 3 rfl rfl)
theorem dX9_cut_28 : decode cX9_cut 28 = .ok (.ireturn, 1) := dk_172 (dk_at dksX9_cut_1 4 rfl rfl)
theorem dX9_cut_29 : decode cX9_cut 29 = .ok (.aload_n 0, 1) := dk_42 (dk_at dksX9_cut_1 5 rfl rfl)
theorem dX9_cut_30 : decode cX9_cut 30 = .ok (.invokevirtual 472, 3) := dk_182 1 216 (dk_at dksX9_cut_1 6 rfl rfl)
theorem dX9_cut_33 : decode cX9_cut 33 = .ok (.aload_n 0, 1) := dk_42 (dk_at dksX9_cut_1 9 rfl rfl)
theorem dX9_cut_34 : decode cX9_cut 34 = .ok (.getfield 118, 3) := dk_180 0 118 (dk_at dksX9_cut_1 10 rfl rfl)
theorem dX9_cut_37 : decode cX9_cut 37 = .ok (.iload_n 1, 1) := dk_27 (dk_at dksX9_cut_1 13 rfl rfl)
theorem dX9_cut_38 : decode cX9_cut 38 = .ok (.iconst 2, 1) := dk_5 (dk_at dksX9_cut_1 14 rfl rfl)
theorem dX9_cut_39 : decode cX9_cut 39 = .ok (.iastore, 1) := dk_79 (dk_at dksX9_cut_1 15 rfl rfl)
theorem dX9_cut_40 : decode cX9_cut 40 = .ok (.aload_n 0, 1) := dk_42 (dk_at dksX9_cut_1 16 rfl rfl)
theorem dX9_cut_41 : decode cX9_cut 41 = .ok (.getfield 118, 3) := dk_180 0 118 (dk_at dksX9_cut_1 17 rfl rfl)
theorem dX9_cut_44 : decode cX9_cut 44 = .ok (.bipush 22, 2) := dk_16 22 (dk_at dksX9_cut_1 20 rfl rfl)
theorem dX9_cut_46 : decode cX9_cut 46 = .ok (.dup2, 1) := dk_92 (dk_at dksX9_cut_1 22 rfl rfl)
theorem dX9_cut_47 : decode cX9_cut 47 = .ok (.iaload, 1) := dk_46 (dk_at dksX9_cut_1 23 rfl rfl)
theorem dX9_cut_48 : decode cX9_cut 48 = .ok (.iconst 1, 1) := dk_4 (dk_at dksX9_cut_2 0 rfl rfl)
theorem dX9_cut_49 : decode cX9_cut 49 = .ok (.iadd, 1) := dk_96 (dk_at dksX9_cut_2 1 rfl rfl)
theorem dX9_cut_50 : decode cX9_cut 50 = .ok (.iastore, 1) := dk_79 (dk_at dksX9_cut_2 2 rfl rfl)
theorem dX9_cut_51 : decode cX9_cut 51 = .ok (.aload_n 0, 1) := dk_42 (dk_at dksX9_cut_2 3 rfl rfl)
theorem dX9_cut_52 : decode cX9_cut 52 = .ok (.getfield 118, 3) := dk_180 0 118 (dk_at dksX9_cut_2 4 rfl rfl)
theorem dX9_cut_55 : decode cX9_cut 55 = .ok (.bipush 22, 2) := dk_16 22 (dk_at dksX9_cut_2 7 rfl rfl)
theorem dX9_cut_57 : decode cX9_cut 57 = .ok (.iaload, 1) := dk_46 (dk_at dksX9_cut_2 9 rfl rfl)
theorem dX9_cut_58 : decode cX9_cut 58 = .ok (.ireturn, 1) := dk_172 (dk_at dksX9_cut_2 10 rfl rfl)
abbrev cX9_sew : ByteArray := prog_24_method_60_code
def yX9_sew : MethodName := ⟨RX9, "sew", "(I)I"⟩
def dkwX9_sew_2 : List UInt8 := [3, 79, 42, 180, 0, 118, 16, 10, 27, 96, 42, 180, 0, 102, 27, 46, 79, 28, 172]
abbrev dktX9_sew_2 : List UInt8 := dkwX9_sew_2 ++ []
def dkwX9_sew_1 : List UInt8 := [159, 0, 5, 2, 172, 42, 182, 1, 216, 42, 180, 0, 118, 16, 10, 27, 96, 46, 61, 42, 180, 0, 118, 27]
abbrev dktX9_sew_1 : List UInt8 := dkwX9_sew_1 ++ dktX9_sew_2
def dkwX9_sew_0 : List UInt8 := [42, 27, 182, 1, 201, 153, 0, 21, 42, 27, 182, 1, 213, 154, 0, 15, 42, 180, 0, 118, 27, 46, 7]
abbrev dktX9_sew_0 : List UInt8 := dkwX9_sew_0 ++ dktX9_sew_1
theorem dksX9_sew_0 : cX9_sew.data.toList.drop 0 = dktX9_sew_0 := by decide +kernel
theorem dksX9_sew_1 : cX9_sew.data.toList.drop 23 = dktX9_sew_1 := dk_seg dksX9_sew_0 23 rfl rfl
theorem dksX9_sew_2 : cX9_sew.data.toList.drop 47 = dktX9_sew_2 := dk_seg dksX9_sew_1 24 rfl rfl
theorem dX9_sew_0 : decode cX9_sew 0 = .ok (.aload_n 0, 1) := dk_42 (dk_at dksX9_sew_0 0 rfl rfl)
theorem dX9_sew_1 : decode cX9_sew 1 = .ok (.iload_n 1, 1) := dk_27 (dk_at dksX9_sew_0 1 rfl rfl)
theorem dX9_sew_2 : decode cX9_sew 2 = .ok (.invokevirtual 457, 3) := dk_182 1 201 (dk_at dksX9_sew_0 2 rfl rfl)
theorem dX9_sew_5 : decode cX9_sew 5 = .ok (.ifCond .eq 21, 3) := dk_153 0 21 (dk_at dksX9_sew_0 5 rfl rfl)
theorem dX9_sew_8 : decode cX9_sew 8 = .ok (.aload_n 0, 1) := dk_42 (dk_at dksX9_sew_0 8 rfl rfl)
theorem dX9_sew_9 : decode cX9_sew 9 = .ok (.iload_n 1, 1) := dk_27 (dk_at dksX9_sew_0 9 rfl rfl)
theorem dX9_sew_10 : decode cX9_sew 10 = .ok (.invokevirtual 469, 3) := dk_182 1 213 (dk_at dksX9_sew_0 10 rfl rfl)
theorem dX9_sew_13 : decode cX9_sew 13 = .ok (.ifCond .ne 15, 3) := dk_154 0 15 (dk_at dksX9_sew_0 13 rfl rfl)
theorem dX9_sew_16 : decode cX9_sew 16 = .ok (.aload_n 0, 1) := dk_42 (dk_at dksX9_sew_0 16 rfl rfl)
theorem dX9_sew_17 : decode cX9_sew 17 = .ok (.getfield 118, 3) := dk_180 0 118 (dk_at dksX9_sew_0 17 rfl rfl)
theorem dX9_sew_20 : decode cX9_sew 20 = .ok (.iload_n 1, 1) := dk_27 (dk_at dksX9_sew_0 20 rfl rfl)
theorem dX9_sew_21 : decode cX9_sew 21 = .ok (.iaload, 1) := dk_46 (dk_at dksX9_sew_0 21 rfl rfl)
theorem dX9_sew_22 : decode cX9_sew 22 = .ok (.iconst 4, 1) := dk_7 (dk_at dksX9_sew_0 22 rfl rfl)
theorem dX9_sew_23 : decode cX9_sew 23 = .ok (.if_icmp .eq 5, 3) := dk_159 0 5 (dk_at dksX9_sew_1 0 rfl rfl)
theorem dX9_sew_26 : decode cX9_sew 26 = .ok (.iconst (-1), 1) := dk_2 (dk_at dksX9_sew_1 3 rfl rfl)
theorem dX9_sew_27 : decode cX9_sew 27 = .ok (.ireturn, 1) := dk_172 (dk_at dksX9_sew_1 4 rfl rfl)
theorem dX9_sew_28 : decode cX9_sew 28 = .ok (.aload_n 0, 1) := dk_42 (dk_at dksX9_sew_1 5 rfl rfl)
theorem dX9_sew_29 : decode cX9_sew 29 = .ok (.invokevirtual 472, 3) := dk_182 1 216 (dk_at dksX9_sew_1 6 rfl rfl)
theorem dX9_sew_32 : decode cX9_sew 32 = .ok (.aload_n 0, 1) := dk_42 (dk_at dksX9_sew_1 9 rfl rfl)
theorem dX9_sew_33 : decode cX9_sew 33 = .ok (.getfield 118, 3) := dk_180 0 118 (dk_at dksX9_sew_1 10 rfl rfl)
theorem dX9_sew_36 : decode cX9_sew 36 = .ok (.bipush 10, 2) := dk_16 10 (dk_at dksX9_sew_1 13 rfl rfl)
theorem dX9_sew_38 : decode cX9_sew 38 = .ok (.iload_n 1, 1) := dk_27 (dk_at dksX9_sew_1 15 rfl rfl)
theorem dX9_sew_39 : decode cX9_sew 39 = .ok (.iadd, 1) := dk_96 (dk_at dksX9_sew_1 16 rfl rfl)
theorem dX9_sew_40 : decode cX9_sew 40 = .ok (.iaload, 1) := dk_46 (dk_at dksX9_sew_1 17 rfl rfl)
theorem dX9_sew_41 : decode cX9_sew 41 = .ok (.istore_n 2, 1) := dk_61 (dk_at dksX9_sew_1 18 rfl rfl)
theorem dX9_sew_42 : decode cX9_sew 42 = .ok (.aload_n 0, 1) := dk_42 (dk_at dksX9_sew_1 19 rfl rfl)
theorem dX9_sew_43 : decode cX9_sew 43 = .ok (.getfield 118, 3) := dk_180 0 118 (dk_at dksX9_sew_1 20 rfl rfl)
theorem dX9_sew_46 : decode cX9_sew 46 = .ok (.iload_n 1, 1) := dk_27 (dk_at dksX9_sew_1 23 rfl rfl)
theorem dX9_sew_47 : decode cX9_sew 47 = .ok (.iconst 0, 1) := dk_3 (dk_at dksX9_sew_2 0 rfl rfl)
theorem dX9_sew_48 : decode cX9_sew 48 = .ok (.iastore, 1) := dk_79 (dk_at dksX9_sew_2 1 rfl rfl)
theorem dX9_sew_49 : decode cX9_sew 49 = .ok (.aload_n 0, 1) := dk_42 (dk_at dksX9_sew_2 2 rfl rfl)
theorem dX9_sew_50 : decode cX9_sew 50 = .ok (.getfield 118, 3) := dk_180 0 118 (dk_at dksX9_sew_2 3 rfl rfl)
theorem dX9_sew_53 : decode cX9_sew 53 = .ok (.bipush 10, 2) := dk_16 10 (dk_at dksX9_sew_2 6 rfl rfl)
theorem dX9_sew_55 : decode cX9_sew 55 = .ok (.iload_n 1, 1) := dk_27 (dk_at dksX9_sew_2 8 rfl rfl)
theorem dX9_sew_56 : decode cX9_sew 56 = .ok (.iadd, 1) := dk_96 (dk_at dksX9_sew_2 9 rfl rfl)
theorem dX9_sew_57 : decode cX9_sew 57 = .ok (.aload_n 0, 1) := dk_42 (dk_at dksX9_sew_2 10 rfl rfl)
theorem dX9_sew_58 : decode cX9_sew 58 = .ok (.getfield 102, 3) := dk_180 0 102 (dk_at dksX9_sew_2 11 rfl rfl)
theorem dX9_sew_61 : decode cX9_sew 61 = .ok (.iload_n 1, 1) := dk_27 (dk_at dksX9_sew_2 14 rfl rfl)
theorem dX9_sew_62 : decode cX9_sew 62 = .ok (.iaload, 1) := dk_46 (dk_at dksX9_sew_2 15 rfl rfl)
theorem dX9_sew_63 : decode cX9_sew 63 = .ok (.iastore, 1) := dk_79 (dk_at dksX9_sew_2 16 rfl rfl)
theorem dX9_sew_64 : decode cX9_sew 64 = .ok (.iload_n 2, 1) := dk_28 (dk_at dksX9_sew_2 17 rfl rfl)
theorem dX9_sew_65 : decode cX9_sew 65 = .ok (.ireturn, 1) := dk_172 (dk_at dksX9_sew_2 18 rfl rfl)
abbrev cX9_day : ByteArray := prog_24_method_63_code
def yX9_day : MethodName := ⟨RX9, "day", "()I"⟩
def dkwX9_day_3 : List UInt8 := [180, 0, 118, 16, 20, 42, 180, 1, 219, 79, 42, 180, 0, 118, 16, 21, 42, 180, 1, 222, 79, 27, 172]
abbrev dktX9_day_3 : List UInt8 := dkwX9_day_3 ++ []
def dkwX9_day_2 : List UInt8 := [42, 180, 0, 118, 16, 10, 28, 96, 42, 180, 0, 127, 28, 46, 79, 132, 2, 1, 167, 255, 220, 42]
abbrev dktX9_day_2 : List UInt8 := dkwX9_day_2 ++ dktX9_day_3
def dkwX9_day_1 : List UInt8 := [182, 1, 232, 60, 3, 61, 28, 16, 10, 162, 0, 36, 42, 180, 0, 118, 28, 42, 180, 0, 124, 28, 46, 79]
abbrev dktX9_day_1 : List UInt8 := dkwX9_day_1 ++ dktX9_day_2
def dkwX9_day_0 : List UInt8 := [42, 180, 0, 118, 16, 20, 46, 16, 99, 160, 0, 5, 2, 172, 42, 182, 1, 216, 42, 182, 1, 229, 42]
abbrev dktX9_day_0 : List UInt8 := dkwX9_day_0 ++ dktX9_day_1
theorem dksX9_day_0 : cX9_day.data.toList.drop 0 = dktX9_day_0 := by decide +kernel
theorem dksX9_day_1 : cX9_day.data.toList.drop 23 = dktX9_day_1 := dk_seg dksX9_day_0 23 rfl rfl
theorem dksX9_day_2 : cX9_day.data.toList.drop 47 = dktX9_day_2 := dk_seg dksX9_day_1 24 rfl rfl
theorem dksX9_day_3 : cX9_day.data.toList.drop 69 = dktX9_day_3 := dk_seg dksX9_day_2 22 rfl rfl
theorem dX9_day_0 : decode cX9_day 0 = .ok (.aload_n 0, 1) := dk_42 (dk_at dksX9_day_0 0 rfl rfl)
theorem dX9_day_1 : decode cX9_day 1 = .ok (.getfield 118, 3) := dk_180 0 118 (dk_at dksX9_day_0 1 rfl rfl)
theorem dX9_day_4 : decode cX9_day 4 = .ok (.bipush 20, 2) := dk_16 20 (dk_at dksX9_day_0 4 rfl rfl)
theorem dX9_day_6 : decode cX9_day 6 = .ok (.iaload, 1) := dk_46 (dk_at dksX9_day_0 6 rfl rfl)
theorem dX9_day_7 : decode cX9_day 7 = .ok (.bipush 99, 2) := dk_16 99 (dk_at dksX9_day_0 7 rfl rfl)
theorem dX9_day_9 : decode cX9_day 9 = .ok (.if_icmp .ne 5, 3) := dk_160 0 5 (dk_at dksX9_day_0 9 rfl rfl)
theorem dX9_day_12 : decode cX9_day 12 = .ok (.iconst (-1), 1) := dk_2 (dk_at dksX9_day_0 12 rfl rfl)
theorem dX9_day_13 : decode cX9_day 13 = .ok (.ireturn, 1) := dk_172 (dk_at dksX9_day_0 13 rfl rfl)
theorem dX9_day_14 : decode cX9_day 14 = .ok (.aload_n 0, 1) := dk_42 (dk_at dksX9_day_0 14 rfl rfl)
theorem dX9_day_15 : decode cX9_day 15 = .ok (.invokevirtual 472, 3) := dk_182 1 216 (dk_at dksX9_day_0 15 rfl rfl)
theorem dX9_day_18 : decode cX9_day 18 = .ok (.aload_n 0, 1) := dk_42 (dk_at dksX9_day_0 18 rfl rfl)
theorem dX9_day_19 : decode cX9_day 19 = .ok (.invokevirtual 485, 3) := dk_182 1 229 (dk_at dksX9_day_0 19 rfl rfl)
theorem dX9_day_22 : decode cX9_day 22 = .ok (.aload_n 0, 1) := dk_42 (dk_at dksX9_day_0 22 rfl rfl)
theorem dX9_day_23 : decode cX9_day 23 = .ok (.invokevirtual 488, 3) := dk_182 1 232 (dk_at dksX9_day_1 0 rfl rfl)
theorem dX9_day_26 : decode cX9_day 26 = .ok (.istore_n 1, 1) := dk_60 (dk_at dksX9_day_1 3 rfl rfl)
theorem dX9_day_27 : decode cX9_day 27 = .ok (.iconst 0, 1) := dk_3 (dk_at dksX9_day_1 4 rfl rfl)
theorem dX9_day_28 : decode cX9_day 28 = .ok (.istore_n 2, 1) := dk_61 (dk_at dksX9_day_1 5 rfl rfl)
theorem dX9_day_29 : decode cX9_day 29 = .ok (.iload_n 2, 1) := dk_28 (dk_at dksX9_day_1 6 rfl rfl)
theorem dX9_day_30 : decode cX9_day 30 = .ok (.bipush 10, 2) := dk_16 10 (dk_at dksX9_day_1 7 rfl rfl)
theorem dX9_day_32 : decode cX9_day 32 = .ok (.if_icmp .ge 36, 3) := dk_162 0 36 (dk_at dksX9_day_1 9 rfl rfl)
theorem dX9_day_35 : decode cX9_day 35 = .ok (.aload_n 0, 1) := dk_42 (dk_at dksX9_day_1 12 rfl rfl)
theorem dX9_day_36 : decode cX9_day 36 = .ok (.getfield 118, 3) := dk_180 0 118 (dk_at dksX9_day_1 13 rfl rfl)
theorem dX9_day_39 : decode cX9_day 39 = .ok (.iload_n 2, 1) := dk_28 (dk_at dksX9_day_1 16 rfl rfl)
theorem dX9_day_40 : decode cX9_day 40 = .ok (.aload_n 0, 1) := dk_42 (dk_at dksX9_day_1 17 rfl rfl)
theorem dX9_day_41 : decode cX9_day 41 = .ok (.getfield 124, 3) := dk_180 0 124 (dk_at dksX9_day_1 18 rfl rfl)
theorem dX9_day_44 : decode cX9_day 44 = .ok (.iload_n 2, 1) := dk_28 (dk_at dksX9_day_1 21 rfl rfl)
theorem dX9_day_45 : decode cX9_day 45 = .ok (.iaload, 1) := dk_46 (dk_at dksX9_day_1 22 rfl rfl)
theorem dX9_day_46 : decode cX9_day 46 = .ok (.iastore, 1) := dk_79 (dk_at dksX9_day_1 23 rfl rfl)
theorem dX9_day_47 : decode cX9_day 47 = .ok (.aload_n 0, 1) := dk_42 (dk_at dksX9_day_2 0 rfl rfl)
theorem dX9_day_48 : decode cX9_day 48 = .ok (.getfield 118, 3) := dk_180 0 118 (dk_at dksX9_day_2 1 rfl rfl)
theorem dX9_day_51 : decode cX9_day 51 = .ok (.bipush 10, 2) := dk_16 10 (dk_at dksX9_day_2 4 rfl rfl)
theorem dX9_day_53 : decode cX9_day 53 = .ok (.iload_n 2, 1) := dk_28 (dk_at dksX9_day_2 6 rfl rfl)
theorem dX9_day_54 : decode cX9_day 54 = .ok (.iadd, 1) := dk_96 (dk_at dksX9_day_2 7 rfl rfl)
theorem dX9_day_55 : decode cX9_day 55 = .ok (.aload_n 0, 1) := dk_42 (dk_at dksX9_day_2 8 rfl rfl)
theorem dX9_day_56 : decode cX9_day 56 = .ok (.getfield 127, 3) := dk_180 0 127 (dk_at dksX9_day_2 9 rfl rfl)
theorem dX9_day_59 : decode cX9_day 59 = .ok (.iload_n 2, 1) := dk_28 (dk_at dksX9_day_2 12 rfl rfl)
theorem dX9_day_60 : decode cX9_day 60 = .ok (.iaload, 1) := dk_46 (dk_at dksX9_day_2 13 rfl rfl)
theorem dX9_day_61 : decode cX9_day 61 = .ok (.iastore, 1) := dk_79 (dk_at dksX9_day_2 14 rfl rfl)
theorem dX9_day_62 : decode cX9_day 62 = .ok (.iinc 2 1, 3) := dk_132 2 1 (dk_at dksX9_day_2 15 rfl rfl)
theorem dX9_day_65 : decode cX9_day 65 = .ok (.goto (-36), 3) := dk_167 255 220 (dk_at dksX9_day_2 18 rfl rfl)
theorem dX9_day_68 : decode cX9_day 68 = .ok (.aload_n 0, 1) := dk_42 (dk_at dksX9_day_2 21 rfl rfl)
theorem dX9_day_69 : decode cX9_day 69 = .ok (.getfield 118, 3) := dk_180 0 118 (dk_at dksX9_day_3 0 rfl rfl)
theorem dX9_day_72 : decode cX9_day 72 = .ok (.bipush 20, 2) := dk_16 20 (dk_at dksX9_day_3 3 rfl rfl)
theorem dX9_day_74 : decode cX9_day 74 = .ok (.aload_n 0, 1) := dk_42 (dk_at dksX9_day_3 5 rfl rfl)
theorem dX9_day_75 : decode cX9_day 75 = .ok (.getfield 475, 3) := dk_180 1 219 (dk_at dksX9_day_3 6 rfl rfl)
theorem dX9_day_78 : decode cX9_day 78 = .ok (.iastore, 1) := dk_79 (dk_at dksX9_day_3 9 rfl rfl)
theorem dX9_day_79 : decode cX9_day 79 = .ok (.aload_n 0, 1) := dk_42 (dk_at dksX9_day_3 10 rfl rfl)
theorem dX9_day_80 : decode cX9_day 80 = .ok (.getfield 118, 3) := dk_180 0 118 (dk_at dksX9_day_3 11 rfl rfl)
theorem dX9_day_83 : decode cX9_day 83 = .ok (.bipush 21, 2) := dk_16 21 (dk_at dksX9_day_3 14 rfl rfl)
theorem dX9_day_85 : decode cX9_day 85 = .ok (.aload_n 0, 1) := dk_42 (dk_at dksX9_day_3 16 rfl rfl)
theorem dX9_day_86 : decode cX9_day 86 = .ok (.getfield 478, 3) := dk_180 1 222 (dk_at dksX9_day_3 17 rfl rfl)
theorem dX9_day_89 : decode cX9_day 89 = .ok (.iastore, 1) := dk_79 (dk_at dksX9_day_3 20 rfl rfl)
theorem dX9_day_90 : decode cX9_day 90 = .ok (.iload_n 1, 1) := dk_27 (dk_at dksX9_day_3 21 rfl rfl)
theorem dX9_day_91 : decode cX9_day 91 = .ok (.ireturn, 1) := dk_172 (dk_at dksX9_day_3 22 rfl rfl)
abbrev cX9_load : ByteArray := prog_24_method_61_code
def yX9_load : MethodName := ⟨RX9, "load", "()V"⟩
def dkwX9_load_2 : List UInt8 := [46, 181, 1, 219, 42, 42, 180, 0, 118, 16, 21, 46, 181, 1, 222, 177]
abbrev dktX9_load_2 : List UInt8 := dkwX9_load_2 ++ []
def dkwX9_load_1 : List UInt8 := [27, 42, 180, 0, 118, 16, 10, 27, 96, 46, 79, 132, 1, 1, 167, 255, 220, 42, 42, 180, 0, 118, 16, 20]
abbrev dktX9_load_1 : List UInt8 := dkwX9_load_1 ++ dktX9_load_2
def dkwX9_load_0 : List UInt8 := [3, 60, 27, 16, 10, 162, 0, 36, 42, 180, 0, 124, 27, 42, 180, 0, 118, 27, 46, 79, 42, 180, 0, 127]
abbrev dktX9_load_0 : List UInt8 := dkwX9_load_0 ++ dktX9_load_1
theorem dksX9_load_0 : cX9_load.data.toList.drop 0 = dktX9_load_0 := by decide +kernel
theorem dksX9_load_1 : cX9_load.data.toList.drop 24 = dktX9_load_1 := dk_seg dksX9_load_0 24 rfl rfl
theorem dksX9_load_2 : cX9_load.data.toList.drop 48 = dktX9_load_2 := dk_seg dksX9_load_1 24 rfl rfl
theorem dX9_load_0 : decode cX9_load 0 = .ok (.iconst 0, 1) := dk_3 (dk_at dksX9_load_0 0 rfl rfl)
theorem dX9_load_1 : decode cX9_load 1 = .ok (.istore_n 1, 1) := dk_60 (dk_at dksX9_load_0 1 rfl rfl)
theorem dX9_load_2 : decode cX9_load 2 = .ok (.iload_n 1, 1) := dk_27 (dk_at dksX9_load_0 2 rfl rfl)
theorem dX9_load_3 : decode cX9_load 3 = .ok (.bipush 10, 2) := dk_16 10 (dk_at dksX9_load_0 3 rfl rfl)
theorem dX9_load_5 : decode cX9_load 5 = .ok (.if_icmp .ge 36, 3) := dk_162 0 36 (dk_at dksX9_load_0 5 rfl rfl)
theorem dX9_load_8 : decode cX9_load 8 = .ok (.aload_n 0, 1) := dk_42 (dk_at dksX9_load_0 8 rfl rfl)
theorem dX9_load_9 : decode cX9_load 9 = .ok (.getfield 124, 3) := dk_180 0 124 (dk_at dksX9_load_0 9 rfl rfl)
theorem dX9_load_12 : decode cX9_load 12 = .ok (.iload_n 1, 1) := dk_27 (dk_at dksX9_load_0 12 rfl rfl)
theorem dX9_load_13 : decode cX9_load 13 = .ok (.aload_n 0, 1) := dk_42 (dk_at dksX9_load_0 13 rfl rfl)
theorem dX9_load_14 : decode cX9_load 14 = .ok (.getfield 118, 3) := dk_180 0 118 (dk_at dksX9_load_0 14 rfl rfl)
theorem dX9_load_17 : decode cX9_load 17 = .ok (.iload_n 1, 1) := dk_27 (dk_at dksX9_load_0 17 rfl rfl)
theorem dX9_load_18 : decode cX9_load 18 = .ok (.iaload, 1) := dk_46 (dk_at dksX9_load_0 18 rfl rfl)
theorem dX9_load_19 : decode cX9_load 19 = .ok (.iastore, 1) := dk_79 (dk_at dksX9_load_0 19 rfl rfl)
theorem dX9_load_20 : decode cX9_load 20 = .ok (.aload_n 0, 1) := dk_42 (dk_at dksX9_load_0 20 rfl rfl)
theorem dX9_load_21 : decode cX9_load 21 = .ok (.getfield 127, 3) := dk_180 0 127 (dk_at dksX9_load_0 21 rfl rfl)
theorem dX9_load_24 : decode cX9_load 24 = .ok (.iload_n 1, 1) := dk_27 (dk_at dksX9_load_1 0 rfl rfl)
theorem dX9_load_25 : decode cX9_load 25 = .ok (.aload_n 0, 1) := dk_42 (dk_at dksX9_load_1 1 rfl rfl)
theorem dX9_load_26 : decode cX9_load 26 = .ok (.getfield 118, 3) := dk_180 0 118 (dk_at dksX9_load_1 2 rfl rfl)
theorem dX9_load_29 : decode cX9_load 29 = .ok (.bipush 10, 2) := dk_16 10 (dk_at dksX9_load_1 5 rfl rfl)
theorem dX9_load_31 : decode cX9_load 31 = .ok (.iload_n 1, 1) := dk_27 (dk_at dksX9_load_1 7 rfl rfl)
theorem dX9_load_32 : decode cX9_load 32 = .ok (.iadd, 1) := dk_96 (dk_at dksX9_load_1 8 rfl rfl)
theorem dX9_load_33 : decode cX9_load 33 = .ok (.iaload, 1) := dk_46 (dk_at dksX9_load_1 9 rfl rfl)
theorem dX9_load_34 : decode cX9_load 34 = .ok (.iastore, 1) := dk_79 (dk_at dksX9_load_1 10 rfl rfl)
theorem dX9_load_35 : decode cX9_load 35 = .ok (.iinc 1 1, 3) := dk_132 1 1 (dk_at dksX9_load_1 11 rfl rfl)
theorem dX9_load_38 : decode cX9_load 38 = .ok (.goto (-36), 3) := dk_167 255 220 (dk_at dksX9_load_1 14 rfl rfl)
theorem dX9_load_41 : decode cX9_load 41 = .ok (.aload_n 0, 1) := dk_42 (dk_at dksX9_load_1 17 rfl rfl)
theorem dX9_load_42 : decode cX9_load 42 = .ok (.aload_n 0, 1) := dk_42 (dk_at dksX9_load_1 18 rfl rfl)
theorem dX9_load_43 : decode cX9_load 43 = .ok (.getfield 118, 3) := dk_180 0 118 (dk_at dksX9_load_1 19 rfl rfl)
theorem dX9_load_46 : decode cX9_load 46 = .ok (.bipush 20, 2) := dk_16 20 (dk_at dksX9_load_1 22 rfl rfl)
theorem dX9_load_48 : decode cX9_load 48 = .ok (.iaload, 1) := dk_46 (dk_at dksX9_load_2 0 rfl rfl)
theorem dX9_load_49 : decode cX9_load 49 = .ok (.putfield 475, 3) := dk_181 1 219 (dk_at dksX9_load_2 1 rfl rfl)
theorem dX9_load_52 : decode cX9_load 52 = .ok (.aload_n 0, 1) := dk_42 (dk_at dksX9_load_2 4 rfl rfl)
theorem dX9_load_53 : decode cX9_load 53 = .ok (.aload_n 0, 1) := dk_42 (dk_at dksX9_load_2 5 rfl rfl)
theorem dX9_load_54 : decode cX9_load 54 = .ok (.getfield 118, 3) := dk_180 0 118 (dk_at dksX9_load_2 6 rfl rfl)
theorem dX9_load_57 : decode cX9_load 57 = .ok (.bipush 21, 2) := dk_16 21 (dk_at dksX9_load_2 9 rfl rfl)
theorem dX9_load_59 : decode cX9_load 59 = .ok (.iaload, 1) := dk_46 (dk_at dksX9_load_2 11 rfl rfl)
theorem dX9_load_60 : decode cX9_load 60 = .ok (.putfield 478, 3) := dk_181 1 222 (dk_at dksX9_load_2 12 rfl rfl)
theorem dX9_load_63 : decode cX9_load 63 = .ok (.return_, 1) := dk_177 (dk_at dksX9_load_2 15 rfl rfl)
abbrev cX9_goDay : ByteArray := prog_24_method_62_code
def yX9_goDay : MethodName := ⟨RX9, "goDay", "()I"⟩
def dkwX9_goDay_8 : List UInt8 := [4, 79, 132, 3, 1, 167, 255, 203, 28, 172]
abbrev dktX9_goDay_8 : List UInt8 := dkwX9_goDay_8 ++ []
def dkwX9_goDay_7 : List UInt8 := [180, 1, 219, 162, 0, 23, 42, 180, 0, 124, 29, 42, 180, 0, 112, 29, 51, 153, 0, 7, 6, 167, 0, 4]
abbrev dktX9_goDay_7 : List UInt8 := dkwX9_goDay_7 ++ dktX9_goDay_8
def dkwX9_goDay_6 : List UInt8 := [29, 42, 180, 1, 173, 162, 0, 51, 42, 180, 0, 124, 29, 46, 154, 0, 36, 42, 180, 0, 99, 29, 46, 42]
abbrev dktX9_goDay_6 : List UInt8 := dkwX9_goDay_6 ++ dktX9_goDay_7
def dkwX9_goDay_5 : List UInt8 := [29, 7, 79, 132, 2, 1, 132, 3, 1, 167, 255, 176, 42, 89, 180, 1, 219, 4, 96, 181, 1, 219, 3, 62]
abbrev dktX9_goDay_5 : List UInt8 := dkwX9_goDay_5 ++ dktX9_goDay_6
def dkwX9_goDay_4 : List UInt8 := [180, 1, 219, 182, 1, 225, 100, 79, 42, 180, 0, 127, 29, 46, 158, 0, 6, 167, 0, 13, 42, 180, 0, 124]
abbrev dktX9_goDay_4 : List UInt8 := dkwX9_goDay_4 ++ dktX9_goDay_5
def dkwX9_goDay_3 : List UInt8 := [92, 46, 42, 42, 180, 0, 127, 29, 46, 42, 180, 0, 60, 42, 180, 0, 93, 29, 46, 46, 27, 42]
abbrev dktX9_goDay_3 : List UInt8 := dkwX9_goDay_3 ++ dktX9_goDay_4
def dkwX9_goDay_2 : List UInt8 := [42, 180, 1, 173, 162, 0, 78, 42, 180, 0, 124, 29, 46, 153, 0, 6, 167, 0, 60, 42, 180, 0, 127, 29]
abbrev dktX9_goDay_2 : List UInt8 := dkwX9_goDay_2 ++ dktX9_goDay_3
def dkwX9_goDay_1 : List UInt8 := [16, 100, 112, 42, 180, 1, 179, 162, 0, 7, 4, 167, 0, 4, 3, 184, 1, 88, 60, 3, 61, 3, 62, 29]
abbrev dktX9_goDay_1 : List UInt8 := dkwX9_goDay_1 ++ dktX9_goDay_2
def dkwX9_goDay_0 : List UInt8 := [42, 42, 180, 1, 222, 17, 0, 137, 104, 16, 71, 96, 17, 3, 232, 112, 181, 1, 222, 42, 180, 1, 222]
abbrev dktX9_goDay_0 : List UInt8 := dkwX9_goDay_0 ++ dktX9_goDay_1
theorem dksX9_goDay_0 : cX9_goDay.data.toList.drop 0 = dktX9_goDay_0 := by decide +kernel
theorem dksX9_goDay_1 : cX9_goDay.data.toList.drop 23 = dktX9_goDay_1 := dk_seg dksX9_goDay_0 23 rfl rfl
theorem dksX9_goDay_2 : cX9_goDay.data.toList.drop 47 = dktX9_goDay_2 := dk_seg dksX9_goDay_1 24 rfl rfl
theorem dksX9_goDay_3 : cX9_goDay.data.toList.drop 71 = dktX9_goDay_3 := dk_seg dksX9_goDay_2 24 rfl rfl
theorem dksX9_goDay_4 : cX9_goDay.data.toList.drop 93 = dktX9_goDay_4 := dk_seg dksX9_goDay_3 22 rfl rfl
theorem dksX9_goDay_5 : cX9_goDay.data.toList.drop 117 = dktX9_goDay_5 := dk_seg dksX9_goDay_4 24 rfl rfl
theorem dksX9_goDay_6 : cX9_goDay.data.toList.drop 141 = dktX9_goDay_6 := dk_seg dksX9_goDay_5 24 rfl rfl
theorem dksX9_goDay_7 : cX9_goDay.data.toList.drop 165 = dktX9_goDay_7 := dk_seg dksX9_goDay_6 24 rfl rfl
theorem dksX9_goDay_8 : cX9_goDay.data.toList.drop 189 = dktX9_goDay_8 := dk_seg dksX9_goDay_7 24 rfl rfl
theorem dX9_goDay_0 : decode cX9_goDay 0 = .ok (.aload_n 0, 1) := dk_42 (dk_at dksX9_goDay_0 0 rfl rfl)
theorem dX9_goDay_1 : decode cX9_goDay 1 = .ok (.aload_n 0, 1) := dk_42 (dk_at dksX9_goDay_0 1 rfl rfl)
theorem dX9_goDay_2 : decode cX9_goDay 2 = .ok (.getfield 478, 3) := dk_180 1 222 (dk_at dksX9_goDay_0 2 rfl rfl)
theorem dX9_goDay_5 : decode cX9_goDay 5 = .ok (.sipush 137, 3) := dk_17 0 137 (dk_at dksX9_goDay_0 5 rfl rfl)
theorem dX9_goDay_8 : decode cX9_goDay 8 = .ok (.imul, 1) := dk_104 (dk_at dksX9_goDay_0 8 rfl rfl)
theorem dX9_goDay_9 : decode cX9_goDay 9 = .ok (.bipush 71, 2) := dk_16 71 (dk_at dksX9_goDay_0 9 rfl rfl)
theorem dX9_goDay_11 : decode cX9_goDay 11 = .ok (.iadd, 1) := dk_96 (dk_at dksX9_goDay_0 11 rfl rfl)
theorem dX9_goDay_12 : decode cX9_goDay 12 = .ok (.sipush 1000, 3) := dk_17 3 232 (dk_at dksX9_goDay_0 12 rfl rfl)
theorem dX9_goDay_15 : decode cX9_goDay 15 = .ok (.irem, 1) := dk_112 (dk_at dksX9_goDay_0 15 rfl rfl)
theorem dX9_goDay_16 : decode cX9_goDay 16 = .ok (.putfield 478, 3) := dk_181 1 222 (dk_at dksX9_goDay_0 16 rfl rfl)
theorem dX9_goDay_19 : decode cX9_goDay 19 = .ok (.aload_n 0, 1) := dk_42 (dk_at dksX9_goDay_0 19 rfl rfl)
theorem dX9_goDay_20 : decode cX9_goDay 20 = .ok (.getfield 478, 3) := dk_180 1 222 (dk_at dksX9_goDay_0 20 rfl rfl)
theorem dX9_goDay_23 : decode cX9_goDay 23 = .ok (.bipush 100, 2) := dk_16 100 (dk_at dksX9_goDay_1 0 rfl rfl)
theorem dX9_goDay_25 : decode cX9_goDay 25 = .ok (.irem, 1) := dk_112 (dk_at dksX9_goDay_1 2 rfl rfl)
theorem dX9_goDay_26 : decode cX9_goDay 26 = .ok (.aload_n 0, 1) := dk_42 (dk_at dksX9_goDay_1 3 rfl rfl)
theorem dX9_goDay_27 : decode cX9_goDay 27 = .ok (.getfield 435, 3) := dk_180 1 179 (dk_at dksX9_goDay_1 4 rfl rfl)
theorem dX9_goDay_30 : decode cX9_goDay 30 = .ok (.if_icmp .ge 7, 3) := dk_162 0 7 (dk_at dksX9_goDay_1 7 rfl rfl)
theorem dX9_goDay_33 : decode cX9_goDay 33 = .ok (.iconst 1, 1) := dk_4 (dk_at dksX9_goDay_1 10 rfl rfl)
theorem dX9_goDay_34 : decode cX9_goDay 34 = .ok (.goto 4, 3) := dk_167 0 4 (dk_at dksX9_goDay_1 11 rfl rfl)
theorem dX9_goDay_37 : decode cX9_goDay 37 = .ok (.iconst 0, 1) := dk_3 (dk_at dksX9_goDay_1 14 rfl rfl)
theorem dX9_goDay_38 : decode cX9_goDay 38 = .ok (.invokestatic 344, 3) := dk_184 1 88 (dk_at dksX9_goDay_1 15 rfl rfl)
theorem dX9_goDay_41 : decode cX9_goDay 41 = .ok (.istore_n 1, 1) := dk_60 (dk_at dksX9_goDay_1 18 rfl rfl)
theorem dX9_goDay_42 : decode cX9_goDay 42 = .ok (.iconst 0, 1) := dk_3 (dk_at dksX9_goDay_1 19 rfl rfl)
theorem dX9_goDay_43 : decode cX9_goDay 43 = .ok (.istore_n 2, 1) := dk_61 (dk_at dksX9_goDay_1 20 rfl rfl)
theorem dX9_goDay_44 : decode cX9_goDay 44 = .ok (.iconst 0, 1) := dk_3 (dk_at dksX9_goDay_1 21 rfl rfl)
theorem dX9_goDay_45 : decode cX9_goDay 45 = .ok (.istore_n 3, 1) := dk_62 (dk_at dksX9_goDay_1 22 rfl rfl)
theorem dX9_goDay_46 : decode cX9_goDay 46 = .ok (.iload_n 3, 1) := dk_29 (dk_at dksX9_goDay_1 23 rfl rfl)
theorem dX9_goDay_47 : decode cX9_goDay 47 = .ok (.aload_n 0, 1) := dk_42 (dk_at dksX9_goDay_2 0 rfl rfl)
theorem dX9_goDay_48 : decode cX9_goDay 48 = .ok (.getfield 429, 3) := dk_180 1 173 (dk_at dksX9_goDay_2 1 rfl rfl)
theorem dX9_goDay_51 : decode cX9_goDay 51 = .ok (.if_icmp .ge 78, 3) := dk_162 0 78 (dk_at dksX9_goDay_2 4 rfl rfl)
theorem dX9_goDay_54 : decode cX9_goDay 54 = .ok (.aload_n 0, 1) := dk_42 (dk_at dksX9_goDay_2 7 rfl rfl)
theorem dX9_goDay_55 : decode cX9_goDay 55 = .ok (.getfield 124, 3) := dk_180 0 124 (dk_at dksX9_goDay_2 8 rfl rfl)
theorem dX9_goDay_58 : decode cX9_goDay 58 = .ok (.iload_n 3, 1) := dk_29 (dk_at dksX9_goDay_2 11 rfl rfl)
theorem dX9_goDay_59 : decode cX9_goDay 59 = .ok (.iaload, 1) := dk_46 (dk_at dksX9_goDay_2 12 rfl rfl)
theorem dX9_goDay_60 : decode cX9_goDay 60 = .ok (.ifCond .eq 6, 3) := dk_153 0 6 (dk_at dksX9_goDay_2 13 rfl rfl)
theorem dX9_goDay_63 : decode cX9_goDay 63 = .ok (.goto 60, 3) := dk_167 0 60 (dk_at dksX9_goDay_2 16 rfl rfl)
theorem dX9_goDay_66 : decode cX9_goDay 66 = .ok (.aload_n 0, 1) := dk_42 (dk_at dksX9_goDay_2 19 rfl rfl)
theorem dX9_goDay_67 : decode cX9_goDay 67 = .ok (.getfield 127, 3) := dk_180 0 127 (dk_at dksX9_goDay_2 20 rfl rfl)
theorem dX9_goDay_70 : decode cX9_goDay 70 = .ok (.iload_n 3, 1) := dk_29 (dk_at dksX9_goDay_2 23 rfl rfl)
theorem dX9_goDay_71 : decode cX9_goDay 71 = .ok (.dup2, 1) := dk_92 (dk_at dksX9_goDay_3 0 rfl rfl)
theorem dX9_goDay_72 : decode cX9_goDay 72 = .ok (.iaload, 1) := dk_46 (dk_at dksX9_goDay_3 1 rfl rfl)
theorem dX9_goDay_73 : decode cX9_goDay 73 = .ok (.aload_n 0, 1) := dk_42 (dk_at dksX9_goDay_3 2 rfl rfl)
theorem dX9_goDay_74 : decode cX9_goDay 74 = .ok (.aload_n 0, 1) := dk_42 (dk_at dksX9_goDay_3 3 rfl rfl)
theorem dX9_goDay_75 : decode cX9_goDay 75 = .ok (.getfield 127, 3) := dk_180 0 127 (dk_at dksX9_goDay_3 4 rfl rfl)
theorem dX9_goDay_78 : decode cX9_goDay 78 = .ok (.iload_n 3, 1) := dk_29 (dk_at dksX9_goDay_3 7 rfl rfl)
theorem dX9_goDay_79 : decode cX9_goDay 79 = .ok (.iaload, 1) := dk_46 (dk_at dksX9_goDay_3 8 rfl rfl)
theorem dX9_goDay_80 : decode cX9_goDay 80 = .ok (.aload_n 0, 1) := dk_42 (dk_at dksX9_goDay_3 9 rfl rfl)
theorem dX9_goDay_81 : decode cX9_goDay 81 = .ok (.getfield 60, 3) := dk_180 0 60 (dk_at dksX9_goDay_3 10 rfl rfl)
theorem dX9_goDay_84 : decode cX9_goDay 84 = .ok (.aload_n 0, 1) := dk_42 (dk_at dksX9_goDay_3 13 rfl rfl)
theorem dX9_goDay_85 : decode cX9_goDay 85 = .ok (.getfield 93, 3) := dk_180 0 93 (dk_at dksX9_goDay_3 14 rfl rfl)
theorem dX9_goDay_88 : decode cX9_goDay 88 = .ok (.iload_n 3, 1) := dk_29 (dk_at dksX9_goDay_3 17 rfl rfl)
theorem dX9_goDay_89 : decode cX9_goDay 89 = .ok (.iaload, 1) := dk_46 (dk_at dksX9_goDay_3 18 rfl rfl)
theorem dX9_goDay_90 : decode cX9_goDay 90 = .ok (.iaload, 1) := dk_46 (dk_at dksX9_goDay_3 19 rfl rfl)
theorem dX9_goDay_91 : decode cX9_goDay 91 = .ok (.iload_n 1, 1) := dk_27 (dk_at dksX9_goDay_3 20 rfl rfl)
theorem dX9_goDay_92 : decode cX9_goDay 92 = .ok (.aload_n 0, 1) := dk_42 (dk_at dksX9_goDay_3 21 rfl rfl)
theorem dX9_goDay_93 : decode cX9_goDay 93 = .ok (.getfield 475, 3) := dk_180 1 219 (dk_at dksX9_goDay_4 0 rfl rfl)
theorem dX9_goDay_96 : decode cX9_goDay 96 = .ok (.invokevirtual 481, 3) := dk_182 1 225 (dk_at dksX9_goDay_4 3 rfl rfl)
theorem dX9_goDay_99 : decode cX9_goDay 99 = .ok (.isub, 1) := dk_100 (dk_at dksX9_goDay_4 6 rfl rfl)
theorem dX9_goDay_100 : decode cX9_goDay 100 = .ok (.iastore, 1) := dk_79 (dk_at dksX9_goDay_4 7 rfl rfl)
theorem dX9_goDay_101 : decode cX9_goDay 101 = .ok (.aload_n 0, 1) := dk_42 (dk_at dksX9_goDay_4 8 rfl rfl)
theorem dX9_goDay_102 : decode cX9_goDay 102 = .ok (.getfield 127, 3) := dk_180 0 127 (dk_at dksX9_goDay_4 9 rfl rfl)
theorem dX9_goDay_105 : decode cX9_goDay 105 = .ok (.iload_n 3, 1) := dk_29 (dk_at dksX9_goDay_4 12 rfl rfl)
theorem dX9_goDay_106 : decode cX9_goDay 106 = .ok (.iaload, 1) := dk_46 (dk_at dksX9_goDay_4 13 rfl rfl)
theorem dX9_goDay_107 : decode cX9_goDay 107 = .ok (.ifCond .le 6, 3) := dk_158 0 6 (dk_at dksX9_goDay_4 14 rfl rfl)
theorem dX9_goDay_110 : decode cX9_goDay 110 = .ok (.goto 13, 3) := dk_167 0 13 (dk_at dksX9_goDay_4 17 rfl rfl)
theorem dX9_goDay_113 : decode cX9_goDay 113 = .ok (.aload_n 0, 1) := dk_42 (dk_at dksX9_goDay_4 20 rfl rfl)
theorem dX9_goDay_114 : decode cX9_goDay 114 = .ok (.getfield 124, 3) := dk_180 0 124 (dk_at dksX9_goDay_4 21 rfl rfl)
theorem dX9_goDay_117 : decode cX9_goDay 117 = .ok (.iload_n 3, 1) := dk_29 (dk_at dksX9_goDay_5 0 rfl rfl)
theorem dX9_goDay_118 : decode cX9_goDay 118 = .ok (.iconst 4, 1) := dk_7 (dk_at dksX9_goDay_5 1 rfl rfl)
theorem dX9_goDay_119 : decode cX9_goDay 119 = .ok (.iastore, 1) := dk_79 (dk_at dksX9_goDay_5 2 rfl rfl)
theorem dX9_goDay_120 : decode cX9_goDay 120 = .ok (.iinc 2 1, 3) := dk_132 2 1 (dk_at dksX9_goDay_5 3 rfl rfl)
theorem dX9_goDay_123 : decode cX9_goDay 123 = .ok (.iinc 3 1, 3) := dk_132 3 1 (dk_at dksX9_goDay_5 6 rfl rfl)
theorem dX9_goDay_126 : decode cX9_goDay 126 = .ok (.goto (-80), 3) := dk_167 255 176 (dk_at dksX9_goDay_5 9 rfl rfl)
theorem dX9_goDay_129 : decode cX9_goDay 129 = .ok (.aload_n 0, 1) := dk_42 (dk_at dksX9_goDay_5 12 rfl rfl)
theorem dX9_goDay_130 : decode cX9_goDay 130 = .ok (.dup, 1) := dk_89 (dk_at dksX9_goDay_5 13 rfl rfl)
theorem dX9_goDay_131 : decode cX9_goDay 131 = .ok (.getfield 475, 3) := dk_180 1 219 (dk_at dksX9_goDay_5 14 rfl rfl)
theorem dX9_goDay_134 : decode cX9_goDay 134 = .ok (.iconst 1, 1) := dk_4 (dk_at dksX9_goDay_5 17 rfl rfl)
theorem dX9_goDay_135 : decode cX9_goDay 135 = .ok (.iadd, 1) := dk_96 (dk_at dksX9_goDay_5 18 rfl rfl)
theorem dX9_goDay_136 : decode cX9_goDay 136 = .ok (.putfield 475, 3) := dk_181 1 219 (dk_at dksX9_goDay_5 19 rfl rfl)
theorem dX9_goDay_139 : decode cX9_goDay 139 = .ok (.iconst 0, 1) := dk_3 (dk_at dksX9_goDay_5 22 rfl rfl)
theorem dX9_goDay_140 : decode cX9_goDay 140 = .ok (.istore_n 3, 1) := dk_62 (dk_at dksX9_goDay_5 23 rfl rfl)
theorem dX9_goDay_141 : decode cX9_goDay 141 = .ok (.iload_n 3, 1) := dk_29 (dk_at dksX9_goDay_6 0 rfl rfl)
theorem dX9_goDay_142 : decode cX9_goDay 142 = .ok (.aload_n 0, 1) := dk_42 (dk_at dksX9_goDay_6 1 rfl rfl)
theorem dX9_goDay_143 : decode cX9_goDay 143 = .ok (.getfield 429, 3) := dk_180 1 173 (dk_at dksX9_goDay_6 2 rfl rfl)
theorem dX9_goDay_146 : decode cX9_goDay 146 = .ok (.if_icmp .ge 51, 3) := dk_162 0 51 (dk_at dksX9_goDay_6 5 rfl rfl)
theorem dX9_goDay_149 : decode cX9_goDay 149 = .ok (.aload_n 0, 1) := dk_42 (dk_at dksX9_goDay_6 8 rfl rfl)
theorem dX9_goDay_150 : decode cX9_goDay 150 = .ok (.getfield 124, 3) := dk_180 0 124 (dk_at dksX9_goDay_6 9 rfl rfl)
theorem dX9_goDay_153 : decode cX9_goDay 153 = .ok (.iload_n 3, 1) := dk_29 (dk_at dksX9_goDay_6 12 rfl rfl)
theorem dX9_goDay_154 : decode cX9_goDay 154 = .ok (.iaload, 1) := dk_46 (dk_at dksX9_goDay_6 13 rfl rfl)
theorem dX9_goDay_155 : decode cX9_goDay 155 = .ok (.ifCond .ne 36, 3) := dk_154 0 36 (dk_at dksX9_goDay_6 14 rfl rfl)
theorem dX9_goDay_158 : decode cX9_goDay 158 = .ok (.aload_n 0, 1) := dk_42 (dk_at dksX9_goDay_6 17 rfl rfl)
theorem dX9_goDay_159 : decode cX9_goDay 159 = .ok (.getfield 99, 3) := dk_180 0 99 (dk_at dksX9_goDay_6 18 rfl rfl)
theorem dX9_goDay_162 : decode cX9_goDay 162 = .ok (.iload_n 3, 1) := dk_29 (dk_at dksX9_goDay_6 21 rfl rfl)
theorem dX9_goDay_163 : decode cX9_goDay 163 = .ok (.iaload, 1) := dk_46 (dk_at dksX9_goDay_6 22 rfl rfl)
theorem dX9_goDay_164 : decode cX9_goDay 164 = .ok (.aload_n 0, 1) := dk_42 (dk_at dksX9_goDay_6 23 rfl rfl)
theorem dX9_goDay_165 : decode cX9_goDay 165 = .ok (.getfield 475, 3) := dk_180 1 219 (dk_at dksX9_goDay_7 0 rfl rfl)
theorem dX9_goDay_168 : decode cX9_goDay 168 = .ok (.if_icmp .ge 23, 3) := dk_162 0 23 (dk_at dksX9_goDay_7 3 rfl rfl)
theorem dX9_goDay_171 : decode cX9_goDay 171 = .ok (.aload_n 0, 1) := dk_42 (dk_at dksX9_goDay_7 6 rfl rfl)
theorem dX9_goDay_172 : decode cX9_goDay 172 = .ok (.getfield 124, 3) := dk_180 0 124 (dk_at dksX9_goDay_7 7 rfl rfl)
theorem dX9_goDay_175 : decode cX9_goDay 175 = .ok (.iload_n 3, 1) := dk_29 (dk_at dksX9_goDay_7 10 rfl rfl)
theorem dX9_goDay_176 : decode cX9_goDay 176 = .ok (.aload_n 0, 1) := dk_42 (dk_at dksX9_goDay_7 11 rfl rfl)
theorem dX9_goDay_177 : decode cX9_goDay 177 = .ok (.getfield 112, 3) := dk_180 0 112 (dk_at dksX9_goDay_7 12 rfl rfl)
theorem dX9_goDay_180 : decode cX9_goDay 180 = .ok (.iload_n 3, 1) := dk_29 (dk_at dksX9_goDay_7 15 rfl rfl)
theorem dX9_goDay_181 : decode cX9_goDay 181 = .ok (.baload, 1) := dk_51 (dk_at dksX9_goDay_7 16 rfl rfl)
theorem dX9_goDay_182 : decode cX9_goDay 182 = .ok (.ifCond .eq 7, 3) := dk_153 0 7 (dk_at dksX9_goDay_7 17 rfl rfl)
theorem dX9_goDay_185 : decode cX9_goDay 185 = .ok (.iconst 3, 1) := dk_6 (dk_at dksX9_goDay_7 20 rfl rfl)
theorem dX9_goDay_186 : decode cX9_goDay 186 = .ok (.goto 4, 3) := dk_167 0 4 (dk_at dksX9_goDay_7 21 rfl rfl)
theorem dX9_goDay_189 : decode cX9_goDay 189 = .ok (.iconst 1, 1) := dk_4 (dk_at dksX9_goDay_8 0 rfl rfl)
theorem dX9_goDay_190 : decode cX9_goDay 190 = .ok (.iastore, 1) := dk_79 (dk_at dksX9_goDay_8 1 rfl rfl)
theorem dX9_goDay_191 : decode cX9_goDay 191 = .ok (.iinc 3 1, 3) := dk_132 3 1 (dk_at dksX9_goDay_8 2 rfl rfl)
theorem dX9_goDay_194 : decode cX9_goDay 194 = .ok (.goto (-53), 3) := dk_167 255 203 (dk_at dksX9_goDay_8 5 rfl rfl)
theorem dX9_goDay_197 : decode cX9_goDay 197 = .ok (.iload_n 2, 1) := dk_28 (dk_at dksX9_goDay_8 8 rfl rfl)
theorem dX9_goDay_198 : decode cX9_goDay 198 = .ok (.ireturn, 1) := dk_172 (dk_at dksX9_goDay_8 9 rfl rfl)
abbrev cX9_wearOf : ByteArray := prog_24_method_36_code
def yX9_wearOf : MethodName := ⟨RX9, "wearOf", "(IIII)I"⟩
def dkwX9_wearOf_10 : List UInt8 := [164, 0, 7, 27, 167, 0, 9, 42, 180, 0, 36, 3, 46, 172]
abbrev dktX9_wearOf_10 : List UInt8 := dkwX9_wearOf_10 ++ []
def dkwX9_wearOf_9 : List UInt8 := [167, 255, 97, 42, 180, 0, 36, 3, 46, 156, 0, 7, 3, 167, 0, 23, 42, 180, 0, 36, 3, 46, 27]
abbrev dktX9_wearOf_9 : List UInt8 := dkwX9_wearOf_9 ++ dktX9_wearOf_10
def dkwX9_wearOf_8 : List UInt8 := [180, 0, 36, 21, 5, 4, 100, 46, 42, 180, 0, 36, 21, 5, 46, 184, 1, 99, 79, 132, 6, 1]
abbrev dktX9_wearOf_8 : List UInt8 := dkwX9_wearOf_8 ++ dktX9_wearOf_9
def dkwX9_wearOf_7 : List UInt8 := [79, 167, 0, 41, 132, 5, 255, 42, 180, 0, 36, 21, 5, 4, 100, 42, 180, 0, 30, 21, 6, 46, 42]
abbrev dktX9_wearOf_7 : List UInt8 := dkwX9_wearOf_7 ++ dktX9_wearOf_8
def dkwX9_wearOf_6 : List UInt8 := [21, 5, 4, 100, 42, 180, 0, 36, 21, 5, 4, 100, 46, 154, 0, 7, 4, 167, 0, 4, 3, 184, 1, 88]
abbrev dktX9_wearOf_6 : List UInt8 := dkwX9_wearOf_6 ++ dktX9_wearOf_7
def dkwX9_wearOf_5 : List UInt8 := [46, 79, 132, 5, 1, 167, 0, 84, 42, 180, 0, 27, 21, 6, 46, 5, 160, 0, 35, 42, 180, 0, 36]
abbrev dktX9_wearOf_5 : List UInt8 := dkwX9_wearOf_5 ++ dktX9_wearOf_6
def dkwX9_wearOf_4 : List UInt8 := [154, 0, 13, 42, 180, 0, 30, 21, 6, 46, 167, 0, 15, 42, 180, 0, 39, 42, 180, 0, 30, 21, 6, 46]
abbrev dktX9_wearOf_4 : List UInt8 := dkwX9_wearOf_4 ++ dktX9_wearOf_5
def dkwX9_wearOf_3 : List UInt8 := [42, 180, 0, 27, 21, 6, 46, 4, 160, 0, 48, 42, 180, 0, 36, 21, 5, 42, 180, 0, 27, 21, 6, 46]
abbrev dktX9_wearOf_3 : List UInt8 := dkwX9_wearOf_3 ++ dktX9_wearOf_4
def dkwX9_wearOf_2 : List UInt8 := [54, 5, 3, 54, 6, 21, 6, 42, 180, 1, 96, 162, 0, 156, 42, 180, 0, 27, 21, 6, 46, 153, 0, 14]
abbrev dktX9_wearOf_2 : List UInt8 := dkwX9_wearOf_2 ++ dktX9_wearOf_3
def dkwX9_wearOf_1 : List UInt8 := [79, 42, 180, 0, 39, 4, 28, 79, 42, 180, 0, 39, 5, 29, 79, 42, 180, 0, 39, 6, 21, 4, 79, 3]
abbrev dktX9_wearOf_1 : List UInt8 := dkwX9_wearOf_1 ++ dktX9_wearOf_2
def dkwX9_wearOf_0 : List UInt8 := [42, 180, 1, 92, 154, 0, 14, 27, 4, 162, 0, 7, 27, 167, 0, 4, 4, 172, 42, 180, 0, 39, 3, 27]
abbrev dktX9_wearOf_0 : List UInt8 := dkwX9_wearOf_0 ++ dktX9_wearOf_1
theorem dksX9_wearOf_0 : cX9_wearOf.data.toList.drop 0 = dktX9_wearOf_0 := by decide +kernel
theorem dksX9_wearOf_1 : cX9_wearOf.data.toList.drop 24 = dktX9_wearOf_1 := dk_seg dksX9_wearOf_0 24 rfl rfl
theorem dksX9_wearOf_2 : cX9_wearOf.data.toList.drop 48 = dktX9_wearOf_2 := dk_seg dksX9_wearOf_1 24 rfl rfl
theorem dksX9_wearOf_3 : cX9_wearOf.data.toList.drop 72 = dktX9_wearOf_3 := dk_seg dksX9_wearOf_2 24 rfl rfl
theorem dksX9_wearOf_4 : cX9_wearOf.data.toList.drop 96 = dktX9_wearOf_4 := dk_seg dksX9_wearOf_3 24 rfl rfl
theorem dksX9_wearOf_5 : cX9_wearOf.data.toList.drop 120 = dktX9_wearOf_5 := dk_seg dksX9_wearOf_4 24 rfl rfl
theorem dksX9_wearOf_6 : cX9_wearOf.data.toList.drop 143 = dktX9_wearOf_6 := dk_seg dksX9_wearOf_5 23 rfl rfl
theorem dksX9_wearOf_7 : cX9_wearOf.data.toList.drop 167 = dktX9_wearOf_7 := dk_seg dksX9_wearOf_6 24 rfl rfl
theorem dksX9_wearOf_8 : cX9_wearOf.data.toList.drop 190 = dktX9_wearOf_8 := dk_seg dksX9_wearOf_7 23 rfl rfl
theorem dksX9_wearOf_9 : cX9_wearOf.data.toList.drop 212 = dktX9_wearOf_9 := dk_seg dksX9_wearOf_8 22 rfl rfl
theorem dksX9_wearOf_10 : cX9_wearOf.data.toList.drop 235 = dktX9_wearOf_10 := dk_seg dksX9_wearOf_9 23 rfl rfl
theorem dX9_wearOf_0 : decode cX9_wearOf 0 = .ok (.aload_n 0, 1) := dk_42 (dk_at dksX9_wearOf_0 0 rfl rfl)
theorem dX9_wearOf_1 : decode cX9_wearOf 1 = .ok (.getfield 348, 3) := dk_180 1 92 (dk_at dksX9_wearOf_0 1 rfl rfl)
theorem dX9_wearOf_4 : decode cX9_wearOf 4 = .ok (.ifCond .ne 14, 3) := dk_154 0 14 (dk_at dksX9_wearOf_0 4 rfl rfl)
theorem dX9_wearOf_7 : decode cX9_wearOf 7 = .ok (.iload_n 1, 1) := dk_27 (dk_at dksX9_wearOf_0 7 rfl rfl)
theorem dX9_wearOf_8 : decode cX9_wearOf 8 = .ok (.iconst 1, 1) := dk_4 (dk_at dksX9_wearOf_0 8 rfl rfl)
theorem dX9_wearOf_9 : decode cX9_wearOf 9 = .ok (.if_icmp .ge 7, 3) := dk_162 0 7 (dk_at dksX9_wearOf_0 9 rfl rfl)
theorem dX9_wearOf_12 : decode cX9_wearOf 12 = .ok (.iload_n 1, 1) := dk_27 (dk_at dksX9_wearOf_0 12 rfl rfl)
theorem dX9_wearOf_13 : decode cX9_wearOf 13 = .ok (.goto 4, 3) := dk_167 0 4 (dk_at dksX9_wearOf_0 13 rfl rfl)
theorem dX9_wearOf_16 : decode cX9_wearOf 16 = .ok (.iconst 1, 1) := dk_4 (dk_at dksX9_wearOf_0 16 rfl rfl)
theorem dX9_wearOf_17 : decode cX9_wearOf 17 = .ok (.ireturn, 1) := dk_172 (dk_at dksX9_wearOf_0 17 rfl rfl)
theorem dX9_wearOf_18 : decode cX9_wearOf 18 = .ok (.aload_n 0, 1) := dk_42 (dk_at dksX9_wearOf_0 18 rfl rfl)
theorem dX9_wearOf_19 : decode cX9_wearOf 19 = .ok (.getfield 39, 3) := dk_180 0 39 (dk_at dksX9_wearOf_0 19 rfl rfl)
theorem dX9_wearOf_22 : decode cX9_wearOf 22 = .ok (.iconst 0, 1) := dk_3 (dk_at dksX9_wearOf_0 22 rfl rfl)
theorem dX9_wearOf_23 : decode cX9_wearOf 23 = .ok (.iload_n 1, 1) := dk_27 (dk_at dksX9_wearOf_0 23 rfl rfl)
theorem dX9_wearOf_24 : decode cX9_wearOf 24 = .ok (.iastore, 1) := dk_79 (dk_at dksX9_wearOf_1 0 rfl rfl)
theorem dX9_wearOf_25 : decode cX9_wearOf 25 = .ok (.aload_n 0, 1) := dk_42 (dk_at dksX9_wearOf_1 1 rfl rfl)
theorem dX9_wearOf_26 : decode cX9_wearOf 26 = .ok (.getfield 39, 3) := dk_180 0 39 (dk_at dksX9_wearOf_1 2 rfl rfl)
theorem dX9_wearOf_29 : decode cX9_wearOf 29 = .ok (.iconst 1, 1) := dk_4 (dk_at dksX9_wearOf_1 5 rfl rfl)
theorem dX9_wearOf_30 : decode cX9_wearOf 30 = .ok (.iload_n 2, 1) := dk_28 (dk_at dksX9_wearOf_1 6 rfl rfl)
theorem dX9_wearOf_31 : decode cX9_wearOf 31 = .ok (.iastore, 1) := dk_79 (dk_at dksX9_wearOf_1 7 rfl rfl)
theorem dX9_wearOf_32 : decode cX9_wearOf 32 = .ok (.aload_n 0, 1) := dk_42 (dk_at dksX9_wearOf_1 8 rfl rfl)
theorem dX9_wearOf_33 : decode cX9_wearOf 33 = .ok (.getfield 39, 3) := dk_180 0 39 (dk_at dksX9_wearOf_1 9 rfl rfl)
theorem dX9_wearOf_36 : decode cX9_wearOf 36 = .ok (.iconst 2, 1) := dk_5 (dk_at dksX9_wearOf_1 12 rfl rfl)
theorem dX9_wearOf_37 : decode cX9_wearOf 37 = .ok (.iload_n 3, 1) := dk_29 (dk_at dksX9_wearOf_1 13 rfl rfl)
theorem dX9_wearOf_38 : decode cX9_wearOf 38 = .ok (.iastore, 1) := dk_79 (dk_at dksX9_wearOf_1 14 rfl rfl)
theorem dX9_wearOf_39 : decode cX9_wearOf 39 = .ok (.aload_n 0, 1) := dk_42 (dk_at dksX9_wearOf_1 15 rfl rfl)
theorem dX9_wearOf_40 : decode cX9_wearOf 40 = .ok (.getfield 39, 3) := dk_180 0 39 (dk_at dksX9_wearOf_1 16 rfl rfl)
theorem dX9_wearOf_43 : decode cX9_wearOf 43 = .ok (.iconst 3, 1) := dk_6 (dk_at dksX9_wearOf_1 19 rfl rfl)
theorem dX9_wearOf_44 : decode cX9_wearOf 44 = .ok (.iload 4, 2) := dk_21 4 (dk_at dksX9_wearOf_1 20 rfl rfl)
theorem dX9_wearOf_46 : decode cX9_wearOf 46 = .ok (.iastore, 1) := dk_79 (dk_at dksX9_wearOf_1 22 rfl rfl)
theorem dX9_wearOf_47 : decode cX9_wearOf 47 = .ok (.iconst 0, 1) := dk_3 (dk_at dksX9_wearOf_1 23 rfl rfl)
theorem dX9_wearOf_48 : decode cX9_wearOf 48 = .ok (.istore 5, 2) := dk_54 5 (dk_at dksX9_wearOf_2 0 rfl rfl)
theorem dX9_wearOf_50 : decode cX9_wearOf 50 = .ok (.iconst 0, 1) := dk_3 (dk_at dksX9_wearOf_2 2 rfl rfl)
theorem dX9_wearOf_51 : decode cX9_wearOf 51 = .ok (.istore 6, 2) := dk_54 6 (dk_at dksX9_wearOf_2 3 rfl rfl)
theorem dX9_wearOf_53 : decode cX9_wearOf 53 = .ok (.iload 6, 2) := dk_21 6 (dk_at dksX9_wearOf_2 5 rfl rfl)
theorem dX9_wearOf_55 : decode cX9_wearOf 55 = .ok (.aload_n 0, 1) := dk_42 (dk_at dksX9_wearOf_2 7 rfl rfl)
theorem dX9_wearOf_56 : decode cX9_wearOf 56 = .ok (.getfield 352, 3) := dk_180 1 96 (dk_at dksX9_wearOf_2 8 rfl rfl)
theorem dX9_wearOf_59 : decode cX9_wearOf 59 = .ok (.if_icmp .ge 156, 3) := dk_162 0 156 (dk_at dksX9_wearOf_2 11 rfl rfl)
theorem dX9_wearOf_62 : decode cX9_wearOf 62 = .ok (.aload_n 0, 1) := dk_42 (dk_at dksX9_wearOf_2 14 rfl rfl)
theorem dX9_wearOf_63 : decode cX9_wearOf 63 = .ok (.getfield 27, 3) := dk_180 0 27 (dk_at dksX9_wearOf_2 15 rfl rfl)
theorem dX9_wearOf_66 : decode cX9_wearOf 66 = .ok (.iload 6, 2) := dk_21 6 (dk_at dksX9_wearOf_2 18 rfl rfl)
theorem dX9_wearOf_68 : decode cX9_wearOf 68 = .ok (.iaload, 1) := dk_46 (dk_at dksX9_wearOf_2 20 rfl rfl)
theorem dX9_wearOf_69 : decode cX9_wearOf 69 = .ok (.ifCond .eq 14, 3) := dk_153 0 14 (dk_at dksX9_wearOf_2 21 rfl rfl)
theorem dX9_wearOf_72 : decode cX9_wearOf 72 = .ok (.aload_n 0, 1) := dk_42 (dk_at dksX9_wearOf_3 0 rfl rfl)
theorem dX9_wearOf_73 : decode cX9_wearOf 73 = .ok (.getfield 27, 3) := dk_180 0 27 (dk_at dksX9_wearOf_3 1 rfl rfl)
theorem dX9_wearOf_76 : decode cX9_wearOf 76 = .ok (.iload 6, 2) := dk_21 6 (dk_at dksX9_wearOf_3 4 rfl rfl)
theorem dX9_wearOf_78 : decode cX9_wearOf 78 = .ok (.iaload, 1) := dk_46 (dk_at dksX9_wearOf_3 6 rfl rfl)
theorem dX9_wearOf_79 : decode cX9_wearOf 79 = .ok (.iconst 1, 1) := dk_4 (dk_at dksX9_wearOf_3 7 rfl rfl)
theorem dX9_wearOf_80 : decode cX9_wearOf 80 = .ok (.if_icmp .ne 48, 3) := dk_160 0 48 (dk_at dksX9_wearOf_3 8 rfl rfl)
theorem dX9_wearOf_83 : decode cX9_wearOf 83 = .ok (.aload_n 0, 1) := dk_42 (dk_at dksX9_wearOf_3 11 rfl rfl)
theorem dX9_wearOf_84 : decode cX9_wearOf 84 = .ok (.getfield 36, 3) := dk_180 0 36 (dk_at dksX9_wearOf_3 12 rfl rfl)
theorem dX9_wearOf_87 : decode cX9_wearOf 87 = .ok (.iload 5, 2) := dk_21 5 (dk_at dksX9_wearOf_3 15 rfl rfl)
theorem dX9_wearOf_89 : decode cX9_wearOf 89 = .ok (.aload_n 0, 1) := dk_42 (dk_at dksX9_wearOf_3 17 rfl rfl)
theorem dX9_wearOf_90 : decode cX9_wearOf 90 = .ok (.getfield 27, 3) := dk_180 0 27 (dk_at dksX9_wearOf_3 18 rfl rfl)
theorem dX9_wearOf_93 : decode cX9_wearOf 93 = .ok (.iload 6, 2) := dk_21 6 (dk_at dksX9_wearOf_3 21 rfl rfl)
theorem dX9_wearOf_95 : decode cX9_wearOf 95 = .ok (.iaload, 1) := dk_46 (dk_at dksX9_wearOf_3 23 rfl rfl)
theorem dX9_wearOf_96 : decode cX9_wearOf 96 = .ok (.ifCond .ne 13, 3) := dk_154 0 13 (dk_at dksX9_wearOf_4 0 rfl rfl)
theorem dX9_wearOf_99 : decode cX9_wearOf 99 = .ok (.aload_n 0, 1) := dk_42 (dk_at dksX9_wearOf_4 3 rfl rfl)
theorem dX9_wearOf_100 : decode cX9_wearOf 100 = .ok (.getfield 30, 3) := dk_180 0 30 (dk_at dksX9_wearOf_4 4 rfl rfl)
theorem dX9_wearOf_103 : decode cX9_wearOf 103 = .ok (.iload 6, 2) := dk_21 6 (dk_at dksX9_wearOf_4 7 rfl rfl)
theorem dX9_wearOf_105 : decode cX9_wearOf 105 = .ok (.iaload, 1) := dk_46 (dk_at dksX9_wearOf_4 9 rfl rfl)
theorem dX9_wearOf_106 : decode cX9_wearOf 106 = .ok (.goto 15, 3) := dk_167 0 15 (dk_at dksX9_wearOf_4 10 rfl rfl)
theorem dX9_wearOf_109 : decode cX9_wearOf 109 = .ok (.aload_n 0, 1) := dk_42 (dk_at dksX9_wearOf_4 13 rfl rfl)
theorem dX9_wearOf_110 : decode cX9_wearOf 110 = .ok (.getfield 39, 3) := dk_180 0 39 (dk_at dksX9_wearOf_4 14 rfl rfl)
theorem dX9_wearOf_113 : decode cX9_wearOf 113 = .ok (.aload_n 0, 1) := dk_42 (dk_at dksX9_wearOf_4 17 rfl rfl)
theorem dX9_wearOf_114 : decode cX9_wearOf 114 = .ok (.getfield 30, 3) := dk_180 0 30 (dk_at dksX9_wearOf_4 18 rfl rfl)
theorem dX9_wearOf_117 : decode cX9_wearOf 117 = .ok (.iload 6, 2) := dk_21 6 (dk_at dksX9_wearOf_4 21 rfl rfl)
theorem dX9_wearOf_119 : decode cX9_wearOf 119 = .ok (.iaload, 1) := dk_46 (dk_at dksX9_wearOf_4 23 rfl rfl)
theorem dX9_wearOf_120 : decode cX9_wearOf 120 = .ok (.iaload, 1) := dk_46 (dk_at dksX9_wearOf_5 0 rfl rfl)
theorem dX9_wearOf_121 : decode cX9_wearOf 121 = .ok (.iastore, 1) := dk_79 (dk_at dksX9_wearOf_5 1 rfl rfl)
theorem dX9_wearOf_122 : decode cX9_wearOf 122 = .ok (.iinc 5 1, 3) := dk_132 5 1 (dk_at dksX9_wearOf_5 2 rfl rfl)
theorem dX9_wearOf_125 : decode cX9_wearOf 125 = .ok (.goto 84, 3) := dk_167 0 84 (dk_at dksX9_wearOf_5 5 rfl rfl)
theorem dX9_wearOf_128 : decode cX9_wearOf 128 = .ok (.aload_n 0, 1) := dk_42 (dk_at dksX9_wearOf_5 8 rfl rfl)
theorem dX9_wearOf_129 : decode cX9_wearOf 129 = .ok (.getfield 27, 3) := dk_180 0 27 (dk_at dksX9_wearOf_5 9 rfl rfl)
theorem dX9_wearOf_132 : decode cX9_wearOf 132 = .ok (.iload 6, 2) := dk_21 6 (dk_at dksX9_wearOf_5 12 rfl rfl)
theorem dX9_wearOf_134 : decode cX9_wearOf 134 = .ok (.iaload, 1) := dk_46 (dk_at dksX9_wearOf_5 14 rfl rfl)
theorem dX9_wearOf_135 : decode cX9_wearOf 135 = .ok (.iconst 2, 1) := dk_5 (dk_at dksX9_wearOf_5 15 rfl rfl)
theorem dX9_wearOf_136 : decode cX9_wearOf 136 = .ok (.if_icmp .ne 35, 3) := dk_160 0 35 (dk_at dksX9_wearOf_5 16 rfl rfl)
theorem dX9_wearOf_139 : decode cX9_wearOf 139 = .ok (.aload_n 0, 1) := dk_42 (dk_at dksX9_wearOf_5 19 rfl rfl)
theorem dX9_wearOf_140 : decode cX9_wearOf 140 = .ok (.getfield 36, 3) := dk_180 0 36 (dk_at dksX9_wearOf_5 20 rfl rfl)
theorem dX9_wearOf_143 : decode cX9_wearOf 143 = .ok (.iload 5, 2) := dk_21 5 (dk_at dksX9_wearOf_6 0 rfl rfl)
theorem dX9_wearOf_145 : decode cX9_wearOf 145 = .ok (.iconst 1, 1) := dk_4 (dk_at dksX9_wearOf_6 2 rfl rfl)
theorem dX9_wearOf_146 : decode cX9_wearOf 146 = .ok (.isub, 1) := dk_100 (dk_at dksX9_wearOf_6 3 rfl rfl)
theorem dX9_wearOf_147 : decode cX9_wearOf 147 = .ok (.aload_n 0, 1) := dk_42 (dk_at dksX9_wearOf_6 4 rfl rfl)
theorem dX9_wearOf_148 : decode cX9_wearOf 148 = .ok (.getfield 36, 3) := dk_180 0 36 (dk_at dksX9_wearOf_6 5 rfl rfl)
theorem dX9_wearOf_151 : decode cX9_wearOf 151 = .ok (.iload 5, 2) := dk_21 5 (dk_at dksX9_wearOf_6 8 rfl rfl)
theorem dX9_wearOf_153 : decode cX9_wearOf 153 = .ok (.iconst 1, 1) := dk_4 (dk_at dksX9_wearOf_6 10 rfl rfl)
theorem dX9_wearOf_154 : decode cX9_wearOf 154 = .ok (.isub, 1) := dk_100 (dk_at dksX9_wearOf_6 11 rfl rfl)
theorem dX9_wearOf_155 : decode cX9_wearOf 155 = .ok (.iaload, 1) := dk_46 (dk_at dksX9_wearOf_6 12 rfl rfl)
theorem dX9_wearOf_156 : decode cX9_wearOf 156 = .ok (.ifCond .ne 7, 3) := dk_154 0 7 (dk_at dksX9_wearOf_6 13 rfl rfl)
theorem dX9_wearOf_159 : decode cX9_wearOf 159 = .ok (.iconst 1, 1) := dk_4 (dk_at dksX9_wearOf_6 16 rfl rfl)
theorem dX9_wearOf_160 : decode cX9_wearOf 160 = .ok (.goto 4, 3) := dk_167 0 4 (dk_at dksX9_wearOf_6 17 rfl rfl)
theorem dX9_wearOf_163 : decode cX9_wearOf 163 = .ok (.iconst 0, 1) := dk_3 (dk_at dksX9_wearOf_6 20 rfl rfl)
theorem dX9_wearOf_164 : decode cX9_wearOf 164 = .ok (.invokestatic 344, 3) := dk_184 1 88 (dk_at dksX9_wearOf_6 21 rfl rfl)
theorem dX9_wearOf_167 : decode cX9_wearOf 167 = .ok (.iastore, 1) := dk_79 (dk_at dksX9_wearOf_7 0 rfl rfl)
theorem dX9_wearOf_168 : decode cX9_wearOf 168 = .ok (.goto 41, 3) := dk_167 0 41 (dk_at dksX9_wearOf_7 1 rfl rfl)
theorem dX9_wearOf_171 : decode cX9_wearOf 171 = .ok (.iinc 5 (-1), 3) := dk_132 5 255 (dk_at dksX9_wearOf_7 4 rfl rfl)
theorem dX9_wearOf_174 : decode cX9_wearOf 174 = .ok (.aload_n 0, 1) := dk_42 (dk_at dksX9_wearOf_7 7 rfl rfl)
theorem dX9_wearOf_175 : decode cX9_wearOf 175 = .ok (.getfield 36, 3) := dk_180 0 36 (dk_at dksX9_wearOf_7 8 rfl rfl)
theorem dX9_wearOf_178 : decode cX9_wearOf 178 = .ok (.iload 5, 2) := dk_21 5 (dk_at dksX9_wearOf_7 11 rfl rfl)
theorem dX9_wearOf_180 : decode cX9_wearOf 180 = .ok (.iconst 1, 1) := dk_4 (dk_at dksX9_wearOf_7 13 rfl rfl)
theorem dX9_wearOf_181 : decode cX9_wearOf 181 = .ok (.isub, 1) := dk_100 (dk_at dksX9_wearOf_7 14 rfl rfl)
theorem dX9_wearOf_182 : decode cX9_wearOf 182 = .ok (.aload_n 0, 1) := dk_42 (dk_at dksX9_wearOf_7 15 rfl rfl)
theorem dX9_wearOf_183 : decode cX9_wearOf 183 = .ok (.getfield 30, 3) := dk_180 0 30 (dk_at dksX9_wearOf_7 16 rfl rfl)
theorem dX9_wearOf_186 : decode cX9_wearOf 186 = .ok (.iload 6, 2) := dk_21 6 (dk_at dksX9_wearOf_7 19 rfl rfl)
theorem dX9_wearOf_188 : decode cX9_wearOf 188 = .ok (.iaload, 1) := dk_46 (dk_at dksX9_wearOf_7 21 rfl rfl)
theorem dX9_wearOf_189 : decode cX9_wearOf 189 = .ok (.aload_n 0, 1) := dk_42 (dk_at dksX9_wearOf_7 22 rfl rfl)
theorem dX9_wearOf_190 : decode cX9_wearOf 190 = .ok (.getfield 36, 3) := dk_180 0 36 (dk_at dksX9_wearOf_8 0 rfl rfl)
theorem dX9_wearOf_193 : decode cX9_wearOf 193 = .ok (.iload 5, 2) := dk_21 5 (dk_at dksX9_wearOf_8 3 rfl rfl)
theorem dX9_wearOf_195 : decode cX9_wearOf 195 = .ok (.iconst 1, 1) := dk_4 (dk_at dksX9_wearOf_8 5 rfl rfl)
theorem dX9_wearOf_196 : decode cX9_wearOf 196 = .ok (.isub, 1) := dk_100 (dk_at dksX9_wearOf_8 6 rfl rfl)
theorem dX9_wearOf_197 : decode cX9_wearOf 197 = .ok (.iaload, 1) := dk_46 (dk_at dksX9_wearOf_8 7 rfl rfl)
theorem dX9_wearOf_198 : decode cX9_wearOf 198 = .ok (.aload_n 0, 1) := dk_42 (dk_at dksX9_wearOf_8 8 rfl rfl)
theorem dX9_wearOf_199 : decode cX9_wearOf 199 = .ok (.getfield 36, 3) := dk_180 0 36 (dk_at dksX9_wearOf_8 9 rfl rfl)
theorem dX9_wearOf_202 : decode cX9_wearOf 202 = .ok (.iload 5, 2) := dk_21 5 (dk_at dksX9_wearOf_8 12 rfl rfl)
theorem dX9_wearOf_204 : decode cX9_wearOf 204 = .ok (.iaload, 1) := dk_46 (dk_at dksX9_wearOf_8 14 rfl rfl)
theorem dX9_wearOf_205 : decode cX9_wearOf 205 = .ok (.invokestatic 355, 3) := dk_184 1 99 (dk_at dksX9_wearOf_8 15 rfl rfl)
theorem dX9_wearOf_208 : decode cX9_wearOf 208 = .ok (.iastore, 1) := dk_79 (dk_at dksX9_wearOf_8 18 rfl rfl)
theorem dX9_wearOf_209 : decode cX9_wearOf 209 = .ok (.iinc 6 1, 3) := dk_132 6 1 (dk_at dksX9_wearOf_8 19 rfl rfl)
theorem dX9_wearOf_212 : decode cX9_wearOf 212 = .ok (.goto (-159), 3) := dk_167 255 97 (dk_at dksX9_wearOf_9 0 rfl rfl)
theorem dX9_wearOf_215 : decode cX9_wearOf 215 = .ok (.aload_n 0, 1) := dk_42 (dk_at dksX9_wearOf_9 3 rfl rfl)
theorem dX9_wearOf_216 : decode cX9_wearOf 216 = .ok (.getfield 36, 3) := dk_180 0 36 (dk_at dksX9_wearOf_9 4 rfl rfl)
theorem dX9_wearOf_219 : decode cX9_wearOf 219 = .ok (.iconst 0, 1) := dk_3 (dk_at dksX9_wearOf_9 7 rfl rfl)
theorem dX9_wearOf_220 : decode cX9_wearOf 220 = .ok (.iaload, 1) := dk_46 (dk_at dksX9_wearOf_9 8 rfl rfl)
theorem dX9_wearOf_221 : decode cX9_wearOf 221 = .ok (.ifCond .ge 7, 3) := dk_156 0 7 (dk_at dksX9_wearOf_9 9 rfl rfl)
theorem dX9_wearOf_224 : decode cX9_wearOf 224 = .ok (.iconst 0, 1) := dk_3 (dk_at dksX9_wearOf_9 12 rfl rfl)
theorem dX9_wearOf_225 : decode cX9_wearOf 225 = .ok (.goto 23, 3) := dk_167 0 23 (dk_at dksX9_wearOf_9 13 rfl rfl)
theorem dX9_wearOf_228 : decode cX9_wearOf 228 = .ok (.aload_n 0, 1) := dk_42 (dk_at dksX9_wearOf_9 16 rfl rfl)
theorem dX9_wearOf_229 : decode cX9_wearOf 229 = .ok (.getfield 36, 3) := dk_180 0 36 (dk_at dksX9_wearOf_9 17 rfl rfl)
theorem dX9_wearOf_232 : decode cX9_wearOf 232 = .ok (.iconst 0, 1) := dk_3 (dk_at dksX9_wearOf_9 20 rfl rfl)
theorem dX9_wearOf_233 : decode cX9_wearOf 233 = .ok (.iaload, 1) := dk_46 (dk_at dksX9_wearOf_9 21 rfl rfl)
theorem dX9_wearOf_234 : decode cX9_wearOf 234 = .ok (.iload_n 1, 1) := dk_27 (dk_at dksX9_wearOf_9 22 rfl rfl)
theorem dX9_wearOf_235 : decode cX9_wearOf 235 = .ok (.if_icmp .le 7, 3) := dk_164 0 7 (dk_at dksX9_wearOf_10 0 rfl rfl)
theorem dX9_wearOf_238 : decode cX9_wearOf 238 = .ok (.iload_n 1, 1) := dk_27 (dk_at dksX9_wearOf_10 3 rfl rfl)
theorem dX9_wearOf_239 : decode cX9_wearOf 239 = .ok (.goto 9, 3) := dk_167 0 9 (dk_at dksX9_wearOf_10 4 rfl rfl)
theorem dX9_wearOf_242 : decode cX9_wearOf 242 = .ok (.aload_n 0, 1) := dk_42 (dk_at dksX9_wearOf_10 7 rfl rfl)
theorem dX9_wearOf_243 : decode cX9_wearOf 243 = .ok (.getfield 36, 3) := dk_180 0 36 (dk_at dksX9_wearOf_10 8 rfl rfl)
theorem dX9_wearOf_246 : decode cX9_wearOf 246 = .ok (.iconst 0, 1) := dk_3 (dk_at dksX9_wearOf_10 11 rfl rfl)
theorem dX9_wearOf_247 : decode cX9_wearOf 247 = .ok (.iaload, 1) := dk_46 (dk_at dksX9_wearOf_10 12 rfl rfl)
theorem dX9_wearOf_248 : decode cX9_wearOf 248 = .ok (.ireturn, 1) := dk_172 (dk_at dksX9_wearOf_10 13 rfl rfl)
abbrev cX9_done : ByteArray := prog_24_method_35_code
def yX9_done : MethodName := ⟨RX9, "done", "(III)I"⟩
def dkwX9_done_6 : List UInt8 := [172, 27, 154, 0, 7, 28, 153, 0, 7, 4, 167, 0, 4, 3, 184, 1, 88, 172]
abbrev dktX9_done_6 : List UInt8 := dkwX9_done_6 ++ []
def dkwX9_done_5 : List UInt8 := [167, 0, 4, 3, 184, 1, 88, 172, 27, 153, 0, 11, 28, 153, 0, 7, 4, 167, 0, 4, 3, 184, 1, 88]
abbrev dktX9_done_5 : List UInt8 := dkwX9_done_5 ++ dktX9_done_6
def dkwX9_done_4 : List UInt8 := [184, 1, 88, 172, 27, 28, 164, 0, 7, 4, 167, 0, 4, 3, 184, 1, 88, 172, 27, 28, 160, 0, 7, 4]
abbrev dktX9_done_4 : List UInt8 := dkwX9_done_4 ++ dktX9_done_5
def dkwX9_done_3 : List UInt8 := [28, 154, 0, 7, 3, 167, 0, 6, 27, 28, 112, 172, 27, 28, 162, 0, 7, 4, 167, 0, 4, 3]
abbrev dktX9_done_3 : List UInt8 := dkwX9_done_3 ++ dktX9_done_4
def dkwX9_done_2 : List UInt8 := [27, 28, 96, 172, 27, 28, 100, 172, 27, 28, 104, 172, 28, 154, 0, 7, 3, 167, 0, 6, 27, 28, 108, 172]
abbrev dktX9_done_2 : List UInt8 := dkwX9_done_2 ++ dktX9_done_3
def dkwX9_done_1 : List UInt8 := [170, 0, 0, 0, 0, 0, 214, 0, 0, 0, 37, 0, 0, 0, 62, 0, 0, 0, 143, 0, 0, 0, 197, 0, 0, 0, 214, 0, 0, 0, 214, 0, 0, 0, 214, 0, 0, 0, 127, 0, 0, 0, 119, 0, 0, 0, 214, 0, 0, 0, 123, 0, 0, 0, 214, 0, 0, 0, 131, 0, 0, 0, 214, 0, 0, 0, 214, 0, 0, 0, 214, 0, 0, 0, 214, 0, 0, 0, 214, 0, 0, 0, 214, 0, 0, 0, 214, 0, 0, 0, 214, 0, 0, 0, 214, 0, 0, 0, 214, 0, 0, 0, 214, 0, 0, 0, 214, 0, 0, 0, 155, 0, 0, 0, 183, 0, 0, 0, 169]
abbrev dktX9_done_1 : List UInt8 := dkwX9_done_1 ++ dktX9_done_2
def dkwX9_done_0 : List UInt8 := [26]
abbrev dktX9_done_0 : List UInt8 := dkwX9_done_0 ++ dktX9_done_1
theorem dksX9_done_0 : cX9_done.data.toList.drop 0 = dktX9_done_0 := by decide +kernel
theorem dksX9_done_1 : cX9_done.data.toList.drop 1 = dktX9_done_1 := dk_seg dksX9_done_0 1 rfl rfl
theorem dksX9_done_2 : cX9_done.data.toList.drop 120 = dktX9_done_2 := dk_seg dksX9_done_1 119 rfl rfl
theorem dksX9_done_3 : cX9_done.data.toList.drop 144 = dktX9_done_3 := dk_seg dksX9_done_2 24 rfl rfl
theorem dksX9_done_4 : cX9_done.data.toList.drop 166 = dktX9_done_4 := dk_seg dksX9_done_3 22 rfl rfl
theorem dksX9_done_5 : cX9_done.data.toList.drop 190 = dktX9_done_5 := dk_seg dksX9_done_4 24 rfl rfl
theorem dksX9_done_6 : cX9_done.data.toList.drop 214 = dktX9_done_6 := dk_seg dksX9_done_5 24 rfl rfl
theorem dX9_done_0 : decode cX9_done 0 = .ok (.iload_n 0, 1) := dk_26 (dk_at dksX9_done_0 0 rfl rfl)
theorem dX9_done_1 : decode cX9_done 1 = .ok (.tableswitch 214 37 62 #[143, 197, 214, 214, 214, 127, 119, 214, 123, 214, 131, 214, 214, 214, 214, 214, 214, 214, 214, 214, 214, 214, 214, 155, 183, 169], 119) := by decide +kernel
theorem dX9_done_120 : decode cX9_done 120 = .ok (.iload_n 1, 1) := dk_27 (dk_at dksX9_done_2 0 rfl rfl)
theorem dX9_done_121 : decode cX9_done 121 = .ok (.iload_n 2, 1) := dk_28 (dk_at dksX9_done_2 1 rfl rfl)
theorem dX9_done_122 : decode cX9_done 122 = .ok (.iadd, 1) := dk_96 (dk_at dksX9_done_2 2 rfl rfl)
theorem dX9_done_123 : decode cX9_done 123 = .ok (.ireturn, 1) := dk_172 (dk_at dksX9_done_2 3 rfl rfl)
theorem dX9_done_124 : decode cX9_done 124 = .ok (.iload_n 1, 1) := dk_27 (dk_at dksX9_done_2 4 rfl rfl)
theorem dX9_done_125 : decode cX9_done 125 = .ok (.iload_n 2, 1) := dk_28 (dk_at dksX9_done_2 5 rfl rfl)
theorem dX9_done_126 : decode cX9_done 126 = .ok (.isub, 1) := dk_100 (dk_at dksX9_done_2 6 rfl rfl)
theorem dX9_done_127 : decode cX9_done 127 = .ok (.ireturn, 1) := dk_172 (dk_at dksX9_done_2 7 rfl rfl)
theorem dX9_done_128 : decode cX9_done 128 = .ok (.iload_n 1, 1) := dk_27 (dk_at dksX9_done_2 8 rfl rfl)
theorem dX9_done_129 : decode cX9_done 129 = .ok (.iload_n 2, 1) := dk_28 (dk_at dksX9_done_2 9 rfl rfl)
theorem dX9_done_130 : decode cX9_done 130 = .ok (.imul, 1) := dk_104 (dk_at dksX9_done_2 10 rfl rfl)
theorem dX9_done_131 : decode cX9_done 131 = .ok (.ireturn, 1) := dk_172 (dk_at dksX9_done_2 11 rfl rfl)
theorem dX9_done_132 : decode cX9_done 132 = .ok (.iload_n 2, 1) := dk_28 (dk_at dksX9_done_2 12 rfl rfl)
theorem dX9_done_133 : decode cX9_done 133 = .ok (.ifCond .ne 7, 3) := dk_154 0 7 (dk_at dksX9_done_2 13 rfl rfl)
theorem dX9_done_136 : decode cX9_done 136 = .ok (.iconst 0, 1) := dk_3 (dk_at dksX9_done_2 16 rfl rfl)
theorem dX9_done_137 : decode cX9_done 137 = .ok (.goto 6, 3) := dk_167 0 6 (dk_at dksX9_done_2 17 rfl rfl)
theorem dX9_done_140 : decode cX9_done 140 = .ok (.iload_n 1, 1) := dk_27 (dk_at dksX9_done_2 20 rfl rfl)
theorem dX9_done_141 : decode cX9_done 141 = .ok (.iload_n 2, 1) := dk_28 (dk_at dksX9_done_2 21 rfl rfl)
theorem dX9_done_142 : decode cX9_done 142 = .ok (.idiv, 1) := dk_108 (dk_at dksX9_done_2 22 rfl rfl)
theorem dX9_done_143 : decode cX9_done 143 = .ok (.ireturn, 1) := dk_172 (dk_at dksX9_done_2 23 rfl rfl)
theorem dX9_done_144 : decode cX9_done 144 = .ok (.iload_n 2, 1) := dk_28 (dk_at dksX9_done_3 0 rfl rfl)
theorem dX9_done_145 : decode cX9_done 145 = .ok (.ifCond .ne 7, 3) := dk_154 0 7 (dk_at dksX9_done_3 1 rfl rfl)
theorem dX9_done_148 : decode cX9_done 148 = .ok (.iconst 0, 1) := dk_3 (dk_at dksX9_done_3 4 rfl rfl)
theorem dX9_done_149 : decode cX9_done 149 = .ok (.goto 6, 3) := dk_167 0 6 (dk_at dksX9_done_3 5 rfl rfl)
theorem dX9_done_152 : decode cX9_done 152 = .ok (.iload_n 1, 1) := dk_27 (dk_at dksX9_done_3 8 rfl rfl)
theorem dX9_done_153 : decode cX9_done 153 = .ok (.iload_n 2, 1) := dk_28 (dk_at dksX9_done_3 9 rfl rfl)
theorem dX9_done_154 : decode cX9_done 154 = .ok (.irem, 1) := dk_112 (dk_at dksX9_done_3 10 rfl rfl)
theorem dX9_done_155 : decode cX9_done 155 = .ok (.ireturn, 1) := dk_172 (dk_at dksX9_done_3 11 rfl rfl)
theorem dX9_done_156 : decode cX9_done 156 = .ok (.iload_n 1, 1) := dk_27 (dk_at dksX9_done_3 12 rfl rfl)
theorem dX9_done_157 : decode cX9_done 157 = .ok (.iload_n 2, 1) := dk_28 (dk_at dksX9_done_3 13 rfl rfl)
theorem dX9_done_158 : decode cX9_done 158 = .ok (.if_icmp .ge 7, 3) := dk_162 0 7 (dk_at dksX9_done_3 14 rfl rfl)
theorem dX9_done_161 : decode cX9_done 161 = .ok (.iconst 1, 1) := dk_4 (dk_at dksX9_done_3 17 rfl rfl)
theorem dX9_done_162 : decode cX9_done 162 = .ok (.goto 4, 3) := dk_167 0 4 (dk_at dksX9_done_3 18 rfl rfl)
theorem dX9_done_165 : decode cX9_done 165 = .ok (.iconst 0, 1) := dk_3 (dk_at dksX9_done_3 21 rfl rfl)
theorem dX9_done_166 : decode cX9_done 166 = .ok (.invokestatic 344, 3) := dk_184 1 88 (dk_at dksX9_done_4 0 rfl rfl)
theorem dX9_done_169 : decode cX9_done 169 = .ok (.ireturn, 1) := dk_172 (dk_at dksX9_done_4 3 rfl rfl)
theorem dX9_done_170 : decode cX9_done 170 = .ok (.iload_n 1, 1) := dk_27 (dk_at dksX9_done_4 4 rfl rfl)
theorem dX9_done_171 : decode cX9_done 171 = .ok (.iload_n 2, 1) := dk_28 (dk_at dksX9_done_4 5 rfl rfl)
theorem dX9_done_172 : decode cX9_done 172 = .ok (.if_icmp .le 7, 3) := dk_164 0 7 (dk_at dksX9_done_4 6 rfl rfl)
theorem dX9_done_175 : decode cX9_done 175 = .ok (.iconst 1, 1) := dk_4 (dk_at dksX9_done_4 9 rfl rfl)
theorem dX9_done_176 : decode cX9_done 176 = .ok (.goto 4, 3) := dk_167 0 4 (dk_at dksX9_done_4 10 rfl rfl)
theorem dX9_done_179 : decode cX9_done 179 = .ok (.iconst 0, 1) := dk_3 (dk_at dksX9_done_4 13 rfl rfl)
theorem dX9_done_180 : decode cX9_done 180 = .ok (.invokestatic 344, 3) := dk_184 1 88 (dk_at dksX9_done_4 14 rfl rfl)
theorem dX9_done_183 : decode cX9_done 183 = .ok (.ireturn, 1) := dk_172 (dk_at dksX9_done_4 17 rfl rfl)
theorem dX9_done_184 : decode cX9_done 184 = .ok (.iload_n 1, 1) := dk_27 (dk_at dksX9_done_4 18 rfl rfl)
theorem dX9_done_185 : decode cX9_done 185 = .ok (.iload_n 2, 1) := dk_28 (dk_at dksX9_done_4 19 rfl rfl)
theorem dX9_done_186 : decode cX9_done 186 = .ok (.if_icmp .ne 7, 3) := dk_160 0 7 (dk_at dksX9_done_4 20 rfl rfl)
theorem dX9_done_189 : decode cX9_done 189 = .ok (.iconst 1, 1) := dk_4 (dk_at dksX9_done_4 23 rfl rfl)
theorem dX9_done_190 : decode cX9_done 190 = .ok (.goto 4, 3) := dk_167 0 4 (dk_at dksX9_done_5 0 rfl rfl)
theorem dX9_done_193 : decode cX9_done 193 = .ok (.iconst 0, 1) := dk_3 (dk_at dksX9_done_5 3 rfl rfl)
theorem dX9_done_194 : decode cX9_done 194 = .ok (.invokestatic 344, 3) := dk_184 1 88 (dk_at dksX9_done_5 4 rfl rfl)
theorem dX9_done_197 : decode cX9_done 197 = .ok (.ireturn, 1) := dk_172 (dk_at dksX9_done_5 7 rfl rfl)
theorem dX9_done_198 : decode cX9_done 198 = .ok (.iload_n 1, 1) := dk_27 (dk_at dksX9_done_5 8 rfl rfl)
theorem dX9_done_199 : decode cX9_done 199 = .ok (.ifCond .eq 11, 3) := dk_153 0 11 (dk_at dksX9_done_5 9 rfl rfl)
theorem dX9_done_202 : decode cX9_done 202 = .ok (.iload_n 2, 1) := dk_28 (dk_at dksX9_done_5 12 rfl rfl)
theorem dX9_done_203 : decode cX9_done 203 = .ok (.ifCond .eq 7, 3) := dk_153 0 7 (dk_at dksX9_done_5 13 rfl rfl)
theorem dX9_done_206 : decode cX9_done 206 = .ok (.iconst 1, 1) := dk_4 (dk_at dksX9_done_5 16 rfl rfl)
theorem dX9_done_207 : decode cX9_done 207 = .ok (.goto 4, 3) := dk_167 0 4 (dk_at dksX9_done_5 17 rfl rfl)
theorem dX9_done_210 : decode cX9_done 210 = .ok (.iconst 0, 1) := dk_3 (dk_at dksX9_done_5 20 rfl rfl)
theorem dX9_done_211 : decode cX9_done 211 = .ok (.invokestatic 344, 3) := dk_184 1 88 (dk_at dksX9_done_5 21 rfl rfl)
theorem dX9_done_214 : decode cX9_done 214 = .ok (.ireturn, 1) := dk_172 (dk_at dksX9_done_6 0 rfl rfl)
theorem dX9_done_215 : decode cX9_done 215 = .ok (.iload_n 1, 1) := dk_27 (dk_at dksX9_done_6 1 rfl rfl)
theorem dX9_done_216 : decode cX9_done 216 = .ok (.ifCond .ne 7, 3) := dk_154 0 7 (dk_at dksX9_done_6 2 rfl rfl)
theorem dX9_done_219 : decode cX9_done 219 = .ok (.iload_n 2, 1) := dk_28 (dk_at dksX9_done_6 5 rfl rfl)
theorem dX9_done_220 : decode cX9_done 220 = .ok (.ifCond .eq 7, 3) := dk_153 0 7 (dk_at dksX9_done_6 6 rfl rfl)
theorem dX9_done_223 : decode cX9_done 223 = .ok (.iconst 1, 1) := dk_4 (dk_at dksX9_done_6 9 rfl rfl)
theorem dX9_done_224 : decode cX9_done 224 = .ok (.goto 4, 3) := dk_167 0 4 (dk_at dksX9_done_6 10 rfl rfl)
theorem dX9_done_227 : decode cX9_done 227 = .ok (.iconst 0, 1) := dk_3 (dk_at dksX9_done_6 13 rfl rfl)
theorem dX9_done_228 : decode cX9_done 228 = .ok (.invokestatic 344, 3) := dk_184 1 88 (dk_at dksX9_done_6 14 rfl rfl)
theorem dX9_done_231 : decode cX9_done 231 = .ok (.ireturn, 1) := dk_172 (dk_at dksX9_done_6 17 rfl rfl)
abbrev cX9_undo : ByteArray := prog_24_method_64_code
def yX9_undo : MethodName := ⟨RX9, "undo", "()Z"⟩
def dkwX9_undo_1 : List UInt8 := [4, 96, 181, 1, 188, 42, 16, 24, 42, 180, 1, 185, 104, 182, 1, 235, 4, 172]
abbrev dktX9_undo_1 : List UInt8 := dkwX9_undo_1 ++ []
def dkwX9_undo_0 : List UInt8 := [42, 180, 1, 185, 154, 0, 5, 3, 172, 42, 89, 180, 1, 185, 4, 100, 181, 1, 185, 42, 89, 180, 1, 188]
abbrev dktX9_undo_0 : List UInt8 := dkwX9_undo_0 ++ dktX9_undo_1
theorem dksX9_undo_0 : cX9_undo.data.toList.drop 0 = dktX9_undo_0 := by decide +kernel
theorem dksX9_undo_1 : cX9_undo.data.toList.drop 24 = dktX9_undo_1 := dk_seg dksX9_undo_0 24 rfl rfl
theorem dX9_undo_0 : decode cX9_undo 0 = .ok (.aload_n 0, 1) := dk_42 (dk_at dksX9_undo_0 0 rfl rfl)
theorem dX9_undo_1 : decode cX9_undo 1 = .ok (.getfield 441, 3) := dk_180 1 185 (dk_at dksX9_undo_0 1 rfl rfl)
theorem dX9_undo_4 : decode cX9_undo 4 = .ok (.ifCond .ne 5, 3) := dk_154 0 5 (dk_at dksX9_undo_0 4 rfl rfl)
theorem dX9_undo_7 : decode cX9_undo 7 = .ok (.iconst 0, 1) := dk_3 (dk_at dksX9_undo_0 7 rfl rfl)
theorem dX9_undo_8 : decode cX9_undo 8 = .ok (.ireturn, 1) := dk_172 (dk_at dksX9_undo_0 8 rfl rfl)
theorem dX9_undo_9 : decode cX9_undo 9 = .ok (.aload_n 0, 1) := dk_42 (dk_at dksX9_undo_0 9 rfl rfl)
theorem dX9_undo_10 : decode cX9_undo 10 = .ok (.dup, 1) := dk_89 (dk_at dksX9_undo_0 10 rfl rfl)
theorem dX9_undo_11 : decode cX9_undo 11 = .ok (.getfield 441, 3) := dk_180 1 185 (dk_at dksX9_undo_0 11 rfl rfl)
theorem dX9_undo_14 : decode cX9_undo 14 = .ok (.iconst 1, 1) := dk_4 (dk_at dksX9_undo_0 14 rfl rfl)
theorem dX9_undo_15 : decode cX9_undo 15 = .ok (.isub, 1) := dk_100 (dk_at dksX9_undo_0 15 rfl rfl)
theorem dX9_undo_16 : decode cX9_undo 16 = .ok (.putfield 441, 3) := dk_181 1 185 (dk_at dksX9_undo_0 16 rfl rfl)
theorem dX9_undo_19 : decode cX9_undo 19 = .ok (.aload_n 0, 1) := dk_42 (dk_at dksX9_undo_0 19 rfl rfl)
theorem dX9_undo_20 : decode cX9_undo 20 = .ok (.dup, 1) := dk_89 (dk_at dksX9_undo_0 20 rfl rfl)
theorem dX9_undo_21 : decode cX9_undo 21 = .ok (.getfield 444, 3) := dk_180 1 188 (dk_at dksX9_undo_0 21 rfl rfl)
theorem dX9_undo_24 : decode cX9_undo 24 = .ok (.iconst 1, 1) := dk_4 (dk_at dksX9_undo_1 0 rfl rfl)
theorem dX9_undo_25 : decode cX9_undo 25 = .ok (.iadd, 1) := dk_96 (dk_at dksX9_undo_1 1 rfl rfl)
theorem dX9_undo_26 : decode cX9_undo 26 = .ok (.putfield 444, 3) := dk_181 1 188 (dk_at dksX9_undo_1 2 rfl rfl)
theorem dX9_undo_29 : decode cX9_undo 29 = .ok (.aload_n 0, 1) := dk_42 (dk_at dksX9_undo_1 5 rfl rfl)
theorem dX9_undo_30 : decode cX9_undo 30 = .ok (.bipush 24, 2) := dk_16 24 (dk_at dksX9_undo_1 6 rfl rfl)
theorem dX9_undo_32 : decode cX9_undo 32 = .ok (.aload_n 0, 1) := dk_42 (dk_at dksX9_undo_1 8 rfl rfl)
theorem dX9_undo_33 : decode cX9_undo 33 = .ok (.getfield 441, 3) := dk_180 1 185 (dk_at dksX9_undo_1 9 rfl rfl)
theorem dX9_undo_36 : decode cX9_undo 36 = .ok (.imul, 1) := dk_104 (dk_at dksX9_undo_1 12 rfl rfl)
theorem dX9_undo_37 : decode cX9_undo 37 = .ok (.invokevirtual 491, 3) := dk_182 1 235 (dk_at dksX9_undo_1 13 rfl rfl)
theorem dX9_undo_40 : decode cX9_undo 40 = .ok (.iconst 1, 1) := dk_4 (dk_at dksX9_undo_1 16 rfl rfl)
theorem dX9_undo_41 : decode cX9_undo 41 = .ok (.ireturn, 1) := dk_172 (dk_at dksX9_undo_1 17 rfl rfl)
abbrev cX9_exchange : ByteArray := prog_24_method_56_code
def yX9_exchange : MethodName := ⟨RX9, "exchange", "(I)V"⟩
def dkwX9_exchange_1 : List UInt8 := [42, 180, 0, 118, 28, 46, 79, 42, 180, 0, 118, 28, 29, 79, 132, 2, 1, 167, 255, 217, 177]
abbrev dktX9_exchange_1 : List UInt8 := dkwX9_exchange_1 ++ []
def dkwX9_exchange_0 : List UInt8 := [3, 61, 28, 16, 23, 162, 0, 39, 42, 180, 0, 121, 27, 28, 96, 46, 62, 42, 180, 0, 121, 27, 28, 96]
abbrev dktX9_exchange_0 : List UInt8 := dkwX9_exchange_0 ++ dktX9_exchange_1
theorem dksX9_exchange_0 : cX9_exchange.data.toList.drop 0 = dktX9_exchange_0 := by decide +kernel
theorem dksX9_exchange_1 : cX9_exchange.data.toList.drop 24 = dktX9_exchange_1 := dk_seg dksX9_exchange_0 24 rfl rfl
theorem dX9_exchange_0 : decode cX9_exchange 0 = .ok (.iconst 0, 1) := dk_3 (dk_at dksX9_exchange_0 0 rfl rfl)
theorem dX9_exchange_1 : decode cX9_exchange 1 = .ok (.istore_n 2, 1) := dk_61 (dk_at dksX9_exchange_0 1 rfl rfl)
theorem dX9_exchange_2 : decode cX9_exchange 2 = .ok (.iload_n 2, 1) := dk_28 (dk_at dksX9_exchange_0 2 rfl rfl)
theorem dX9_exchange_3 : decode cX9_exchange 3 = .ok (.bipush 23, 2) := dk_16 23 (dk_at dksX9_exchange_0 3 rfl rfl)
theorem dX9_exchange_5 : decode cX9_exchange 5 = .ok (.if_icmp .ge 39, 3) := dk_162 0 39 (dk_at dksX9_exchange_0 5 rfl rfl)
theorem dX9_exchange_8 : decode cX9_exchange 8 = .ok (.aload_n 0, 1) := dk_42 (dk_at dksX9_exchange_0 8 rfl rfl)
theorem dX9_exchange_9 : decode cX9_exchange 9 = .ok (.getfield 121, 3) := dk_180 0 121 (dk_at dksX9_exchange_0 9 rfl rfl)
theorem dX9_exchange_12 : decode cX9_exchange 12 = .ok (.iload_n 1, 1) := dk_27 (dk_at dksX9_exchange_0 12 rfl rfl)
theorem dX9_exchange_13 : decode cX9_exchange 13 = .ok (.iload_n 2, 1) := dk_28 (dk_at dksX9_exchange_0 13 rfl rfl)
theorem dX9_exchange_14 : decode cX9_exchange 14 = .ok (.iadd, 1) := dk_96 (dk_at dksX9_exchange_0 14 rfl rfl)
theorem dX9_exchange_15 : decode cX9_exchange 15 = .ok (.iaload, 1) := dk_46 (dk_at dksX9_exchange_0 15 rfl rfl)
theorem dX9_exchange_16 : decode cX9_exchange 16 = .ok (.istore_n 3, 1) := dk_62 (dk_at dksX9_exchange_0 16 rfl rfl)
theorem dX9_exchange_17 : decode cX9_exchange 17 = .ok (.aload_n 0, 1) := dk_42 (dk_at dksX9_exchange_0 17 rfl rfl)
theorem dX9_exchange_18 : decode cX9_exchange 18 = .ok (.getfield 121, 3) := dk_180 0 121 (dk_at dksX9_exchange_0 18 rfl rfl)
theorem dX9_exchange_21 : decode cX9_exchange 21 = .ok (.iload_n 1, 1) := dk_27 (dk_at dksX9_exchange_0 21 rfl rfl)
theorem dX9_exchange_22 : decode cX9_exchange 22 = .ok (.iload_n 2, 1) := dk_28 (dk_at dksX9_exchange_0 22 rfl rfl)
theorem dX9_exchange_23 : decode cX9_exchange 23 = .ok (.iadd, 1) := dk_96 (dk_at dksX9_exchange_0 23 rfl rfl)
theorem dX9_exchange_24 : decode cX9_exchange 24 = .ok (.aload_n 0, 1) := dk_42 (dk_at dksX9_exchange_1 0 rfl rfl)
theorem dX9_exchange_25 : decode cX9_exchange 25 = .ok (.getfield 118, 3) := dk_180 0 118 (dk_at dksX9_exchange_1 1 rfl rfl)
theorem dX9_exchange_28 : decode cX9_exchange 28 = .ok (.iload_n 2, 1) := dk_28 (dk_at dksX9_exchange_1 4 rfl rfl)
theorem dX9_exchange_29 : decode cX9_exchange 29 = .ok (.iaload, 1) := dk_46 (dk_at dksX9_exchange_1 5 rfl rfl)
theorem dX9_exchange_30 : decode cX9_exchange 30 = .ok (.iastore, 1) := dk_79 (dk_at dksX9_exchange_1 6 rfl rfl)
theorem dX9_exchange_31 : decode cX9_exchange 31 = .ok (.aload_n 0, 1) := dk_42 (dk_at dksX9_exchange_1 7 rfl rfl)
theorem dX9_exchange_32 : decode cX9_exchange 32 = .ok (.getfield 118, 3) := dk_180 0 118 (dk_at dksX9_exchange_1 8 rfl rfl)
theorem dX9_exchange_35 : decode cX9_exchange 35 = .ok (.iload_n 2, 1) := dk_28 (dk_at dksX9_exchange_1 11 rfl rfl)
theorem dX9_exchange_36 : decode cX9_exchange 36 = .ok (.iload_n 3, 1) := dk_29 (dk_at dksX9_exchange_1 12 rfl rfl)
theorem dX9_exchange_37 : decode cX9_exchange 37 = .ok (.iastore, 1) := dk_79 (dk_at dksX9_exchange_1 13 rfl rfl)
theorem dX9_exchange_38 : decode cX9_exchange 38 = .ok (.iinc 2 1, 3) := dk_132 2 1 (dk_at dksX9_exchange_1 14 rfl rfl)
theorem dX9_exchange_41 : decode cX9_exchange 41 = .ok (.goto (-39), 3) := dk_167 255 217 (dk_at dksX9_exchange_1 17 rfl rfl)
theorem dX9_exchange_44 : decode cX9_exchange 44 = .ok (.return_, 1) := dk_177 (dk_at dksX9_exchange_1 20 rfl rfl)
abbrev cX9_redo : ByteArray := prog_24_method_65_code
def yX9_redo : MethodName := ⟨RX9, "redo", "()Z"⟩
def dkwX9_redo_1 : List UInt8 := [180, 1, 185, 4, 96, 181, 1, 185, 42, 89, 180, 1, 188, 4, 100, 181, 1, 188, 4, 172]
abbrev dktX9_redo_1 : List UInt8 := dkwX9_redo_1 ++ []
def dkwX9_redo_0 : List UInt8 := [42, 180, 1, 188, 154, 0, 5, 3, 172, 42, 16, 24, 42, 180, 1, 185, 104, 182, 1, 235, 42, 89]
abbrev dktX9_redo_0 : List UInt8 := dkwX9_redo_0 ++ dktX9_redo_1
theorem dksX9_redo_0 : cX9_redo.data.toList.drop 0 = dktX9_redo_0 := by decide +kernel
theorem dksX9_redo_1 : cX9_redo.data.toList.drop 22 = dktX9_redo_1 := dk_seg dksX9_redo_0 22 rfl rfl
theorem dX9_redo_0 : decode cX9_redo 0 = .ok (.aload_n 0, 1) := dk_42 (dk_at dksX9_redo_0 0 rfl rfl)
theorem dX9_redo_1 : decode cX9_redo 1 = .ok (.getfield 444, 3) := dk_180 1 188 (dk_at dksX9_redo_0 1 rfl rfl)
theorem dX9_redo_4 : decode cX9_redo 4 = .ok (.ifCond .ne 5, 3) := dk_154 0 5 (dk_at dksX9_redo_0 4 rfl rfl)
theorem dX9_redo_7 : decode cX9_redo 7 = .ok (.iconst 0, 1) := dk_3 (dk_at dksX9_redo_0 7 rfl rfl)
theorem dX9_redo_8 : decode cX9_redo 8 = .ok (.ireturn, 1) := dk_172 (dk_at dksX9_redo_0 8 rfl rfl)
theorem dX9_redo_9 : decode cX9_redo 9 = .ok (.aload_n 0, 1) := dk_42 (dk_at dksX9_redo_0 9 rfl rfl)
theorem dX9_redo_10 : decode cX9_redo 10 = .ok (.bipush 24, 2) := dk_16 24 (dk_at dksX9_redo_0 10 rfl rfl)
theorem dX9_redo_12 : decode cX9_redo 12 = .ok (.aload_n 0, 1) := dk_42 (dk_at dksX9_redo_0 12 rfl rfl)
theorem dX9_redo_13 : decode cX9_redo 13 = .ok (.getfield 441, 3) := dk_180 1 185 (dk_at dksX9_redo_0 13 rfl rfl)
theorem dX9_redo_16 : decode cX9_redo 16 = .ok (.imul, 1) := dk_104 (dk_at dksX9_redo_0 16 rfl rfl)
theorem dX9_redo_17 : decode cX9_redo 17 = .ok (.invokevirtual 491, 3) := dk_182 1 235 (dk_at dksX9_redo_0 17 rfl rfl)
theorem dX9_redo_20 : decode cX9_redo 20 = .ok (.aload_n 0, 1) := dk_42 (dk_at dksX9_redo_0 20 rfl rfl)
theorem dX9_redo_21 : decode cX9_redo 21 = .ok (.dup, 1) := dk_89 (dk_at dksX9_redo_0 21 rfl rfl)
theorem dX9_redo_22 : decode cX9_redo 22 = .ok (.getfield 441, 3) := dk_180 1 185 (dk_at dksX9_redo_1 0 rfl rfl)
theorem dX9_redo_25 : decode cX9_redo 25 = .ok (.iconst 1, 1) := dk_4 (dk_at dksX9_redo_1 3 rfl rfl)
theorem dX9_redo_26 : decode cX9_redo 26 = .ok (.iadd, 1) := dk_96 (dk_at dksX9_redo_1 4 rfl rfl)
theorem dX9_redo_27 : decode cX9_redo 27 = .ok (.putfield 441, 3) := dk_181 1 185 (dk_at dksX9_redo_1 5 rfl rfl)
theorem dX9_redo_30 : decode cX9_redo 30 = .ok (.aload_n 0, 1) := dk_42 (dk_at dksX9_redo_1 8 rfl rfl)
theorem dX9_redo_31 : decode cX9_redo 31 = .ok (.dup, 1) := dk_89 (dk_at dksX9_redo_1 9 rfl rfl)
theorem dX9_redo_32 : decode cX9_redo 32 = .ok (.getfield 444, 3) := dk_180 1 188 (dk_at dksX9_redo_1 10 rfl rfl)
theorem dX9_redo_35 : decode cX9_redo 35 = .ok (.iconst 1, 1) := dk_4 (dk_at dksX9_redo_1 13 rfl rfl)
theorem dX9_redo_36 : decode cX9_redo 36 = .ok (.isub, 1) := dk_100 (dk_at dksX9_redo_1 14 rfl rfl)
theorem dX9_redo_37 : decode cX9_redo 37 = .ok (.putfield 444, 3) := dk_181 1 188 (dk_at dksX9_redo_1 15 rfl rfl)
theorem dX9_redo_40 : decode cX9_redo 40 = .ok (.iconst 1, 1) := dk_4 (dk_at dksX9_redo_1 18 rfl rfl)
theorem dX9_redo_41 : decode cX9_redo 41 = .ok (.ireturn, 1) := dk_172 (dk_at dksX9_redo_1 19 rfl rfl)
abbrev cX9_keep : ByteArray := prog_24_method_76_code
def yX9_keep : MethodName := ⟨RX9, "keep", "(II)I"⟩
def dkwX9_keep_4 : List UInt8 := [180, 2, 7, 172]
abbrev dktX9_keep_4 : List UInt8 := dkwX9_keep_4 ++ []
def dkwX9_keep_3 : List UInt8 := [42, 180, 2, 7, 184, 2, 4, 167, 0, 19, 28, 4, 160, 0, 10, 42, 180, 2, 10, 167, 0, 7, 42]
abbrev dktX9_keep_3 : List UInt8 := dkwX9_keep_3 ++ dktX9_keep_4
def dkwX9_keep_2 : List UInt8 := [180, 0, 139, 29, 46, 79, 132, 3, 1, 167, 255, 233, 42, 42, 180, 2, 1, 181, 1, 194, 28, 154, 0, 13]
abbrev dktX9_keep_2 : List UInt8 := dkwX9_keep_2 ++ dktX9_keep_3
def dkwX9_keep_1 : List UInt8 := [42, 27, 3, 182, 2, 25, 3, 62, 29, 42, 180, 2, 1, 162, 0, 21, 42, 180, 0, 142, 29, 42]
abbrev dktX9_keep_1 : List UInt8 := dkwX9_keep_1 ++ dktX9_keep_2
def dkwX9_keep_0 : List UInt8 := [42, 3, 181, 1, 194, 42, 27, 182, 1, 204, 153, 0, 12, 28, 3, 5, 184, 1, 197, 154, 0, 5, 2, 172]
abbrev dktX9_keep_0 : List UInt8 := dkwX9_keep_0 ++ dktX9_keep_1
theorem dksX9_keep_0 : cX9_keep.data.toList.drop 0 = dktX9_keep_0 := by decide +kernel
theorem dksX9_keep_1 : cX9_keep.data.toList.drop 24 = dktX9_keep_1 := dk_seg dksX9_keep_0 24 rfl rfl
theorem dksX9_keep_2 : cX9_keep.data.toList.drop 46 = dktX9_keep_2 := dk_seg dksX9_keep_1 22 rfl rfl
theorem dksX9_keep_3 : cX9_keep.data.toList.drop 70 = dktX9_keep_3 := dk_seg dksX9_keep_2 24 rfl rfl
theorem dksX9_keep_4 : cX9_keep.data.toList.drop 93 = dktX9_keep_4 := dk_seg dksX9_keep_3 23 rfl rfl
theorem dX9_keep_0 : decode cX9_keep 0 = .ok (.aload_n 0, 1) := dk_42 (dk_at dksX9_keep_0 0 rfl rfl)
theorem dX9_keep_1 : decode cX9_keep 1 = .ok (.iconst 0, 1) := dk_3 (dk_at dksX9_keep_0 1 rfl rfl)
theorem dX9_keep_2 : decode cX9_keep 2 = .ok (.putfield 450, 3) := dk_181 1 194 (dk_at dksX9_keep_0 2 rfl rfl)
theorem dX9_keep_5 : decode cX9_keep 5 = .ok (.aload_n 0, 1) := dk_42 (dk_at dksX9_keep_0 5 rfl rfl)
theorem dX9_keep_6 : decode cX9_keep 6 = .ok (.iload_n 1, 1) := dk_27 (dk_at dksX9_keep_0 6 rfl rfl)
theorem dX9_keep_7 : decode cX9_keep 7 = .ok (.invokevirtual 460, 3) := dk_182 1 204 (dk_at dksX9_keep_0 7 rfl rfl)
theorem dX9_keep_10 : decode cX9_keep 10 = .ok (.ifCond .eq 12, 3) := dk_153 0 12 (dk_at dksX9_keep_0 10 rfl rfl)
theorem dX9_keep_13 : decode cX9_keep 13 = .ok (.iload_n 2, 1) := dk_28 (dk_at dksX9_keep_0 13 rfl rfl)
theorem dX9_keep_14 : decode cX9_keep 14 = .ok (.iconst 0, 1) := dk_3 (dk_at dksX9_keep_0 14 rfl rfl)
theorem dX9_keep_15 : decode cX9_keep 15 = .ok (.iconst 2, 1) := dk_5 (dk_at dksX9_keep_0 15 rfl rfl)
theorem dX9_keep_16 : decode cX9_keep 16 = .ok (.invokestatic 453, 3) := dk_184 1 197 (dk_at dksX9_keep_0 16 rfl rfl)
theorem dX9_keep_19 : decode cX9_keep 19 = .ok (.ifCond .ne 5, 3) := dk_154 0 5 (dk_at dksX9_keep_0 19 rfl rfl)
theorem dX9_keep_22 : decode cX9_keep 22 = .ok (.iconst (-1), 1) := dk_2 (dk_at dksX9_keep_0 22 rfl rfl)
theorem dX9_keep_23 : decode cX9_keep 23 = .ok (.ireturn, 1) := dk_172 (dk_at dksX9_keep_0 23 rfl rfl)
theorem dX9_keep_24 : decode cX9_keep 24 = .ok (.aload_n 0, 1) := dk_42 (dk_at dksX9_keep_1 0 rfl rfl)
theorem dX9_keep_25 : decode cX9_keep 25 = .ok (.iload_n 1, 1) := dk_27 (dk_at dksX9_keep_1 1 rfl rfl)
theorem dX9_keep_26 : decode cX9_keep 26 = .ok (.iconst 0, 1) := dk_3 (dk_at dksX9_keep_1 2 rfl rfl)
theorem dX9_keep_27 : decode cX9_keep 27 = .ok (.invokevirtual 537, 3) := dk_182 2 25 (dk_at dksX9_keep_1 3 rfl rfl)
theorem dX9_keep_30 : decode cX9_keep 30 = .ok (.iconst 0, 1) := dk_3 (dk_at dksX9_keep_1 6 rfl rfl)
theorem dX9_keep_31 : decode cX9_keep 31 = .ok (.istore_n 3, 1) := dk_62 (dk_at dksX9_keep_1 7 rfl rfl)
theorem dX9_keep_32 : decode cX9_keep 32 = .ok (.iload_n 3, 1) := dk_29 (dk_at dksX9_keep_1 8 rfl rfl)
theorem dX9_keep_33 : decode cX9_keep 33 = .ok (.aload_n 0, 1) := dk_42 (dk_at dksX9_keep_1 9 rfl rfl)
theorem dX9_keep_34 : decode cX9_keep 34 = .ok (.getfield 513, 3) := dk_180 2 1 (dk_at dksX9_keep_1 10 rfl rfl)
theorem dX9_keep_37 : decode cX9_keep 37 = .ok (.if_icmp .ge 21, 3) := dk_162 0 21 (dk_at dksX9_keep_1 13 rfl rfl)
theorem dX9_keep_40 : decode cX9_keep 40 = .ok (.aload_n 0, 1) := dk_42 (dk_at dksX9_keep_1 16 rfl rfl)
theorem dX9_keep_41 : decode cX9_keep 41 = .ok (.getfield 142, 3) := dk_180 0 142 (dk_at dksX9_keep_1 17 rfl rfl)
theorem dX9_keep_44 : decode cX9_keep 44 = .ok (.iload_n 3, 1) := dk_29 (dk_at dksX9_keep_1 20 rfl rfl)
theorem dX9_keep_45 : decode cX9_keep 45 = .ok (.aload_n 0, 1) := dk_42 (dk_at dksX9_keep_1 21 rfl rfl)
theorem dX9_keep_46 : decode cX9_keep 46 = .ok (.getfield 139, 3) := dk_180 0 139 (dk_at dksX9_keep_2 0 rfl rfl)
theorem dX9_keep_49 : decode cX9_keep 49 = .ok (.iload_n 3, 1) := dk_29 (dk_at dksX9_keep_2 3 rfl rfl)
theorem dX9_keep_50 : decode cX9_keep 50 = .ok (.iaload, 1) := dk_46 (dk_at dksX9_keep_2 4 rfl rfl)
theorem dX9_keep_51 : decode cX9_keep 51 = .ok (.iastore, 1) := dk_79 (dk_at dksX9_keep_2 5 rfl rfl)
theorem dX9_keep_52 : decode cX9_keep 52 = .ok (.iinc 3 1, 3) := dk_132 3 1 (dk_at dksX9_keep_2 6 rfl rfl)
theorem dX9_keep_55 : decode cX9_keep 55 = .ok (.goto (-23), 3) := dk_167 255 233 (dk_at dksX9_keep_2 9 rfl rfl)
theorem dX9_keep_58 : decode cX9_keep 58 = .ok (.aload_n 0, 1) := dk_42 (dk_at dksX9_keep_2 12 rfl rfl)
theorem dX9_keep_59 : decode cX9_keep 59 = .ok (.aload_n 0, 1) := dk_42 (dk_at dksX9_keep_2 13 rfl rfl)
theorem dX9_keep_60 : decode cX9_keep 60 = .ok (.getfield 513, 3) := dk_180 2 1 (dk_at dksX9_keep_2 14 rfl rfl)
theorem dX9_keep_63 : decode cX9_keep 63 = .ok (.putfield 450, 3) := dk_181 1 194 (dk_at dksX9_keep_2 17 rfl rfl)
theorem dX9_keep_66 : decode cX9_keep 66 = .ok (.iload_n 2, 1) := dk_28 (dk_at dksX9_keep_2 20 rfl rfl)
theorem dX9_keep_67 : decode cX9_keep 67 = .ok (.ifCond .ne 13, 3) := dk_154 0 13 (dk_at dksX9_keep_2 21 rfl rfl)
theorem dX9_keep_70 : decode cX9_keep 70 = .ok (.aload_n 0, 1) := dk_42 (dk_at dksX9_keep_3 0 rfl rfl)
theorem dX9_keep_71 : decode cX9_keep 71 = .ok (.getfield 519, 3) := dk_180 2 7 (dk_at dksX9_keep_3 1 rfl rfl)
theorem dX9_keep_74 : decode cX9_keep 74 = .ok (.invokestatic 516, 3) := dk_184 2 4 (dk_at dksX9_keep_3 4 rfl rfl)
theorem dX9_keep_77 : decode cX9_keep 77 = .ok (.goto 19, 3) := dk_167 0 19 (dk_at dksX9_keep_3 7 rfl rfl)
theorem dX9_keep_80 : decode cX9_keep 80 = .ok (.iload_n 2, 1) := dk_28 (dk_at dksX9_keep_3 10 rfl rfl)
theorem dX9_keep_81 : decode cX9_keep 81 = .ok (.iconst 1, 1) := dk_4 (dk_at dksX9_keep_3 11 rfl rfl)
theorem dX9_keep_82 : decode cX9_keep 82 = .ok (.if_icmp .ne 10, 3) := dk_160 0 10 (dk_at dksX9_keep_3 12 rfl rfl)
theorem dX9_keep_85 : decode cX9_keep 85 = .ok (.aload_n 0, 1) := dk_42 (dk_at dksX9_keep_3 15 rfl rfl)
theorem dX9_keep_86 : decode cX9_keep 86 = .ok (.getfield 522, 3) := dk_180 2 10 (dk_at dksX9_keep_3 16 rfl rfl)
theorem dX9_keep_89 : decode cX9_keep 89 = .ok (.goto 7, 3) := dk_167 0 7 (dk_at dksX9_keep_3 19 rfl rfl)
theorem dX9_keep_92 : decode cX9_keep 92 = .ok (.aload_n 0, 1) := dk_42 (dk_at dksX9_keep_3 22 rfl rfl)
theorem dX9_keep_93 : decode cX9_keep 93 = .ok (.getfield 519, 3) := dk_180 2 7 (dk_at dksX9_keep_4 0 rfl rfl)
theorem dX9_keep_96 : decode cX9_keep 96 = .ok (.ireturn, 1) := dk_172 (dk_at dksX9_keep_4 3 rfl rfl)
abbrev cX9_layBest : ByteArray := prog_24_method_75_code
def yX9_layBest : MethodName := ⟨RX9, "layBest", "(II)V"⟩
def dkwX9_layBest_4 : List UInt8 := [180, 0, 139, 29, 42, 180, 0, 130, 29, 46, 79, 132, 3, 1, 167, 255, 233, 167, 255, 176, 177]
abbrev dktX9_layBest_4 : List UInt8 := dkwX9_layBest_4 ++ []
def dkwX9_layBest_3 : List UInt8 := [42, 42, 180, 0, 136, 42, 180, 1, 241, 46, 181, 2, 7, 3, 62, 29, 42, 180, 1, 241, 162, 0, 21, 42]
abbrev dktX9_layBest_3 : List UInt8 := dkwX9_layBest_3 ++ dktX9_layBest_4
def dkwX9_layBest_2 : List UInt8 := [167, 255, 241, 42, 42, 180, 1, 241, 181, 2, 1, 42, 42, 180, 0, 133, 42, 180, 1, 241, 46, 181, 2, 10]
abbrev dktX9_layBest_2 : List UInt8 := dkwX9_layBest_2 ++ dktX9_layBest_3
def dkwX9_layBest_1 : List UInt8 := [181, 2, 10, 42, 3, 181, 2, 7, 42, 27, 182, 2, 19, 153, 0, 78, 42, 182, 2, 22, 154, 0, 6]
abbrev dktX9_layBest_1 : List UInt8 := dkwX9_layBest_1 ++ dktX9_layBest_2
def dkwX9_layBest_0 : List UInt8 := [42, 42, 180, 0, 118, 16, 20, 46, 28, 96, 181, 1, 238, 42, 182, 2, 16, 42, 3, 181, 2, 1, 42, 3]
abbrev dktX9_layBest_0 : List UInt8 := dkwX9_layBest_0 ++ dktX9_layBest_1
theorem dksX9_layBest_0 : cX9_layBest.data.toList.drop 0 = dktX9_layBest_0 := by decide +kernel
theorem dksX9_layBest_1 : cX9_layBest.data.toList.drop 24 = dktX9_layBest_1 := dk_seg dksX9_layBest_0 24 rfl rfl
theorem dksX9_layBest_2 : cX9_layBest.data.toList.drop 47 = dktX9_layBest_2 := dk_seg dksX9_layBest_1 23 rfl rfl
theorem dksX9_layBest_3 : cX9_layBest.data.toList.drop 71 = dktX9_layBest_3 := dk_seg dksX9_layBest_2 24 rfl rfl
theorem dksX9_layBest_4 : cX9_layBest.data.toList.drop 95 = dktX9_layBest_4 := dk_seg dksX9_layBest_3 24 rfl rfl
theorem dX9_layBest_0 : decode cX9_layBest 0 = .ok (.aload_n 0, 1) := dk_42 (dk_at dksX9_layBest_0 0 rfl rfl)
theorem dX9_layBest_1 : decode cX9_layBest 1 = .ok (.aload_n 0, 1) := dk_42 (dk_at dksX9_layBest_0 1 rfl rfl)
theorem dX9_layBest_2 : decode cX9_layBest 2 = .ok (.getfield 118, 3) := dk_180 0 118 (dk_at dksX9_layBest_0 2 rfl rfl)
theorem dX9_layBest_5 : decode cX9_layBest 5 = .ok (.bipush 20, 2) := dk_16 20 (dk_at dksX9_layBest_0 5 rfl rfl)
theorem dX9_layBest_7 : decode cX9_layBest 7 = .ok (.iaload, 1) := dk_46 (dk_at dksX9_layBest_0 7 rfl rfl)
theorem dX9_layBest_8 : decode cX9_layBest 8 = .ok (.iload_n 2, 1) := dk_28 (dk_at dksX9_layBest_0 8 rfl rfl)
theorem dX9_layBest_9 : decode cX9_layBest 9 = .ok (.iadd, 1) := dk_96 (dk_at dksX9_layBest_0 9 rfl rfl)
theorem dX9_layBest_10 : decode cX9_layBest 10 = .ok (.putfield 494, 3) := dk_181 1 238 (dk_at dksX9_layBest_0 10 rfl rfl)
theorem dX9_layBest_13 : decode cX9_layBest 13 = .ok (.aload_n 0, 1) := dk_42 (dk_at dksX9_layBest_0 13 rfl rfl)
theorem dX9_layBest_14 : decode cX9_layBest 14 = .ok (.invokevirtual 528, 3) := dk_182 2 16 (dk_at dksX9_layBest_0 14 rfl rfl)
theorem dX9_layBest_17 : decode cX9_layBest 17 = .ok (.aload_n 0, 1) := dk_42 (dk_at dksX9_layBest_0 17 rfl rfl)
theorem dX9_layBest_18 : decode cX9_layBest 18 = .ok (.iconst 0, 1) := dk_3 (dk_at dksX9_layBest_0 18 rfl rfl)
theorem dX9_layBest_19 : decode cX9_layBest 19 = .ok (.putfield 513, 3) := dk_181 2 1 (dk_at dksX9_layBest_0 19 rfl rfl)
theorem dX9_layBest_22 : decode cX9_layBest 22 = .ok (.aload_n 0, 1) := dk_42 (dk_at dksX9_layBest_0 22 rfl rfl)
theorem dX9_layBest_23 : decode cX9_layBest 23 = .ok (.iconst 0, 1) := dk_3 (dk_at dksX9_layBest_0 23 rfl rfl)
theorem dX9_layBest_24 : decode cX9_layBest 24 = .ok (.putfield 522, 3) := dk_181 2 10 (dk_at dksX9_layBest_1 0 rfl rfl)
theorem dX9_layBest_27 : decode cX9_layBest 27 = .ok (.aload_n 0, 1) := dk_42 (dk_at dksX9_layBest_1 3 rfl rfl)
theorem dX9_layBest_28 : decode cX9_layBest 28 = .ok (.iconst 0, 1) := dk_3 (dk_at dksX9_layBest_1 4 rfl rfl)
theorem dX9_layBest_29 : decode cX9_layBest 29 = .ok (.putfield 519, 3) := dk_181 2 7 (dk_at dksX9_layBest_1 5 rfl rfl)
theorem dX9_layBest_32 : decode cX9_layBest 32 = .ok (.aload_n 0, 1) := dk_42 (dk_at dksX9_layBest_1 8 rfl rfl)
theorem dX9_layBest_33 : decode cX9_layBest 33 = .ok (.iload_n 1, 1) := dk_27 (dk_at dksX9_layBest_1 9 rfl rfl)
theorem dX9_layBest_34 : decode cX9_layBest 34 = .ok (.invokevirtual 531, 3) := dk_182 2 19 (dk_at dksX9_layBest_1 10 rfl rfl)
theorem dX9_layBest_37 : decode cX9_layBest 37 = .ok (.ifCond .eq 78, 3) := dk_153 0 78 (dk_at dksX9_layBest_1 13 rfl rfl)
theorem dX9_layBest_40 : decode cX9_layBest 40 = .ok (.aload_n 0, 1) := dk_42 (dk_at dksX9_layBest_1 16 rfl rfl)
theorem dX9_layBest_41 : decode cX9_layBest 41 = .ok (.invokevirtual 534, 3) := dk_182 2 22 (dk_at dksX9_layBest_1 17 rfl rfl)
theorem dX9_layBest_44 : decode cX9_layBest 44 = .ok (.ifCond .ne 6, 3) := dk_154 0 6 (dk_at dksX9_layBest_1 20 rfl rfl)
theorem dX9_layBest_47 : decode cX9_layBest 47 = .ok (.goto (-15), 3) := dk_167 255 241 (dk_at dksX9_layBest_2 0 rfl rfl)
theorem dX9_layBest_50 : decode cX9_layBest 50 = .ok (.aload_n 0, 1) := dk_42 (dk_at dksX9_layBest_2 3 rfl rfl)
theorem dX9_layBest_51 : decode cX9_layBest 51 = .ok (.aload_n 0, 1) := dk_42 (dk_at dksX9_layBest_2 4 rfl rfl)
theorem dX9_layBest_52 : decode cX9_layBest 52 = .ok (.getfield 497, 3) := dk_180 1 241 (dk_at dksX9_layBest_2 5 rfl rfl)
theorem dX9_layBest_55 : decode cX9_layBest 55 = .ok (.putfield 513, 3) := dk_181 2 1 (dk_at dksX9_layBest_2 8 rfl rfl)
theorem dX9_layBest_58 : decode cX9_layBest 58 = .ok (.aload_n 0, 1) := dk_42 (dk_at dksX9_layBest_2 11 rfl rfl)
theorem dX9_layBest_59 : decode cX9_layBest 59 = .ok (.aload_n 0, 1) := dk_42 (dk_at dksX9_layBest_2 12 rfl rfl)
theorem dX9_layBest_60 : decode cX9_layBest 60 = .ok (.getfield 133, 3) := dk_180 0 133 (dk_at dksX9_layBest_2 13 rfl rfl)
theorem dX9_layBest_63 : decode cX9_layBest 63 = .ok (.aload_n 0, 1) := dk_42 (dk_at dksX9_layBest_2 16 rfl rfl)
theorem dX9_layBest_64 : decode cX9_layBest 64 = .ok (.getfield 497, 3) := dk_180 1 241 (dk_at dksX9_layBest_2 17 rfl rfl)
theorem dX9_layBest_67 : decode cX9_layBest 67 = .ok (.iaload, 1) := dk_46 (dk_at dksX9_layBest_2 20 rfl rfl)
theorem dX9_layBest_68 : decode cX9_layBest 68 = .ok (.putfield 522, 3) := dk_181 2 10 (dk_at dksX9_layBest_2 21 rfl rfl)
theorem dX9_layBest_71 : decode cX9_layBest 71 = .ok (.aload_n 0, 1) := dk_42 (dk_at dksX9_layBest_3 0 rfl rfl)
theorem dX9_layBest_72 : decode cX9_layBest 72 = .ok (.aload_n 0, 1) := dk_42 (dk_at dksX9_layBest_3 1 rfl rfl)
theorem dX9_layBest_73 : decode cX9_layBest 73 = .ok (.getfield 136, 3) := dk_180 0 136 (dk_at dksX9_layBest_3 2 rfl rfl)
theorem dX9_layBest_76 : decode cX9_layBest 76 = .ok (.aload_n 0, 1) := dk_42 (dk_at dksX9_layBest_3 5 rfl rfl)
theorem dX9_layBest_77 : decode cX9_layBest 77 = .ok (.getfield 497, 3) := dk_180 1 241 (dk_at dksX9_layBest_3 6 rfl rfl)
theorem dX9_layBest_80 : decode cX9_layBest 80 = .ok (.iaload, 1) := dk_46 (dk_at dksX9_layBest_3 9 rfl rfl)
theorem dX9_layBest_81 : decode cX9_layBest 81 = .ok (.putfield 519, 3) := dk_181 2 7 (dk_at dksX9_layBest_3 10 rfl rfl)
theorem dX9_layBest_84 : decode cX9_layBest 84 = .ok (.iconst 0, 1) := dk_3 (dk_at dksX9_layBest_3 13 rfl rfl)
theorem dX9_layBest_85 : decode cX9_layBest 85 = .ok (.istore_n 3, 1) := dk_62 (dk_at dksX9_layBest_3 14 rfl rfl)
theorem dX9_layBest_86 : decode cX9_layBest 86 = .ok (.iload_n 3, 1) := dk_29 (dk_at dksX9_layBest_3 15 rfl rfl)
theorem dX9_layBest_87 : decode cX9_layBest 87 = .ok (.aload_n 0, 1) := dk_42 (dk_at dksX9_layBest_3 16 rfl rfl)
theorem dX9_layBest_88 : decode cX9_layBest 88 = .ok (.getfield 497, 3) := dk_180 1 241 (dk_at dksX9_layBest_3 17 rfl rfl)
theorem dX9_layBest_91 : decode cX9_layBest 91 = .ok (.if_icmp .ge 21, 3) := dk_162 0 21 (dk_at dksX9_layBest_3 20 rfl rfl)
theorem dX9_layBest_94 : decode cX9_layBest 94 = .ok (.aload_n 0, 1) := dk_42 (dk_at dksX9_layBest_3 23 rfl rfl)
theorem dX9_layBest_95 : decode cX9_layBest 95 = .ok (.getfield 139, 3) := dk_180 0 139 (dk_at dksX9_layBest_4 0 rfl rfl)
theorem dX9_layBest_98 : decode cX9_layBest 98 = .ok (.iload_n 3, 1) := dk_29 (dk_at dksX9_layBest_4 3 rfl rfl)
theorem dX9_layBest_99 : decode cX9_layBest 99 = .ok (.aload_n 0, 1) := dk_42 (dk_at dksX9_layBest_4 4 rfl rfl)
theorem dX9_layBest_100 : decode cX9_layBest 100 = .ok (.getfield 130, 3) := dk_180 0 130 (dk_at dksX9_layBest_4 5 rfl rfl)
theorem dX9_layBest_103 : decode cX9_layBest 103 = .ok (.iload_n 3, 1) := dk_29 (dk_at dksX9_layBest_4 8 rfl rfl)
theorem dX9_layBest_104 : decode cX9_layBest 104 = .ok (.iaload, 1) := dk_46 (dk_at dksX9_layBest_4 9 rfl rfl)
theorem dX9_layBest_105 : decode cX9_layBest 105 = .ok (.iastore, 1) := dk_79 (dk_at dksX9_layBest_4 10 rfl rfl)
theorem dX9_layBest_106 : decode cX9_layBest 106 = .ok (.iinc 3 1, 3) := dk_132 3 1 (dk_at dksX9_layBest_4 11 rfl rfl)
theorem dX9_layBest_109 : decode cX9_layBest 109 = .ok (.goto (-23), 3) := dk_167 255 233 (dk_at dksX9_layBest_4 14 rfl rfl)
theorem dX9_layBest_112 : decode cX9_layBest 112 = .ok (.goto (-80), 3) := dk_167 255 176 (dk_at dksX9_layBest_4 17 rfl rfl)
theorem dX9_layBest_115 : decode cX9_layBest 115 = .ok (.return_, 1) := dk_177 (dk_at dksX9_layBest_4 20 rfl rfl)
abbrev cX9_beginOrder : ByteArray := prog_24_method_70_code
def yX9_beginOrder : MethodName := ⟨RX9, "beginOrde\x72", "()V"⟩
def dkwX9_beginOrder_0 : List UInt8 := [42, 3, 181, 1, 241, 42, 180, 0, 133, 3, 3, 79, 42, 180, 0, 136, 3, 3, 79, 177]
abbrev dktX9_beginOrder_0 : List UInt8 := dkwX9_beginOrder_0 ++ []
theorem dksX9_beginOrder_0 : cX9_beginOrder.data.toList.drop 0 = dktX9_beginOrder_0 := by decide +kernel
theorem dX9_beginOrder_0 : decode cX9_beginOrder 0 = .ok (.aload_n 0, 1) := dk_42 (dk_at dksX9_beginOrder_0 0 rfl rfl)
theorem dX9_beginOrder_1 : decode cX9_beginOrder 1 = .ok (.iconst 0, 1) := dk_3 (dk_at dksX9_beginOrder_0 1 rfl rfl)
theorem dX9_beginOrder_2 : decode cX9_beginOrder 2 = .ok (.putfield 497, 3) := dk_181 1 241 (dk_at dksX9_beginOrder_0 2 rfl rfl)
theorem dX9_beginOrder_5 : decode cX9_beginOrder 5 = .ok (.aload_n 0, 1) := dk_42 (dk_at dksX9_beginOrder_0 5 rfl rfl)
theorem dX9_beginOrder_6 : decode cX9_beginOrder 6 = .ok (.getfield 133, 3) := dk_180 0 133 (dk_at dksX9_beginOrder_0 6 rfl rfl)
theorem dX9_beginOrder_9 : decode cX9_beginOrder 9 = .ok (.iconst 0, 1) := dk_3 (dk_at dksX9_beginOrder_0 9 rfl rfl)
theorem dX9_beginOrder_10 : decode cX9_beginOrder 10 = .ok (.iconst 0, 1) := dk_3 (dk_at dksX9_beginOrder_0 10 rfl rfl)
theorem dX9_beginOrder_11 : decode cX9_beginOrder 11 = .ok (.iastore, 1) := dk_79 (dk_at dksX9_beginOrder_0 11 rfl rfl)
theorem dX9_beginOrder_12 : decode cX9_beginOrder 12 = .ok (.aload_n 0, 1) := dk_42 (dk_at dksX9_beginOrder_0 12 rfl rfl)
theorem dX9_beginOrder_13 : decode cX9_beginOrder 13 = .ok (.getfield 136, 3) := dk_180 0 136 (dk_at dksX9_beginOrder_0 13 rfl rfl)
theorem dX9_beginOrder_16 : decode cX9_beginOrder 16 = .ok (.iconst 0, 1) := dk_3 (dk_at dksX9_beginOrder_0 16 rfl rfl)
theorem dX9_beginOrder_17 : decode cX9_beginOrder 17 = .ok (.iconst 0, 1) := dk_3 (dk_at dksX9_beginOrder_0 17 rfl rfl)
theorem dX9_beginOrder_18 : decode cX9_beginOrder 18 = .ok (.iastore, 1) := dk_79 (dk_at dksX9_beginOrder_0 18 rfl rfl)
theorem dX9_beginOrder_19 : decode cX9_beginOrder 19 = .ok (.return_, 1) := dk_177 (dk_at dksX9_beginOrder_0 19 rfl rfl)
abbrev cX9_nextOrder : ByteArray := prog_24_method_71_code
def yX9_nextOrder : MethodName := ⟨RX9, "nextOrde\x72", "(I)Z"⟩
def dkwX9_nextOrder_3 : List UInt8 := [153, 0, 5, 4, 172, 132, 2, 1, 167, 255, 234, 167, 255, 202, 3, 172]
abbrev dktX9_nextOrder_3 : List UInt8 := dkwX9_nextOrder_3 ++ []
def dkwX9_nextOrder_2 : List UInt8 := [42, 180, 1, 241, 46, 4, 96, 61, 28, 42, 180, 1, 170, 162, 0, 20, 42, 27, 28, 182, 1, 253]
abbrev dktX9_nextOrder_2 : List UInt8 := dkwX9_nextOrder_2 ++ dktX9_nextOrder_3
def dkwX9_nextOrder_1 : List UInt8 := [167, 255, 234, 42, 180, 1, 241, 158, 0, 53, 42, 89, 180, 1, 241, 4, 100, 181, 1, 241, 42, 180, 0, 130]
abbrev dktX9_nextOrder_1 : List UInt8 := dkwX9_nextOrder_1 ++ dktX9_nextOrder_2
def dkwX9_nextOrder_0 : List UInt8 := [3, 61, 28, 42, 180, 1, 170, 162, 0, 20, 42, 27, 28, 182, 1, 253, 153, 0, 5, 4, 172, 132, 2, 1]
abbrev dktX9_nextOrder_0 : List UInt8 := dkwX9_nextOrder_0 ++ dktX9_nextOrder_1
theorem dksX9_nextOrder_0 : cX9_nextOrder.data.toList.drop 0 = dktX9_nextOrder_0 := by decide +kernel
theorem dksX9_nextOrder_1 : cX9_nextOrder.data.toList.drop 24 = dktX9_nextOrder_1 := dk_seg dksX9_nextOrder_0 24 rfl rfl
theorem dksX9_nextOrder_2 : cX9_nextOrder.data.toList.drop 48 = dktX9_nextOrder_2 := dk_seg dksX9_nextOrder_1 24 rfl rfl
theorem dksX9_nextOrder_3 : cX9_nextOrder.data.toList.drop 70 = dktX9_nextOrder_3 := dk_seg dksX9_nextOrder_2 22 rfl rfl
theorem dX9_nextOrder_0 : decode cX9_nextOrder 0 = .ok (.iconst 0, 1) := dk_3 (dk_at dksX9_nextOrder_0 0 rfl rfl)
theorem dX9_nextOrder_1 : decode cX9_nextOrder 1 = .ok (.istore_n 2, 1) := dk_61 (dk_at dksX9_nextOrder_0 1 rfl rfl)
theorem dX9_nextOrder_2 : decode cX9_nextOrder 2 = .ok (.iload_n 2, 1) := dk_28 (dk_at dksX9_nextOrder_0 2 rfl rfl)
theorem dX9_nextOrder_3 : decode cX9_nextOrder 3 = .ok (.aload_n 0, 1) := dk_42 (dk_at dksX9_nextOrder_0 3 rfl rfl)
theorem dX9_nextOrder_4 : decode cX9_nextOrder 4 = .ok (.getfield 426, 3) := dk_180 1 170 (dk_at dksX9_nextOrder_0 4 rfl rfl)
theorem dX9_nextOrder_7 : decode cX9_nextOrder 7 = .ok (.if_icmp .ge 20, 3) := dk_162 0 20 (dk_at dksX9_nextOrder_0 7 rfl rfl)
theorem dX9_nextOrder_10 : decode cX9_nextOrder 10 = .ok (.aload_n 0, 1) := dk_42 (dk_at dksX9_nextOrder_0 10 rfl rfl)
theorem dX9_nextOrder_11 : decode cX9_nextOrder 11 = .ok (.iload_n 1, 1) := dk_27 (dk_at dksX9_nextOrder_0 11 rfl rfl)
theorem dX9_nextOrder_12 : decode cX9_nextOrder 12 = .ok (.iload_n 2, 1) := dk_28 (dk_at dksX9_nextOrder_0 12 rfl rfl)
theorem dX9_nextOrder_13 : decode cX9_nextOrder 13 = .ok (.invokevirtual 509, 3) := dk_182 1 253 (dk_at dksX9_nextOrder_0 13 rfl rfl)
theorem dX9_nextOrder_16 : decode cX9_nextOrder 16 = .ok (.ifCond .eq 5, 3) := dk_153 0 5 (dk_at dksX9_nextOrder_0 16 rfl rfl)
theorem dX9_nextOrder_19 : decode cX9_nextOrder 19 = .ok (.iconst 1, 1) := dk_4 (dk_at dksX9_nextOrder_0 19 rfl rfl)
theorem dX9_nextOrder_20 : decode cX9_nextOrder 20 = .ok (.ireturn, 1) := dk_172 (dk_at dksX9_nextOrder_0 20 rfl rfl)
theorem dX9_nextOrder_21 : decode cX9_nextOrder 21 = .ok (.iinc 2 1, 3) := dk_132 2 1 (dk_at dksX9_nextOrder_0 21 rfl rfl)
theorem dX9_nextOrder_24 : decode cX9_nextOrder 24 = .ok (.goto (-22), 3) := dk_167 255 234 (dk_at dksX9_nextOrder_1 0 rfl rfl)
theorem dX9_nextOrder_27 : decode cX9_nextOrder 27 = .ok (.aload_n 0, 1) := dk_42 (dk_at dksX9_nextOrder_1 3 rfl rfl)
theorem dX9_nextOrder_28 : decode cX9_nextOrder 28 = .ok (.getfield 497, 3) := dk_180 1 241 (dk_at dksX9_nextOrder_1 4 rfl rfl)
theorem dX9_nextOrder_31 : decode cX9_nextOrder 31 = .ok (.ifCond .le 53, 3) := dk_158 0 53 (dk_at dksX9_nextOrder_1 7 rfl rfl)
theorem dX9_nextOrder_34 : decode cX9_nextOrder 34 = .ok (.aload_n 0, 1) := dk_42 (dk_at dksX9_nextOrder_1 10 rfl rfl)
theorem dX9_nextOrder_35 : decode cX9_nextOrder 35 = .ok (.dup, 1) := dk_89 (dk_at dksX9_nextOrder_1 11 rfl rfl)
theorem dX9_nextOrder_36 : decode cX9_nextOrder 36 = .ok (.getfield 497, 3) := dk_180 1 241 (dk_at dksX9_nextOrder_1 12 rfl rfl)
theorem dX9_nextOrder_39 : decode cX9_nextOrder 39 = .ok (.iconst 1, 1) := dk_4 (dk_at dksX9_nextOrder_1 15 rfl rfl)
theorem dX9_nextOrder_40 : decode cX9_nextOrder 40 = .ok (.isub, 1) := dk_100 (dk_at dksX9_nextOrder_1 16 rfl rfl)
theorem dX9_nextOrder_41 : decode cX9_nextOrder 41 = .ok (.putfield 497, 3) := dk_181 1 241 (dk_at dksX9_nextOrder_1 17 rfl rfl)
theorem dX9_nextOrder_44 : decode cX9_nextOrder 44 = .ok (.aload_n 0, 1) := dk_42 (dk_at dksX9_nextOrder_1 20 rfl rfl)
theorem dX9_nextOrder_45 : decode cX9_nextOrder 45 = .ok (.getfield 130, 3) := dk_180 0 130 (dk_at dksX9_nextOrder_1 21 rfl rfl)
theorem dX9_nextOrder_48 : decode cX9_nextOrder 48 = .ok (.aload_n 0, 1) := dk_42 (dk_at dksX9_nextOrder_2 0 rfl rfl)
theorem dX9_nextOrder_49 : decode cX9_nextOrder 49 = .ok (.getfield 497, 3) := dk_180 1 241 (dk_at dksX9_nextOrder_2 1 rfl rfl)
theorem dX9_nextOrder_52 : decode cX9_nextOrder 52 = .ok (.iaload, 1) := dk_46 (dk_at dksX9_nextOrder_2 4 rfl rfl)
theorem dX9_nextOrder_53 : decode cX9_nextOrder 53 = .ok (.iconst 1, 1) := dk_4 (dk_at dksX9_nextOrder_2 5 rfl rfl)
theorem dX9_nextOrder_54 : decode cX9_nextOrder 54 = .ok (.iadd, 1) := dk_96 (dk_at dksX9_nextOrder_2 6 rfl rfl)
theorem dX9_nextOrder_55 : decode cX9_nextOrder 55 = .ok (.istore_n 2, 1) := dk_61 (dk_at dksX9_nextOrder_2 7 rfl rfl)
theorem dX9_nextOrder_56 : decode cX9_nextOrder 56 = .ok (.iload_n 2, 1) := dk_28 (dk_at dksX9_nextOrder_2 8 rfl rfl)
theorem dX9_nextOrder_57 : decode cX9_nextOrder 57 = .ok (.aload_n 0, 1) := dk_42 (dk_at dksX9_nextOrder_2 9 rfl rfl)
theorem dX9_nextOrder_58 : decode cX9_nextOrder 58 = .ok (.getfield 426, 3) := dk_180 1 170 (dk_at dksX9_nextOrder_2 10 rfl rfl)
theorem dX9_nextOrder_61 : decode cX9_nextOrder 61 = .ok (.if_icmp .ge 20, 3) := dk_162 0 20 (dk_at dksX9_nextOrder_2 13 rfl rfl)
theorem dX9_nextOrder_64 : decode cX9_nextOrder 64 = .ok (.aload_n 0, 1) := dk_42 (dk_at dksX9_nextOrder_2 16 rfl rfl)
theorem dX9_nextOrder_65 : decode cX9_nextOrder 65 = .ok (.iload_n 1, 1) := dk_27 (dk_at dksX9_nextOrder_2 17 rfl rfl)
theorem dX9_nextOrder_66 : decode cX9_nextOrder 66 = .ok (.iload_n 2, 1) := dk_28 (dk_at dksX9_nextOrder_2 18 rfl rfl)
theorem dX9_nextOrder_67 : decode cX9_nextOrder 67 = .ok (.invokevirtual 509, 3) := dk_182 1 253 (dk_at dksX9_nextOrder_2 19 rfl rfl)
theorem dX9_nextOrder_70 : decode cX9_nextOrder 70 = .ok (.ifCond .eq 5, 3) := dk_153 0 5 (dk_at dksX9_nextOrder_3 0 rfl rfl)
theorem dX9_nextOrder_73 : decode cX9_nextOrder 73 = .ok (.iconst 1, 1) := dk_4 (dk_at dksX9_nextOrder_3 3 rfl rfl)
theorem dX9_nextOrder_74 : decode cX9_nextOrder 74 = .ok (.ireturn, 1) := dk_172 (dk_at dksX9_nextOrder_3 4 rfl rfl)
theorem dX9_nextOrder_75 : decode cX9_nextOrder 75 = .ok (.iinc 2 1, 3) := dk_132 2 1 (dk_at dksX9_nextOrder_3 5 rfl rfl)
theorem dX9_nextOrder_78 : decode cX9_nextOrder 78 = .ok (.goto (-22), 3) := dk_167 255 234 (dk_at dksX9_nextOrder_3 8 rfl rfl)
theorem dX9_nextOrder_81 : decode cX9_nextOrder 81 = .ok (.goto (-54), 3) := dk_167 255 202 (dk_at dksX9_nextOrder_3 11 rfl rfl)
theorem dX9_nextOrder_84 : decode cX9_nextOrder 84 = .ok (.iconst 0, 1) := dk_3 (dk_at dksX9_nextOrder_3 14 rfl rfl)
theorem dX9_nextOrder_85 : decode cX9_nextOrder 85 = .ok (.ireturn, 1) := dk_172 (dk_at dksX9_nextOrder_3 15 rfl rfl)
abbrev cX9_canPut : ByteArray := prog_24_method_69_code
def yX9_canPut : MethodName := ⟨RX9, "canPut", "(II)Z"⟩
def dkwX9_canPut_5 : List UInt8 := [180, 1, 241, 4, 96, 181, 1, 241, 4, 172]
abbrev dktX9_canPut_5 : List UInt8 := dkwX9_canPut_5 ++ []
def dkwX9_canPut_4 : List UInt8 := [180, 0, 136, 42, 180, 1, 241, 46, 42, 27, 28, 42, 29, 182, 1, 244, 182, 1, 250, 128, 79, 42, 89]
abbrev dktX9_canPut_4 : List UInt8 := dkwX9_canPut_4 ++ dktX9_canPut_5
def dkwX9_canPut_3 : List UInt8 := [79, 42, 180, 0, 133, 42, 180, 1, 241, 4, 96, 29, 79, 42, 180, 0, 136, 42, 180, 1, 241, 4, 96, 42]
abbrev dktX9_canPut_3 : List UInt8 := dkwX9_canPut_3 ++ dktX9_canPut_4
def dkwX9_canPut_2 : List UInt8 := [27, 28, 42, 29, 182, 1, 244, 182, 1, 247, 153, 0, 5, 3, 172, 42, 180, 0, 130, 42, 180, 1, 241, 28]
abbrev dktX9_canPut_2 : List UInt8 := dkwX9_canPut_2 ++ dktX9_canPut_3
def dkwX9_canPut_1 : List UInt8 := [132, 3, 1, 167, 255, 233, 42, 180, 0, 133, 42, 180, 1, 241, 46, 42, 180, 0, 66, 28, 46, 96, 62, 42]
abbrev dktX9_canPut_1 : List UInt8 := dkwX9_canPut_1 ++ dktX9_canPut_2
def dkwX9_canPut_0 : List UInt8 := [3, 62, 29, 42, 180, 1, 241, 162, 0, 21, 42, 180, 0, 130, 29, 46, 28, 160, 0, 5, 3, 172]
abbrev dktX9_canPut_0 : List UInt8 := dkwX9_canPut_0 ++ dktX9_canPut_1
theorem dksX9_canPut_0 : cX9_canPut.data.toList.drop 0 = dktX9_canPut_0 := by decide +kernel
theorem dksX9_canPut_1 : cX9_canPut.data.toList.drop 22 = dktX9_canPut_1 := dk_seg dksX9_canPut_0 22 rfl rfl
theorem dksX9_canPut_2 : cX9_canPut.data.toList.drop 46 = dktX9_canPut_2 := dk_seg dksX9_canPut_1 24 rfl rfl
theorem dksX9_canPut_3 : cX9_canPut.data.toList.drop 70 = dktX9_canPut_3 := dk_seg dksX9_canPut_2 24 rfl rfl
theorem dksX9_canPut_4 : cX9_canPut.data.toList.drop 94 = dktX9_canPut_4 := dk_seg dksX9_canPut_3 24 rfl rfl
theorem dksX9_canPut_5 : cX9_canPut.data.toList.drop 117 = dktX9_canPut_5 := dk_seg dksX9_canPut_4 23 rfl rfl
theorem dX9_canPut_0 : decode cX9_canPut 0 = .ok (.iconst 0, 1) := dk_3 (dk_at dksX9_canPut_0 0 rfl rfl)
theorem dX9_canPut_1 : decode cX9_canPut 1 = .ok (.istore_n 3, 1) := dk_62 (dk_at dksX9_canPut_0 1 rfl rfl)
theorem dX9_canPut_2 : decode cX9_canPut 2 = .ok (.iload_n 3, 1) := dk_29 (dk_at dksX9_canPut_0 2 rfl rfl)
theorem dX9_canPut_3 : decode cX9_canPut 3 = .ok (.aload_n 0, 1) := dk_42 (dk_at dksX9_canPut_0 3 rfl rfl)
theorem dX9_canPut_4 : decode cX9_canPut 4 = .ok (.getfield 497, 3) := dk_180 1 241 (dk_at dksX9_canPut_0 4 rfl rfl)
theorem dX9_canPut_7 : decode cX9_canPut 7 = .ok (.if_icmp .ge 21, 3) := dk_162 0 21 (dk_at dksX9_canPut_0 7 rfl rfl)
theorem dX9_canPut_10 : decode cX9_canPut 10 = .ok (.aload_n 0, 1) := dk_42 (dk_at dksX9_canPut_0 10 rfl rfl)
theorem dX9_canPut_11 : decode cX9_canPut 11 = .ok (.getfield 130, 3) := dk_180 0 130 (dk_at dksX9_canPut_0 11 rfl rfl)
theorem dX9_canPut_14 : decode cX9_canPut 14 = .ok (.iload_n 3, 1) := dk_29 (dk_at dksX9_canPut_0 14 rfl rfl)
theorem dX9_canPut_15 : decode cX9_canPut 15 = .ok (.iaload, 1) := dk_46 (dk_at dksX9_canPut_0 15 rfl rfl)
theorem dX9_canPut_16 : decode cX9_canPut 16 = .ok (.iload_n 2, 1) := dk_28 (dk_at dksX9_canPut_0 16 rfl rfl)
theorem dX9_canPut_17 : decode cX9_canPut 17 = .ok (.if_icmp .ne 5, 3) := dk_160 0 5 (dk_at dksX9_canPut_0 17 rfl rfl)
theorem dX9_canPut_20 : decode cX9_canPut 20 = .ok (.iconst 0, 1) := dk_3 (dk_at dksX9_canPut_0 20 rfl rfl)
theorem dX9_canPut_21 : decode cX9_canPut 21 = .ok (.ireturn, 1) := dk_172 (dk_at dksX9_canPut_0 21 rfl rfl)
theorem dX9_canPut_22 : decode cX9_canPut 22 = .ok (.iinc 3 1, 3) := dk_132 3 1 (dk_at dksX9_canPut_1 0 rfl rfl)
theorem dX9_canPut_25 : decode cX9_canPut 25 = .ok (.goto (-23), 3) := dk_167 255 233 (dk_at dksX9_canPut_1 3 rfl rfl)
theorem dX9_canPut_28 : decode cX9_canPut 28 = .ok (.aload_n 0, 1) := dk_42 (dk_at dksX9_canPut_1 6 rfl rfl)
theorem dX9_canPut_29 : decode cX9_canPut 29 = .ok (.getfield 133, 3) := dk_180 0 133 (dk_at dksX9_canPut_1 7 rfl rfl)
theorem dX9_canPut_32 : decode cX9_canPut 32 = .ok (.aload_n 0, 1) := dk_42 (dk_at dksX9_canPut_1 10 rfl rfl)
theorem dX9_canPut_33 : decode cX9_canPut 33 = .ok (.getfield 497, 3) := dk_180 1 241 (dk_at dksX9_canPut_1 11 rfl rfl)
theorem dX9_canPut_36 : decode cX9_canPut 36 = .ok (.iaload, 1) := dk_46 (dk_at dksX9_canPut_1 14 rfl rfl)
theorem dX9_canPut_37 : decode cX9_canPut 37 = .ok (.aload_n 0, 1) := dk_42 (dk_at dksX9_canPut_1 15 rfl rfl)
theorem dX9_canPut_38 : decode cX9_canPut 38 = .ok (.getfield 66, 3) := dk_180 0 66 (dk_at dksX9_canPut_1 16 rfl rfl)
theorem dX9_canPut_41 : decode cX9_canPut 41 = .ok (.iload_n 2, 1) := dk_28 (dk_at dksX9_canPut_1 19 rfl rfl)
theorem dX9_canPut_42 : decode cX9_canPut 42 = .ok (.iaload, 1) := dk_46 (dk_at dksX9_canPut_1 20 rfl rfl)
theorem dX9_canPut_43 : decode cX9_canPut 43 = .ok (.iadd, 1) := dk_96 (dk_at dksX9_canPut_1 21 rfl rfl)
theorem dX9_canPut_44 : decode cX9_canPut 44 = .ok (.istore_n 3, 1) := dk_62 (dk_at dksX9_canPut_1 22 rfl rfl)
theorem dX9_canPut_45 : decode cX9_canPut 45 = .ok (.aload_n 0, 1) := dk_42 (dk_at dksX9_canPut_1 23 rfl rfl)
theorem dX9_canPut_46 : decode cX9_canPut 46 = .ok (.iload_n 1, 1) := dk_27 (dk_at dksX9_canPut_2 0 rfl rfl)
theorem dX9_canPut_47 : decode cX9_canPut 47 = .ok (.iload_n 2, 1) := dk_28 (dk_at dksX9_canPut_2 1 rfl rfl)
theorem dX9_canPut_48 : decode cX9_canPut 48 = .ok (.aload_n 0, 1) := dk_42 (dk_at dksX9_canPut_2 2 rfl rfl)
theorem dX9_canPut_49 : decode cX9_canPut 49 = .ok (.iload_n 3, 1) := dk_29 (dk_at dksX9_canPut_2 3 rfl rfl)
theorem dX9_canPut_50 : decode cX9_canPut 50 = .ok (.invokevirtual 500, 3) := dk_182 1 244 (dk_at dksX9_canPut_2 4 rfl rfl)
theorem dX9_canPut_53 : decode cX9_canPut 53 = .ok (.invokevirtual 503, 3) := dk_182 1 247 (dk_at dksX9_canPut_2 7 rfl rfl)
theorem dX9_canPut_56 : decode cX9_canPut 56 = .ok (.ifCond .eq 5, 3) := dk_153 0 5 (dk_at dksX9_canPut_2 10 rfl rfl)
theorem dX9_canPut_59 : decode cX9_canPut 59 = .ok (.iconst 0, 1) := dk_3 (dk_at dksX9_canPut_2 13 rfl rfl)
theorem dX9_canPut_60 : decode cX9_canPut 60 = .ok (.ireturn, 1) := dk_172 (dk_at dksX9_canPut_2 14 rfl rfl)
theorem dX9_canPut_61 : decode cX9_canPut 61 = .ok (.aload_n 0, 1) := dk_42 (dk_at dksX9_canPut_2 15 rfl rfl)
theorem dX9_canPut_62 : decode cX9_canPut 62 = .ok (.getfield 130, 3) := dk_180 0 130 (dk_at dksX9_canPut_2 16 rfl rfl)
theorem dX9_canPut_65 : decode cX9_canPut 65 = .ok (.aload_n 0, 1) := dk_42 (dk_at dksX9_canPut_2 19 rfl rfl)
theorem dX9_canPut_66 : decode cX9_canPut 66 = .ok (.getfield 497, 3) := dk_180 1 241 (dk_at dksX9_canPut_2 20 rfl rfl)
theorem dX9_canPut_69 : decode cX9_canPut 69 = .ok (.iload_n 2, 1) := dk_28 (dk_at dksX9_canPut_2 23 rfl rfl)
theorem dX9_canPut_70 : decode cX9_canPut 70 = .ok (.iastore, 1) := dk_79 (dk_at dksX9_canPut_3 0 rfl rfl)
theorem dX9_canPut_71 : decode cX9_canPut 71 = .ok (.aload_n 0, 1) := dk_42 (dk_at dksX9_canPut_3 1 rfl rfl)
theorem dX9_canPut_72 : decode cX9_canPut 72 = .ok (.getfield 133, 3) := dk_180 0 133 (dk_at dksX9_canPut_3 2 rfl rfl)
theorem dX9_canPut_75 : decode cX9_canPut 75 = .ok (.aload_n 0, 1) := dk_42 (dk_at dksX9_canPut_3 5 rfl rfl)
theorem dX9_canPut_76 : decode cX9_canPut 76 = .ok (.getfield 497, 3) := dk_180 1 241 (dk_at dksX9_canPut_3 6 rfl rfl)
theorem dX9_canPut_79 : decode cX9_canPut 79 = .ok (.iconst 1, 1) := dk_4 (dk_at dksX9_canPut_3 9 rfl rfl)
theorem dX9_canPut_80 : decode cX9_canPut 80 = .ok (.iadd, 1) := dk_96 (dk_at dksX9_canPut_3 10 rfl rfl)
theorem dX9_canPut_81 : decode cX9_canPut 81 = .ok (.iload_n 3, 1) := dk_29 (dk_at dksX9_canPut_3 11 rfl rfl)
theorem dX9_canPut_82 : decode cX9_canPut 82 = .ok (.iastore, 1) := dk_79 (dk_at dksX9_canPut_3 12 rfl rfl)
theorem dX9_canPut_83 : decode cX9_canPut 83 = .ok (.aload_n 0, 1) := dk_42 (dk_at dksX9_canPut_3 13 rfl rfl)
theorem dX9_canPut_84 : decode cX9_canPut 84 = .ok (.getfield 136, 3) := dk_180 0 136 (dk_at dksX9_canPut_3 14 rfl rfl)
theorem dX9_canPut_87 : decode cX9_canPut 87 = .ok (.aload_n 0, 1) := dk_42 (dk_at dksX9_canPut_3 17 rfl rfl)
theorem dX9_canPut_88 : decode cX9_canPut 88 = .ok (.getfield 497, 3) := dk_180 1 241 (dk_at dksX9_canPut_3 18 rfl rfl)
theorem dX9_canPut_91 : decode cX9_canPut 91 = .ok (.iconst 1, 1) := dk_4 (dk_at dksX9_canPut_3 21 rfl rfl)
theorem dX9_canPut_92 : decode cX9_canPut 92 = .ok (.iadd, 1) := dk_96 (dk_at dksX9_canPut_3 22 rfl rfl)
theorem dX9_canPut_93 : decode cX9_canPut 93 = .ok (.aload_n 0, 1) := dk_42 (dk_at dksX9_canPut_3 23 rfl rfl)
theorem dX9_canPut_94 : decode cX9_canPut 94 = .ok (.getfield 136, 3) := dk_180 0 136 (dk_at dksX9_canPut_4 0 rfl rfl)
theorem dX9_canPut_97 : decode cX9_canPut 97 = .ok (.aload_n 0, 1) := dk_42 (dk_at dksX9_canPut_4 3 rfl rfl)
theorem dX9_canPut_98 : decode cX9_canPut 98 = .ok (.getfield 497, 3) := dk_180 1 241 (dk_at dksX9_canPut_4 4 rfl rfl)
theorem dX9_canPut_101 : decode cX9_canPut 101 = .ok (.iaload, 1) := dk_46 (dk_at dksX9_canPut_4 7 rfl rfl)
theorem dX9_canPut_102 : decode cX9_canPut 102 = .ok (.aload_n 0, 1) := dk_42 (dk_at dksX9_canPut_4 8 rfl rfl)
theorem dX9_canPut_103 : decode cX9_canPut 103 = .ok (.iload_n 1, 1) := dk_27 (dk_at dksX9_canPut_4 9 rfl rfl)
theorem dX9_canPut_104 : decode cX9_canPut 104 = .ok (.iload_n 2, 1) := dk_28 (dk_at dksX9_canPut_4 10 rfl rfl)
theorem dX9_canPut_105 : decode cX9_canPut 105 = .ok (.aload_n 0, 1) := dk_42 (dk_at dksX9_canPut_4 11 rfl rfl)
theorem dX9_canPut_106 : decode cX9_canPut 106 = .ok (.iload_n 3, 1) := dk_29 (dk_at dksX9_canPut_4 12 rfl rfl)
theorem dX9_canPut_107 : decode cX9_canPut 107 = .ok (.invokevirtual 500, 3) := dk_182 1 244 (dk_at dksX9_canPut_4 13 rfl rfl)
theorem dX9_canPut_110 : decode cX9_canPut 110 = .ok (.invokevirtual 506, 3) := dk_182 1 250 (dk_at dksX9_canPut_4 16 rfl rfl)
theorem dX9_canPut_113 : decode cX9_canPut 113 = .ok (.ior, 1) := dk_128 (dk_at dksX9_canPut_4 19 rfl rfl)
theorem dX9_canPut_114 : decode cX9_canPut 114 = .ok (.iastore, 1) := dk_79 (dk_at dksX9_canPut_4 20 rfl rfl)
theorem dX9_canPut_115 : decode cX9_canPut 115 = .ok (.aload_n 0, 1) := dk_42 (dk_at dksX9_canPut_4 21 rfl rfl)
theorem dX9_canPut_116 : decode cX9_canPut 116 = .ok (.dup, 1) := dk_89 (dk_at dksX9_canPut_4 22 rfl rfl)
theorem dX9_canPut_117 : decode cX9_canPut 117 = .ok (.getfield 497, 3) := dk_180 1 241 (dk_at dksX9_canPut_5 0 rfl rfl)
theorem dX9_canPut_120 : decode cX9_canPut 120 = .ok (.iconst 1, 1) := dk_4 (dk_at dksX9_canPut_5 3 rfl rfl)
theorem dX9_canPut_121 : decode cX9_canPut 121 = .ok (.iadd, 1) := dk_96 (dk_at dksX9_canPut_5 4 rfl rfl)
theorem dX9_canPut_122 : decode cX9_canPut 122 = .ok (.putfield 497, 3) := dk_181 1 241 (dk_at dksX9_canPut_5 5 rfl rfl)
theorem dX9_canPut_125 : decode cX9_canPut 125 = .ok (.iconst 1, 1) := dk_4 (dk_at dksX9_canPut_5 8 rfl rfl)
theorem dX9_canPut_126 : decode cX9_canPut 126 = .ok (.ireturn, 1) := dk_172 (dk_at dksX9_canPut_5 9 rfl rfl)
abbrev cX9_doneOn : ByteArray := prog_24_method_66_code
def yX9_doneOn : MethodName := ⟨RX9, "doneOn", "(I)I"⟩
def dkwX9_doneOn_0 : List UInt8 := [42, 180, 1, 238, 27, 4, 100, 42, 180, 0, 115, 108, 96, 172]
abbrev dktX9_doneOn_0 : List UInt8 := dkwX9_doneOn_0 ++ []
theorem dksX9_doneOn_0 : cX9_doneOn.data.toList.drop 0 = dktX9_doneOn_0 := by decide +kernel
theorem dX9_doneOn_0 : decode cX9_doneOn 0 = .ok (.aload_n 0, 1) := dk_42 (dk_at dksX9_doneOn_0 0 rfl rfl)
theorem dX9_doneOn_1 : decode cX9_doneOn 1 = .ok (.getfield 494, 3) := dk_180 1 238 (dk_at dksX9_doneOn_0 1 rfl rfl)
theorem dX9_doneOn_4 : decode cX9_doneOn 4 = .ok (.iload_n 1, 1) := dk_27 (dk_at dksX9_doneOn_0 4 rfl rfl)
theorem dX9_doneOn_5 : decode cX9_doneOn 5 = .ok (.iconst 1, 1) := dk_4 (dk_at dksX9_doneOn_0 5 rfl rfl)
theorem dX9_doneOn_6 : decode cX9_doneOn 6 = .ok (.isub, 1) := dk_100 (dk_at dksX9_doneOn_0 6 rfl rfl)
theorem dX9_doneOn_7 : decode cX9_doneOn 7 = .ok (.aload_n 0, 1) := dk_42 (dk_at dksX9_doneOn_0 7 rfl rfl)
theorem dX9_doneOn_8 : decode cX9_doneOn 8 = .ok (.getfield 115, 3) := dk_180 0 115 (dk_at dksX9_doneOn_0 8 rfl rfl)
theorem dX9_doneOn_11 : decode cX9_doneOn 11 = .ok (.idiv, 1) := dk_108 (dk_at dksX9_doneOn_0 11 rfl rfl)
theorem dX9_doneOn_12 : decode cX9_doneOn 12 = .ok (.iadd, 1) := dk_96 (dk_at dksX9_doneOn_0 12 rfl rfl)
theorem dX9_doneOn_13 : decode cX9_doneOn 13 = .ok (.ireturn, 1) := dk_172 (dk_at dksX9_doneOn_0 13 rfl rfl)
abbrev cX9_isForbidden : ByteArray := prog_24_method_67_code
def yX9_isForbidden : MethodName := ⟨RX9, "isForbidden", "(III)Z"⟩
def dkwX9_isForbidden_3 : List UInt8 := [161, 0, 7, 4, 167, 0, 4, 3, 54, 4, 132, 5, 1, 167, 255, 180, 21, 4, 172]
abbrev dktX9_isForbidden_3 : List UInt8 := dkwX9_isForbidden_3 ++ []
def dkwX9_isForbidden_2 : List UInt8 := [28, 160, 0, 28, 42, 180, 0, 112, 21, 5, 51, 154, 0, 18, 42, 180, 0, 99, 21, 5, 46, 29]
abbrev dktX9_isForbidden_2 : List UInt8 := dkwX9_isForbidden_2 ++ dktX9_isForbidden_3
def dkwX9_isForbidden_1 : List UInt8 := [182, 1, 213, 153, 0, 50, 42, 180, 0, 90, 21, 5, 46, 27, 160, 0, 39, 42, 180, 0, 96, 21, 5, 46]
abbrev dktX9_isForbidden_1 : List UInt8 := dkwX9_isForbidden_1 ++ dktX9_isForbidden_2
def dkwX9_isForbidden_0 : List UInt8 := [3, 54, 4, 3, 54, 5, 21, 5, 42, 180, 1, 173, 162, 0, 73, 21, 4, 154, 0, 55, 42, 21, 5]
abbrev dktX9_isForbidden_0 : List UInt8 := dkwX9_isForbidden_0 ++ dktX9_isForbidden_1
theorem dksX9_isForbidden_0 : cX9_isForbidden.data.toList.drop 0 = dktX9_isForbidden_0 := by decide +kernel
theorem dksX9_isForbidden_1 : cX9_isForbidden.data.toList.drop 23 = dktX9_isForbidden_1 := dk_seg dksX9_isForbidden_0 23 rfl rfl
theorem dksX9_isForbidden_2 : cX9_isForbidden.data.toList.drop 47 = dktX9_isForbidden_2 := dk_seg dksX9_isForbidden_1 24 rfl rfl
theorem dksX9_isForbidden_3 : cX9_isForbidden.data.toList.drop 69 = dktX9_isForbidden_3 := dk_seg dksX9_isForbidden_2 22 rfl rfl
theorem dX9_isForbidden_0 : decode cX9_isForbidden 0 = .ok (.iconst 0, 1) := dk_3 (dk_at dksX9_isForbidden_0 0 rfl rfl)
theorem dX9_isForbidden_1 : decode cX9_isForbidden 1 = .ok (.istore 4, 2) := dk_54 4 (dk_at dksX9_isForbidden_0 1 rfl rfl)
theorem dX9_isForbidden_3 : decode cX9_isForbidden 3 = .ok (.iconst 0, 1) := dk_3 (dk_at dksX9_isForbidden_0 3 rfl rfl)
theorem dX9_isForbidden_4 : decode cX9_isForbidden 4 = .ok (.istore 5, 2) := dk_54 5 (dk_at dksX9_isForbidden_0 4 rfl rfl)
theorem dX9_isForbidden_6 : decode cX9_isForbidden 6 = .ok (.iload 5, 2) := dk_21 5 (dk_at dksX9_isForbidden_0 6 rfl rfl)
theorem dX9_isForbidden_8 : decode cX9_isForbidden 8 = .ok (.aload_n 0, 1) := dk_42 (dk_at dksX9_isForbidden_0 8 rfl rfl)
theorem dX9_isForbidden_9 : decode cX9_isForbidden 9 = .ok (.getfield 429, 3) := dk_180 1 173 (dk_at dksX9_isForbidden_0 9 rfl rfl)
theorem dX9_isForbidden_12 : decode cX9_isForbidden 12 = .ok (.if_icmp .ge 73, 3) := dk_162 0 73 (dk_at dksX9_isForbidden_0 12 rfl rfl)
theorem dX9_isForbidden_15 : decode cX9_isForbidden 15 = .ok (.iload 4, 2) := dk_21 4 (dk_at dksX9_isForbidden_0 15 rfl rfl)
theorem dX9_isForbidden_17 : decode cX9_isForbidden 17 = .ok (.ifCond .ne 55, 3) := dk_154 0 55 (dk_at dksX9_isForbidden_0 17 rfl rfl)
theorem dX9_isForbidden_20 : decode cX9_isForbidden 20 = .ok (.aload_n 0, 1) := dk_42 (dk_at dksX9_isForbidden_0 20 rfl rfl)
theorem dX9_isForbidden_21 : decode cX9_isForbidden 21 = .ok (.iload 5, 2) := dk_21 5 (dk_at dksX9_isForbidden_0 21 rfl rfl)
theorem dX9_isForbidden_23 : decode cX9_isForbidden 23 = .ok (.invokevirtual 469, 3) := dk_182 1 213 (dk_at dksX9_isForbidden_1 0 rfl rfl)
theorem dX9_isForbidden_26 : decode cX9_isForbidden 26 = .ok (.ifCond .eq 50, 3) := dk_153 0 50 (dk_at dksX9_isForbidden_1 3 rfl rfl)
theorem dX9_isForbidden_29 : decode cX9_isForbidden 29 = .ok (.aload_n 0, 1) := dk_42 (dk_at dksX9_isForbidden_1 6 rfl rfl)
theorem dX9_isForbidden_30 : decode cX9_isForbidden 30 = .ok (.getfield 90, 3) := dk_180 0 90 (dk_at dksX9_isForbidden_1 7 rfl rfl)
theorem dX9_isForbidden_33 : decode cX9_isForbidden 33 = .ok (.iload 5, 2) := dk_21 5 (dk_at dksX9_isForbidden_1 10 rfl rfl)
theorem dX9_isForbidden_35 : decode cX9_isForbidden 35 = .ok (.iaload, 1) := dk_46 (dk_at dksX9_isForbidden_1 12 rfl rfl)
theorem dX9_isForbidden_36 : decode cX9_isForbidden 36 = .ok (.iload_n 1, 1) := dk_27 (dk_at dksX9_isForbidden_1 13 rfl rfl)
theorem dX9_isForbidden_37 : decode cX9_isForbidden 37 = .ok (.if_icmp .ne 39, 3) := dk_160 0 39 (dk_at dksX9_isForbidden_1 14 rfl rfl)
theorem dX9_isForbidden_40 : decode cX9_isForbidden 40 = .ok (.aload_n 0, 1) := dk_42 (dk_at dksX9_isForbidden_1 17 rfl rfl)
theorem dX9_isForbidden_41 : decode cX9_isForbidden 41 = .ok (.getfield 96, 3) := dk_180 0 96 (dk_at dksX9_isForbidden_1 18 rfl rfl)
theorem dX9_isForbidden_44 : decode cX9_isForbidden 44 = .ok (.iload 5, 2) := dk_21 5 (dk_at dksX9_isForbidden_1 21 rfl rfl)
theorem dX9_isForbidden_46 : decode cX9_isForbidden 46 = .ok (.iaload, 1) := dk_46 (dk_at dksX9_isForbidden_1 23 rfl rfl)
theorem dX9_isForbidden_47 : decode cX9_isForbidden 47 = .ok (.iload_n 2, 1) := dk_28 (dk_at dksX9_isForbidden_2 0 rfl rfl)
theorem dX9_isForbidden_48 : decode cX9_isForbidden 48 = .ok (.if_icmp .ne 28, 3) := dk_160 0 28 (dk_at dksX9_isForbidden_2 1 rfl rfl)
theorem dX9_isForbidden_51 : decode cX9_isForbidden 51 = .ok (.aload_n 0, 1) := dk_42 (dk_at dksX9_isForbidden_2 4 rfl rfl)
theorem dX9_isForbidden_52 : decode cX9_isForbidden 52 = .ok (.getfield 112, 3) := dk_180 0 112 (dk_at dksX9_isForbidden_2 5 rfl rfl)
theorem dX9_isForbidden_55 : decode cX9_isForbidden 55 = .ok (.iload 5, 2) := dk_21 5 (dk_at dksX9_isForbidden_2 8 rfl rfl)
theorem dX9_isForbidden_57 : decode cX9_isForbidden 57 = .ok (.baload, 1) := dk_51 (dk_at dksX9_isForbidden_2 10 rfl rfl)
theorem dX9_isForbidden_58 : decode cX9_isForbidden 58 = .ok (.ifCond .ne 18, 3) := dk_154 0 18 (dk_at dksX9_isForbidden_2 11 rfl rfl)
theorem dX9_isForbidden_61 : decode cX9_isForbidden 61 = .ok (.aload_n 0, 1) := dk_42 (dk_at dksX9_isForbidden_2 14 rfl rfl)
theorem dX9_isForbidden_62 : decode cX9_isForbidden 62 = .ok (.getfield 99, 3) := dk_180 0 99 (dk_at dksX9_isForbidden_2 15 rfl rfl)
theorem dX9_isForbidden_65 : decode cX9_isForbidden 65 = .ok (.iload 5, 2) := dk_21 5 (dk_at dksX9_isForbidden_2 18 rfl rfl)
theorem dX9_isForbidden_67 : decode cX9_isForbidden 67 = .ok (.iaload, 1) := dk_46 (dk_at dksX9_isForbidden_2 20 rfl rfl)
theorem dX9_isForbidden_68 : decode cX9_isForbidden 68 = .ok (.iload_n 3, 1) := dk_29 (dk_at dksX9_isForbidden_2 21 rfl rfl)
theorem dX9_isForbidden_69 : decode cX9_isForbidden 69 = .ok (.if_icmp .lt 7, 3) := dk_161 0 7 (dk_at dksX9_isForbidden_3 0 rfl rfl)
theorem dX9_isForbidden_72 : decode cX9_isForbidden 72 = .ok (.iconst 1, 1) := dk_4 (dk_at dksX9_isForbidden_3 3 rfl rfl)
theorem dX9_isForbidden_73 : decode cX9_isForbidden 73 = .ok (.goto 4, 3) := dk_167 0 4 (dk_at dksX9_isForbidden_3 4 rfl rfl)
theorem dX9_isForbidden_76 : decode cX9_isForbidden 76 = .ok (.iconst 0, 1) := dk_3 (dk_at dksX9_isForbidden_3 7 rfl rfl)
theorem dX9_isForbidden_77 : decode cX9_isForbidden 77 = .ok (.istore 4, 2) := dk_54 4 (dk_at dksX9_isForbidden_3 8 rfl rfl)
theorem dX9_isForbidden_79 : decode cX9_isForbidden 79 = .ok (.iinc 5 1, 3) := dk_132 5 1 (dk_at dksX9_isForbidden_3 10 rfl rfl)
theorem dX9_isForbidden_82 : decode cX9_isForbidden 82 = .ok (.goto (-76), 3) := dk_167 255 180 (dk_at dksX9_isForbidden_3 13 rfl rfl)
theorem dX9_isForbidden_85 : decode cX9_isForbidden 85 = .ok (.iload 4, 2) := dk_21 4 (dk_at dksX9_isForbidden_3 16 rfl rfl)
theorem dX9_isForbidden_87 : decode cX9_isForbidden 87 = .ok (.ireturn, 1) := dk_172 (dk_at dksX9_isForbidden_3 18 rfl rfl)
abbrev cX9_keptOf : ByteArray := prog_24_method_68_code
def yX9_keptOf : MethodName := ⟨RX9, "keptOf", "(III)I"⟩
def dkwX9_keptOf_3 : List UInt8 := [4, 167, 0, 4, 3, 184, 1, 88, 21, 5, 120, 128, 54, 4, 132, 5, 1, 167, 255, 176, 21, 4, 172]
abbrev dktX9_keptOf_3 : List UInt8 := dkwX9_keptOf_3 ++ []
def dkwX9_keptOf_2 : List UInt8 := [160, 0, 28, 42, 180, 0, 112, 21, 5, 51, 153, 0, 18, 42, 180, 0, 99, 21, 5, 46, 29, 161, 0, 7]
abbrev dktX9_keptOf_2 : List UInt8 := dkwX9_keptOf_2 ++ dktX9_keptOf_3
def dkwX9_keptOf_1 : List UInt8 := [153, 0, 50, 42, 180, 0, 90, 21, 5, 46, 27, 160, 0, 39, 42, 180, 0, 96, 21, 5, 46, 28]
abbrev dktX9_keptOf_1 : List UInt8 := dkwX9_keptOf_1 ++ dktX9_keptOf_2
def dkwX9_keptOf_0 : List UInt8 := [3, 54, 4, 3, 54, 5, 21, 5, 42, 180, 1, 173, 162, 0, 77, 21, 4, 42, 21, 5, 182, 1, 213]
abbrev dktX9_keptOf_0 : List UInt8 := dkwX9_keptOf_0 ++ dktX9_keptOf_1
theorem dksX9_keptOf_0 : cX9_keptOf.data.toList.drop 0 = dktX9_keptOf_0 := by decide +kernel
theorem dksX9_keptOf_1 : cX9_keptOf.data.toList.drop 23 = dktX9_keptOf_1 := dk_seg dksX9_keptOf_0 23 rfl rfl
theorem dksX9_keptOf_2 : cX9_keptOf.data.toList.drop 45 = dktX9_keptOf_2 := dk_seg dksX9_keptOf_1 22 rfl rfl
theorem dksX9_keptOf_3 : cX9_keptOf.data.toList.drop 69 = dktX9_keptOf_3 := dk_seg dksX9_keptOf_2 24 rfl rfl
theorem dX9_keptOf_0 : decode cX9_keptOf 0 = .ok (.iconst 0, 1) := dk_3 (dk_at dksX9_keptOf_0 0 rfl rfl)
theorem dX9_keptOf_1 : decode cX9_keptOf 1 = .ok (.istore 4, 2) := dk_54 4 (dk_at dksX9_keptOf_0 1 rfl rfl)
theorem dX9_keptOf_3 : decode cX9_keptOf 3 = .ok (.iconst 0, 1) := dk_3 (dk_at dksX9_keptOf_0 3 rfl rfl)
theorem dX9_keptOf_4 : decode cX9_keptOf 4 = .ok (.istore 5, 2) := dk_54 5 (dk_at dksX9_keptOf_0 4 rfl rfl)
theorem dX9_keptOf_6 : decode cX9_keptOf 6 = .ok (.iload 5, 2) := dk_21 5 (dk_at dksX9_keptOf_0 6 rfl rfl)
theorem dX9_keptOf_8 : decode cX9_keptOf 8 = .ok (.aload_n 0, 1) := dk_42 (dk_at dksX9_keptOf_0 8 rfl rfl)
theorem dX9_keptOf_9 : decode cX9_keptOf 9 = .ok (.getfield 429, 3) := dk_180 1 173 (dk_at dksX9_keptOf_0 9 rfl rfl)
theorem dX9_keptOf_12 : decode cX9_keptOf 12 = .ok (.if_icmp .ge 77, 3) := dk_162 0 77 (dk_at dksX9_keptOf_0 12 rfl rfl)
theorem dX9_keptOf_15 : decode cX9_keptOf 15 = .ok (.iload 4, 2) := dk_21 4 (dk_at dksX9_keptOf_0 15 rfl rfl)
theorem dX9_keptOf_17 : decode cX9_keptOf 17 = .ok (.aload_n 0, 1) := dk_42 (dk_at dksX9_keptOf_0 17 rfl rfl)
theorem dX9_keptOf_18 : decode cX9_keptOf 18 = .ok (.iload 5, 2) := dk_21 5 (dk_at dksX9_keptOf_0 18 rfl rfl)
theorem dX9_keptOf_20 : decode cX9_keptOf 20 = .ok (.invokevirtual 469, 3) := dk_182 1 213 (dk_at dksX9_keptOf_0 20 rfl rfl)
theorem dX9_keptOf_23 : decode cX9_keptOf 23 = .ok (.ifCond .eq 50, 3) := dk_153 0 50 (dk_at dksX9_keptOf_1 0 rfl rfl)
theorem dX9_keptOf_26 : decode cX9_keptOf 26 = .ok (.aload_n 0, 1) := dk_42 (dk_at dksX9_keptOf_1 3 rfl rfl)
theorem dX9_keptOf_27 : decode cX9_keptOf 27 = .ok (.getfield 90, 3) := dk_180 0 90 (dk_at dksX9_keptOf_1 4 rfl rfl)
theorem dX9_keptOf_30 : decode cX9_keptOf 30 = .ok (.iload 5, 2) := dk_21 5 (dk_at dksX9_keptOf_1 7 rfl rfl)
theorem dX9_keptOf_32 : decode cX9_keptOf 32 = .ok (.iaload, 1) := dk_46 (dk_at dksX9_keptOf_1 9 rfl rfl)
theorem dX9_keptOf_33 : decode cX9_keptOf 33 = .ok (.iload_n 1, 1) := dk_27 (dk_at dksX9_keptOf_1 10 rfl rfl)
theorem dX9_keptOf_34 : decode cX9_keptOf 34 = .ok (.if_icmp .ne 39, 3) := dk_160 0 39 (dk_at dksX9_keptOf_1 11 rfl rfl)
theorem dX9_keptOf_37 : decode cX9_keptOf 37 = .ok (.aload_n 0, 1) := dk_42 (dk_at dksX9_keptOf_1 14 rfl rfl)
theorem dX9_keptOf_38 : decode cX9_keptOf 38 = .ok (.getfield 96, 3) := dk_180 0 96 (dk_at dksX9_keptOf_1 15 rfl rfl)
theorem dX9_keptOf_41 : decode cX9_keptOf 41 = .ok (.iload 5, 2) := dk_21 5 (dk_at dksX9_keptOf_1 18 rfl rfl)
theorem dX9_keptOf_43 : decode cX9_keptOf 43 = .ok (.iaload, 1) := dk_46 (dk_at dksX9_keptOf_1 20 rfl rfl)
theorem dX9_keptOf_44 : decode cX9_keptOf 44 = .ok (.iload_n 2, 1) := dk_28 (dk_at dksX9_keptOf_1 21 rfl rfl)
theorem dX9_keptOf_45 : decode cX9_keptOf 45 = .ok (.if_icmp .ne 28, 3) := dk_160 0 28 (dk_at dksX9_keptOf_2 0 rfl rfl)
theorem dX9_keptOf_48 : decode cX9_keptOf 48 = .ok (.aload_n 0, 1) := dk_42 (dk_at dksX9_keptOf_2 3 rfl rfl)
theorem dX9_keptOf_49 : decode cX9_keptOf 49 = .ok (.getfield 112, 3) := dk_180 0 112 (dk_at dksX9_keptOf_2 4 rfl rfl)
theorem dX9_keptOf_52 : decode cX9_keptOf 52 = .ok (.iload 5, 2) := dk_21 5 (dk_at dksX9_keptOf_2 7 rfl rfl)
theorem dX9_keptOf_54 : decode cX9_keptOf 54 = .ok (.baload, 1) := dk_51 (dk_at dksX9_keptOf_2 9 rfl rfl)
theorem dX9_keptOf_55 : decode cX9_keptOf 55 = .ok (.ifCond .eq 18, 3) := dk_153 0 18 (dk_at dksX9_keptOf_2 10 rfl rfl)
theorem dX9_keptOf_58 : decode cX9_keptOf 58 = .ok (.aload_n 0, 1) := dk_42 (dk_at dksX9_keptOf_2 13 rfl rfl)
theorem dX9_keptOf_59 : decode cX9_keptOf 59 = .ok (.getfield 99, 3) := dk_180 0 99 (dk_at dksX9_keptOf_2 14 rfl rfl)
theorem dX9_keptOf_62 : decode cX9_keptOf 62 = .ok (.iload 5, 2) := dk_21 5 (dk_at dksX9_keptOf_2 17 rfl rfl)
theorem dX9_keptOf_64 : decode cX9_keptOf 64 = .ok (.iaload, 1) := dk_46 (dk_at dksX9_keptOf_2 19 rfl rfl)
theorem dX9_keptOf_65 : decode cX9_keptOf 65 = .ok (.iload_n 3, 1) := dk_29 (dk_at dksX9_keptOf_2 20 rfl rfl)
theorem dX9_keptOf_66 : decode cX9_keptOf 66 = .ok (.if_icmp .lt 7, 3) := dk_161 0 7 (dk_at dksX9_keptOf_2 21 rfl rfl)
theorem dX9_keptOf_69 : decode cX9_keptOf 69 = .ok (.iconst 1, 1) := dk_4 (dk_at dksX9_keptOf_3 0 rfl rfl)
theorem dX9_keptOf_70 : decode cX9_keptOf 70 = .ok (.goto 4, 3) := dk_167 0 4 (dk_at dksX9_keptOf_3 1 rfl rfl)
theorem dX9_keptOf_73 : decode cX9_keptOf 73 = .ok (.iconst 0, 1) := dk_3 (dk_at dksX9_keptOf_3 4 rfl rfl)
theorem dX9_keptOf_74 : decode cX9_keptOf 74 = .ok (.invokestatic 344, 3) := dk_184 1 88 (dk_at dksX9_keptOf_3 5 rfl rfl)
theorem dX9_keptOf_77 : decode cX9_keptOf 77 = .ok (.iload 5, 2) := dk_21 5 (dk_at dksX9_keptOf_3 8 rfl rfl)
theorem dX9_keptOf_79 : decode cX9_keptOf 79 = .ok (.ishl, 1) := dk_120 (dk_at dksX9_keptOf_3 10 rfl rfl)
theorem dX9_keptOf_80 : decode cX9_keptOf 80 = .ok (.ior, 1) := dk_128 (dk_at dksX9_keptOf_3 11 rfl rfl)
theorem dX9_keptOf_81 : decode cX9_keptOf 81 = .ok (.istore 4, 2) := dk_54 4 (dk_at dksX9_keptOf_3 12 rfl rfl)
theorem dX9_keptOf_83 : decode cX9_keptOf 83 = .ok (.iinc 5 1, 3) := dk_132 5 1 (dk_at dksX9_keptOf_3 14 rfl rfl)
theorem dX9_keptOf_86 : decode cX9_keptOf 86 = .ok (.goto (-80), 3) := dk_167 255 176 (dk_at dksX9_keptOf_3 17 rfl rfl)
theorem dX9_keptOf_89 : decode cX9_keptOf 89 = .ok (.iload 4, 2) := dk_21 4 (dk_at dksX9_keptOf_3 20 rfl rfl)
theorem dX9_keptOf_91 : decode cX9_keptOf 91 = .ok (.ireturn, 1) := dk_172 (dk_at dksX9_keptOf_3 22 rfl rfl)
abbrev cX9_isBetter : ByteArray := prog_24_method_74_code
def yX9_isBetter : MethodName := ⟨RX9, "isBette\x72", "()Z"⟩
def dkwX9_isBetter_3 : List UInt8 := [167, 0, 11, 3, 167, 0, 7, 42, 182, 2, 13, 172]
abbrev dktX9_isBetter_3 : List UInt8 := dkwX9_isBetter_3 ++ []
def dkwX9_isBetter_2 : List UInt8 := [180, 2, 10, 159, 0, 27, 42, 180, 0, 133, 42, 180, 1, 241, 46, 42, 180, 2, 10, 162, 0, 7, 4]
abbrev dktX9_isBetter_2 : List UInt8 := dkwX9_isBetter_2 ++ dktX9_isBetter_3
def dkwX9_isBetter_1 : List UInt8 := [159, 0, 14, 27, 28, 164, 0, 7, 4, 167, 0, 4, 3, 172, 42, 180, 0, 133, 42, 180, 1, 241, 46, 42]
abbrev dktX9_isBetter_1 : List UInt8 := dkwX9_isBetter_1 ++ dktX9_isBetter_2
def dkwX9_isBetter_0 : List UInt8 := [42, 180, 0, 136, 42, 180, 1, 241, 46, 184, 2, 4, 60, 42, 180, 2, 7, 184, 2, 4, 61, 27, 28]
abbrev dktX9_isBetter_0 : List UInt8 := dkwX9_isBetter_0 ++ dktX9_isBetter_1
theorem dksX9_isBetter_0 : cX9_isBetter.data.toList.drop 0 = dktX9_isBetter_0 := by decide +kernel
theorem dksX9_isBetter_1 : cX9_isBetter.data.toList.drop 23 = dktX9_isBetter_1 := dk_seg dksX9_isBetter_0 23 rfl rfl
theorem dksX9_isBetter_2 : cX9_isBetter.data.toList.drop 47 = dktX9_isBetter_2 := dk_seg dksX9_isBetter_1 24 rfl rfl
theorem dksX9_isBetter_3 : cX9_isBetter.data.toList.drop 70 = dktX9_isBetter_3 := dk_seg dksX9_isBetter_2 23 rfl rfl
theorem dX9_isBetter_0 : decode cX9_isBetter 0 = .ok (.aload_n 0, 1) := dk_42 (dk_at dksX9_isBetter_0 0 rfl rfl)
theorem dX9_isBetter_1 : decode cX9_isBetter 1 = .ok (.getfield 136, 3) := dk_180 0 136 (dk_at dksX9_isBetter_0 1 rfl rfl)
theorem dX9_isBetter_4 : decode cX9_isBetter 4 = .ok (.aload_n 0, 1) := dk_42 (dk_at dksX9_isBetter_0 4 rfl rfl)
theorem dX9_isBetter_5 : decode cX9_isBetter 5 = .ok (.getfield 497, 3) := dk_180 1 241 (dk_at dksX9_isBetter_0 5 rfl rfl)
theorem dX9_isBetter_8 : decode cX9_isBetter 8 = .ok (.iaload, 1) := dk_46 (dk_at dksX9_isBetter_0 8 rfl rfl)
theorem dX9_isBetter_9 : decode cX9_isBetter 9 = .ok (.invokestatic 516, 3) := dk_184 2 4 (dk_at dksX9_isBetter_0 9 rfl rfl)
theorem dX9_isBetter_12 : decode cX9_isBetter 12 = .ok (.istore_n 1, 1) := dk_60 (dk_at dksX9_isBetter_0 12 rfl rfl)
theorem dX9_isBetter_13 : decode cX9_isBetter 13 = .ok (.aload_n 0, 1) := dk_42 (dk_at dksX9_isBetter_0 13 rfl rfl)
theorem dX9_isBetter_14 : decode cX9_isBetter 14 = .ok (.getfield 519, 3) := dk_180 2 7 (dk_at dksX9_isBetter_0 14 rfl rfl)
theorem dX9_isBetter_17 : decode cX9_isBetter 17 = .ok (.invokestatic 516, 3) := dk_184 2 4 (dk_at dksX9_isBetter_0 17 rfl rfl)
theorem dX9_isBetter_20 : decode cX9_isBetter 20 = .ok (.istore_n 2, 1) := dk_61 (dk_at dksX9_isBetter_0 20 rfl rfl)
theorem dX9_isBetter_21 : decode cX9_isBetter 21 = .ok (.iload_n 1, 1) := dk_27 (dk_at dksX9_isBetter_0 21 rfl rfl)
theorem dX9_isBetter_22 : decode cX9_isBetter 22 = .ok (.iload_n 2, 1) := dk_28 (dk_at dksX9_isBetter_0 22 rfl rfl)
theorem dX9_isBetter_23 : decode cX9_isBetter 23 = .ok (.if_icmp .eq 14, 3) := dk_159 0 14 (dk_at dksX9_isBetter_1 0 rfl rfl)
theorem dX9_isBetter_26 : decode cX9_isBetter 26 = .ok (.iload_n 1, 1) := dk_27 (dk_at dksX9_isBetter_1 3 rfl rfl)
theorem dX9_isBetter_27 : decode cX9_isBetter 27 = .ok (.iload_n 2, 1) := dk_28 (dk_at dksX9_isBetter_1 4 rfl rfl)
theorem dX9_isBetter_28 : decode cX9_isBetter 28 = .ok (.if_icmp .le 7, 3) := dk_164 0 7 (dk_at dksX9_isBetter_1 5 rfl rfl)
theorem dX9_isBetter_31 : decode cX9_isBetter 31 = .ok (.iconst 1, 1) := dk_4 (dk_at dksX9_isBetter_1 8 rfl rfl)
theorem dX9_isBetter_32 : decode cX9_isBetter 32 = .ok (.goto 4, 3) := dk_167 0 4 (dk_at dksX9_isBetter_1 9 rfl rfl)
theorem dX9_isBetter_35 : decode cX9_isBetter 35 = .ok (.iconst 0, 1) := dk_3 (dk_at dksX9_isBetter_1 12 rfl rfl)
theorem dX9_isBetter_36 : decode cX9_isBetter 36 = .ok (.ireturn, 1) := dk_172 (dk_at dksX9_isBetter_1 13 rfl rfl)
theorem dX9_isBetter_37 : decode cX9_isBetter 37 = .ok (.aload_n 0, 1) := dk_42 (dk_at dksX9_isBetter_1 14 rfl rfl)
theorem dX9_isBetter_38 : decode cX9_isBetter 38 = .ok (.getfield 133, 3) := dk_180 0 133 (dk_at dksX9_isBetter_1 15 rfl rfl)
theorem dX9_isBetter_41 : decode cX9_isBetter 41 = .ok (.aload_n 0, 1) := dk_42 (dk_at dksX9_isBetter_1 18 rfl rfl)
theorem dX9_isBetter_42 : decode cX9_isBetter 42 = .ok (.getfield 497, 3) := dk_180 1 241 (dk_at dksX9_isBetter_1 19 rfl rfl)
theorem dX9_isBetter_45 : decode cX9_isBetter 45 = .ok (.iaload, 1) := dk_46 (dk_at dksX9_isBetter_1 22 rfl rfl)
theorem dX9_isBetter_46 : decode cX9_isBetter 46 = .ok (.aload_n 0, 1) := dk_42 (dk_at dksX9_isBetter_1 23 rfl rfl)
theorem dX9_isBetter_47 : decode cX9_isBetter 47 = .ok (.getfield 522, 3) := dk_180 2 10 (dk_at dksX9_isBetter_2 0 rfl rfl)
theorem dX9_isBetter_50 : decode cX9_isBetter 50 = .ok (.if_icmp .eq 27, 3) := dk_159 0 27 (dk_at dksX9_isBetter_2 3 rfl rfl)
theorem dX9_isBetter_53 : decode cX9_isBetter 53 = .ok (.aload_n 0, 1) := dk_42 (dk_at dksX9_isBetter_2 6 rfl rfl)
theorem dX9_isBetter_54 : decode cX9_isBetter 54 = .ok (.getfield 133, 3) := dk_180 0 133 (dk_at dksX9_isBetter_2 7 rfl rfl)
theorem dX9_isBetter_57 : decode cX9_isBetter 57 = .ok (.aload_n 0, 1) := dk_42 (dk_at dksX9_isBetter_2 10 rfl rfl)
theorem dX9_isBetter_58 : decode cX9_isBetter 58 = .ok (.getfield 497, 3) := dk_180 1 241 (dk_at dksX9_isBetter_2 11 rfl rfl)
theorem dX9_isBetter_61 : decode cX9_isBetter 61 = .ok (.iaload, 1) := dk_46 (dk_at dksX9_isBetter_2 14 rfl rfl)
theorem dX9_isBetter_62 : decode cX9_isBetter 62 = .ok (.aload_n 0, 1) := dk_42 (dk_at dksX9_isBetter_2 15 rfl rfl)
theorem dX9_isBetter_63 : decode cX9_isBetter 63 = .ok (.getfield 522, 3) := dk_180 2 10 (dk_at dksX9_isBetter_2 16 rfl rfl)
theorem dX9_isBetter_66 : decode cX9_isBetter 66 = .ok (.if_icmp .ge 7, 3) := dk_162 0 7 (dk_at dksX9_isBetter_2 19 rfl rfl)
theorem dX9_isBetter_69 : decode cX9_isBetter 69 = .ok (.iconst 1, 1) := dk_4 (dk_at dksX9_isBetter_2 22 rfl rfl)
theorem dX9_isBetter_70 : decode cX9_isBetter 70 = .ok (.goto 11, 3) := dk_167 0 11 (dk_at dksX9_isBetter_3 0 rfl rfl)
theorem dX9_isBetter_73 : decode cX9_isBetter 73 = .ok (.iconst 0, 1) := dk_3 (dk_at dksX9_isBetter_3 3 rfl rfl)
theorem dX9_isBetter_74 : decode cX9_isBetter 74 = .ok (.goto 7, 3) := dk_167 0 7 (dk_at dksX9_isBetter_3 4 rfl rfl)
theorem dX9_isBetter_77 : decode cX9_isBetter 77 = .ok (.aload_n 0, 1) := dk_42 (dk_at dksX9_isBetter_3 7 rfl rfl)
theorem dX9_isBetter_78 : decode cX9_isBetter 78 = .ok (.invokevirtual 525, 3) := dk_182 2 13 (dk_at dksX9_isBetter_3 8 rfl rfl)
theorem dX9_isBetter_81 : decode cX9_isBetter 81 = .ok (.ireturn, 1) := dk_172 (dk_at dksX9_isBetter_3 11 rfl rfl)
abbrev cX9_members : ByteArray := prog_24_method_72_code
def yX9_members : MethodName := ⟨RX9, "members", "(I)I"⟩
def dkwX9_members_1 : List UInt8 := [27, 172]
abbrev dktX9_members_1 : List UInt8 := dkwX9_members_1 ++ []
def dkwX9_members_0 : List UInt8 := [3, 60, 3, 61, 28, 16, 10, 162, 0, 17, 27, 26, 28, 122, 4, 126, 96, 60, 132, 2, 1, 167, 255, 239]
abbrev dktX9_members_0 : List UInt8 := dkwX9_members_0 ++ dktX9_members_1
theorem dksX9_members_0 : cX9_members.data.toList.drop 0 = dktX9_members_0 := by decide +kernel
theorem dksX9_members_1 : cX9_members.data.toList.drop 24 = dktX9_members_1 := dk_seg dksX9_members_0 24 rfl rfl
theorem dX9_members_0 : decode cX9_members 0 = .ok (.iconst 0, 1) := dk_3 (dk_at dksX9_members_0 0 rfl rfl)
theorem dX9_members_1 : decode cX9_members 1 = .ok (.istore_n 1, 1) := dk_60 (dk_at dksX9_members_0 1 rfl rfl)
theorem dX9_members_2 : decode cX9_members 2 = .ok (.iconst 0, 1) := dk_3 (dk_at dksX9_members_0 2 rfl rfl)
theorem dX9_members_3 : decode cX9_members 3 = .ok (.istore_n 2, 1) := dk_61 (dk_at dksX9_members_0 3 rfl rfl)
theorem dX9_members_4 : decode cX9_members 4 = .ok (.iload_n 2, 1) := dk_28 (dk_at dksX9_members_0 4 rfl rfl)
theorem dX9_members_5 : decode cX9_members 5 = .ok (.bipush 10, 2) := dk_16 10 (dk_at dksX9_members_0 5 rfl rfl)
theorem dX9_members_7 : decode cX9_members 7 = .ok (.if_icmp .ge 17, 3) := dk_162 0 17 (dk_at dksX9_members_0 7 rfl rfl)
theorem dX9_members_10 : decode cX9_members 10 = .ok (.iload_n 1, 1) := dk_27 (dk_at dksX9_members_0 10 rfl rfl)
theorem dX9_members_11 : decode cX9_members 11 = .ok (.iload_n 0, 1) := dk_26 (dk_at dksX9_members_0 11 rfl rfl)
theorem dX9_members_12 : decode cX9_members 12 = .ok (.iload_n 2, 1) := dk_28 (dk_at dksX9_members_0 12 rfl rfl)
theorem dX9_members_13 : decode cX9_members 13 = .ok (.ishr, 1) := dk_122 (dk_at dksX9_members_0 13 rfl rfl)
theorem dX9_members_14 : decode cX9_members 14 = .ok (.iconst 1, 1) := dk_4 (dk_at dksX9_members_0 14 rfl rfl)
theorem dX9_members_15 : decode cX9_members 15 = .ok (.iand, 1) := dk_126 (dk_at dksX9_members_0 15 rfl rfl)
theorem dX9_members_16 : decode cX9_members 16 = .ok (.iadd, 1) := dk_96 (dk_at dksX9_members_0 16 rfl rfl)
theorem dX9_members_17 : decode cX9_members 17 = .ok (.istore_n 1, 1) := dk_60 (dk_at dksX9_members_0 17 rfl rfl)
theorem dX9_members_18 : decode cX9_members 18 = .ok (.iinc 2 1, 3) := dk_132 2 1 (dk_at dksX9_members_0 18 rfl rfl)
theorem dX9_members_21 : decode cX9_members 21 = .ok (.goto (-17), 3) := dk_167 255 239 (dk_at dksX9_members_0 21 rfl rfl)
theorem dX9_members_24 : decode cX9_members 24 = .ok (.iload_n 1, 1) := dk_27 (dk_at dksX9_members_1 0 rfl rfl)
theorem dX9_members_25 : decode cX9_members 25 = .ok (.ireturn, 1) := dk_172 (dk_at dksX9_members_1 1 rfl rfl)
abbrev cX9_isAhead : ByteArray := prog_24_method_73_code
def yX9_isAhead : MethodName := ⟨RX9, "isAhead", "()Z"⟩
def dkwX9_isAhead_3 : List UInt8 := [167, 0, 4, 3, 172]
abbrev dktX9_isAhead_3 : List UInt8 := dkwX9_isAhead_3 ++ []
def dkwX9_isAhead_2 : List UInt8 := [42, 180, 1, 241, 159, 0, 18, 42, 180, 0, 130, 27, 46, 42, 180, 0, 139, 27, 46, 162, 0, 7, 4]
abbrev dktX9_isAhead_2 : List UInt8 := dkwX9_isAhead_2 ++ dktX9_isAhead_3
def dkwX9_isAhead_1 : List UInt8 := [42, 180, 0, 139, 27, 46, 160, 0, 9, 132, 1, 1, 167, 255, 222, 27, 42, 180, 2, 1, 162, 0, 30, 27]
abbrev dktX9_isAhead_1 : List UInt8 := dkwX9_isAhead_1 ++ dktX9_isAhead_2
def dkwX9_isAhead_0 : List UInt8 := [3, 60, 27, 42, 180, 1, 241, 162, 0, 32, 27, 42, 180, 2, 1, 162, 0, 24, 42, 180, 0, 130, 27, 46]
abbrev dktX9_isAhead_0 : List UInt8 := dkwX9_isAhead_0 ++ dktX9_isAhead_1
theorem dksX9_isAhead_0 : cX9_isAhead.data.toList.drop 0 = dktX9_isAhead_0 := by decide +kernel
theorem dksX9_isAhead_1 : cX9_isAhead.data.toList.drop 24 = dktX9_isAhead_1 := dk_seg dksX9_isAhead_0 24 rfl rfl
theorem dksX9_isAhead_2 : cX9_isAhead.data.toList.drop 48 = dktX9_isAhead_2 := dk_seg dksX9_isAhead_1 24 rfl rfl
theorem dksX9_isAhead_3 : cX9_isAhead.data.toList.drop 71 = dktX9_isAhead_3 := dk_seg dksX9_isAhead_2 23 rfl rfl
theorem dX9_isAhead_0 : decode cX9_isAhead 0 = .ok (.iconst 0, 1) := dk_3 (dk_at dksX9_isAhead_0 0 rfl rfl)
theorem dX9_isAhead_1 : decode cX9_isAhead 1 = .ok (.istore_n 1, 1) := dk_60 (dk_at dksX9_isAhead_0 1 rfl rfl)
theorem dX9_isAhead_2 : decode cX9_isAhead 2 = .ok (.iload_n 1, 1) := dk_27 (dk_at dksX9_isAhead_0 2 rfl rfl)
theorem dX9_isAhead_3 : decode cX9_isAhead 3 = .ok (.aload_n 0, 1) := dk_42 (dk_at dksX9_isAhead_0 3 rfl rfl)
theorem dX9_isAhead_4 : decode cX9_isAhead 4 = .ok (.getfield 497, 3) := dk_180 1 241 (dk_at dksX9_isAhead_0 4 rfl rfl)
theorem dX9_isAhead_7 : decode cX9_isAhead 7 = .ok (.if_icmp .ge 32, 3) := dk_162 0 32 (dk_at dksX9_isAhead_0 7 rfl rfl)
theorem dX9_isAhead_10 : decode cX9_isAhead 10 = .ok (.iload_n 1, 1) := dk_27 (dk_at dksX9_isAhead_0 10 rfl rfl)
theorem dX9_isAhead_11 : decode cX9_isAhead 11 = .ok (.aload_n 0, 1) := dk_42 (dk_at dksX9_isAhead_0 11 rfl rfl)
theorem dX9_isAhead_12 : decode cX9_isAhead 12 = .ok (.getfield 513, 3) := dk_180 2 1 (dk_at dksX9_isAhead_0 12 rfl rfl)
theorem dX9_isAhead_15 : decode cX9_isAhead 15 = .ok (.if_icmp .ge 24, 3) := dk_162 0 24 (dk_at dksX9_isAhead_0 15 rfl rfl)
theorem dX9_isAhead_18 : decode cX9_isAhead 18 = .ok (.aload_n 0, 1) := dk_42 (dk_at dksX9_isAhead_0 18 rfl rfl)
theorem dX9_isAhead_19 : decode cX9_isAhead 19 = .ok (.getfield 130, 3) := dk_180 0 130 (dk_at dksX9_isAhead_0 19 rfl rfl)
theorem dX9_isAhead_22 : decode cX9_isAhead 22 = .ok (.iload_n 1, 1) := dk_27 (dk_at dksX9_isAhead_0 22 rfl rfl)
theorem dX9_isAhead_23 : decode cX9_isAhead 23 = .ok (.iaload, 1) := dk_46 (dk_at dksX9_isAhead_0 23 rfl rfl)
theorem dX9_isAhead_24 : decode cX9_isAhead 24 = .ok (.aload_n 0, 1) := dk_42 (dk_at dksX9_isAhead_1 0 rfl rfl)
theorem dX9_isAhead_25 : decode cX9_isAhead 25 = .ok (.getfield 139, 3) := dk_180 0 139 (dk_at dksX9_isAhead_1 1 rfl rfl)
theorem dX9_isAhead_28 : decode cX9_isAhead 28 = .ok (.iload_n 1, 1) := dk_27 (dk_at dksX9_isAhead_1 4 rfl rfl)
theorem dX9_isAhead_29 : decode cX9_isAhead 29 = .ok (.iaload, 1) := dk_46 (dk_at dksX9_isAhead_1 5 rfl rfl)
theorem dX9_isAhead_30 : decode cX9_isAhead 30 = .ok (.if_icmp .ne 9, 3) := dk_160 0 9 (dk_at dksX9_isAhead_1 6 rfl rfl)
theorem dX9_isAhead_33 : decode cX9_isAhead 33 = .ok (.iinc 1 1, 3) := dk_132 1 1 (dk_at dksX9_isAhead_1 9 rfl rfl)
theorem dX9_isAhead_36 : decode cX9_isAhead 36 = .ok (.goto (-34), 3) := dk_167 255 222 (dk_at dksX9_isAhead_1 12 rfl rfl)
theorem dX9_isAhead_39 : decode cX9_isAhead 39 = .ok (.iload_n 1, 1) := dk_27 (dk_at dksX9_isAhead_1 15 rfl rfl)
theorem dX9_isAhead_40 : decode cX9_isAhead 40 = .ok (.aload_n 0, 1) := dk_42 (dk_at dksX9_isAhead_1 16 rfl rfl)
theorem dX9_isAhead_41 : decode cX9_isAhead 41 = .ok (.getfield 513, 3) := dk_180 2 1 (dk_at dksX9_isAhead_1 17 rfl rfl)
theorem dX9_isAhead_44 : decode cX9_isAhead 44 = .ok (.if_icmp .ge 30, 3) := dk_162 0 30 (dk_at dksX9_isAhead_1 20 rfl rfl)
theorem dX9_isAhead_47 : decode cX9_isAhead 47 = .ok (.iload_n 1, 1) := dk_27 (dk_at dksX9_isAhead_1 23 rfl rfl)
theorem dX9_isAhead_48 : decode cX9_isAhead 48 = .ok (.aload_n 0, 1) := dk_42 (dk_at dksX9_isAhead_2 0 rfl rfl)
theorem dX9_isAhead_49 : decode cX9_isAhead 49 = .ok (.getfield 497, 3) := dk_180 1 241 (dk_at dksX9_isAhead_2 1 rfl rfl)
theorem dX9_isAhead_52 : decode cX9_isAhead 52 = .ok (.if_icmp .eq 18, 3) := dk_159 0 18 (dk_at dksX9_isAhead_2 4 rfl rfl)
theorem dX9_isAhead_55 : decode cX9_isAhead 55 = .ok (.aload_n 0, 1) := dk_42 (dk_at dksX9_isAhead_2 7 rfl rfl)
theorem dX9_isAhead_56 : decode cX9_isAhead 56 = .ok (.getfield 130, 3) := dk_180 0 130 (dk_at dksX9_isAhead_2 8 rfl rfl)
theorem dX9_isAhead_59 : decode cX9_isAhead 59 = .ok (.iload_n 1, 1) := dk_27 (dk_at dksX9_isAhead_2 11 rfl rfl)
theorem dX9_isAhead_60 : decode cX9_isAhead 60 = .ok (.iaload, 1) := dk_46 (dk_at dksX9_isAhead_2 12 rfl rfl)
theorem dX9_isAhead_61 : decode cX9_isAhead 61 = .ok (.aload_n 0, 1) := dk_42 (dk_at dksX9_isAhead_2 13 rfl rfl)
theorem dX9_isAhead_62 : decode cX9_isAhead 62 = .ok (.getfield 139, 3) := dk_180 0 139 (dk_at dksX9_isAhead_2 14 rfl rfl)
theorem dX9_isAhead_65 : decode cX9_isAhead 65 = .ok (.iload_n 1, 1) := dk_27 (dk_at dksX9_isAhead_2 17 rfl rfl)
theorem dX9_isAhead_66 : decode cX9_isAhead 66 = .ok (.iaload, 1) := dk_46 (dk_at dksX9_isAhead_2 18 rfl rfl)
theorem dX9_isAhead_67 : decode cX9_isAhead 67 = .ok (.if_icmp .ge 7, 3) := dk_162 0 7 (dk_at dksX9_isAhead_2 19 rfl rfl)
theorem dX9_isAhead_70 : decode cX9_isAhead 70 = .ok (.iconst 1, 1) := dk_4 (dk_at dksX9_isAhead_2 22 rfl rfl)
theorem dX9_isAhead_71 : decode cX9_isAhead 71 = .ok (.goto 4, 3) := dk_167 0 4 (dk_at dksX9_isAhead_3 0 rfl rfl)
theorem dX9_isAhead_74 : decode cX9_isAhead 74 = .ok (.iconst 0, 1) := dk_3 (dk_at dksX9_isAhead_3 3 rfl rfl)
theorem dX9_isAhead_75 : decode cX9_isAhead 75 = .ok (.ireturn, 1) := dk_172 (dk_at dksX9_isAhead_3 4 rfl rfl)
abbrev cX9_rest : ByteArray := prog_24_method_77_code
def yX9_rest : MethodName := ⟨RX9, "rest", "(I)I"⟩
def dkwX9_rest_2 : List UInt8 := [27, 29, 182, 2, 25, 167, 255, 236, 29, 172]
abbrev dktX9_rest_2 : List UInt8 := dkwX9_rest_2 ++ []
def dkwX9_rest_1 : List UInt8 := [16, 60, 62, 42, 27, 29, 182, 2, 25, 42, 180, 2, 7, 184, 2, 4, 28, 162, 0, 15, 132, 3, 255, 42]
abbrev dktX9_rest_1 : List UInt8 := dkwX9_rest_1 ++ dktX9_rest_2
def dkwX9_rest_0 : List UInt8 := [42, 27, 182, 1, 204, 154, 0, 5, 2, 172, 42, 27, 3, 182, 2, 25, 42, 180, 2, 7, 184, 2, 4, 61]
abbrev dktX9_rest_0 : List UInt8 := dkwX9_rest_0 ++ dktX9_rest_1
theorem dksX9_rest_0 : cX9_rest.data.toList.drop 0 = dktX9_rest_0 := by decide +kernel
theorem dksX9_rest_1 : cX9_rest.data.toList.drop 24 = dktX9_rest_1 := dk_seg dksX9_rest_0 24 rfl rfl
theorem dksX9_rest_2 : cX9_rest.data.toList.drop 48 = dktX9_rest_2 := dk_seg dksX9_rest_1 24 rfl rfl
theorem dX9_rest_0 : decode cX9_rest 0 = .ok (.aload_n 0, 1) := dk_42 (dk_at dksX9_rest_0 0 rfl rfl)
theorem dX9_rest_1 : decode cX9_rest 1 = .ok (.iload_n 1, 1) := dk_27 (dk_at dksX9_rest_0 1 rfl rfl)
theorem dX9_rest_2 : decode cX9_rest 2 = .ok (.invokevirtual 460, 3) := dk_182 1 204 (dk_at dksX9_rest_0 2 rfl rfl)
theorem dX9_rest_5 : decode cX9_rest 5 = .ok (.ifCond .ne 5, 3) := dk_154 0 5 (dk_at dksX9_rest_0 5 rfl rfl)
theorem dX9_rest_8 : decode cX9_rest 8 = .ok (.iconst (-1), 1) := dk_2 (dk_at dksX9_rest_0 8 rfl rfl)
theorem dX9_rest_9 : decode cX9_rest 9 = .ok (.ireturn, 1) := dk_172 (dk_at dksX9_rest_0 9 rfl rfl)
theorem dX9_rest_10 : decode cX9_rest 10 = .ok (.aload_n 0, 1) := dk_42 (dk_at dksX9_rest_0 10 rfl rfl)
theorem dX9_rest_11 : decode cX9_rest 11 = .ok (.iload_n 1, 1) := dk_27 (dk_at dksX9_rest_0 11 rfl rfl)
theorem dX9_rest_12 : decode cX9_rest 12 = .ok (.iconst 0, 1) := dk_3 (dk_at dksX9_rest_0 12 rfl rfl)
theorem dX9_rest_13 : decode cX9_rest 13 = .ok (.invokevirtual 537, 3) := dk_182 2 25 (dk_at dksX9_rest_0 13 rfl rfl)
theorem dX9_rest_16 : decode cX9_rest 16 = .ok (.aload_n 0, 1) := dk_42 (dk_at dksX9_rest_0 16 rfl rfl)
theorem dX9_rest_17 : decode cX9_rest 17 = .ok (.getfield 519, 3) := dk_180 2 7 (dk_at dksX9_rest_0 17 rfl rfl)
theorem dX9_rest_20 : decode cX9_rest 20 = .ok (.invokestatic 516, 3) := dk_184 2 4 (dk_at dksX9_rest_0 20 rfl rfl)
theorem dX9_rest_23 : decode cX9_rest 23 = .ok (.istore_n 2, 1) := dk_61 (dk_at dksX9_rest_0 23 rfl rfl)
theorem dX9_rest_24 : decode cX9_rest 24 = .ok (.bipush 60, 2) := dk_16 60 (dk_at dksX9_rest_1 0 rfl rfl)
theorem dX9_rest_26 : decode cX9_rest 26 = .ok (.istore_n 3, 1) := dk_62 (dk_at dksX9_rest_1 2 rfl rfl)
theorem dX9_rest_27 : decode cX9_rest 27 = .ok (.aload_n 0, 1) := dk_42 (dk_at dksX9_rest_1 3 rfl rfl)
theorem dX9_rest_28 : decode cX9_rest 28 = .ok (.iload_n 1, 1) := dk_27 (dk_at dksX9_rest_1 4 rfl rfl)
theorem dX9_rest_29 : decode cX9_rest 29 = .ok (.iload_n 3, 1) := dk_29 (dk_at dksX9_rest_1 5 rfl rfl)
theorem dX9_rest_30 : decode cX9_rest 30 = .ok (.invokevirtual 537, 3) := dk_182 2 25 (dk_at dksX9_rest_1 6 rfl rfl)
theorem dX9_rest_33 : decode cX9_rest 33 = .ok (.aload_n 0, 1) := dk_42 (dk_at dksX9_rest_1 9 rfl rfl)
theorem dX9_rest_34 : decode cX9_rest 34 = .ok (.getfield 519, 3) := dk_180 2 7 (dk_at dksX9_rest_1 10 rfl rfl)
theorem dX9_rest_37 : decode cX9_rest 37 = .ok (.invokestatic 516, 3) := dk_184 2 4 (dk_at dksX9_rest_1 13 rfl rfl)
theorem dX9_rest_40 : decode cX9_rest 40 = .ok (.iload_n 2, 1) := dk_28 (dk_at dksX9_rest_1 16 rfl rfl)
theorem dX9_rest_41 : decode cX9_rest 41 = .ok (.if_icmp .ge 15, 3) := dk_162 0 15 (dk_at dksX9_rest_1 17 rfl rfl)
theorem dX9_rest_44 : decode cX9_rest 44 = .ok (.iinc 3 (-1), 3) := dk_132 3 255 (dk_at dksX9_rest_1 20 rfl rfl)
theorem dX9_rest_47 : decode cX9_rest 47 = .ok (.aload_n 0, 1) := dk_42 (dk_at dksX9_rest_1 23 rfl rfl)
theorem dX9_rest_48 : decode cX9_rest 48 = .ok (.iload_n 1, 1) := dk_27 (dk_at dksX9_rest_2 0 rfl rfl)
theorem dX9_rest_49 : decode cX9_rest 49 = .ok (.iload_n 3, 1) := dk_29 (dk_at dksX9_rest_2 1 rfl rfl)
theorem dX9_rest_50 : decode cX9_rest 50 = .ok (.invokevirtual 537, 3) := dk_182 2 25 (dk_at dksX9_rest_2 2 rfl rfl)
theorem dX9_rest_53 : decode cX9_rest 53 = .ok (.goto (-20), 3) := dk_167 255 236 (dk_at dksX9_rest_2 5 rfl rfl)
theorem dX9_rest_56 : decode cX9_rest 56 = .ok (.iload_n 3, 1) := dk_29 (dk_at dksX9_rest_2 8 rfl rfl)
theorem dX9_rest_57 : decode cX9_rest 57 = .ok (.ireturn, 1) := dk_172 (dk_at dksX9_rest_2 9 rfl rfl)
abbrev cX9_ties : ByteArray := prog_24_method_78_code
def yX9_ties : MethodName := ⟨RX9, "ties", "(II)I"⟩
def dkwX9_ties_3 : List UInt8 := [167, 0, 4, 3, 184, 1, 88, 21, 4, 120, 128, 62, 132, 4, 1, 167, 255, 199, 29, 172]
abbrev dktX9_ties_3 : List UInt8 := dkwX9_ties_3 ++ []
def dkwX9_ties_2 : List UInt8 := [180, 0, 90, 21, 4, 46, 27, 160, 0, 18, 42, 180, 0, 93, 21, 4, 46, 28, 160, 0, 7, 4]
abbrev dktX9_ties_2 : List UInt8 := dkwX9_ties_2 ++ dktX9_ties_3
def dkwX9_ties_1 : List UInt8 := [62, 3, 54, 4, 21, 4, 42, 180, 1, 173, 162, 0, 54, 29, 42, 21, 4, 182, 1, 213, 153, 0, 29, 42]
abbrev dktX9_ties_1 : List UInt8 := dkwX9_ties_1 ++ dktX9_ties_2
def dkwX9_ties_0 : List UInt8 := [42, 27, 182, 1, 204, 153, 0, 16, 42, 28, 182, 1, 204, 153, 0, 8, 27, 28, 160, 0, 5, 2, 172, 3]
abbrev dktX9_ties_0 : List UInt8 := dkwX9_ties_0 ++ dktX9_ties_1
theorem dksX9_ties_0 : cX9_ties.data.toList.drop 0 = dktX9_ties_0 := by decide +kernel
theorem dksX9_ties_1 : cX9_ties.data.toList.drop 24 = dktX9_ties_1 := dk_seg dksX9_ties_0 24 rfl rfl
theorem dksX9_ties_2 : cX9_ties.data.toList.drop 48 = dktX9_ties_2 := dk_seg dksX9_ties_1 24 rfl rfl
theorem dksX9_ties_3 : cX9_ties.data.toList.drop 70 = dktX9_ties_3 := dk_seg dksX9_ties_2 22 rfl rfl
theorem dX9_ties_0 : decode cX9_ties 0 = .ok (.aload_n 0, 1) := dk_42 (dk_at dksX9_ties_0 0 rfl rfl)
theorem dX9_ties_1 : decode cX9_ties 1 = .ok (.iload_n 1, 1) := dk_27 (dk_at dksX9_ties_0 1 rfl rfl)
theorem dX9_ties_2 : decode cX9_ties 2 = .ok (.invokevirtual 460, 3) := dk_182 1 204 (dk_at dksX9_ties_0 2 rfl rfl)
theorem dX9_ties_5 : decode cX9_ties 5 = .ok (.ifCond .eq 16, 3) := dk_153 0 16 (dk_at dksX9_ties_0 5 rfl rfl)
theorem dX9_ties_8 : decode cX9_ties 8 = .ok (.aload_n 0, 1) := dk_42 (dk_at dksX9_ties_0 8 rfl rfl)
theorem dX9_ties_9 : decode cX9_ties 9 = .ok (.iload_n 2, 1) := dk_28 (dk_at dksX9_ties_0 9 rfl rfl)
theorem dX9_ties_10 : decode cX9_ties 10 = .ok (.invokevirtual 460, 3) := dk_182 1 204 (dk_at dksX9_ties_0 10 rfl rfl)
theorem dX9_ties_13 : decode cX9_ties 13 = .ok (.ifCond .eq 8, 3) := dk_153 0 8 (dk_at dksX9_ties_0 13 rfl rfl)
theorem dX9_ties_16 : decode cX9_ties 16 = .ok (.iload_n 1, 1) := dk_27 (dk_at dksX9_ties_0 16 rfl rfl)
theorem dX9_ties_17 : decode cX9_ties 17 = .ok (.iload_n 2, 1) := dk_28 (dk_at dksX9_ties_0 17 rfl rfl)
theorem dX9_ties_18 : decode cX9_ties 18 = .ok (.if_icmp .ne 5, 3) := dk_160 0 5 (dk_at dksX9_ties_0 18 rfl rfl)
theorem dX9_ties_21 : decode cX9_ties 21 = .ok (.iconst (-1), 1) := dk_2 (dk_at dksX9_ties_0 21 rfl rfl)
theorem dX9_ties_22 : decode cX9_ties 22 = .ok (.ireturn, 1) := dk_172 (dk_at dksX9_ties_0 22 rfl rfl)
theorem dX9_ties_23 : decode cX9_ties 23 = .ok (.iconst 0, 1) := dk_3 (dk_at dksX9_ties_0 23 rfl rfl)
theorem dX9_ties_24 : decode cX9_ties 24 = .ok (.istore_n 3, 1) := dk_62 (dk_at dksX9_ties_1 0 rfl rfl)
theorem dX9_ties_25 : decode cX9_ties 25 = .ok (.iconst 0, 1) := dk_3 (dk_at dksX9_ties_1 1 rfl rfl)
theorem dX9_ties_26 : decode cX9_ties 26 = .ok (.istore 4, 2) := dk_54 4 (dk_at dksX9_ties_1 2 rfl rfl)
theorem dX9_ties_28 : decode cX9_ties 28 = .ok (.iload 4, 2) := dk_21 4 (dk_at dksX9_ties_1 4 rfl rfl)
theorem dX9_ties_30 : decode cX9_ties 30 = .ok (.aload_n 0, 1) := dk_42 (dk_at dksX9_ties_1 6 rfl rfl)
theorem dX9_ties_31 : decode cX9_ties 31 = .ok (.getfield 429, 3) := dk_180 1 173 (dk_at dksX9_ties_1 7 rfl rfl)
theorem dX9_ties_34 : decode cX9_ties 34 = .ok (.if_icmp .ge 54, 3) := dk_162 0 54 (dk_at dksX9_ties_1 10 rfl rfl)
theorem dX9_ties_37 : decode cX9_ties 37 = .ok (.iload_n 3, 1) := dk_29 (dk_at dksX9_ties_1 13 rfl rfl)
theorem dX9_ties_38 : decode cX9_ties 38 = .ok (.aload_n 0, 1) := dk_42 (dk_at dksX9_ties_1 14 rfl rfl)
theorem dX9_ties_39 : decode cX9_ties 39 = .ok (.iload 4, 2) := dk_21 4 (dk_at dksX9_ties_1 15 rfl rfl)
theorem dX9_ties_41 : decode cX9_ties 41 = .ok (.invokevirtual 469, 3) := dk_182 1 213 (dk_at dksX9_ties_1 17 rfl rfl)
theorem dX9_ties_44 : decode cX9_ties 44 = .ok (.ifCond .eq 29, 3) := dk_153 0 29 (dk_at dksX9_ties_1 20 rfl rfl)
theorem dX9_ties_47 : decode cX9_ties 47 = .ok (.aload_n 0, 1) := dk_42 (dk_at dksX9_ties_1 23 rfl rfl)
theorem dX9_ties_48 : decode cX9_ties 48 = .ok (.getfield 90, 3) := dk_180 0 90 (dk_at dksX9_ties_2 0 rfl rfl)
theorem dX9_ties_51 : decode cX9_ties 51 = .ok (.iload 4, 2) := dk_21 4 (dk_at dksX9_ties_2 3 rfl rfl)
theorem dX9_ties_53 : decode cX9_ties 53 = .ok (.iaload, 1) := dk_46 (dk_at dksX9_ties_2 5 rfl rfl)
theorem dX9_ties_54 : decode cX9_ties 54 = .ok (.iload_n 1, 1) := dk_27 (dk_at dksX9_ties_2 6 rfl rfl)
theorem dX9_ties_55 : decode cX9_ties 55 = .ok (.if_icmp .ne 18, 3) := dk_160 0 18 (dk_at dksX9_ties_2 7 rfl rfl)
theorem dX9_ties_58 : decode cX9_ties 58 = .ok (.aload_n 0, 1) := dk_42 (dk_at dksX9_ties_2 10 rfl rfl)
theorem dX9_ties_59 : decode cX9_ties 59 = .ok (.getfield 93, 3) := dk_180 0 93 (dk_at dksX9_ties_2 11 rfl rfl)
theorem dX9_ties_62 : decode cX9_ties 62 = .ok (.iload 4, 2) := dk_21 4 (dk_at dksX9_ties_2 14 rfl rfl)
theorem dX9_ties_64 : decode cX9_ties 64 = .ok (.iaload, 1) := dk_46 (dk_at dksX9_ties_2 16 rfl rfl)
theorem dX9_ties_65 : decode cX9_ties 65 = .ok (.iload_n 2, 1) := dk_28 (dk_at dksX9_ties_2 17 rfl rfl)
theorem dX9_ties_66 : decode cX9_ties 66 = .ok (.if_icmp .ne 7, 3) := dk_160 0 7 (dk_at dksX9_ties_2 18 rfl rfl)
theorem dX9_ties_69 : decode cX9_ties 69 = .ok (.iconst 1, 1) := dk_4 (dk_at dksX9_ties_2 21 rfl rfl)
theorem dX9_ties_70 : decode cX9_ties 70 = .ok (.goto 4, 3) := dk_167 0 4 (dk_at dksX9_ties_3 0 rfl rfl)
theorem dX9_ties_73 : decode cX9_ties 73 = .ok (.iconst 0, 1) := dk_3 (dk_at dksX9_ties_3 3 rfl rfl)
theorem dX9_ties_74 : decode cX9_ties 74 = .ok (.invokestatic 344, 3) := dk_184 1 88 (dk_at dksX9_ties_3 4 rfl rfl)
theorem dX9_ties_77 : decode cX9_ties 77 = .ok (.iload 4, 2) := dk_21 4 (dk_at dksX9_ties_3 7 rfl rfl)
theorem dX9_ties_79 : decode cX9_ties 79 = .ok (.ishl, 1) := dk_120 (dk_at dksX9_ties_3 9 rfl rfl)
theorem dX9_ties_80 : decode cX9_ties 80 = .ok (.ior, 1) := dk_128 (dk_at dksX9_ties_3 10 rfl rfl)
theorem dX9_ties_81 : decode cX9_ties 81 = .ok (.istore_n 3, 1) := dk_62 (dk_at dksX9_ties_3 11 rfl rfl)
theorem dX9_ties_82 : decode cX9_ties 82 = .ok (.iinc 4 1, 3) := dk_132 4 1 (dk_at dksX9_ties_3 12 rfl rfl)
theorem dX9_ties_85 : decode cX9_ties 85 = .ok (.goto (-57), 3) := dk_167 255 199 (dk_at dksX9_ties_3 15 rfl rfl)
theorem dX9_ties_88 : decode cX9_ties 88 = .ok (.iload_n 3, 1) := dk_29 (dk_at dksX9_ties_3 18 rfl rfl)
theorem dX9_ties_89 : decode cX9_ties 89 = .ok (.ireturn, 1) := dk_172 (dk_at dksX9_ties_3 19 rfl rfl)
abbrev cX9_clash : ByteArray := prog_24_method_80_code
def yX9_clash : MethodName := ⟨RX9, "clash", "(II)I"⟩
def dkwX9_clash_7 : List UInt8 := [184, 2, 4, 167, 0, 5, 21, 4, 172]
abbrev dktX9_clash_7 : List UInt8 := dkwX9_clash_7 ++ []
def dkwX9_clash_6 : List UInt8 := [54, 4, 132, 5, 1, 167, 255, 206, 21, 4, 156, 0, 7, 2, 167, 0, 17, 28, 154, 0, 11, 21, 4]
abbrev dktX9_clash_6 : List UInt8 := dkwX9_clash_6 ++ dktX9_clash_7
def dkwX9_clash_5 : List UInt8 := [154, 0, 25, 21, 4, 155, 0, 16, 21, 5, 184, 2, 4, 21, 4, 184, 2, 4, 162, 0, 7, 21, 5]
abbrev dktX9_clash_5 : List UInt8 := dkwX9_clash_5 ++ dktX9_clash_6
def dkwX9_clash_4 : List UInt8 := [21, 5, 29, 163, 0, 50, 21, 5, 29, 2, 130, 126, 154, 0, 35, 42, 180, 0, 145, 21, 5, 51]
abbrev dktX9_clash_4 : List UInt8 := dkwX9_clash_4 ++ dktX9_clash_5
def dkwX9_clash_3 : List UInt8 := [167, 0, 4, 3, 184, 1, 88, 21, 4, 120, 128, 62, 132, 4, 1, 167, 255, 200, 2, 54, 4, 4, 54, 5]
abbrev dktX9_clash_3 : List UInt8 := dkwX9_clash_3 ++ dktX9_clash_4
def dkwX9_clash_2 : List UInt8 := [42, 180, 0, 90, 21, 4, 46, 27, 160, 0, 17, 42, 180, 0, 112, 21, 4, 51, 153, 0, 7, 4]
abbrev dktX9_clash_2 : List UInt8 := dkwX9_clash_2 ++ dktX9_clash_3
def dkwX9_clash_1 : List UInt8 := [3, 62, 3, 54, 4, 21, 4, 42, 180, 1, 173, 162, 0, 53, 29, 42, 21, 4, 182, 1, 213, 153, 0, 28]
abbrev dktX9_clash_1 : List UInt8 := dkwX9_clash_1 ++ dktX9_clash_2
def dkwX9_clash_0 : List UInt8 := [42, 27, 182, 1, 204, 153, 0, 12, 28, 3, 4, 184, 1, 197, 154, 0, 5, 2, 172, 42, 27, 182, 2, 28]
abbrev dktX9_clash_0 : List UInt8 := dkwX9_clash_0 ++ dktX9_clash_1
theorem dksX9_clash_0 : cX9_clash.data.toList.drop 0 = dktX9_clash_0 := by decide +kernel
theorem dksX9_clash_1 : cX9_clash.data.toList.drop 24 = dktX9_clash_1 := dk_seg dksX9_clash_0 24 rfl rfl
theorem dksX9_clash_2 : cX9_clash.data.toList.drop 48 = dktX9_clash_2 := dk_seg dksX9_clash_1 24 rfl rfl
theorem dksX9_clash_3 : cX9_clash.data.toList.drop 70 = dktX9_clash_3 := dk_seg dksX9_clash_2 22 rfl rfl
theorem dksX9_clash_4 : cX9_clash.data.toList.drop 94 = dktX9_clash_4 := dk_seg dksX9_clash_3 24 rfl rfl
theorem dksX9_clash_5 : cX9_clash.data.toList.drop 116 = dktX9_clash_5 := dk_seg dksX9_clash_4 22 rfl rfl
theorem dksX9_clash_6 : cX9_clash.data.toList.drop 139 = dktX9_clash_6 := dk_seg dksX9_clash_5 23 rfl rfl
theorem dksX9_clash_7 : cX9_clash.data.toList.drop 162 = dktX9_clash_7 := dk_seg dksX9_clash_6 23 rfl rfl
theorem dX9_clash_0 : decode cX9_clash 0 = .ok (.aload_n 0, 1) := dk_42 (dk_at dksX9_clash_0 0 rfl rfl)
theorem dX9_clash_1 : decode cX9_clash 1 = .ok (.iload_n 1, 1) := dk_27 (dk_at dksX9_clash_0 1 rfl rfl)
theorem dX9_clash_2 : decode cX9_clash 2 = .ok (.invokevirtual 460, 3) := dk_182 1 204 (dk_at dksX9_clash_0 2 rfl rfl)
theorem dX9_clash_5 : decode cX9_clash 5 = .ok (.ifCond .eq 12, 3) := dk_153 0 12 (dk_at dksX9_clash_0 5 rfl rfl)
theorem dX9_clash_8 : decode cX9_clash 8 = .ok (.iload_n 2, 1) := dk_28 (dk_at dksX9_clash_0 8 rfl rfl)
theorem dX9_clash_9 : decode cX9_clash 9 = .ok (.iconst 0, 1) := dk_3 (dk_at dksX9_clash_0 9 rfl rfl)
theorem dX9_clash_10 : decode cX9_clash 10 = .ok (.iconst 1, 1) := dk_4 (dk_at dksX9_clash_0 10 rfl rfl)
theorem dX9_clash_11 : decode cX9_clash 11 = .ok (.invokestatic 453, 3) := dk_184 1 197 (dk_at dksX9_clash_0 11 rfl rfl)
theorem dX9_clash_14 : decode cX9_clash 14 = .ok (.ifCond .ne 5, 3) := dk_154 0 5 (dk_at dksX9_clash_0 14 rfl rfl)
theorem dX9_clash_17 : decode cX9_clash 17 = .ok (.iconst (-1), 1) := dk_2 (dk_at dksX9_clash_0 17 rfl rfl)
theorem dX9_clash_18 : decode cX9_clash 18 = .ok (.ireturn, 1) := dk_172 (dk_at dksX9_clash_0 18 rfl rfl)
theorem dX9_clash_19 : decode cX9_clash 19 = .ok (.aload_n 0, 1) := dk_42 (dk_at dksX9_clash_0 19 rfl rfl)
theorem dX9_clash_20 : decode cX9_clash 20 = .ok (.iload_n 1, 1) := dk_27 (dk_at dksX9_clash_0 20 rfl rfl)
theorem dX9_clash_21 : decode cX9_clash 21 = .ok (.invokevirtual 540, 3) := dk_182 2 28 (dk_at dksX9_clash_0 21 rfl rfl)
theorem dX9_clash_24 : decode cX9_clash 24 = .ok (.iconst 0, 1) := dk_3 (dk_at dksX9_clash_1 0 rfl rfl)
theorem dX9_clash_25 : decode cX9_clash 25 = .ok (.istore_n 3, 1) := dk_62 (dk_at dksX9_clash_1 1 rfl rfl)
theorem dX9_clash_26 : decode cX9_clash 26 = .ok (.iconst 0, 1) := dk_3 (dk_at dksX9_clash_1 2 rfl rfl)
theorem dX9_clash_27 : decode cX9_clash 27 = .ok (.istore 4, 2) := dk_54 4 (dk_at dksX9_clash_1 3 rfl rfl)
theorem dX9_clash_29 : decode cX9_clash 29 = .ok (.iload 4, 2) := dk_21 4 (dk_at dksX9_clash_1 5 rfl rfl)
theorem dX9_clash_31 : decode cX9_clash 31 = .ok (.aload_n 0, 1) := dk_42 (dk_at dksX9_clash_1 7 rfl rfl)
theorem dX9_clash_32 : decode cX9_clash 32 = .ok (.getfield 429, 3) := dk_180 1 173 (dk_at dksX9_clash_1 8 rfl rfl)
theorem dX9_clash_35 : decode cX9_clash 35 = .ok (.if_icmp .ge 53, 3) := dk_162 0 53 (dk_at dksX9_clash_1 11 rfl rfl)
theorem dX9_clash_38 : decode cX9_clash 38 = .ok (.iload_n 3, 1) := dk_29 (dk_at dksX9_clash_1 14 rfl rfl)
theorem dX9_clash_39 : decode cX9_clash 39 = .ok (.aload_n 0, 1) := dk_42 (dk_at dksX9_clash_1 15 rfl rfl)
theorem dX9_clash_40 : decode cX9_clash 40 = .ok (.iload 4, 2) := dk_21 4 (dk_at dksX9_clash_1 16 rfl rfl)
theorem dX9_clash_42 : decode cX9_clash 42 = .ok (.invokevirtual 469, 3) := dk_182 1 213 (dk_at dksX9_clash_1 18 rfl rfl)
theorem dX9_clash_45 : decode cX9_clash 45 = .ok (.ifCond .eq 28, 3) := dk_153 0 28 (dk_at dksX9_clash_1 21 rfl rfl)
theorem dX9_clash_48 : decode cX9_clash 48 = .ok (.aload_n 0, 1) := dk_42 (dk_at dksX9_clash_2 0 rfl rfl)
theorem dX9_clash_49 : decode cX9_clash 49 = .ok (.getfield 90, 3) := dk_180 0 90 (dk_at dksX9_clash_2 1 rfl rfl)
theorem dX9_clash_52 : decode cX9_clash 52 = .ok (.iload 4, 2) := dk_21 4 (dk_at dksX9_clash_2 4 rfl rfl)
theorem dX9_clash_54 : decode cX9_clash 54 = .ok (.iaload, 1) := dk_46 (dk_at dksX9_clash_2 6 rfl rfl)
theorem dX9_clash_55 : decode cX9_clash 55 = .ok (.iload_n 1, 1) := dk_27 (dk_at dksX9_clash_2 7 rfl rfl)
theorem dX9_clash_56 : decode cX9_clash 56 = .ok (.if_icmp .ne 17, 3) := dk_160 0 17 (dk_at dksX9_clash_2 8 rfl rfl)
theorem dX9_clash_59 : decode cX9_clash 59 = .ok (.aload_n 0, 1) := dk_42 (dk_at dksX9_clash_2 11 rfl rfl)
theorem dX9_clash_60 : decode cX9_clash 60 = .ok (.getfield 112, 3) := dk_180 0 112 (dk_at dksX9_clash_2 12 rfl rfl)
theorem dX9_clash_63 : decode cX9_clash 63 = .ok (.iload 4, 2) := dk_21 4 (dk_at dksX9_clash_2 15 rfl rfl)
theorem dX9_clash_65 : decode cX9_clash 65 = .ok (.baload, 1) := dk_51 (dk_at dksX9_clash_2 17 rfl rfl)
theorem dX9_clash_66 : decode cX9_clash 66 = .ok (.ifCond .eq 7, 3) := dk_153 0 7 (dk_at dksX9_clash_2 18 rfl rfl)
theorem dX9_clash_69 : decode cX9_clash 69 = .ok (.iconst 1, 1) := dk_4 (dk_at dksX9_clash_2 21 rfl rfl)
theorem dX9_clash_70 : decode cX9_clash 70 = .ok (.goto 4, 3) := dk_167 0 4 (dk_at dksX9_clash_3 0 rfl rfl)
theorem dX9_clash_73 : decode cX9_clash 73 = .ok (.iconst 0, 1) := dk_3 (dk_at dksX9_clash_3 3 rfl rfl)
theorem dX9_clash_74 : decode cX9_clash 74 = .ok (.invokestatic 344, 3) := dk_184 1 88 (dk_at dksX9_clash_3 4 rfl rfl)
theorem dX9_clash_77 : decode cX9_clash 77 = .ok (.iload 4, 2) := dk_21 4 (dk_at dksX9_clash_3 7 rfl rfl)
theorem dX9_clash_79 : decode cX9_clash 79 = .ok (.ishl, 1) := dk_120 (dk_at dksX9_clash_3 9 rfl rfl)
theorem dX9_clash_80 : decode cX9_clash 80 = .ok (.ior, 1) := dk_128 (dk_at dksX9_clash_3 10 rfl rfl)
theorem dX9_clash_81 : decode cX9_clash 81 = .ok (.istore_n 3, 1) := dk_62 (dk_at dksX9_clash_3 11 rfl rfl)
theorem dX9_clash_82 : decode cX9_clash 82 = .ok (.iinc 4 1, 3) := dk_132 4 1 (dk_at dksX9_clash_3 12 rfl rfl)
theorem dX9_clash_85 : decode cX9_clash 85 = .ok (.goto (-56), 3) := dk_167 255 200 (dk_at dksX9_clash_3 15 rfl rfl)
theorem dX9_clash_88 : decode cX9_clash 88 = .ok (.iconst (-1), 1) := dk_2 (dk_at dksX9_clash_3 18 rfl rfl)
theorem dX9_clash_89 : decode cX9_clash 89 = .ok (.istore 4, 2) := dk_54 4 (dk_at dksX9_clash_3 19 rfl rfl)
theorem dX9_clash_91 : decode cX9_clash 91 = .ok (.iconst 1, 1) := dk_4 (dk_at dksX9_clash_3 21 rfl rfl)
theorem dX9_clash_92 : decode cX9_clash 92 = .ok (.istore 5, 2) := dk_54 5 (dk_at dksX9_clash_3 22 rfl rfl)
theorem dX9_clash_94 : decode cX9_clash 94 = .ok (.iload 5, 2) := dk_21 5 (dk_at dksX9_clash_4 0 rfl rfl)
theorem dX9_clash_96 : decode cX9_clash 96 = .ok (.iload_n 3, 1) := dk_29 (dk_at dksX9_clash_4 2 rfl rfl)
theorem dX9_clash_97 : decode cX9_clash 97 = .ok (.if_icmp .gt 50, 3) := dk_163 0 50 (dk_at dksX9_clash_4 3 rfl rfl)
theorem dX9_clash_100 : decode cX9_clash 100 = .ok (.iload 5, 2) := dk_21 5 (dk_at dksX9_clash_4 6 rfl rfl)
theorem dX9_clash_102 : decode cX9_clash 102 = .ok (.iload_n 3, 1) := dk_29 (dk_at dksX9_clash_4 8 rfl rfl)
theorem dX9_clash_103 : decode cX9_clash 103 = .ok (.iconst (-1), 1) := dk_2 (dk_at dksX9_clash_4 9 rfl rfl)
theorem dX9_clash_104 : decode cX9_clash 104 = .ok (.ixor, 1) := dk_130 (dk_at dksX9_clash_4 10 rfl rfl)
theorem dX9_clash_105 : decode cX9_clash 105 = .ok (.iand, 1) := dk_126 (dk_at dksX9_clash_4 11 rfl rfl)
theorem dX9_clash_106 : decode cX9_clash 106 = .ok (.ifCond .ne 35, 3) := dk_154 0 35 (dk_at dksX9_clash_4 12 rfl rfl)
theorem dX9_clash_109 : decode cX9_clash 109 = .ok (.aload_n 0, 1) := dk_42 (dk_at dksX9_clash_4 15 rfl rfl)
theorem dX9_clash_110 : decode cX9_clash 110 = .ok (.getfield 145, 3) := dk_180 0 145 (dk_at dksX9_clash_4 16 rfl rfl)
theorem dX9_clash_113 : decode cX9_clash 113 = .ok (.iload 5, 2) := dk_21 5 (dk_at dksX9_clash_4 19 rfl rfl)
theorem dX9_clash_115 : decode cX9_clash 115 = .ok (.baload, 1) := dk_51 (dk_at dksX9_clash_4 21 rfl rfl)
theorem dX9_clash_116 : decode cX9_clash 116 = .ok (.ifCond .ne 25, 3) := dk_154 0 25 (dk_at dksX9_clash_5 0 rfl rfl)
theorem dX9_clash_119 : decode cX9_clash 119 = .ok (.iload 4, 2) := dk_21 4 (dk_at dksX9_clash_5 3 rfl rfl)
theorem dX9_clash_121 : decode cX9_clash 121 = .ok (.ifCond .lt 16, 3) := dk_155 0 16 (dk_at dksX9_clash_5 5 rfl rfl)
theorem dX9_clash_124 : decode cX9_clash 124 = .ok (.iload 5, 2) := dk_21 5 (dk_at dksX9_clash_5 8 rfl rfl)
theorem dX9_clash_126 : decode cX9_clash 126 = .ok (.invokestatic 516, 3) := dk_184 2 4 (dk_at dksX9_clash_5 10 rfl rfl)
theorem dX9_clash_129 : decode cX9_clash 129 = .ok (.iload 4, 2) := dk_21 4 (dk_at dksX9_clash_5 13 rfl rfl)
theorem dX9_clash_131 : decode cX9_clash 131 = .ok (.invokestatic 516, 3) := dk_184 2 4 (dk_at dksX9_clash_5 15 rfl rfl)
theorem dX9_clash_134 : decode cX9_clash 134 = .ok (.if_icmp .ge 7, 3) := dk_162 0 7 (dk_at dksX9_clash_5 18 rfl rfl)
theorem dX9_clash_137 : decode cX9_clash 137 = .ok (.iload 5, 2) := dk_21 5 (dk_at dksX9_clash_5 21 rfl rfl)
theorem dX9_clash_139 : decode cX9_clash 139 = .ok (.istore 4, 2) := dk_54 4 (dk_at dksX9_clash_6 0 rfl rfl)
theorem dX9_clash_141 : decode cX9_clash 141 = .ok (.iinc 5 1, 3) := dk_132 5 1 (dk_at dksX9_clash_6 2 rfl rfl)
theorem dX9_clash_144 : decode cX9_clash 144 = .ok (.goto (-50), 3) := dk_167 255 206 (dk_at dksX9_clash_6 5 rfl rfl)
theorem dX9_clash_147 : decode cX9_clash 147 = .ok (.iload 4, 2) := dk_21 4 (dk_at dksX9_clash_6 8 rfl rfl)
theorem dX9_clash_149 : decode cX9_clash 149 = .ok (.ifCond .ge 7, 3) := dk_156 0 7 (dk_at dksX9_clash_6 10 rfl rfl)
theorem dX9_clash_152 : decode cX9_clash 152 = .ok (.iconst (-1), 1) := dk_2 (dk_at dksX9_clash_6 13 rfl rfl)
theorem dX9_clash_153 : decode cX9_clash 153 = .ok (.goto 17, 3) := dk_167 0 17 (dk_at dksX9_clash_6 14 rfl rfl)
theorem dX9_clash_156 : decode cX9_clash 156 = .ok (.iload_n 2, 1) := dk_28 (dk_at dksX9_clash_6 17 rfl rfl)
theorem dX9_clash_157 : decode cX9_clash 157 = .ok (.ifCond .ne 11, 3) := dk_154 0 11 (dk_at dksX9_clash_6 18 rfl rfl)
theorem dX9_clash_160 : decode cX9_clash 160 = .ok (.iload 4, 2) := dk_21 4 (dk_at dksX9_clash_6 21 rfl rfl)
theorem dX9_clash_162 : decode cX9_clash 162 = .ok (.invokestatic 516, 3) := dk_184 2 4 (dk_at dksX9_clash_7 0 rfl rfl)
theorem dX9_clash_165 : decode cX9_clash 165 = .ok (.goto 5, 3) := dk_167 0 5 (dk_at dksX9_clash_7 3 rfl rfl)
theorem dX9_clash_168 : decode cX9_clash 168 = .ok (.iload 4, 2) := dk_21 4 (dk_at dksX9_clash_7 6 rfl rfl)
theorem dX9_clash_170 : decode cX9_clash 170 = .ok (.ireturn, 1) := dk_172 (dk_at dksX9_clash_7 8 rfl rfl)
abbrev cX9_layCanKeep : ByteArray := prog_24_method_79_code
def yX9_layCanKeep : MethodName := ⟨RX9, "layCanKeep", "(I)V"⟩
def dkwX9_layCanKeep_5 : List UInt8 := [132, 2, 255, 167, 255, 213, 177]
abbrev dktX9_layCanKeep_5 : List UInt8 := dkwX9_layCanKeep_5 ++ []
def dkwX9_layCanKeep_4 : List UInt8 := [162, 0, 22, 42, 180, 0, 145, 28, 4, 29, 120, 2, 130, 126, 4, 84, 132, 3, 1, 167, 255, 234]
abbrev dktX9_layCanKeep_4 : List UInt8 := dkwX9_layCanKeep_4 ++ dktX9_layCanKeep_5
def dkwX9_layCanKeep_3 : List UInt8 := [17, 3, 255, 61, 28, 158, 0, 45, 42, 180, 0, 145, 28, 51, 153, 0, 30, 3, 62, 29, 16, 10]
abbrev dktX9_layCanKeep_3 : List UInt8 := dkwX9_layCanKeep_3 ++ dktX9_layCanKeep_4
def dkwX9_layCanKeep_2 : List UInt8 := [182, 2, 19, 153, 0, 21, 42, 180, 0, 145, 42, 180, 0, 136, 42, 180, 1, 241, 46, 4, 84, 167, 255, 233]
abbrev dktX9_layCanKeep_2 : List UInt8 := dkwX9_layCanKeep_2 ++ dktX9_layCanKeep_3
def dkwX9_layCanKeep_1 : List UInt8 := [132, 2, 1, 167, 255, 231, 42, 42, 180, 0, 118, 16, 20, 46, 181, 1, 238, 42, 182, 2, 16, 42, 27]
abbrev dktX9_layCanKeep_1 : List UInt8 := dkwX9_layCanKeep_1 ++ dktX9_layCanKeep_2
def dkwX9_layCanKeep_0 : List UInt8 := [3, 61, 28, 17, 4, 0, 162, 0, 24, 42, 180, 0, 145, 28, 28, 154, 0, 7, 4, 167, 0, 4, 3, 84]
abbrev dktX9_layCanKeep_0 : List UInt8 := dkwX9_layCanKeep_0 ++ dktX9_layCanKeep_1
theorem dksX9_layCanKeep_0 : cX9_layCanKeep.data.toList.drop 0 = dktX9_layCanKeep_0 := by decide +kernel
theorem dksX9_layCanKeep_1 : cX9_layCanKeep.data.toList.drop 24 = dktX9_layCanKeep_1 := dk_seg dksX9_layCanKeep_0 24 rfl rfl
theorem dksX9_layCanKeep_2 : cX9_layCanKeep.data.toList.drop 47 = dktX9_layCanKeep_2 := dk_seg dksX9_layCanKeep_1 23 rfl rfl
theorem dksX9_layCanKeep_3 : cX9_layCanKeep.data.toList.drop 71 = dktX9_layCanKeep_3 := dk_seg dksX9_layCanKeep_2 24 rfl rfl
theorem dksX9_layCanKeep_4 : cX9_layCanKeep.data.toList.drop 93 = dktX9_layCanKeep_4 := dk_seg dksX9_layCanKeep_3 22 rfl rfl
theorem dksX9_layCanKeep_5 : cX9_layCanKeep.data.toList.drop 115 = dktX9_layCanKeep_5 := dk_seg dksX9_layCanKeep_4 22 rfl rfl
theorem dX9_layCanKeep_0 : decode cX9_layCanKeep 0 = .ok (.iconst 0, 1) := dk_3 (dk_at dksX9_layCanKeep_0 0 rfl rfl)
theorem dX9_layCanKeep_1 : decode cX9_layCanKeep 1 = .ok (.istore_n 2, 1) := dk_61 (dk_at dksX9_layCanKeep_0 1 rfl rfl)
theorem dX9_layCanKeep_2 : decode cX9_layCanKeep 2 = .ok (.iload_n 2, 1) := dk_28 (dk_at dksX9_layCanKeep_0 2 rfl rfl)
theorem dX9_layCanKeep_3 : decode cX9_layCanKeep 3 = .ok (.sipush 1024, 3) := dk_17 4 0 (dk_at dksX9_layCanKeep_0 3 rfl rfl)
theorem dX9_layCanKeep_6 : decode cX9_layCanKeep 6 = .ok (.if_icmp .ge 24, 3) := dk_162 0 24 (dk_at dksX9_layCanKeep_0 6 rfl rfl)
theorem dX9_layCanKeep_9 : decode cX9_layCanKeep 9 = .ok (.aload_n 0, 1) := dk_42 (dk_at dksX9_layCanKeep_0 9 rfl rfl)
theorem dX9_layCanKeep_10 : decode cX9_layCanKeep 10 = .ok (.getfield 145, 3) := dk_180 0 145 (dk_at dksX9_layCanKeep_0 10 rfl rfl)
theorem dX9_layCanKeep_13 : decode cX9_layCanKeep 13 = .ok (.iload_n 2, 1) := dk_28 (dk_at dksX9_layCanKeep_0 13 rfl rfl)
theorem dX9_layCanKeep_14 : decode cX9_layCanKeep 14 = .ok (.iload_n 2, 1) := dk_28 (dk_at dksX9_layCanKeep_0 14 rfl rfl)
theorem dX9_layCanKeep_15 : decode cX9_layCanKeep 15 = .ok (.ifCond .ne 7, 3) := dk_154 0 7 (dk_at dksX9_layCanKeep_0 15 rfl rfl)
theorem dX9_layCanKeep_18 : decode cX9_layCanKeep 18 = .ok (.iconst 1, 1) := dk_4 (dk_at dksX9_layCanKeep_0 18 rfl rfl)
theorem dX9_layCanKeep_19 : decode cX9_layCanKeep 19 = .ok (.goto 4, 3) := dk_167 0 4 (dk_at dksX9_layCanKeep_0 19 rfl rfl)
theorem dX9_layCanKeep_22 : decode cX9_layCanKeep 22 = .ok (.iconst 0, 1) := dk_3 (dk_at dksX9_layCanKeep_0 22 rfl rfl)
theorem dX9_layCanKeep_23 : decode cX9_layCanKeep 23 = .ok (.bastore, 1) := dk_84 (dk_at dksX9_layCanKeep_0 23 rfl rfl)
theorem dX9_layCanKeep_24 : decode cX9_layCanKeep 24 = .ok (.iinc 2 1, 3) := dk_132 2 1 (dk_at dksX9_layCanKeep_1 0 rfl rfl)
theorem dX9_layCanKeep_27 : decode cX9_layCanKeep 27 = .ok (.goto (-25), 3) := dk_167 255 231 (dk_at dksX9_layCanKeep_1 3 rfl rfl)
theorem dX9_layCanKeep_30 : decode cX9_layCanKeep 30 = .ok (.aload_n 0, 1) := dk_42 (dk_at dksX9_layCanKeep_1 6 rfl rfl)
theorem dX9_layCanKeep_31 : decode cX9_layCanKeep 31 = .ok (.aload_n 0, 1) := dk_42 (dk_at dksX9_layCanKeep_1 7 rfl rfl)
theorem dX9_layCanKeep_32 : decode cX9_layCanKeep 32 = .ok (.getfield 118, 3) := dk_180 0 118 (dk_at dksX9_layCanKeep_1 8 rfl rfl)
theorem dX9_layCanKeep_35 : decode cX9_layCanKeep 35 = .ok (.bipush 20, 2) := dk_16 20 (dk_at dksX9_layCanKeep_1 11 rfl rfl)
theorem dX9_layCanKeep_37 : decode cX9_layCanKeep 37 = .ok (.iaload, 1) := dk_46 (dk_at dksX9_layCanKeep_1 13 rfl rfl)
theorem dX9_layCanKeep_38 : decode cX9_layCanKeep 38 = .ok (.putfield 494, 3) := dk_181 1 238 (dk_at dksX9_layCanKeep_1 14 rfl rfl)
theorem dX9_layCanKeep_41 : decode cX9_layCanKeep 41 = .ok (.aload_n 0, 1) := dk_42 (dk_at dksX9_layCanKeep_1 17 rfl rfl)
theorem dX9_layCanKeep_42 : decode cX9_layCanKeep 42 = .ok (.invokevirtual 528, 3) := dk_182 2 16 (dk_at dksX9_layCanKeep_1 18 rfl rfl)
theorem dX9_layCanKeep_45 : decode cX9_layCanKeep 45 = .ok (.aload_n 0, 1) := dk_42 (dk_at dksX9_layCanKeep_1 21 rfl rfl)
theorem dX9_layCanKeep_46 : decode cX9_layCanKeep 46 = .ok (.iload_n 1, 1) := dk_27 (dk_at dksX9_layCanKeep_1 22 rfl rfl)
theorem dX9_layCanKeep_47 : decode cX9_layCanKeep 47 = .ok (.invokevirtual 531, 3) := dk_182 2 19 (dk_at dksX9_layCanKeep_2 0 rfl rfl)
theorem dX9_layCanKeep_50 : decode cX9_layCanKeep 50 = .ok (.ifCond .eq 21, 3) := dk_153 0 21 (dk_at dksX9_layCanKeep_2 3 rfl rfl)
theorem dX9_layCanKeep_53 : decode cX9_layCanKeep 53 = .ok (.aload_n 0, 1) := dk_42 (dk_at dksX9_layCanKeep_2 6 rfl rfl)
theorem dX9_layCanKeep_54 : decode cX9_layCanKeep 54 = .ok (.getfield 145, 3) := dk_180 0 145 (dk_at dksX9_layCanKeep_2 7 rfl rfl)
theorem dX9_layCanKeep_57 : decode cX9_layCanKeep 57 = .ok (.aload_n 0, 1) := dk_42 (dk_at dksX9_layCanKeep_2 10 rfl rfl)
theorem dX9_layCanKeep_58 : decode cX9_layCanKeep 58 = .ok (.getfield 136, 3) := dk_180 0 136 (dk_at dksX9_layCanKeep_2 11 rfl rfl)
theorem dX9_layCanKeep_61 : decode cX9_layCanKeep 61 = .ok (.aload_n 0, 1) := dk_42 (dk_at dksX9_layCanKeep_2 14 rfl rfl)
theorem dX9_layCanKeep_62 : decode cX9_layCanKeep 62 = .ok (.getfield 497, 3) := dk_180 1 241 (dk_at dksX9_layCanKeep_2 15 rfl rfl)
theorem dX9_layCanKeep_65 : decode cX9_layCanKeep 65 = .ok (.iaload, 1) := dk_46 (dk_at dksX9_layCanKeep_2 18 rfl rfl)
theorem dX9_layCanKeep_66 : decode cX9_layCanKeep 66 = .ok (.iconst 1, 1) := dk_4 (dk_at dksX9_layCanKeep_2 19 rfl rfl)
theorem dX9_layCanKeep_67 : decode cX9_layCanKeep 67 = .ok (.bastore, 1) := dk_84 (dk_at dksX9_layCanKeep_2 20 rfl rfl)
theorem dX9_layCanKeep_68 : decode cX9_layCanKeep 68 = .ok (.goto (-23), 3) := dk_167 255 233 (dk_at dksX9_layCanKeep_2 21 rfl rfl)
theorem dX9_layCanKeep_71 : decode cX9_layCanKeep 71 = .ok (.sipush 1023, 3) := dk_17 3 255 (dk_at dksX9_layCanKeep_3 0 rfl rfl)
theorem dX9_layCanKeep_74 : decode cX9_layCanKeep 74 = .ok (.istore_n 2, 1) := dk_61 (dk_at dksX9_layCanKeep_3 3 rfl rfl)
theorem dX9_layCanKeep_75 : decode cX9_layCanKeep 75 = .ok (.iload_n 2, 1) := dk_28 (dk_at dksX9_layCanKeep_3 4 rfl rfl)
theorem dX9_layCanKeep_76 : decode cX9_layCanKeep 76 = .ok (.ifCond .le 45, 3) := dk_158 0 45 (dk_at dksX9_layCanKeep_3 5 rfl rfl)
theorem dX9_layCanKeep_79 : decode cX9_layCanKeep 79 = .ok (.aload_n 0, 1) := dk_42 (dk_at dksX9_layCanKeep_3 8 rfl rfl)
theorem dX9_layCanKeep_80 : decode cX9_layCanKeep 80 = .ok (.getfield 145, 3) := dk_180 0 145 (dk_at dksX9_layCanKeep_3 9 rfl rfl)
theorem dX9_layCanKeep_83 : decode cX9_layCanKeep 83 = .ok (.iload_n 2, 1) := dk_28 (dk_at dksX9_layCanKeep_3 12 rfl rfl)
theorem dX9_layCanKeep_84 : decode cX9_layCanKeep 84 = .ok (.baload, 1) := dk_51 (dk_at dksX9_layCanKeep_3 13 rfl rfl)
theorem dX9_layCanKeep_85 : decode cX9_layCanKeep 85 = .ok (.ifCond .eq 30, 3) := dk_153 0 30 (dk_at dksX9_layCanKeep_3 14 rfl rfl)
theorem dX9_layCanKeep_88 : decode cX9_layCanKeep 88 = .ok (.iconst 0, 1) := dk_3 (dk_at dksX9_layCanKeep_3 17 rfl rfl)
theorem dX9_layCanKeep_89 : decode cX9_layCanKeep 89 = .ok (.istore_n 3, 1) := dk_62 (dk_at dksX9_layCanKeep_3 18 rfl rfl)
theorem dX9_layCanKeep_90 : decode cX9_layCanKeep 90 = .ok (.iload_n 3, 1) := dk_29 (dk_at dksX9_layCanKeep_3 19 rfl rfl)
theorem dX9_layCanKeep_91 : decode cX9_layCanKeep 91 = .ok (.bipush 10, 2) := dk_16 10 (dk_at dksX9_layCanKeep_3 20 rfl rfl)
theorem dX9_layCanKeep_93 : decode cX9_layCanKeep 93 = .ok (.if_icmp .ge 22, 3) := dk_162 0 22 (dk_at dksX9_layCanKeep_4 0 rfl rfl)
theorem dX9_layCanKeep_96 : decode cX9_layCanKeep 96 = .ok (.aload_n 0, 1) := dk_42 (dk_at dksX9_layCanKeep_4 3 rfl rfl)
theorem dX9_layCanKeep_97 : decode cX9_layCanKeep 97 = .ok (.getfield 145, 3) := dk_180 0 145 (dk_at dksX9_layCanKeep_4 4 rfl rfl)
theorem dX9_layCanKeep_100 : decode cX9_layCanKeep 100 = .ok (.iload_n 2, 1) := dk_28 (dk_at dksX9_layCanKeep_4 7 rfl rfl)
theorem dX9_layCanKeep_101 : decode cX9_layCanKeep 101 = .ok (.iconst 1, 1) := dk_4 (dk_at dksX9_layCanKeep_4 8 rfl rfl)
theorem dX9_layCanKeep_102 : decode cX9_layCanKeep 102 = .ok (.iload_n 3, 1) := dk_29 (dk_at dksX9_layCanKeep_4 9 rfl rfl)
theorem dX9_layCanKeep_103 : decode cX9_layCanKeep 103 = .ok (.ishl, 1) := dk_120 (dk_at dksX9_layCanKeep_4 10 rfl rfl)
theorem dX9_layCanKeep_104 : decode cX9_layCanKeep 104 = .ok (.iconst (-1), 1) := dk_2 (dk_at dksX9_layCanKeep_4 11 rfl rfl)
theorem dX9_layCanKeep_105 : decode cX9_layCanKeep 105 = .ok (.ixor, 1) := dk_130 (dk_at dksX9_layCanKeep_4 12 rfl rfl)
theorem dX9_layCanKeep_106 : decode cX9_layCanKeep 106 = .ok (.iand, 1) := dk_126 (dk_at dksX9_layCanKeep_4 13 rfl rfl)
theorem dX9_layCanKeep_107 : decode cX9_layCanKeep 107 = .ok (.iconst 1, 1) := dk_4 (dk_at dksX9_layCanKeep_4 14 rfl rfl)
theorem dX9_layCanKeep_108 : decode cX9_layCanKeep 108 = .ok (.bastore, 1) := dk_84 (dk_at dksX9_layCanKeep_4 15 rfl rfl)
theorem dX9_layCanKeep_109 : decode cX9_layCanKeep 109 = .ok (.iinc 3 1, 3) := dk_132 3 1 (dk_at dksX9_layCanKeep_4 16 rfl rfl)
theorem dX9_layCanKeep_112 : decode cX9_layCanKeep 112 = .ok (.goto (-22), 3) := dk_167 255 234 (dk_at dksX9_layCanKeep_4 19 rfl rfl)
theorem dX9_layCanKeep_115 : decode cX9_layCanKeep 115 = .ok (.iinc 2 (-1), 3) := dk_132 2 255 (dk_at dksX9_layCanKeep_5 0 rfl rfl)
theorem dX9_layCanKeep_118 : decode cX9_layCanKeep 118 = .ok (.goto (-43), 3) := dk_167 255 213 (dk_at dksX9_layCanKeep_5 3 rfl rfl)
theorem dX9_layCanKeep_121 : decode cX9_layCanKeep 121 = .ok (.return_, 1) := dk_177 (dk_at dksX9_layCanKeep_5 6 rfl rfl)
abbrev cX9_leave : ByteArray := prog_24_method_82_code
def yX9_leave : MethodName := ⟨RX9, "leave", "(II)I"⟩
def dkwX9_leave_3 : List UInt8 := [181, 1, 194, 132, 4, 1, 167, 255, 211, 42, 180, 1, 194, 172]
abbrev dktX9_leave_3 : List UInt8 := dkwX9_leave_3 ++ []
def dkwX9_leave_2 : List UInt8 := [154, 0, 6, 167, 0, 24, 42, 180, 0, 142, 42, 180, 1, 194, 21, 4, 79, 42, 89, 180, 1, 194, 4, 96]
abbrev dktX9_leave_2 : List UInt8 := dkwX9_leave_2 ++ dktX9_leave_3
def dkwX9_leave_1 : List UInt8 := [27, 28, 182, 2, 31, 62, 3, 54, 4, 21, 4, 42, 180, 1, 173, 162, 0, 42, 29, 21, 4, 122, 4, 126]
abbrev dktX9_leave_1 : List UInt8 := dkwX9_leave_1 ++ dktX9_leave_2
def dkwX9_leave_0 : List UInt8 := [42, 3, 181, 1, 194, 42, 27, 182, 1, 204, 153, 0, 11, 42, 28, 182, 1, 210, 154, 0, 5, 2, 172, 42]
abbrev dktX9_leave_0 : List UInt8 := dkwX9_leave_0 ++ dktX9_leave_1
theorem dksX9_leave_0 : cX9_leave.data.toList.drop 0 = dktX9_leave_0 := by decide +kernel
theorem dksX9_leave_1 : cX9_leave.data.toList.drop 24 = dktX9_leave_1 := dk_seg dksX9_leave_0 24 rfl rfl
theorem dksX9_leave_2 : cX9_leave.data.toList.drop 48 = dktX9_leave_2 := dk_seg dksX9_leave_1 24 rfl rfl
theorem dksX9_leave_3 : cX9_leave.data.toList.drop 72 = dktX9_leave_3 := dk_seg dksX9_leave_2 24 rfl rfl
theorem dX9_leave_0 : decode cX9_leave 0 = .ok (.aload_n 0, 1) := dk_42 (dk_at dksX9_leave_0 0 rfl rfl)
theorem dX9_leave_1 : decode cX9_leave 1 = .ok (.iconst 0, 1) := dk_3 (dk_at dksX9_leave_0 1 rfl rfl)
theorem dX9_leave_2 : decode cX9_leave 2 = .ok (.putfield 450, 3) := dk_181 1 194 (dk_at dksX9_leave_0 2 rfl rfl)
theorem dX9_leave_5 : decode cX9_leave 5 = .ok (.aload_n 0, 1) := dk_42 (dk_at dksX9_leave_0 5 rfl rfl)
theorem dX9_leave_6 : decode cX9_leave 6 = .ok (.iload_n 1, 1) := dk_27 (dk_at dksX9_leave_0 6 rfl rfl)
theorem dX9_leave_7 : decode cX9_leave 7 = .ok (.invokevirtual 460, 3) := dk_182 1 204 (dk_at dksX9_leave_0 7 rfl rfl)
theorem dX9_leave_10 : decode cX9_leave 10 = .ok (.ifCond .eq 11, 3) := dk_153 0 11 (dk_at dksX9_leave_0 10 rfl rfl)
theorem dX9_leave_13 : decode cX9_leave 13 = .ok (.aload_n 0, 1) := dk_42 (dk_at dksX9_leave_0 13 rfl rfl)
theorem dX9_leave_14 : decode cX9_leave 14 = .ok (.iload_n 2, 1) := dk_28 (dk_at dksX9_leave_0 14 rfl rfl)
theorem dX9_leave_15 : decode cX9_leave 15 = .ok (.invokevirtual 466, 3) := dk_182 1 210 (dk_at dksX9_leave_0 15 rfl rfl)
theorem dX9_leave_18 : decode cX9_leave 18 = .ok (.ifCond .ne 5, 3) := dk_154 0 5 (dk_at dksX9_leave_0 18 rfl rfl)
theorem dX9_leave_21 : decode cX9_leave 21 = .ok (.iconst (-1), 1) := dk_2 (dk_at dksX9_leave_0 21 rfl rfl)
theorem dX9_leave_22 : decode cX9_leave 22 = .ok (.ireturn, 1) := dk_172 (dk_at dksX9_leave_0 22 rfl rfl)
theorem dX9_leave_23 : decode cX9_leave 23 = .ok (.aload_n 0, 1) := dk_42 (dk_at dksX9_leave_0 23 rfl rfl)
theorem dX9_leave_24 : decode cX9_leave 24 = .ok (.iload_n 1, 1) := dk_27 (dk_at dksX9_leave_1 0 rfl rfl)
theorem dX9_leave_25 : decode cX9_leave 25 = .ok (.iload_n 2, 1) := dk_28 (dk_at dksX9_leave_1 1 rfl rfl)
theorem dX9_leave_26 : decode cX9_leave 26 = .ok (.invokevirtual 543, 3) := dk_182 2 31 (dk_at dksX9_leave_1 2 rfl rfl)
theorem dX9_leave_29 : decode cX9_leave 29 = .ok (.istore_n 3, 1) := dk_62 (dk_at dksX9_leave_1 5 rfl rfl)
theorem dX9_leave_30 : decode cX9_leave 30 = .ok (.iconst 0, 1) := dk_3 (dk_at dksX9_leave_1 6 rfl rfl)
theorem dX9_leave_31 : decode cX9_leave 31 = .ok (.istore 4, 2) := dk_54 4 (dk_at dksX9_leave_1 7 rfl rfl)
theorem dX9_leave_33 : decode cX9_leave 33 = .ok (.iload 4, 2) := dk_21 4 (dk_at dksX9_leave_1 9 rfl rfl)
theorem dX9_leave_35 : decode cX9_leave 35 = .ok (.aload_n 0, 1) := dk_42 (dk_at dksX9_leave_1 11 rfl rfl)
theorem dX9_leave_36 : decode cX9_leave 36 = .ok (.getfield 429, 3) := dk_180 1 173 (dk_at dksX9_leave_1 12 rfl rfl)
theorem dX9_leave_39 : decode cX9_leave 39 = .ok (.if_icmp .ge 42, 3) := dk_162 0 42 (dk_at dksX9_leave_1 15 rfl rfl)
theorem dX9_leave_42 : decode cX9_leave 42 = .ok (.iload_n 3, 1) := dk_29 (dk_at dksX9_leave_1 18 rfl rfl)
theorem dX9_leave_43 : decode cX9_leave 43 = .ok (.iload 4, 2) := dk_21 4 (dk_at dksX9_leave_1 19 rfl rfl)
theorem dX9_leave_45 : decode cX9_leave 45 = .ok (.ishr, 1) := dk_122 (dk_at dksX9_leave_1 21 rfl rfl)
theorem dX9_leave_46 : decode cX9_leave 46 = .ok (.iconst 1, 1) := dk_4 (dk_at dksX9_leave_1 22 rfl rfl)
theorem dX9_leave_47 : decode cX9_leave 47 = .ok (.iand, 1) := dk_126 (dk_at dksX9_leave_1 23 rfl rfl)
theorem dX9_leave_48 : decode cX9_leave 48 = .ok (.ifCond .ne 6, 3) := dk_154 0 6 (dk_at dksX9_leave_2 0 rfl rfl)
theorem dX9_leave_51 : decode cX9_leave 51 = .ok (.goto 24, 3) := dk_167 0 24 (dk_at dksX9_leave_2 3 rfl rfl)
theorem dX9_leave_54 : decode cX9_leave 54 = .ok (.aload_n 0, 1) := dk_42 (dk_at dksX9_leave_2 6 rfl rfl)
theorem dX9_leave_55 : decode cX9_leave 55 = .ok (.getfield 142, 3) := dk_180 0 142 (dk_at dksX9_leave_2 7 rfl rfl)
theorem dX9_leave_58 : decode cX9_leave 58 = .ok (.aload_n 0, 1) := dk_42 (dk_at dksX9_leave_2 10 rfl rfl)
theorem dX9_leave_59 : decode cX9_leave 59 = .ok (.getfield 450, 3) := dk_180 1 194 (dk_at dksX9_leave_2 11 rfl rfl)
theorem dX9_leave_62 : decode cX9_leave 62 = .ok (.iload 4, 2) := dk_21 4 (dk_at dksX9_leave_2 14 rfl rfl)
theorem dX9_leave_64 : decode cX9_leave 64 = .ok (.iastore, 1) := dk_79 (dk_at dksX9_leave_2 16 rfl rfl)
theorem dX9_leave_65 : decode cX9_leave 65 = .ok (.aload_n 0, 1) := dk_42 (dk_at dksX9_leave_2 17 rfl rfl)
theorem dX9_leave_66 : decode cX9_leave 66 = .ok (.dup, 1) := dk_89 (dk_at dksX9_leave_2 18 rfl rfl)
theorem dX9_leave_67 : decode cX9_leave 67 = .ok (.getfield 450, 3) := dk_180 1 194 (dk_at dksX9_leave_2 19 rfl rfl)
theorem dX9_leave_70 : decode cX9_leave 70 = .ok (.iconst 1, 1) := dk_4 (dk_at dksX9_leave_2 22 rfl rfl)
theorem dX9_leave_71 : decode cX9_leave 71 = .ok (.iadd, 1) := dk_96 (dk_at dksX9_leave_2 23 rfl rfl)
theorem dX9_leave_72 : decode cX9_leave 72 = .ok (.putfield 450, 3) := dk_181 1 194 (dk_at dksX9_leave_3 0 rfl rfl)
theorem dX9_leave_75 : decode cX9_leave 75 = .ok (.iinc 4 1, 3) := dk_132 4 1 (dk_at dksX9_leave_3 3 rfl rfl)
theorem dX9_leave_78 : decode cX9_leave 78 = .ok (.goto (-45), 3) := dk_167 255 211 (dk_at dksX9_leave_3 6 rfl rfl)
theorem dX9_leave_81 : decode cX9_leave 81 = .ok (.aload_n 0, 1) := dk_42 (dk_at dksX9_leave_3 9 rfl rfl)
theorem dX9_leave_82 : decode cX9_leave 82 = .ok (.getfield 450, 3) := dk_180 1 194 (dk_at dksX9_leave_3 10 rfl rfl)
theorem dX9_leave_85 : decode cX9_leave 85 = .ok (.ireturn, 1) := dk_172 (dk_at dksX9_leave_3 13 rfl rfl)
abbrev cX9_leaving : ByteArray := prog_24_method_81_code
def yX9_leaving : MethodName := ⟨RX9, "leaving", "(II)I"⟩
def dkwX9_leaving_6 : List UInt8 := [4, 42, 180, 0, 105, 21, 4, 46, 120, 128, 62, 132, 4, 255, 167, 255, 202, 29, 172]
abbrev dktX9_leaving_6 : List UInt8 := dkwX9_leaving_6 ++ []
def dkwX9_leaving_5 : List UInt8 := [180, 0, 105, 21, 4, 46, 155, 0, 29, 42, 42, 180, 0, 105, 21, 4, 46, 182, 1, 213, 153, 0, 15, 29]
abbrev dktX9_leaving_5 : List UInt8 := dkwX9_leaving_5 ++ dktX9_leaving_6
def dkwX9_leaving_4 : List UInt8 := [180, 1, 173, 4, 100, 54, 4, 21, 4, 155, 0, 55, 29, 21, 4, 122, 4, 126, 4, 160, 0, 39, 42]
abbrev dktX9_leaving_4 : List UInt8 := dkwX9_leaving_4 ++ dktX9_leaving_5
def dkwX9_leaving_3 : List UInt8 := [161, 0, 7, 4, 167, 0, 4, 3, 184, 1, 88, 21, 4, 120, 128, 62, 132, 4, 1, 167, 255, 172, 42]
abbrev dktX9_leaving_3 : List UInt8 := dkwX9_leaving_3 ++ dktX9_leaving_4
def dkwX9_leaving_2 : List UInt8 := [180, 0, 112, 21, 4, 51, 154, 0, 24, 42, 180, 0, 99, 21, 4, 46, 42, 180, 0, 118, 16, 20, 46]
abbrev dktX9_leaving_2 : List UInt8 := dkwX9_leaving_2 ++ dktX9_leaving_3
def dkwX9_leaving_1 : List UInt8 := [42, 180, 0, 90, 21, 4, 46, 27, 160, 0, 45, 42, 180, 0, 96, 21, 4, 46, 28, 160, 0, 34, 42]
abbrev dktX9_leaving_1 : List UInt8 := dkwX9_leaving_1 ++ dktX9_leaving_2
def dkwX9_leaving_0 : List UInt8 := [3, 62, 3, 54, 4, 21, 4, 42, 180, 1, 173, 162, 0, 81, 29, 42, 21, 4, 182, 1, 213, 153, 0, 56]
abbrev dktX9_leaving_0 : List UInt8 := dkwX9_leaving_0 ++ dktX9_leaving_1
theorem dksX9_leaving_0 : cX9_leaving.data.toList.drop 0 = dktX9_leaving_0 := by decide +kernel
theorem dksX9_leaving_1 : cX9_leaving.data.toList.drop 24 = dktX9_leaving_1 := dk_seg dksX9_leaving_0 24 rfl rfl
theorem dksX9_leaving_2 : cX9_leaving.data.toList.drop 47 = dktX9_leaving_2 := dk_seg dksX9_leaving_1 23 rfl rfl
theorem dksX9_leaving_3 : cX9_leaving.data.toList.drop 70 = dktX9_leaving_3 := dk_seg dksX9_leaving_2 23 rfl rfl
theorem dksX9_leaving_4 : cX9_leaving.data.toList.drop 93 = dktX9_leaving_4 := dk_seg dksX9_leaving_3 23 rfl rfl
theorem dksX9_leaving_5 : cX9_leaving.data.toList.drop 116 = dktX9_leaving_5 := dk_seg dksX9_leaving_4 23 rfl rfl
theorem dksX9_leaving_6 : cX9_leaving.data.toList.drop 140 = dktX9_leaving_6 := dk_seg dksX9_leaving_5 24 rfl rfl
theorem dX9_leaving_0 : decode cX9_leaving 0 = .ok (.iconst 0, 1) := dk_3 (dk_at dksX9_leaving_0 0 rfl rfl)
theorem dX9_leaving_1 : decode cX9_leaving 1 = .ok (.istore_n 3, 1) := dk_62 (dk_at dksX9_leaving_0 1 rfl rfl)
theorem dX9_leaving_2 : decode cX9_leaving 2 = .ok (.iconst 0, 1) := dk_3 (dk_at dksX9_leaving_0 2 rfl rfl)
theorem dX9_leaving_3 : decode cX9_leaving 3 = .ok (.istore 4, 2) := dk_54 4 (dk_at dksX9_leaving_0 3 rfl rfl)
theorem dX9_leaving_5 : decode cX9_leaving 5 = .ok (.iload 4, 2) := dk_21 4 (dk_at dksX9_leaving_0 5 rfl rfl)
theorem dX9_leaving_7 : decode cX9_leaving 7 = .ok (.aload_n 0, 1) := dk_42 (dk_at dksX9_leaving_0 7 rfl rfl)
theorem dX9_leaving_8 : decode cX9_leaving 8 = .ok (.getfield 429, 3) := dk_180 1 173 (dk_at dksX9_leaving_0 8 rfl rfl)
theorem dX9_leaving_11 : decode cX9_leaving 11 = .ok (.if_icmp .ge 81, 3) := dk_162 0 81 (dk_at dksX9_leaving_0 11 rfl rfl)
theorem dX9_leaving_14 : decode cX9_leaving 14 = .ok (.iload_n 3, 1) := dk_29 (dk_at dksX9_leaving_0 14 rfl rfl)
theorem dX9_leaving_15 : decode cX9_leaving 15 = .ok (.aload_n 0, 1) := dk_42 (dk_at dksX9_leaving_0 15 rfl rfl)
theorem dX9_leaving_16 : decode cX9_leaving 16 = .ok (.iload 4, 2) := dk_21 4 (dk_at dksX9_leaving_0 16 rfl rfl)
theorem dX9_leaving_18 : decode cX9_leaving 18 = .ok (.invokevirtual 469, 3) := dk_182 1 213 (dk_at dksX9_leaving_0 18 rfl rfl)
theorem dX9_leaving_21 : decode cX9_leaving 21 = .ok (.ifCond .eq 56, 3) := dk_153 0 56 (dk_at dksX9_leaving_0 21 rfl rfl)
theorem dX9_leaving_24 : decode cX9_leaving 24 = .ok (.aload_n 0, 1) := dk_42 (dk_at dksX9_leaving_1 0 rfl rfl)
theorem dX9_leaving_25 : decode cX9_leaving 25 = .ok (.getfield 90, 3) := dk_180 0 90 (dk_at dksX9_leaving_1 1 rfl rfl)
theorem dX9_leaving_28 : decode cX9_leaving 28 = .ok (.iload 4, 2) := dk_21 4 (dk_at dksX9_leaving_1 4 rfl rfl)
theorem dX9_leaving_30 : decode cX9_leaving 30 = .ok (.iaload, 1) := dk_46 (dk_at dksX9_leaving_1 6 rfl rfl)
theorem dX9_leaving_31 : decode cX9_leaving 31 = .ok (.iload_n 1, 1) := dk_27 (dk_at dksX9_leaving_1 7 rfl rfl)
theorem dX9_leaving_32 : decode cX9_leaving 32 = .ok (.if_icmp .ne 45, 3) := dk_160 0 45 (dk_at dksX9_leaving_1 8 rfl rfl)
theorem dX9_leaving_35 : decode cX9_leaving 35 = .ok (.aload_n 0, 1) := dk_42 (dk_at dksX9_leaving_1 11 rfl rfl)
theorem dX9_leaving_36 : decode cX9_leaving 36 = .ok (.getfield 96, 3) := dk_180 0 96 (dk_at dksX9_leaving_1 12 rfl rfl)
theorem dX9_leaving_39 : decode cX9_leaving 39 = .ok (.iload 4, 2) := dk_21 4 (dk_at dksX9_leaving_1 15 rfl rfl)
theorem dX9_leaving_41 : decode cX9_leaving 41 = .ok (.iaload, 1) := dk_46 (dk_at dksX9_leaving_1 17 rfl rfl)
theorem dX9_leaving_42 : decode cX9_leaving 42 = .ok (.iload_n 2, 1) := dk_28 (dk_at dksX9_leaving_1 18 rfl rfl)
theorem dX9_leaving_43 : decode cX9_leaving 43 = .ok (.if_icmp .ne 34, 3) := dk_160 0 34 (dk_at dksX9_leaving_1 19 rfl rfl)
theorem dX9_leaving_46 : decode cX9_leaving 46 = .ok (.aload_n 0, 1) := dk_42 (dk_at dksX9_leaving_1 22 rfl rfl)
theorem dX9_leaving_47 : decode cX9_leaving 47 = .ok (.getfield 112, 3) := dk_180 0 112 (dk_at dksX9_leaving_2 0 rfl rfl)
theorem dX9_leaving_50 : decode cX9_leaving 50 = .ok (.iload 4, 2) := dk_21 4 (dk_at dksX9_leaving_2 3 rfl rfl)
theorem dX9_leaving_52 : decode cX9_leaving 52 = .ok (.baload, 1) := dk_51 (dk_at dksX9_leaving_2 5 rfl rfl)
theorem dX9_leaving_53 : decode cX9_leaving 53 = .ok (.ifCond .ne 24, 3) := dk_154 0 24 (dk_at dksX9_leaving_2 6 rfl rfl)
theorem dX9_leaving_56 : decode cX9_leaving 56 = .ok (.aload_n 0, 1) := dk_42 (dk_at dksX9_leaving_2 9 rfl rfl)
theorem dX9_leaving_57 : decode cX9_leaving 57 = .ok (.getfield 99, 3) := dk_180 0 99 (dk_at dksX9_leaving_2 10 rfl rfl)
theorem dX9_leaving_60 : decode cX9_leaving 60 = .ok (.iload 4, 2) := dk_21 4 (dk_at dksX9_leaving_2 13 rfl rfl)
theorem dX9_leaving_62 : decode cX9_leaving 62 = .ok (.iaload, 1) := dk_46 (dk_at dksX9_leaving_2 15 rfl rfl)
theorem dX9_leaving_63 : decode cX9_leaving 63 = .ok (.aload_n 0, 1) := dk_42 (dk_at dksX9_leaving_2 16 rfl rfl)
theorem dX9_leaving_64 : decode cX9_leaving 64 = .ok (.getfield 118, 3) := dk_180 0 118 (dk_at dksX9_leaving_2 17 rfl rfl)
theorem dX9_leaving_67 : decode cX9_leaving 67 = .ok (.bipush 20, 2) := dk_16 20 (dk_at dksX9_leaving_2 20 rfl rfl)
theorem dX9_leaving_69 : decode cX9_leaving 69 = .ok (.iaload, 1) := dk_46 (dk_at dksX9_leaving_2 22 rfl rfl)
theorem dX9_leaving_70 : decode cX9_leaving 70 = .ok (.if_icmp .lt 7, 3) := dk_161 0 7 (dk_at dksX9_leaving_3 0 rfl rfl)
theorem dX9_leaving_73 : decode cX9_leaving 73 = .ok (.iconst 1, 1) := dk_4 (dk_at dksX9_leaving_3 3 rfl rfl)
theorem dX9_leaving_74 : decode cX9_leaving 74 = .ok (.goto 4, 3) := dk_167 0 4 (dk_at dksX9_leaving_3 4 rfl rfl)
theorem dX9_leaving_77 : decode cX9_leaving 77 = .ok (.iconst 0, 1) := dk_3 (dk_at dksX9_leaving_3 7 rfl rfl)
theorem dX9_leaving_78 : decode cX9_leaving 78 = .ok (.invokestatic 344, 3) := dk_184 1 88 (dk_at dksX9_leaving_3 8 rfl rfl)
theorem dX9_leaving_81 : decode cX9_leaving 81 = .ok (.iload 4, 2) := dk_21 4 (dk_at dksX9_leaving_3 11 rfl rfl)
theorem dX9_leaving_83 : decode cX9_leaving 83 = .ok (.ishl, 1) := dk_120 (dk_at dksX9_leaving_3 13 rfl rfl)
theorem dX9_leaving_84 : decode cX9_leaving 84 = .ok (.ior, 1) := dk_128 (dk_at dksX9_leaving_3 14 rfl rfl)
theorem dX9_leaving_85 : decode cX9_leaving 85 = .ok (.istore_n 3, 1) := dk_62 (dk_at dksX9_leaving_3 15 rfl rfl)
theorem dX9_leaving_86 : decode cX9_leaving 86 = .ok (.iinc 4 1, 3) := dk_132 4 1 (dk_at dksX9_leaving_3 16 rfl rfl)
theorem dX9_leaving_89 : decode cX9_leaving 89 = .ok (.goto (-84), 3) := dk_167 255 172 (dk_at dksX9_leaving_3 19 rfl rfl)
theorem dX9_leaving_92 : decode cX9_leaving 92 = .ok (.aload_n 0, 1) := dk_42 (dk_at dksX9_leaving_3 22 rfl rfl)
theorem dX9_leaving_93 : decode cX9_leaving 93 = .ok (.getfield 429, 3) := dk_180 1 173 (dk_at dksX9_leaving_4 0 rfl rfl)
theorem dX9_leaving_96 : decode cX9_leaving 96 = .ok (.iconst 1, 1) := dk_4 (dk_at dksX9_leaving_4 3 rfl rfl)
theorem dX9_leaving_97 : decode cX9_leaving 97 = .ok (.isub, 1) := dk_100 (dk_at dksX9_leaving_4 4 rfl rfl)
theorem dX9_leaving_98 : decode cX9_leaving 98 = .ok (.istore 4, 2) := dk_54 4 (dk_at dksX9_leaving_4 5 rfl rfl)
theorem dX9_leaving_100 : decode cX9_leaving 100 = .ok (.iload 4, 2) := dk_21 4 (dk_at dksX9_leaving_4 7 rfl rfl)
theorem dX9_leaving_102 : decode cX9_leaving 102 = .ok (.ifCond .lt 55, 3) := dk_155 0 55 (dk_at dksX9_leaving_4 9 rfl rfl)
theorem dX9_leaving_105 : decode cX9_leaving 105 = .ok (.iload_n 3, 1) := dk_29 (dk_at dksX9_leaving_4 12 rfl rfl)
theorem dX9_leaving_106 : decode cX9_leaving 106 = .ok (.iload 4, 2) := dk_21 4 (dk_at dksX9_leaving_4 13 rfl rfl)
theorem dX9_leaving_108 : decode cX9_leaving 108 = .ok (.ishr, 1) := dk_122 (dk_at dksX9_leaving_4 15 rfl rfl)
theorem dX9_leaving_109 : decode cX9_leaving 109 = .ok (.iconst 1, 1) := dk_4 (dk_at dksX9_leaving_4 16 rfl rfl)
theorem dX9_leaving_110 : decode cX9_leaving 110 = .ok (.iand, 1) := dk_126 (dk_at dksX9_leaving_4 17 rfl rfl)
theorem dX9_leaving_111 : decode cX9_leaving 111 = .ok (.iconst 1, 1) := dk_4 (dk_at dksX9_leaving_4 18 rfl rfl)
theorem dX9_leaving_112 : decode cX9_leaving 112 = .ok (.if_icmp .ne 39, 3) := dk_160 0 39 (dk_at dksX9_leaving_4 19 rfl rfl)
theorem dX9_leaving_115 : decode cX9_leaving 115 = .ok (.aload_n 0, 1) := dk_42 (dk_at dksX9_leaving_4 22 rfl rfl)
theorem dX9_leaving_116 : decode cX9_leaving 116 = .ok (.getfield 105, 3) := dk_180 0 105 (dk_at dksX9_leaving_5 0 rfl rfl)
theorem dX9_leaving_119 : decode cX9_leaving 119 = .ok (.iload 4, 2) := dk_21 4 (dk_at dksX9_leaving_5 3 rfl rfl)
theorem dX9_leaving_121 : decode cX9_leaving 121 = .ok (.iaload, 1) := dk_46 (dk_at dksX9_leaving_5 5 rfl rfl)
theorem dX9_leaving_122 : decode cX9_leaving 122 = .ok (.ifCond .lt 29, 3) := dk_155 0 29 (dk_at dksX9_leaving_5 6 rfl rfl)
theorem dX9_leaving_125 : decode cX9_leaving 125 = .ok (.aload_n 0, 1) := dk_42 (dk_at dksX9_leaving_5 9 rfl rfl)
theorem dX9_leaving_126 : decode cX9_leaving 126 = .ok (.aload_n 0, 1) := dk_42 (dk_at dksX9_leaving_5 10 rfl rfl)
theorem dX9_leaving_127 : decode cX9_leaving 127 = .ok (.getfield 105, 3) := dk_180 0 105 (dk_at dksX9_leaving_5 11 rfl rfl)
theorem dX9_leaving_130 : decode cX9_leaving 130 = .ok (.iload 4, 2) := dk_21 4 (dk_at dksX9_leaving_5 14 rfl rfl)
theorem dX9_leaving_132 : decode cX9_leaving 132 = .ok (.iaload, 1) := dk_46 (dk_at dksX9_leaving_5 16 rfl rfl)
theorem dX9_leaving_133 : decode cX9_leaving 133 = .ok (.invokevirtual 469, 3) := dk_182 1 213 (dk_at dksX9_leaving_5 17 rfl rfl)
theorem dX9_leaving_136 : decode cX9_leaving 136 = .ok (.ifCond .eq 15, 3) := dk_153 0 15 (dk_at dksX9_leaving_5 20 rfl rfl)
theorem dX9_leaving_139 : decode cX9_leaving 139 = .ok (.iload_n 3, 1) := dk_29 (dk_at dksX9_leaving_5 23 rfl rfl)
theorem dX9_leaving_140 : decode cX9_leaving 140 = .ok (.iconst 1, 1) := dk_4 (dk_at dksX9_leaving_6 0 rfl rfl)
theorem dX9_leaving_141 : decode cX9_leaving 141 = .ok (.aload_n 0, 1) := dk_42 (dk_at dksX9_leaving_6 1 rfl rfl)
theorem dX9_leaving_142 : decode cX9_leaving 142 = .ok (.getfield 105, 3) := dk_180 0 105 (dk_at dksX9_leaving_6 2 rfl rfl)
theorem dX9_leaving_145 : decode cX9_leaving 145 = .ok (.iload 4, 2) := dk_21 4 (dk_at dksX9_leaving_6 5 rfl rfl)
theorem dX9_leaving_147 : decode cX9_leaving 147 = .ok (.iaload, 1) := dk_46 (dk_at dksX9_leaving_6 7 rfl rfl)
theorem dX9_leaving_148 : decode cX9_leaving 148 = .ok (.ishl, 1) := dk_120 (dk_at dksX9_leaving_6 8 rfl rfl)
theorem dX9_leaving_149 : decode cX9_leaving 149 = .ok (.ior, 1) := dk_128 (dk_at dksX9_leaving_6 9 rfl rfl)
theorem dX9_leaving_150 : decode cX9_leaving 150 = .ok (.istore_n 3, 1) := dk_62 (dk_at dksX9_leaving_6 10 rfl rfl)
theorem dX9_leaving_151 : decode cX9_leaving 151 = .ok (.iinc 4 (-1), 3) := dk_132 4 255 (dk_at dksX9_leaving_6 11 rfl rfl)
theorem dX9_leaving_154 : decode cX9_leaving 154 = .ok (.goto (-54), 3) := dk_167 255 202 (dk_at dksX9_leaving_6 14 rfl rfl)
theorem dX9_leaving_157 : decode cX9_leaving 157 = .ok (.iload_n 3, 1) := dk_29 (dk_at dksX9_leaving_6 17 rfl rfl)
theorem dX9_leaving_158 : decode cX9_leaving 158 = .ok (.ireturn, 1) := dk_172 (dk_at dksX9_leaving_6 18 rfl rfl)
abbrev cX9_asked_2 : ByteArray := prog_24_method_83_code
def yX9_asked_2 : MethodName := ⟨RX9, "asked", "(II)I"⟩
def dkwX9_asked_2_3 : List UInt8 := [21, 4, 172]
abbrev dktX9_asked_2_3 : List UInt8 := dkwX9_asked_2_3 ++ []
def dkwX9_asked_2_2 : List UInt8 := [160, 0, 17, 21, 4, 4, 42, 180, 0, 93, 21, 5, 46, 120, 128, 54, 4, 132, 5, 1, 167, 255, 220]
abbrev dktX9_asked_2_2 : List UInt8 := dkwX9_asked_2_2 ++ dktX9_asked_2_3
def dkwX9_asked_2_1 : List UInt8 := [62, 3, 54, 4, 3, 54, 5, 21, 5, 42, 180, 1, 173, 162, 0, 33, 29, 21, 5, 122, 4, 126, 4]
abbrev dktX9_asked_2_1 : List UInt8 := dkwX9_asked_2_1 ++ dktX9_asked_2_2
def dkwX9_asked_2_0 : List UInt8 := [42, 27, 182, 1, 204, 153, 0, 11, 42, 28, 182, 1, 210, 154, 0, 5, 2, 172, 42, 27, 28, 182, 2, 31]
abbrev dktX9_asked_2_0 : List UInt8 := dkwX9_asked_2_0 ++ dktX9_asked_2_1
theorem dksX9_asked_2_0 : cX9_asked_2.data.toList.drop 0 = dktX9_asked_2_0 := by decide +kernel
theorem dksX9_asked_2_1 : cX9_asked_2.data.toList.drop 24 = dktX9_asked_2_1 := dk_seg dksX9_asked_2_0 24 rfl rfl
theorem dksX9_asked_2_2 : cX9_asked_2.data.toList.drop 47 = dktX9_asked_2_2 := dk_seg dksX9_asked_2_1 23 rfl rfl
theorem dksX9_asked_2_3 : cX9_asked_2.data.toList.drop 70 = dktX9_asked_2_3 := dk_seg dksX9_asked_2_2 23 rfl rfl
theorem dX9_asked_2_0 : decode cX9_asked_2 0 = .ok (.aload_n 0, 1) := dk_42 (dk_at dksX9_asked_2_0 0 rfl rfl)
theorem dX9_asked_2_1 : decode cX9_asked_2 1 = .ok (.iload_n 1, 1) := dk_27 (dk_at dksX9_asked_2_0 1 rfl rfl)
theorem dX9_asked_2_2 : decode cX9_asked_2 2 = .ok (.invokevirtual 460, 3) := dk_182 1 204 (dk_at dksX9_asked_2_0 2 rfl rfl)
theorem dX9_asked_2_5 : decode cX9_asked_2 5 = .ok (.ifCond .eq 11, 3) := dk_153 0 11 (dk_at dksX9_asked_2_0 5 rfl rfl)
theorem dX9_asked_2_8 : decode cX9_asked_2 8 = .ok (.aload_n 0, 1) := dk_42 (dk_at dksX9_asked_2_0 8 rfl rfl)
theorem dX9_asked_2_9 : decode cX9_asked_2 9 = .ok (.iload_n 2, 1) := dk_28 (dk_at dksX9_asked_2_0 9 rfl rfl)
theorem dX9_asked_2_10 : decode cX9_asked_2 10 = .ok (.invokevirtual 466, 3) := dk_182 1 210 (dk_at dksX9_asked_2_0 10 rfl rfl)
theorem dX9_asked_2_13 : decode cX9_asked_2 13 = .ok (.ifCond .ne 5, 3) := dk_154 0 5 (dk_at dksX9_asked_2_0 13 rfl rfl)
theorem dX9_asked_2_16 : decode cX9_asked_2 16 = .ok (.iconst (-1), 1) := dk_2 (dk_at dksX9_asked_2_0 16 rfl rfl)
theorem dX9_asked_2_17 : decode cX9_asked_2 17 = .ok (.ireturn, 1) := dk_172 (dk_at dksX9_asked_2_0 17 rfl rfl)
theorem dX9_asked_2_18 : decode cX9_asked_2 18 = .ok (.aload_n 0, 1) := dk_42 (dk_at dksX9_asked_2_0 18 rfl rfl)
theorem dX9_asked_2_19 : decode cX9_asked_2 19 = .ok (.iload_n 1, 1) := dk_27 (dk_at dksX9_asked_2_0 19 rfl rfl)
theorem dX9_asked_2_20 : decode cX9_asked_2 20 = .ok (.iload_n 2, 1) := dk_28 (dk_at dksX9_asked_2_0 20 rfl rfl)
theorem dX9_asked_2_21 : decode cX9_asked_2 21 = .ok (.invokevirtual 543, 3) := dk_182 2 31 (dk_at dksX9_asked_2_0 21 rfl rfl)
theorem dX9_asked_2_24 : decode cX9_asked_2 24 = .ok (.istore_n 3, 1) := dk_62 (dk_at dksX9_asked_2_1 0 rfl rfl)
theorem dX9_asked_2_25 : decode cX9_asked_2 25 = .ok (.iconst 0, 1) := dk_3 (dk_at dksX9_asked_2_1 1 rfl rfl)
theorem dX9_asked_2_26 : decode cX9_asked_2 26 = .ok (.istore 4, 2) := dk_54 4 (dk_at dksX9_asked_2_1 2 rfl rfl)
theorem dX9_asked_2_28 : decode cX9_asked_2 28 = .ok (.iconst 0, 1) := dk_3 (dk_at dksX9_asked_2_1 4 rfl rfl)
theorem dX9_asked_2_29 : decode cX9_asked_2 29 = .ok (.istore 5, 2) := dk_54 5 (dk_at dksX9_asked_2_1 5 rfl rfl)
theorem dX9_asked_2_31 : decode cX9_asked_2 31 = .ok (.iload 5, 2) := dk_21 5 (dk_at dksX9_asked_2_1 7 rfl rfl)
theorem dX9_asked_2_33 : decode cX9_asked_2 33 = .ok (.aload_n 0, 1) := dk_42 (dk_at dksX9_asked_2_1 9 rfl rfl)
theorem dX9_asked_2_34 : decode cX9_asked_2 34 = .ok (.getfield 429, 3) := dk_180 1 173 (dk_at dksX9_asked_2_1 10 rfl rfl)
theorem dX9_asked_2_37 : decode cX9_asked_2 37 = .ok (.if_icmp .ge 33, 3) := dk_162 0 33 (dk_at dksX9_asked_2_1 13 rfl rfl)
theorem dX9_asked_2_40 : decode cX9_asked_2 40 = .ok (.iload_n 3, 1) := dk_29 (dk_at dksX9_asked_2_1 16 rfl rfl)
theorem dX9_asked_2_41 : decode cX9_asked_2 41 = .ok (.iload 5, 2) := dk_21 5 (dk_at dksX9_asked_2_1 17 rfl rfl)
theorem dX9_asked_2_43 : decode cX9_asked_2 43 = .ok (.ishr, 1) := dk_122 (dk_at dksX9_asked_2_1 19 rfl rfl)
theorem dX9_asked_2_44 : decode cX9_asked_2 44 = .ok (.iconst 1, 1) := dk_4 (dk_at dksX9_asked_2_1 20 rfl rfl)
theorem dX9_asked_2_45 : decode cX9_asked_2 45 = .ok (.iand, 1) := dk_126 (dk_at dksX9_asked_2_1 21 rfl rfl)
theorem dX9_asked_2_46 : decode cX9_asked_2 46 = .ok (.iconst 1, 1) := dk_4 (dk_at dksX9_asked_2_1 22 rfl rfl)
theorem dX9_asked_2_47 : decode cX9_asked_2 47 = .ok (.if_icmp .ne 17, 3) := dk_160 0 17 (dk_at dksX9_asked_2_2 0 rfl rfl)
theorem dX9_asked_2_50 : decode cX9_asked_2 50 = .ok (.iload 4, 2) := dk_21 4 (dk_at dksX9_asked_2_2 3 rfl rfl)
theorem dX9_asked_2_52 : decode cX9_asked_2 52 = .ok (.iconst 1, 1) := dk_4 (dk_at dksX9_asked_2_2 5 rfl rfl)
theorem dX9_asked_2_53 : decode cX9_asked_2 53 = .ok (.aload_n 0, 1) := dk_42 (dk_at dksX9_asked_2_2 6 rfl rfl)
theorem dX9_asked_2_54 : decode cX9_asked_2 54 = .ok (.getfield 93, 3) := dk_180 0 93 (dk_at dksX9_asked_2_2 7 rfl rfl)
theorem dX9_asked_2_57 : decode cX9_asked_2 57 = .ok (.iload 5, 2) := dk_21 5 (dk_at dksX9_asked_2_2 10 rfl rfl)
theorem dX9_asked_2_59 : decode cX9_asked_2 59 = .ok (.iaload, 1) := dk_46 (dk_at dksX9_asked_2_2 12 rfl rfl)
theorem dX9_asked_2_60 : decode cX9_asked_2 60 = .ok (.ishl, 1) := dk_120 (dk_at dksX9_asked_2_2 13 rfl rfl)
theorem dX9_asked_2_61 : decode cX9_asked_2 61 = .ok (.ior, 1) := dk_128 (dk_at dksX9_asked_2_2 14 rfl rfl)
theorem dX9_asked_2_62 : decode cX9_asked_2 62 = .ok (.istore 4, 2) := dk_54 4 (dk_at dksX9_asked_2_2 15 rfl rfl)
theorem dX9_asked_2_64 : decode cX9_asked_2 64 = .ok (.iinc 5 1, 3) := dk_132 5 1 (dk_at dksX9_asked_2_2 17 rfl rfl)
theorem dX9_asked_2_67 : decode cX9_asked_2 67 = .ok (.goto (-36), 3) := dk_167 255 220 (dk_at dksX9_asked_2_2 20 rfl rfl)
theorem dX9_asked_2_70 : decode cX9_asked_2 70 = .ok (.iload 4, 2) := dk_21 4 (dk_at dksX9_asked_2_3 0 rfl rfl)
theorem dX9_asked_2_72 : decode cX9_asked_2 72 = .ok (.ireturn, 1) := dk_172 (dk_at dksX9_asked_2_3 2 rfl rfl)
abbrev cX9_holds : ByteArray := prog_24_method_86_code
def yX9_holds : MethodName := ⟨RX9, "holds", "(III)I"⟩
def dkwX9_holds_1 : List UInt8 := [153, 0, 12, 29, 3, 4, 184, 1, 197, 154, 0, 7, 2, 167, 0, 10, 42, 27, 28, 29, 182, 2, 34, 172]
abbrev dktX9_holds_1 : List UInt8 := dkwX9_holds_1 ++ []
def dkwX9_holds_0 : List UInt8 := [42, 27, 182, 1, 201, 153, 0, 30, 42, 27, 182, 1, 213, 153, 0, 22, 28, 3, 16, 60, 184, 1, 197]
abbrev dktX9_holds_0 : List UInt8 := dkwX9_holds_0 ++ dktX9_holds_1
theorem dksX9_holds_0 : cX9_holds.data.toList.drop 0 = dktX9_holds_0 := by decide +kernel
theorem dksX9_holds_1 : cX9_holds.data.toList.drop 23 = dktX9_holds_1 := dk_seg dksX9_holds_0 23 rfl rfl
theorem dX9_holds_0 : decode cX9_holds 0 = .ok (.aload_n 0, 1) := dk_42 (dk_at dksX9_holds_0 0 rfl rfl)
theorem dX9_holds_1 : decode cX9_holds 1 = .ok (.iload_n 1, 1) := dk_27 (dk_at dksX9_holds_0 1 rfl rfl)
theorem dX9_holds_2 : decode cX9_holds 2 = .ok (.invokevirtual 457, 3) := dk_182 1 201 (dk_at dksX9_holds_0 2 rfl rfl)
theorem dX9_holds_5 : decode cX9_holds 5 = .ok (.ifCond .eq 30, 3) := dk_153 0 30 (dk_at dksX9_holds_0 5 rfl rfl)
theorem dX9_holds_8 : decode cX9_holds 8 = .ok (.aload_n 0, 1) := dk_42 (dk_at dksX9_holds_0 8 rfl rfl)
theorem dX9_holds_9 : decode cX9_holds 9 = .ok (.iload_n 1, 1) := dk_27 (dk_at dksX9_holds_0 9 rfl rfl)
theorem dX9_holds_10 : decode cX9_holds 10 = .ok (.invokevirtual 469, 3) := dk_182 1 213 (dk_at dksX9_holds_0 10 rfl rfl)
theorem dX9_holds_13 : decode cX9_holds 13 = .ok (.ifCond .eq 22, 3) := dk_153 0 22 (dk_at dksX9_holds_0 13 rfl rfl)
theorem dX9_holds_16 : decode cX9_holds 16 = .ok (.iload_n 2, 1) := dk_28 (dk_at dksX9_holds_0 16 rfl rfl)
theorem dX9_holds_17 : decode cX9_holds 17 = .ok (.iconst 0, 1) := dk_3 (dk_at dksX9_holds_0 17 rfl rfl)
theorem dX9_holds_18 : decode cX9_holds 18 = .ok (.bipush 60, 2) := dk_16 60 (dk_at dksX9_holds_0 18 rfl rfl)
theorem dX9_holds_20 : decode cX9_holds 20 = .ok (.invokestatic 453, 3) := dk_184 1 197 (dk_at dksX9_holds_0 20 rfl rfl)
theorem dX9_holds_23 : decode cX9_holds 23 = .ok (.ifCond .eq 12, 3) := dk_153 0 12 (dk_at dksX9_holds_1 0 rfl rfl)
theorem dX9_holds_26 : decode cX9_holds 26 = .ok (.iload_n 3, 1) := dk_29 (dk_at dksX9_holds_1 3 rfl rfl)
theorem dX9_holds_27 : decode cX9_holds 27 = .ok (.iconst 0, 1) := dk_3 (dk_at dksX9_holds_1 4 rfl rfl)
theorem dX9_holds_28 : decode cX9_holds 28 = .ok (.iconst 1, 1) := dk_4 (dk_at dksX9_holds_1 5 rfl rfl)
theorem dX9_holds_29 : decode cX9_holds 29 = .ok (.invokestatic 453, 3) := dk_184 1 197 (dk_at dksX9_holds_1 6 rfl rfl)
theorem dX9_holds_32 : decode cX9_holds 32 = .ok (.ifCond .ne 7, 3) := dk_154 0 7 (dk_at dksX9_holds_1 9 rfl rfl)
theorem dX9_holds_35 : decode cX9_holds 35 = .ok (.iconst (-1), 1) := dk_2 (dk_at dksX9_holds_1 12 rfl rfl)
theorem dX9_holds_36 : decode cX9_holds 36 = .ok (.goto 10, 3) := dk_167 0 10 (dk_at dksX9_holds_1 13 rfl rfl)
theorem dX9_holds_39 : decode cX9_holds 39 = .ok (.aload_n 0, 1) := dk_42 (dk_at dksX9_holds_1 16 rfl rfl)
theorem dX9_holds_40 : decode cX9_holds 40 = .ok (.iload_n 1, 1) := dk_27 (dk_at dksX9_holds_1 17 rfl rfl)
theorem dX9_holds_41 : decode cX9_holds 41 = .ok (.iload_n 2, 1) := dk_28 (dk_at dksX9_holds_1 18 rfl rfl)
theorem dX9_holds_42 : decode cX9_holds 42 = .ok (.iload_n 3, 1) := dk_29 (dk_at dksX9_holds_1 19 rfl rfl)
theorem dX9_holds_43 : decode cX9_holds 43 = .ok (.invokevirtual 546, 3) := dk_182 2 34 (dk_at dksX9_holds_1 20 rfl rfl)
theorem dX9_holds_46 : decode cX9_holds 46 = .ok (.ireturn, 1) := dk_172 (dk_at dksX9_holds_1 23 rfl rfl)
abbrev cX9_threadSame : ByteArray := prog_24_method_85_code
def yX9_threadSame : MethodName := ⟨RX9, "threadSame", "(III)I"⟩
def dkwX9_threadSame_2 : List UInt8 := [16, 20, 46, 21, 5, 96, 182, 1, 225, 100, 54, 4, 132, 5, 1, 167, 255, 209, 21, 4, 172]
abbrev dktX9_threadSame_2 : List UInt8 := dkwX9_threadSame_2 ++ []
def dkwX9_threadSame_1 : List UInt8 := [158, 0, 42, 21, 4, 42, 21, 4, 42, 180, 0, 60, 42, 180, 0, 93, 27, 46, 46, 29, 42, 180, 0, 118]
abbrev dktX9_threadSame_1 : List UInt8 := dkwX9_threadSame_1 ++ dktX9_threadSame_2
def dkwX9_threadSame_0 : List UInt8 := [42, 180, 0, 118, 16, 10, 27, 96, 46, 54, 4, 3, 54, 5, 21, 5, 28, 162, 0, 47, 21, 4]
abbrev dktX9_threadSame_0 : List UInt8 := dkwX9_threadSame_0 ++ dktX9_threadSame_1
theorem dksX9_threadSame_0 : cX9_threadSame.data.toList.drop 0 = dktX9_threadSame_0 := by decide +kernel
theorem dksX9_threadSame_1 : cX9_threadSame.data.toList.drop 22 = dktX9_threadSame_1 := dk_seg dksX9_threadSame_0 22 rfl rfl
theorem dksX9_threadSame_2 : cX9_threadSame.data.toList.drop 46 = dktX9_threadSame_2 := dk_seg dksX9_threadSame_1 24 rfl rfl
theorem dX9_threadSame_0 : decode cX9_threadSame 0 = .ok (.aload_n 0, 1) := dk_42 (dk_at dksX9_threadSame_0 0 rfl rfl)
theorem dX9_threadSame_1 : decode cX9_threadSame 1 = .ok (.getfield 118, 3) := dk_180 0 118 (dk_at dksX9_threadSame_0 1 rfl rfl)
theorem dX9_threadSame_4 : decode cX9_threadSame 4 = .ok (.bipush 10, 2) := dk_16 10 (dk_at dksX9_threadSame_0 4 rfl rfl)
theorem dX9_threadSame_6 : decode cX9_threadSame 6 = .ok (.iload_n 1, 1) := dk_27 (dk_at dksX9_threadSame_0 6 rfl rfl)
theorem dX9_threadSame_7 : decode cX9_threadSame 7 = .ok (.iadd, 1) := dk_96 (dk_at dksX9_threadSame_0 7 rfl rfl)
theorem dX9_threadSame_8 : decode cX9_threadSame 8 = .ok (.iaload, 1) := dk_46 (dk_at dksX9_threadSame_0 8 rfl rfl)
theorem dX9_threadSame_9 : decode cX9_threadSame 9 = .ok (.istore 4, 2) := dk_54 4 (dk_at dksX9_threadSame_0 9 rfl rfl)
theorem dX9_threadSame_11 : decode cX9_threadSame 11 = .ok (.iconst 0, 1) := dk_3 (dk_at dksX9_threadSame_0 11 rfl rfl)
theorem dX9_threadSame_12 : decode cX9_threadSame 12 = .ok (.istore 5, 2) := dk_54 5 (dk_at dksX9_threadSame_0 12 rfl rfl)
theorem dX9_threadSame_14 : decode cX9_threadSame 14 = .ok (.iload 5, 2) := dk_21 5 (dk_at dksX9_threadSame_0 14 rfl rfl)
theorem dX9_threadSame_16 : decode cX9_threadSame 16 = .ok (.iload_n 2, 1) := dk_28 (dk_at dksX9_threadSame_0 16 rfl rfl)
theorem dX9_threadSame_17 : decode cX9_threadSame 17 = .ok (.if_icmp .ge 47, 3) := dk_162 0 47 (dk_at dksX9_threadSame_0 17 rfl rfl)
theorem dX9_threadSame_20 : decode cX9_threadSame 20 = .ok (.iload 4, 2) := dk_21 4 (dk_at dksX9_threadSame_0 20 rfl rfl)
theorem dX9_threadSame_22 : decode cX9_threadSame 22 = .ok (.ifCond .le 42, 3) := dk_158 0 42 (dk_at dksX9_threadSame_1 0 rfl rfl)
theorem dX9_threadSame_25 : decode cX9_threadSame 25 = .ok (.iload 4, 2) := dk_21 4 (dk_at dksX9_threadSame_1 3 rfl rfl)
theorem dX9_threadSame_27 : decode cX9_threadSame 27 = .ok (.aload_n 0, 1) := dk_42 (dk_at dksX9_threadSame_1 5 rfl rfl)
theorem dX9_threadSame_28 : decode cX9_threadSame 28 = .ok (.iload 4, 2) := dk_21 4 (dk_at dksX9_threadSame_1 6 rfl rfl)
theorem dX9_threadSame_30 : decode cX9_threadSame 30 = .ok (.aload_n 0, 1) := dk_42 (dk_at dksX9_threadSame_1 8 rfl rfl)
theorem dX9_threadSame_31 : decode cX9_threadSame 31 = .ok (.getfield 60, 3) := dk_180 0 60 (dk_at dksX9_threadSame_1 9 rfl rfl)
theorem dX9_threadSame_34 : decode cX9_threadSame 34 = .ok (.aload_n 0, 1) := dk_42 (dk_at dksX9_threadSame_1 12 rfl rfl)
theorem dX9_threadSame_35 : decode cX9_threadSame 35 = .ok (.getfield 93, 3) := dk_180 0 93 (dk_at dksX9_threadSame_1 13 rfl rfl)
theorem dX9_threadSame_38 : decode cX9_threadSame 38 = .ok (.iload_n 1, 1) := dk_27 (dk_at dksX9_threadSame_1 16 rfl rfl)
theorem dX9_threadSame_39 : decode cX9_threadSame 39 = .ok (.iaload, 1) := dk_46 (dk_at dksX9_threadSame_1 17 rfl rfl)
theorem dX9_threadSame_40 : decode cX9_threadSame 40 = .ok (.iaload, 1) := dk_46 (dk_at dksX9_threadSame_1 18 rfl rfl)
theorem dX9_threadSame_41 : decode cX9_threadSame 41 = .ok (.iload_n 3, 1) := dk_29 (dk_at dksX9_threadSame_1 19 rfl rfl)
theorem dX9_threadSame_42 : decode cX9_threadSame 42 = .ok (.aload_n 0, 1) := dk_42 (dk_at dksX9_threadSame_1 20 rfl rfl)
theorem dX9_threadSame_43 : decode cX9_threadSame 43 = .ok (.getfield 118, 3) := dk_180 0 118 (dk_at dksX9_threadSame_1 21 rfl rfl)
theorem dX9_threadSame_46 : decode cX9_threadSame 46 = .ok (.bipush 20, 2) := dk_16 20 (dk_at dksX9_threadSame_2 0 rfl rfl)
theorem dX9_threadSame_48 : decode cX9_threadSame 48 = .ok (.iaload, 1) := dk_46 (dk_at dksX9_threadSame_2 2 rfl rfl)
theorem dX9_threadSame_49 : decode cX9_threadSame 49 = .ok (.iload 5, 2) := dk_21 5 (dk_at dksX9_threadSame_2 3 rfl rfl)
theorem dX9_threadSame_51 : decode cX9_threadSame 51 = .ok (.iadd, 1) := dk_96 (dk_at dksX9_threadSame_2 5 rfl rfl)
theorem dX9_threadSame_52 : decode cX9_threadSame 52 = .ok (.invokevirtual 481, 3) := dk_182 1 225 (dk_at dksX9_threadSame_2 6 rfl rfl)
theorem dX9_threadSame_55 : decode cX9_threadSame 55 = .ok (.isub, 1) := dk_100 (dk_at dksX9_threadSame_2 9 rfl rfl)
theorem dX9_threadSame_56 : decode cX9_threadSame 56 = .ok (.istore 4, 2) := dk_54 4 (dk_at dksX9_threadSame_2 10 rfl rfl)
theorem dX9_threadSame_58 : decode cX9_threadSame 58 = .ok (.iinc 5 1, 3) := dk_132 5 1 (dk_at dksX9_threadSame_2 12 rfl rfl)
theorem dX9_threadSame_61 : decode cX9_threadSame 61 = .ok (.goto (-47), 3) := dk_167 255 209 (dk_at dksX9_threadSame_2 15 rfl rfl)
theorem dX9_threadSame_64 : decode cX9_threadSame 64 = .ok (.iload 4, 2) := dk_21 4 (dk_at dksX9_threadSame_2 18 rfl rfl)
theorem dX9_threadSame_66 : decode cX9_threadSame 66 = .ok (.ireturn, 1) := dk_172 (dk_at dksX9_threadSame_2 20 rfl rfl)
abbrev cX9_odds : ByteArray := prog_24_method_88_code
def yX9_odds : MethodName := ⟨RX9, "odds", "(III)J"⟩
def dkwX9_odds_7 : List UInt8 := [184, 2, 44, 55, 8, 29, 154, 0, 11, 22, 4, 22, 8, 109, 167, 0, 8, 22, 6, 22, 8, 109, 173]
abbrev dktX9_odds_7 : List UInt8 := dkwX9_odds_7 ++ []
def dkwX9_odds_6 : List UInt8 := [132, 11, 1, 167, 255, 215, 22, 4, 22, 9, 97, 55, 4, 132, 8, 1, 167, 255, 174, 22, 6, 22, 4]
abbrev dktX9_odds_6 : List UInt8 := dkwX9_odds_6 ++ dktX9_odds_7
def dkwX9_odds_5 : List UInt8 := [160, 0, 11, 42, 180, 1, 179, 133, 167, 0, 11, 16, 100, 42, 180, 1, 179, 100, 133, 105, 55, 9]
abbrev dktX9_odds_5 : List UInt8 := dkwX9_odds_5 ++ dktX9_odds_6
def dkwX9_odds_4 : List UInt8 := [10, 55, 9, 3, 54, 11, 21, 11, 28, 162, 0, 41, 22, 9, 21, 8, 21, 11, 122, 4, 126, 4]
abbrev dktX9_odds_4 : List UInt8 := dkwX9_odds_4 ++ dktX9_odds_5
def dkwX9_odds_3 : List UInt8 := [54, 8, 21, 8, 4, 28, 120, 162, 0, 80, 42, 27, 28, 21, 8, 182, 2, 41, 154, 0, 6, 167, 0, 60]
abbrev dktX9_odds_3 : List UInt8 := dkwX9_odds_3 ++ dktX9_odds_4
def dkwX9_odds_2 : List UInt8 := [54, 8, 21, 8, 28, 162, 0, 17, 22, 6, 20, 2, 39, 105, 55, 6, 132, 8, 1, 167, 255, 239, 3]
abbrev dktX9_odds_2 : List UInt8 := dkwX9_odds_2 ++ dktX9_odds_3
def dkwX9_odds_1 : List UInt8 := [153, 0, 12, 29, 3, 4, 184, 1, 197, 154, 0, 7, 20, 2, 37, 173, 9, 55, 4, 10, 55, 6, 3]
abbrev dktX9_odds_1 : List UInt8 := dkwX9_odds_1 ++ dktX9_odds_2
def dkwX9_odds_0 : List UInt8 := [42, 27, 182, 1, 201, 153, 0, 30, 42, 27, 182, 1, 213, 153, 0, 22, 28, 3, 16, 6, 184, 1, 197]
abbrev dktX9_odds_0 : List UInt8 := dkwX9_odds_0 ++ dktX9_odds_1
theorem dksX9_odds_0 : cX9_odds.data.toList.drop 0 = dktX9_odds_0 := by decide +kernel
theorem dksX9_odds_1 : cX9_odds.data.toList.drop 23 = dktX9_odds_1 := dk_seg dksX9_odds_0 23 rfl rfl
theorem dksX9_odds_2 : cX9_odds.data.toList.drop 46 = dktX9_odds_2 := dk_seg dksX9_odds_1 23 rfl rfl
theorem dksX9_odds_3 : cX9_odds.data.toList.drop 69 = dktX9_odds_3 := dk_seg dksX9_odds_2 23 rfl rfl
theorem dksX9_odds_4 : cX9_odds.data.toList.drop 93 = dktX9_odds_4 := dk_seg dksX9_odds_3 24 rfl rfl
theorem dksX9_odds_5 : cX9_odds.data.toList.drop 115 = dktX9_odds_5 := dk_seg dksX9_odds_4 22 rfl rfl
theorem dksX9_odds_6 : cX9_odds.data.toList.drop 137 = dktX9_odds_6 := dk_seg dksX9_odds_5 22 rfl rfl
theorem dksX9_odds_7 : cX9_odds.data.toList.drop 160 = dktX9_odds_7 := dk_seg dksX9_odds_6 23 rfl rfl
theorem dX9_odds_0 : decode cX9_odds 0 = .ok (.aload_n 0, 1) := dk_42 (dk_at dksX9_odds_0 0 rfl rfl)
theorem dX9_odds_1 : decode cX9_odds 1 = .ok (.iload_n 1, 1) := dk_27 (dk_at dksX9_odds_0 1 rfl rfl)
theorem dX9_odds_2 : decode cX9_odds 2 = .ok (.invokevirtual 457, 3) := dk_182 1 201 (dk_at dksX9_odds_0 2 rfl rfl)
theorem dX9_odds_5 : decode cX9_odds 5 = .ok (.ifCond .eq 30, 3) := dk_153 0 30 (dk_at dksX9_odds_0 5 rfl rfl)
theorem dX9_odds_8 : decode cX9_odds 8 = .ok (.aload_n 0, 1) := dk_42 (dk_at dksX9_odds_0 8 rfl rfl)
theorem dX9_odds_9 : decode cX9_odds 9 = .ok (.iload_n 1, 1) := dk_27 (dk_at dksX9_odds_0 9 rfl rfl)
theorem dX9_odds_10 : decode cX9_odds 10 = .ok (.invokevirtual 469, 3) := dk_182 1 213 (dk_at dksX9_odds_0 10 rfl rfl)
theorem dX9_odds_13 : decode cX9_odds 13 = .ok (.ifCond .eq 22, 3) := dk_153 0 22 (dk_at dksX9_odds_0 13 rfl rfl)
theorem dX9_odds_16 : decode cX9_odds 16 = .ok (.iload_n 2, 1) := dk_28 (dk_at dksX9_odds_0 16 rfl rfl)
theorem dX9_odds_17 : decode cX9_odds 17 = .ok (.iconst 0, 1) := dk_3 (dk_at dksX9_odds_0 17 rfl rfl)
theorem dX9_odds_18 : decode cX9_odds 18 = .ok (.bipush 6, 2) := dk_16 6 (dk_at dksX9_odds_0 18 rfl rfl)
theorem dX9_odds_20 : decode cX9_odds 20 = .ok (.invokestatic 453, 3) := dk_184 1 197 (dk_at dksX9_odds_0 20 rfl rfl)
theorem dX9_odds_23 : decode cX9_odds 23 = .ok (.ifCond .eq 12, 3) := dk_153 0 12 (dk_at dksX9_odds_1 0 rfl rfl)
theorem dX9_odds_26 : decode cX9_odds 26 = .ok (.iload_n 3, 1) := dk_29 (dk_at dksX9_odds_1 3 rfl rfl)
theorem dX9_odds_27 : decode cX9_odds 27 = .ok (.iconst 0, 1) := dk_3 (dk_at dksX9_odds_1 4 rfl rfl)
theorem dX9_odds_28 : decode cX9_odds 28 = .ok (.iconst 1, 1) := dk_4 (dk_at dksX9_odds_1 5 rfl rfl)
theorem dX9_odds_29 : decode cX9_odds 29 = .ok (.invokestatic 453, 3) := dk_184 1 197 (dk_at dksX9_odds_1 6 rfl rfl)
theorem dX9_odds_32 : decode cX9_odds 32 = .ok (.ifCond .ne 7, 3) := dk_154 0 7 (dk_at dksX9_odds_1 9 rfl rfl)
theorem dX9_odds_35 : decode cX9_odds 35 = .ok (.ldc2_w 549, 3) := dk_20 2 37 (dk_at dksX9_odds_1 12 rfl rfl)
theorem dX9_odds_38 : decode cX9_odds 38 = .ok (.lreturn, 1) := dk_173 (dk_at dksX9_odds_1 15 rfl rfl)
theorem dX9_odds_39 : decode cX9_odds 39 = .ok (.lconst 0, 1) := dk_9 (dk_at dksX9_odds_1 16 rfl rfl)
theorem dX9_odds_40 : decode cX9_odds 40 = .ok (.lstore 4, 2) := dk_55 4 (dk_at dksX9_odds_1 17 rfl rfl)
theorem dX9_odds_42 : decode cX9_odds 42 = .ok (.lconst 1, 1) := dk_10 (dk_at dksX9_odds_1 19 rfl rfl)
theorem dX9_odds_43 : decode cX9_odds 43 = .ok (.lstore 6, 2) := dk_55 6 (dk_at dksX9_odds_1 20 rfl rfl)
theorem dX9_odds_45 : decode cX9_odds 45 = .ok (.iconst 0, 1) := dk_3 (dk_at dksX9_odds_1 22 rfl rfl)
theorem dX9_odds_46 : decode cX9_odds 46 = .ok (.istore 8, 2) := dk_54 8 (dk_at dksX9_odds_2 0 rfl rfl)
theorem dX9_odds_48 : decode cX9_odds 48 = .ok (.iload 8, 2) := dk_21 8 (dk_at dksX9_odds_2 2 rfl rfl)
theorem dX9_odds_50 : decode cX9_odds 50 = .ok (.iload_n 2, 1) := dk_28 (dk_at dksX9_odds_2 4 rfl rfl)
theorem dX9_odds_51 : decode cX9_odds 51 = .ok (.if_icmp .ge 17, 3) := dk_162 0 17 (dk_at dksX9_odds_2 5 rfl rfl)
theorem dX9_odds_54 : decode cX9_odds 54 = .ok (.lload 6, 2) := dk_22 6 (dk_at dksX9_odds_2 8 rfl rfl)
theorem dX9_odds_56 : decode cX9_odds 56 = .ok (.ldc2_w 551, 3) := dk_20 2 39 (dk_at dksX9_odds_2 10 rfl rfl)
theorem dX9_odds_59 : decode cX9_odds 59 = .ok (.lmul, 1) := dk_105 (dk_at dksX9_odds_2 13 rfl rfl)
theorem dX9_odds_60 : decode cX9_odds 60 = .ok (.lstore 6, 2) := dk_55 6 (dk_at dksX9_odds_2 14 rfl rfl)
theorem dX9_odds_62 : decode cX9_odds 62 = .ok (.iinc 8 1, 3) := dk_132 8 1 (dk_at dksX9_odds_2 16 rfl rfl)
theorem dX9_odds_65 : decode cX9_odds 65 = .ok (.goto (-17), 3) := dk_167 255 239 (dk_at dksX9_odds_2 19 rfl rfl)
theorem dX9_odds_68 : decode cX9_odds 68 = .ok (.iconst 0, 1) := dk_3 (dk_at dksX9_odds_2 22 rfl rfl)
theorem dX9_odds_69 : decode cX9_odds 69 = .ok (.istore 8, 2) := dk_54 8 (dk_at dksX9_odds_3 0 rfl rfl)
theorem dX9_odds_71 : decode cX9_odds 71 = .ok (.iload 8, 2) := dk_21 8 (dk_at dksX9_odds_3 2 rfl rfl)
theorem dX9_odds_73 : decode cX9_odds 73 = .ok (.iconst 1, 1) := dk_4 (dk_at dksX9_odds_3 4 rfl rfl)
theorem dX9_odds_74 : decode cX9_odds 74 = .ok (.iload_n 2, 1) := dk_28 (dk_at dksX9_odds_3 5 rfl rfl)
theorem dX9_odds_75 : decode cX9_odds 75 = .ok (.ishl, 1) := dk_120 (dk_at dksX9_odds_3 6 rfl rfl)
theorem dX9_odds_76 : decode cX9_odds 76 = .ok (.if_icmp .ge 80, 3) := dk_162 0 80 (dk_at dksX9_odds_3 7 rfl rfl)
theorem dX9_odds_79 : decode cX9_odds 79 = .ok (.aload_n 0, 1) := dk_42 (dk_at dksX9_odds_3 10 rfl rfl)
theorem dX9_odds_80 : decode cX9_odds 80 = .ok (.iload_n 1, 1) := dk_27 (dk_at dksX9_odds_3 11 rfl rfl)
theorem dX9_odds_81 : decode cX9_odds 81 = .ok (.iload_n 2, 1) := dk_28 (dk_at dksX9_odds_3 12 rfl rfl)
theorem dX9_odds_82 : decode cX9_odds 82 = .ok (.iload 8, 2) := dk_21 8 (dk_at dksX9_odds_3 13 rfl rfl)
theorem dX9_odds_84 : decode cX9_odds 84 = .ok (.invokevirtual 553, 3) := dk_182 2 41 (dk_at dksX9_odds_3 15 rfl rfl)
theorem dX9_odds_87 : decode cX9_odds 87 = .ok (.ifCond .ne 6, 3) := dk_154 0 6 (dk_at dksX9_odds_3 18 rfl rfl)
theorem dX9_odds_90 : decode cX9_odds 90 = .ok (.goto 60, 3) := dk_167 0 60 (dk_at dksX9_odds_3 21 rfl rfl)
theorem dX9_odds_93 : decode cX9_odds 93 = .ok (.lconst 1, 1) := dk_10 (dk_at dksX9_odds_4 0 rfl rfl)
theorem dX9_odds_94 : decode cX9_odds 94 = .ok (.lstore 9, 2) := dk_55 9 (dk_at dksX9_odds_4 1 rfl rfl)
theorem dX9_odds_96 : decode cX9_odds 96 = .ok (.iconst 0, 1) := dk_3 (dk_at dksX9_odds_4 3 rfl rfl)
theorem dX9_odds_97 : decode cX9_odds 97 = .ok (.istore 11, 2) := dk_54 11 (dk_at dksX9_odds_4 4 rfl rfl)
theorem dX9_odds_99 : decode cX9_odds 99 = .ok (.iload 11, 2) := dk_21 11 (dk_at dksX9_odds_4 6 rfl rfl)
theorem dX9_odds_101 : decode cX9_odds 101 = .ok (.iload_n 2, 1) := dk_28 (dk_at dksX9_odds_4 8 rfl rfl)
theorem dX9_odds_102 : decode cX9_odds 102 = .ok (.if_icmp .ge 41, 3) := dk_162 0 41 (dk_at dksX9_odds_4 9 rfl rfl)
theorem dX9_odds_105 : decode cX9_odds 105 = .ok (.lload 9, 2) := dk_22 9 (dk_at dksX9_odds_4 12 rfl rfl)
theorem dX9_odds_107 : decode cX9_odds 107 = .ok (.iload 8, 2) := dk_21 8 (dk_at dksX9_odds_4 14 rfl rfl)
theorem dX9_odds_109 : decode cX9_odds 109 = .ok (.iload 11, 2) := dk_21 11 (dk_at dksX9_odds_4 16 rfl rfl)
theorem dX9_odds_111 : decode cX9_odds 111 = .ok (.ishr, 1) := dk_122 (dk_at dksX9_odds_4 18 rfl rfl)
theorem dX9_odds_112 : decode cX9_odds 112 = .ok (.iconst 1, 1) := dk_4 (dk_at dksX9_odds_4 19 rfl rfl)
theorem dX9_odds_113 : decode cX9_odds 113 = .ok (.iand, 1) := dk_126 (dk_at dksX9_odds_4 20 rfl rfl)
theorem dX9_odds_114 : decode cX9_odds 114 = .ok (.iconst 1, 1) := dk_4 (dk_at dksX9_odds_4 21 rfl rfl)
theorem dX9_odds_115 : decode cX9_odds 115 = .ok (.if_icmp .ne 11, 3) := dk_160 0 11 (dk_at dksX9_odds_5 0 rfl rfl)
theorem dX9_odds_118 : decode cX9_odds 118 = .ok (.aload_n 0, 1) := dk_42 (dk_at dksX9_odds_5 3 rfl rfl)
theorem dX9_odds_119 : decode cX9_odds 119 = .ok (.getfield 435, 3) := dk_180 1 179 (dk_at dksX9_odds_5 4 rfl rfl)
theorem dX9_odds_122 : decode cX9_odds 122 = .ok (.i2l, 1) := dk_133 (dk_at dksX9_odds_5 7 rfl rfl)
theorem dX9_odds_123 : decode cX9_odds 123 = .ok (.goto 11, 3) := dk_167 0 11 (dk_at dksX9_odds_5 8 rfl rfl)
theorem dX9_odds_126 : decode cX9_odds 126 = .ok (.bipush 100, 2) := dk_16 100 (dk_at dksX9_odds_5 11 rfl rfl)
theorem dX9_odds_128 : decode cX9_odds 128 = .ok (.aload_n 0, 1) := dk_42 (dk_at dksX9_odds_5 13 rfl rfl)
theorem dX9_odds_129 : decode cX9_odds 129 = .ok (.getfield 435, 3) := dk_180 1 179 (dk_at dksX9_odds_5 14 rfl rfl)
theorem dX9_odds_132 : decode cX9_odds 132 = .ok (.isub, 1) := dk_100 (dk_at dksX9_odds_5 17 rfl rfl)
theorem dX9_odds_133 : decode cX9_odds 133 = .ok (.i2l, 1) := dk_133 (dk_at dksX9_odds_5 18 rfl rfl)
theorem dX9_odds_134 : decode cX9_odds 134 = .ok (.lmul, 1) := dk_105 (dk_at dksX9_odds_5 19 rfl rfl)
theorem dX9_odds_135 : decode cX9_odds 135 = .ok (.lstore 9, 2) := dk_55 9 (dk_at dksX9_odds_5 20 rfl rfl)
theorem dX9_odds_137 : decode cX9_odds 137 = .ok (.iinc 11 1, 3) := dk_132 11 1 (dk_at dksX9_odds_6 0 rfl rfl)
theorem dX9_odds_140 : decode cX9_odds 140 = .ok (.goto (-41), 3) := dk_167 255 215 (dk_at dksX9_odds_6 3 rfl rfl)
theorem dX9_odds_143 : decode cX9_odds 143 = .ok (.lload 4, 2) := dk_22 4 (dk_at dksX9_odds_6 6 rfl rfl)
theorem dX9_odds_145 : decode cX9_odds 145 = .ok (.lload 9, 2) := dk_22 9 (dk_at dksX9_odds_6 8 rfl rfl)
theorem dX9_odds_147 : decode cX9_odds 147 = .ok (.ladd, 1) := dk_97 (dk_at dksX9_odds_6 10 rfl rfl)
theorem dX9_odds_148 : decode cX9_odds 148 = .ok (.lstore 4, 2) := dk_55 4 (dk_at dksX9_odds_6 11 rfl rfl)
theorem dX9_odds_150 : decode cX9_odds 150 = .ok (.iinc 8 1, 3) := dk_132 8 1 (dk_at dksX9_odds_6 13 rfl rfl)
theorem dX9_odds_153 : decode cX9_odds 153 = .ok (.goto (-82), 3) := dk_167 255 174 (dk_at dksX9_odds_6 16 rfl rfl)
theorem dX9_odds_156 : decode cX9_odds 156 = .ok (.lload 6, 2) := dk_22 6 (dk_at dksX9_odds_6 19 rfl rfl)
theorem dX9_odds_158 : decode cX9_odds 158 = .ok (.lload 4, 2) := dk_22 4 (dk_at dksX9_odds_6 21 rfl rfl)
theorem dX9_odds_160 : decode cX9_odds 160 = .ok (.invokestatic 556, 3) := dk_184 2 44 (dk_at dksX9_odds_7 0 rfl rfl)
theorem dX9_odds_163 : decode cX9_odds 163 = .ok (.lstore 8, 2) := dk_55 8 (dk_at dksX9_odds_7 3 rfl rfl)
theorem dX9_odds_165 : decode cX9_odds 165 = .ok (.iload_n 3, 1) := dk_29 (dk_at dksX9_odds_7 5 rfl rfl)
theorem dX9_odds_166 : decode cX9_odds 166 = .ok (.ifCond .ne 11, 3) := dk_154 0 11 (dk_at dksX9_odds_7 6 rfl rfl)
theorem dX9_odds_169 : decode cX9_odds 169 = .ok (.lload 4, 2) := dk_22 4 (dk_at dksX9_odds_7 9 rfl rfl)
theorem dX9_odds_171 : decode cX9_odds 171 = .ok (.lload 8, 2) := dk_22 8 (dk_at dksX9_odds_7 11 rfl rfl)
theorem dX9_odds_173 : decode cX9_odds 173 = .ok (.ldiv, 1) := dk_109 (dk_at dksX9_odds_7 13 rfl rfl)
theorem dX9_odds_174 : decode cX9_odds 174 = .ok (.goto 8, 3) := dk_167 0 8 (dk_at dksX9_odds_7 14 rfl rfl)
theorem dX9_odds_177 : decode cX9_odds 177 = .ok (.lload 6, 2) := dk_22 6 (dk_at dksX9_odds_7 17 rfl rfl)
theorem dX9_odds_179 : decode cX9_odds 179 = .ok (.lload 8, 2) := dk_22 8 (dk_at dksX9_odds_7 19 rfl rfl)
theorem dX9_odds_181 : decode cX9_odds 181 = .ok (.ldiv, 1) := dk_109 (dk_at dksX9_odds_7 21 rfl rfl)
theorem dX9_odds_182 : decode cX9_odds 182 = .ok (.lreturn, 1) := dk_173 (dk_at dksX9_odds_7 22 rfl rfl)
abbrev cX9_threadBy : ByteArray := prog_24_method_84_code
def yX9_threadBy : MethodName := ⟨RX9, "threadBy", "(III)I"⟩
def dkwX9_threadBy_3 : List UInt8 := [21, 4, 172]
abbrev dktX9_threadBy_3 : List UInt8 := dkwX9_threadBy_3 ++ []
def dkwX9_threadBy_2 : List UInt8 := [126, 42, 180, 0, 118, 16, 20, 46, 21, 5, 96, 182, 1, 225, 100, 54, 4, 132, 5, 1, 167, 255, 204]
abbrev dktX9_threadBy_2 : List UInt8 := dkwX9_threadBy_2 ++ dktX9_threadBy_3
def dkwX9_threadBy_1 : List UInt8 := [158, 0, 47, 21, 4, 42, 21, 4, 42, 180, 0, 60, 42, 180, 0, 93, 27, 46, 46, 29, 21, 5, 122, 4]
abbrev dktX9_threadBy_1 : List UInt8 := dkwX9_threadBy_1 ++ dktX9_threadBy_2
def dkwX9_threadBy_0 : List UInt8 := [42, 180, 0, 118, 16, 10, 27, 96, 46, 54, 4, 3, 54, 5, 21, 5, 28, 162, 0, 52, 21, 4]
abbrev dktX9_threadBy_0 : List UInt8 := dkwX9_threadBy_0 ++ dktX9_threadBy_1
theorem dksX9_threadBy_0 : cX9_threadBy.data.toList.drop 0 = dktX9_threadBy_0 := by decide +kernel
theorem dksX9_threadBy_1 : cX9_threadBy.data.toList.drop 22 = dktX9_threadBy_1 := dk_seg dksX9_threadBy_0 22 rfl rfl
theorem dksX9_threadBy_2 : cX9_threadBy.data.toList.drop 46 = dktX9_threadBy_2 := dk_seg dksX9_threadBy_1 24 rfl rfl
theorem dksX9_threadBy_3 : cX9_threadBy.data.toList.drop 69 = dktX9_threadBy_3 := dk_seg dksX9_threadBy_2 23 rfl rfl
theorem dX9_threadBy_0 : decode cX9_threadBy 0 = .ok (.aload_n 0, 1) := dk_42 (dk_at dksX9_threadBy_0 0 rfl rfl)
theorem dX9_threadBy_1 : decode cX9_threadBy 1 = .ok (.getfield 118, 3) := dk_180 0 118 (dk_at dksX9_threadBy_0 1 rfl rfl)
theorem dX9_threadBy_4 : decode cX9_threadBy 4 = .ok (.bipush 10, 2) := dk_16 10 (dk_at dksX9_threadBy_0 4 rfl rfl)
theorem dX9_threadBy_6 : decode cX9_threadBy 6 = .ok (.iload_n 1, 1) := dk_27 (dk_at dksX9_threadBy_0 6 rfl rfl)
theorem dX9_threadBy_7 : decode cX9_threadBy 7 = .ok (.iadd, 1) := dk_96 (dk_at dksX9_threadBy_0 7 rfl rfl)
theorem dX9_threadBy_8 : decode cX9_threadBy 8 = .ok (.iaload, 1) := dk_46 (dk_at dksX9_threadBy_0 8 rfl rfl)
theorem dX9_threadBy_9 : decode cX9_threadBy 9 = .ok (.istore 4, 2) := dk_54 4 (dk_at dksX9_threadBy_0 9 rfl rfl)
theorem dX9_threadBy_11 : decode cX9_threadBy 11 = .ok (.iconst 0, 1) := dk_3 (dk_at dksX9_threadBy_0 11 rfl rfl)
theorem dX9_threadBy_12 : decode cX9_threadBy 12 = .ok (.istore 5, 2) := dk_54 5 (dk_at dksX9_threadBy_0 12 rfl rfl)
theorem dX9_threadBy_14 : decode cX9_threadBy 14 = .ok (.iload 5, 2) := dk_21 5 (dk_at dksX9_threadBy_0 14 rfl rfl)
theorem dX9_threadBy_16 : decode cX9_threadBy 16 = .ok (.iload_n 2, 1) := dk_28 (dk_at dksX9_threadBy_0 16 rfl rfl)
theorem dX9_threadBy_17 : decode cX9_threadBy 17 = .ok (.if_icmp .ge 52, 3) := dk_162 0 52 (dk_at dksX9_threadBy_0 17 rfl rfl)
theorem dX9_threadBy_20 : decode cX9_threadBy 20 = .ok (.iload 4, 2) := dk_21 4 (dk_at dksX9_threadBy_0 20 rfl rfl)
theorem dX9_threadBy_22 : decode cX9_threadBy 22 = .ok (.ifCond .le 47, 3) := dk_158 0 47 (dk_at dksX9_threadBy_1 0 rfl rfl)
theorem dX9_threadBy_25 : decode cX9_threadBy 25 = .ok (.iload 4, 2) := dk_21 4 (dk_at dksX9_threadBy_1 3 rfl rfl)
theorem dX9_threadBy_27 : decode cX9_threadBy 27 = .ok (.aload_n 0, 1) := dk_42 (dk_at dksX9_threadBy_1 5 rfl rfl)
theorem dX9_threadBy_28 : decode cX9_threadBy 28 = .ok (.iload 4, 2) := dk_21 4 (dk_at dksX9_threadBy_1 6 rfl rfl)
theorem dX9_threadBy_30 : decode cX9_threadBy 30 = .ok (.aload_n 0, 1) := dk_42 (dk_at dksX9_threadBy_1 8 rfl rfl)
theorem dX9_threadBy_31 : decode cX9_threadBy 31 = .ok (.getfield 60, 3) := dk_180 0 60 (dk_at dksX9_threadBy_1 9 rfl rfl)
theorem dX9_threadBy_34 : decode cX9_threadBy 34 = .ok (.aload_n 0, 1) := dk_42 (dk_at dksX9_threadBy_1 12 rfl rfl)
theorem dX9_threadBy_35 : decode cX9_threadBy 35 = .ok (.getfield 93, 3) := dk_180 0 93 (dk_at dksX9_threadBy_1 13 rfl rfl)
theorem dX9_threadBy_38 : decode cX9_threadBy 38 = .ok (.iload_n 1, 1) := dk_27 (dk_at dksX9_threadBy_1 16 rfl rfl)
theorem dX9_threadBy_39 : decode cX9_threadBy 39 = .ok (.iaload, 1) := dk_46 (dk_at dksX9_threadBy_1 17 rfl rfl)
theorem dX9_threadBy_40 : decode cX9_threadBy 40 = .ok (.iaload, 1) := dk_46 (dk_at dksX9_threadBy_1 18 rfl rfl)
theorem dX9_threadBy_41 : decode cX9_threadBy 41 = .ok (.iload_n 3, 1) := dk_29 (dk_at dksX9_threadBy_1 19 rfl rfl)
theorem dX9_threadBy_42 : decode cX9_threadBy 42 = .ok (.iload 5, 2) := dk_21 5 (dk_at dksX9_threadBy_1 20 rfl rfl)
theorem dX9_threadBy_44 : decode cX9_threadBy 44 = .ok (.ishr, 1) := dk_122 (dk_at dksX9_threadBy_1 22 rfl rfl)
theorem dX9_threadBy_45 : decode cX9_threadBy 45 = .ok (.iconst 1, 1) := dk_4 (dk_at dksX9_threadBy_1 23 rfl rfl)
theorem dX9_threadBy_46 : decode cX9_threadBy 46 = .ok (.iand, 1) := dk_126 (dk_at dksX9_threadBy_2 0 rfl rfl)
theorem dX9_threadBy_47 : decode cX9_threadBy 47 = .ok (.aload_n 0, 1) := dk_42 (dk_at dksX9_threadBy_2 1 rfl rfl)
theorem dX9_threadBy_48 : decode cX9_threadBy 48 = .ok (.getfield 118, 3) := dk_180 0 118 (dk_at dksX9_threadBy_2 2 rfl rfl)
theorem dX9_threadBy_51 : decode cX9_threadBy 51 = .ok (.bipush 20, 2) := dk_16 20 (dk_at dksX9_threadBy_2 5 rfl rfl)
theorem dX9_threadBy_53 : decode cX9_threadBy 53 = .ok (.iaload, 1) := dk_46 (dk_at dksX9_threadBy_2 7 rfl rfl)
theorem dX9_threadBy_54 : decode cX9_threadBy 54 = .ok (.iload 5, 2) := dk_21 5 (dk_at dksX9_threadBy_2 8 rfl rfl)
theorem dX9_threadBy_56 : decode cX9_threadBy 56 = .ok (.iadd, 1) := dk_96 (dk_at dksX9_threadBy_2 10 rfl rfl)
theorem dX9_threadBy_57 : decode cX9_threadBy 57 = .ok (.invokevirtual 481, 3) := dk_182 1 225 (dk_at dksX9_threadBy_2 11 rfl rfl)
theorem dX9_threadBy_60 : decode cX9_threadBy 60 = .ok (.isub, 1) := dk_100 (dk_at dksX9_threadBy_2 14 rfl rfl)
theorem dX9_threadBy_61 : decode cX9_threadBy 61 = .ok (.istore 4, 2) := dk_54 4 (dk_at dksX9_threadBy_2 15 rfl rfl)
theorem dX9_threadBy_63 : decode cX9_threadBy 63 = .ok (.iinc 5 1, 3) := dk_132 5 1 (dk_at dksX9_threadBy_2 17 rfl rfl)
theorem dX9_threadBy_66 : decode cX9_threadBy 66 = .ok (.goto (-52), 3) := dk_167 255 204 (dk_at dksX9_threadBy_2 20 rfl rfl)
theorem dX9_threadBy_69 : decode cX9_threadBy 69 = .ok (.iload 4, 2) := dk_21 4 (dk_at dksX9_threadBy_3 0 rfl rfl)
theorem dX9_threadBy_71 : decode cX9_threadBy 71 = .ok (.ireturn, 1) := dk_172 (dk_at dksX9_threadBy_3 2 rfl rfl)
abbrev cX9_common : ByteArray := prog_24_method_87_code
def yX9_common : MethodName := ⟨RX9, "common", "(JJ)J"⟩
def dkwX9_common_1 : List UInt8 := [22, 8, 55, 6, 167, 255, 234, 22, 4, 173]
abbrev dktX9_common_1 : List UInt8 := dkwX9_common_1 ++ []
def dkwX9_common_0 : List UInt8 := [30, 55, 4, 32, 55, 6, 22, 6, 9, 148, 158, 0, 21, 22, 4, 22, 6, 113, 55, 8, 22, 6, 55, 4]
abbrev dktX9_common_0 : List UInt8 := dkwX9_common_0 ++ dktX9_common_1
theorem dksX9_common_0 : cX9_common.data.toList.drop 0 = dktX9_common_0 := by decide +kernel
theorem dksX9_common_1 : cX9_common.data.toList.drop 24 = dktX9_common_1 := dk_seg dksX9_common_0 24 rfl rfl
theorem dX9_common_0 : decode cX9_common 0 = .ok (.lload_n 0, 1) := dk_30 (dk_at dksX9_common_0 0 rfl rfl)
theorem dX9_common_1 : decode cX9_common 1 = .ok (.lstore 4, 2) := dk_55 4 (dk_at dksX9_common_0 1 rfl rfl)
theorem dX9_common_3 : decode cX9_common 3 = .ok (.lload_n 2, 1) := dk_32 (dk_at dksX9_common_0 3 rfl rfl)
theorem dX9_common_4 : decode cX9_common 4 = .ok (.lstore 6, 2) := dk_55 6 (dk_at dksX9_common_0 4 rfl rfl)
theorem dX9_common_6 : decode cX9_common 6 = .ok (.lload 6, 2) := dk_22 6 (dk_at dksX9_common_0 6 rfl rfl)
theorem dX9_common_8 : decode cX9_common 8 = .ok (.lconst 0, 1) := dk_9 (dk_at dksX9_common_0 8 rfl rfl)
theorem dX9_common_9 : decode cX9_common 9 = .ok (.lcmp, 1) := dk_148 (dk_at dksX9_common_0 9 rfl rfl)
theorem dX9_common_10 : decode cX9_common 10 = .ok (.ifCond .le 21, 3) := dk_158 0 21 (dk_at dksX9_common_0 10 rfl rfl)
theorem dX9_common_13 : decode cX9_common 13 = .ok (.lload 4, 2) := dk_22 4 (dk_at dksX9_common_0 13 rfl rfl)
theorem dX9_common_15 : decode cX9_common 15 = .ok (.lload 6, 2) := dk_22 6 (dk_at dksX9_common_0 15 rfl rfl)
theorem dX9_common_17 : decode cX9_common 17 = .ok (.lrem, 1) := dk_113 (dk_at dksX9_common_0 17 rfl rfl)
theorem dX9_common_18 : decode cX9_common 18 = .ok (.lstore 8, 2) := dk_55 8 (dk_at dksX9_common_0 18 rfl rfl)
theorem dX9_common_20 : decode cX9_common 20 = .ok (.lload 6, 2) := dk_22 6 (dk_at dksX9_common_0 20 rfl rfl)
theorem dX9_common_22 : decode cX9_common 22 = .ok (.lstore 4, 2) := dk_55 4 (dk_at dksX9_common_0 22 rfl rfl)
theorem dX9_common_24 : decode cX9_common 24 = .ok (.lload 8, 2) := dk_22 8 (dk_at dksX9_common_1 0 rfl rfl)
theorem dX9_common_26 : decode cX9_common 26 = .ok (.lstore 6, 2) := dk_55 6 (dk_at dksX9_common_1 2 rfl rfl)
theorem dX9_common_28 : decode cX9_common 28 = .ok (.goto (-22), 3) := dk_167 255 234 (dk_at dksX9_common_1 4 rfl rfl)
theorem dX9_common_31 : decode cX9_common 31 = .ok (.lload 4, 2) := dk_22 4 (dk_at dksX9_common_1 7 rfl rfl)
theorem dX9_common_33 : decode cX9_common 33 = .ok (.lreturn, 1) := dk_173 (dk_at dksX9_common_1 9 rfl rfl)
abbrev cX9_first : ByteArray := prog_24_method_90_code
def yX9_first : MethodName := ⟨RX9, "first", "(I)I"⟩
def dkwX9_first_3 : List UInt8 := [167, 255, 206, 28, 156, 0, 7, 2, 167, 0, 12, 27, 154, 0, 7, 28, 167, 0, 4, 29, 172]
abbrev dktX9_first_3 : List UInt8 := dkwX9_first_3 ++ []
def dkwX9_first_2 : List UInt8 := [19, 2, 48, 54, 5, 21, 5, 29, 161, 0, 6, 167, 0, 9, 21, 4, 61, 21, 5, 62, 132, 4, 1]
abbrev dktX9_first_2 : List UInt8 := dkwX9_first_2 ++ dktX9_first_3
def dkwX9_first_1 : List UInt8 := [180, 1, 173, 162, 0, 47, 42, 21, 4, 182, 1, 213, 153, 0, 12, 42, 21, 4, 182, 2, 49, 167, 0, 6]
abbrev dktX9_first_1 : List UInt8 := dkwX9_first_1 ++ dktX9_first_2
def dkwX9_first_0 : List UInt8 := [27, 3, 4, 184, 1, 197, 154, 0, 5, 2, 172, 2, 61, 19, 2, 48, 62, 3, 54, 4, 21, 4, 42]
abbrev dktX9_first_0 : List UInt8 := dkwX9_first_0 ++ dktX9_first_1
theorem dksX9_first_0 : cX9_first.data.toList.drop 0 = dktX9_first_0 := by decide +kernel
theorem dksX9_first_1 : cX9_first.data.toList.drop 23 = dktX9_first_1 := dk_seg dksX9_first_0 23 rfl rfl
theorem dksX9_first_2 : cX9_first.data.toList.drop 47 = dktX9_first_2 := dk_seg dksX9_first_1 24 rfl rfl
theorem dksX9_first_3 : cX9_first.data.toList.drop 70 = dktX9_first_3 := dk_seg dksX9_first_2 23 rfl rfl
theorem dX9_first_0 : decode cX9_first 0 = .ok (.iload_n 1, 1) := dk_27 (dk_at dksX9_first_0 0 rfl rfl)
theorem dX9_first_1 : decode cX9_first 1 = .ok (.iconst 0, 1) := dk_3 (dk_at dksX9_first_0 1 rfl rfl)
theorem dX9_first_2 : decode cX9_first 2 = .ok (.iconst 1, 1) := dk_4 (dk_at dksX9_first_0 2 rfl rfl)
theorem dX9_first_3 : decode cX9_first 3 = .ok (.invokestatic 453, 3) := dk_184 1 197 (dk_at dksX9_first_0 3 rfl rfl)
theorem dX9_first_6 : decode cX9_first 6 = .ok (.ifCond .ne 5, 3) := dk_154 0 5 (dk_at dksX9_first_0 6 rfl rfl)
theorem dX9_first_9 : decode cX9_first 9 = .ok (.iconst (-1), 1) := dk_2 (dk_at dksX9_first_0 9 rfl rfl)
theorem dX9_first_10 : decode cX9_first 10 = .ok (.ireturn, 1) := dk_172 (dk_at dksX9_first_0 10 rfl rfl)
theorem dX9_first_11 : decode cX9_first 11 = .ok (.iconst (-1), 1) := dk_2 (dk_at dksX9_first_0 11 rfl rfl)
theorem dX9_first_12 : decode cX9_first 12 = .ok (.istore_n 2, 1) := dk_61 (dk_at dksX9_first_0 12 rfl rfl)
theorem dX9_first_13 : decode cX9_first 13 = .ok (.ldc_w 560, 3) := dk_19 2 48 (dk_at dksX9_first_0 13 rfl rfl)
theorem dX9_first_16 : decode cX9_first 16 = .ok (.istore_n 3, 1) := dk_62 (dk_at dksX9_first_0 16 rfl rfl)
theorem dX9_first_17 : decode cX9_first 17 = .ok (.iconst 0, 1) := dk_3 (dk_at dksX9_first_0 17 rfl rfl)
theorem dX9_first_18 : decode cX9_first 18 = .ok (.istore 4, 2) := dk_54 4 (dk_at dksX9_first_0 18 rfl rfl)
theorem dX9_first_20 : decode cX9_first 20 = .ok (.iload 4, 2) := dk_21 4 (dk_at dksX9_first_0 20 rfl rfl)
theorem dX9_first_22 : decode cX9_first 22 = .ok (.aload_n 0, 1) := dk_42 (dk_at dksX9_first_0 22 rfl rfl)
theorem dX9_first_23 : decode cX9_first 23 = .ok (.getfield 429, 3) := dk_180 1 173 (dk_at dksX9_first_1 0 rfl rfl)
theorem dX9_first_26 : decode cX9_first 26 = .ok (.if_icmp .ge 47, 3) := dk_162 0 47 (dk_at dksX9_first_1 3 rfl rfl)
theorem dX9_first_29 : decode cX9_first 29 = .ok (.aload_n 0, 1) := dk_42 (dk_at dksX9_first_1 6 rfl rfl)
theorem dX9_first_30 : decode cX9_first 30 = .ok (.iload 4, 2) := dk_21 4 (dk_at dksX9_first_1 7 rfl rfl)
theorem dX9_first_32 : decode cX9_first 32 = .ok (.invokevirtual 469, 3) := dk_182 1 213 (dk_at dksX9_first_1 9 rfl rfl)
theorem dX9_first_35 : decode cX9_first 35 = .ok (.ifCond .eq 12, 3) := dk_153 0 12 (dk_at dksX9_first_1 12 rfl rfl)
theorem dX9_first_38 : decode cX9_first 38 = .ok (.aload_n 0, 1) := dk_42 (dk_at dksX9_first_1 15 rfl rfl)
theorem dX9_first_39 : decode cX9_first 39 = .ok (.iload 4, 2) := dk_21 4 (dk_at dksX9_first_1 16 rfl rfl)
theorem dX9_first_41 : decode cX9_first 41 = .ok (.invokevirtual 561, 3) := dk_182 2 49 (dk_at dksX9_first_1 18 rfl rfl)
theorem dX9_first_44 : decode cX9_first 44 = .ok (.goto 6, 3) := dk_167 0 6 (dk_at dksX9_first_1 21 rfl rfl)
theorem dX9_first_47 : decode cX9_first 47 = .ok (.ldc_w 560, 3) := dk_19 2 48 (dk_at dksX9_first_2 0 rfl rfl)
theorem dX9_first_50 : decode cX9_first 50 = .ok (.istore 5, 2) := dk_54 5 (dk_at dksX9_first_2 3 rfl rfl)
theorem dX9_first_52 : decode cX9_first 52 = .ok (.iload 5, 2) := dk_21 5 (dk_at dksX9_first_2 5 rfl rfl)
theorem dX9_first_54 : decode cX9_first 54 = .ok (.iload_n 3, 1) := dk_29 (dk_at dksX9_first_2 7 rfl rfl)
theorem dX9_first_55 : decode cX9_first 55 = .ok (.if_icmp .lt 6, 3) := dk_161 0 6 (dk_at dksX9_first_2 8 rfl rfl)
theorem dX9_first_58 : decode cX9_first 58 = .ok (.goto 9, 3) := dk_167 0 9 (dk_at dksX9_first_2 11 rfl rfl)
theorem dX9_first_61 : decode cX9_first 61 = .ok (.iload 4, 2) := dk_21 4 (dk_at dksX9_first_2 14 rfl rfl)
theorem dX9_first_63 : decode cX9_first 63 = .ok (.istore_n 2, 1) := dk_61 (dk_at dksX9_first_2 16 rfl rfl)
theorem dX9_first_64 : decode cX9_first 64 = .ok (.iload 5, 2) := dk_21 5 (dk_at dksX9_first_2 17 rfl rfl)
theorem dX9_first_66 : decode cX9_first 66 = .ok (.istore_n 3, 1) := dk_62 (dk_at dksX9_first_2 19 rfl rfl)
theorem dX9_first_67 : decode cX9_first 67 = .ok (.iinc 4 1, 3) := dk_132 4 1 (dk_at dksX9_first_2 20 rfl rfl)
theorem dX9_first_70 : decode cX9_first 70 = .ok (.goto (-50), 3) := dk_167 255 206 (dk_at dksX9_first_3 0 rfl rfl)
theorem dX9_first_73 : decode cX9_first 73 = .ok (.iload_n 2, 1) := dk_28 (dk_at dksX9_first_3 3 rfl rfl)
theorem dX9_first_74 : decode cX9_first 74 = .ok (.ifCond .ge 7, 3) := dk_156 0 7 (dk_at dksX9_first_3 4 rfl rfl)
theorem dX9_first_77 : decode cX9_first 77 = .ok (.iconst (-1), 1) := dk_2 (dk_at dksX9_first_3 7 rfl rfl)
theorem dX9_first_78 : decode cX9_first 78 = .ok (.goto 12, 3) := dk_167 0 12 (dk_at dksX9_first_3 8 rfl rfl)
theorem dX9_first_81 : decode cX9_first 81 = .ok (.iload_n 1, 1) := dk_27 (dk_at dksX9_first_3 11 rfl rfl)
theorem dX9_first_82 : decode cX9_first 82 = .ok (.ifCond .ne 7, 3) := dk_154 0 7 (dk_at dksX9_first_3 12 rfl rfl)
theorem dX9_first_85 : decode cX9_first 85 = .ok (.iload_n 2, 1) := dk_28 (dk_at dksX9_first_3 15 rfl rfl)
theorem dX9_first_86 : decode cX9_first 86 = .ok (.goto 4, 3) := dk_167 0 4 (dk_at dksX9_first_3 16 rfl rfl)
theorem dX9_first_89 : decode cX9_first 89 = .ok (.iload_n 3, 1) := dk_29 (dk_at dksX9_first_3 19 rfl rfl)
theorem dX9_first_90 : decode cX9_first 90 = .ok (.ireturn, 1) := dk_172 (dk_at dksX9_first_3 20 rfl rfl)
abbrev cX9_daysOf : ByteArray := prog_24_method_89_code
def yX9_daysOf : MethodName := ⟨RX9, "daysOf", "(I)I"⟩
def dkwX9_daysOf_2 : List UInt8 := [61, 28, 154, 0, 7, 29, 4, 96, 172, 132, 3, 1, 167, 255, 210, 19, 2, 48, 172]
abbrev dktX9_daysOf_2 : List UInt8 := dkwX9_daysOf_2 ++ []
def dkwX9_daysOf_1 : List UInt8 := [180, 0, 60, 42, 180, 0, 93, 27, 46, 46, 3, 42, 180, 0, 118, 16, 20, 46, 29, 96, 182, 1, 225, 100]
abbrev dktX9_daysOf_1 : List UInt8 := dkwX9_daysOf_1 ++ dktX9_daysOf_2
def dkwX9_daysOf_0 : List UInt8 := [42, 180, 0, 118, 16, 10, 27, 96, 46, 61, 3, 62, 29, 16, 60, 162, 0, 46, 28, 42, 28, 42]
abbrev dktX9_daysOf_0 : List UInt8 := dkwX9_daysOf_0 ++ dktX9_daysOf_1
theorem dksX9_daysOf_0 : cX9_daysOf.data.toList.drop 0 = dktX9_daysOf_0 := by decide +kernel
theorem dksX9_daysOf_1 : cX9_daysOf.data.toList.drop 22 = dktX9_daysOf_1 := dk_seg dksX9_daysOf_0 22 rfl rfl
theorem dksX9_daysOf_2 : cX9_daysOf.data.toList.drop 46 = dktX9_daysOf_2 := dk_seg dksX9_daysOf_1 24 rfl rfl
theorem dX9_daysOf_0 : decode cX9_daysOf 0 = .ok (.aload_n 0, 1) := dk_42 (dk_at dksX9_daysOf_0 0 rfl rfl)
theorem dX9_daysOf_1 : decode cX9_daysOf 1 = .ok (.getfield 118, 3) := dk_180 0 118 (dk_at dksX9_daysOf_0 1 rfl rfl)
theorem dX9_daysOf_4 : decode cX9_daysOf 4 = .ok (.bipush 10, 2) := dk_16 10 (dk_at dksX9_daysOf_0 4 rfl rfl)
theorem dX9_daysOf_6 : decode cX9_daysOf 6 = .ok (.iload_n 1, 1) := dk_27 (dk_at dksX9_daysOf_0 6 rfl rfl)
theorem dX9_daysOf_7 : decode cX9_daysOf 7 = .ok (.iadd, 1) := dk_96 (dk_at dksX9_daysOf_0 7 rfl rfl)
theorem dX9_daysOf_8 : decode cX9_daysOf 8 = .ok (.iaload, 1) := dk_46 (dk_at dksX9_daysOf_0 8 rfl rfl)
theorem dX9_daysOf_9 : decode cX9_daysOf 9 = .ok (.istore_n 2, 1) := dk_61 (dk_at dksX9_daysOf_0 9 rfl rfl)
theorem dX9_daysOf_10 : decode cX9_daysOf 10 = .ok (.iconst 0, 1) := dk_3 (dk_at dksX9_daysOf_0 10 rfl rfl)
theorem dX9_daysOf_11 : decode cX9_daysOf 11 = .ok (.istore_n 3, 1) := dk_62 (dk_at dksX9_daysOf_0 11 rfl rfl)
theorem dX9_daysOf_12 : decode cX9_daysOf 12 = .ok (.iload_n 3, 1) := dk_29 (dk_at dksX9_daysOf_0 12 rfl rfl)
theorem dX9_daysOf_13 : decode cX9_daysOf 13 = .ok (.bipush 60, 2) := dk_16 60 (dk_at dksX9_daysOf_0 13 rfl rfl)
theorem dX9_daysOf_15 : decode cX9_daysOf 15 = .ok (.if_icmp .ge 46, 3) := dk_162 0 46 (dk_at dksX9_daysOf_0 15 rfl rfl)
theorem dX9_daysOf_18 : decode cX9_daysOf 18 = .ok (.iload_n 2, 1) := dk_28 (dk_at dksX9_daysOf_0 18 rfl rfl)
theorem dX9_daysOf_19 : decode cX9_daysOf 19 = .ok (.aload_n 0, 1) := dk_42 (dk_at dksX9_daysOf_0 19 rfl rfl)
theorem dX9_daysOf_20 : decode cX9_daysOf 20 = .ok (.iload_n 2, 1) := dk_28 (dk_at dksX9_daysOf_0 20 rfl rfl)
theorem dX9_daysOf_21 : decode cX9_daysOf 21 = .ok (.aload_n 0, 1) := dk_42 (dk_at dksX9_daysOf_0 21 rfl rfl)
theorem dX9_daysOf_22 : decode cX9_daysOf 22 = .ok (.getfield 60, 3) := dk_180 0 60 (dk_at dksX9_daysOf_1 0 rfl rfl)
theorem dX9_daysOf_25 : decode cX9_daysOf 25 = .ok (.aload_n 0, 1) := dk_42 (dk_at dksX9_daysOf_1 3 rfl rfl)
theorem dX9_daysOf_26 : decode cX9_daysOf 26 = .ok (.getfield 93, 3) := dk_180 0 93 (dk_at dksX9_daysOf_1 4 rfl rfl)
theorem dX9_daysOf_29 : decode cX9_daysOf 29 = .ok (.iload_n 1, 1) := dk_27 (dk_at dksX9_daysOf_1 7 rfl rfl)
theorem dX9_daysOf_30 : decode cX9_daysOf 30 = .ok (.iaload, 1) := dk_46 (dk_at dksX9_daysOf_1 8 rfl rfl)
theorem dX9_daysOf_31 : decode cX9_daysOf 31 = .ok (.iaload, 1) := dk_46 (dk_at dksX9_daysOf_1 9 rfl rfl)
theorem dX9_daysOf_32 : decode cX9_daysOf 32 = .ok (.iconst 0, 1) := dk_3 (dk_at dksX9_daysOf_1 10 rfl rfl)
theorem dX9_daysOf_33 : decode cX9_daysOf 33 = .ok (.aload_n 0, 1) := dk_42 (dk_at dksX9_daysOf_1 11 rfl rfl)
theorem dX9_daysOf_34 : decode cX9_daysOf 34 = .ok (.getfield 118, 3) := dk_180 0 118 (dk_at dksX9_daysOf_1 12 rfl rfl)
theorem dX9_daysOf_37 : decode cX9_daysOf 37 = .ok (.bipush 20, 2) := dk_16 20 (dk_at dksX9_daysOf_1 15 rfl rfl)
theorem dX9_daysOf_39 : decode cX9_daysOf 39 = .ok (.iaload, 1) := dk_46 (dk_at dksX9_daysOf_1 17 rfl rfl)
theorem dX9_daysOf_40 : decode cX9_daysOf 40 = .ok (.iload_n 3, 1) := dk_29 (dk_at dksX9_daysOf_1 18 rfl rfl)
theorem dX9_daysOf_41 : decode cX9_daysOf 41 = .ok (.iadd, 1) := dk_96 (dk_at dksX9_daysOf_1 19 rfl rfl)
theorem dX9_daysOf_42 : decode cX9_daysOf 42 = .ok (.invokevirtual 481, 3) := dk_182 1 225 (dk_at dksX9_daysOf_1 20 rfl rfl)
theorem dX9_daysOf_45 : decode cX9_daysOf 45 = .ok (.isub, 1) := dk_100 (dk_at dksX9_daysOf_1 23 rfl rfl)
theorem dX9_daysOf_46 : decode cX9_daysOf 46 = .ok (.istore_n 2, 1) := dk_61 (dk_at dksX9_daysOf_2 0 rfl rfl)
theorem dX9_daysOf_47 : decode cX9_daysOf 47 = .ok (.iload_n 2, 1) := dk_28 (dk_at dksX9_daysOf_2 1 rfl rfl)
theorem dX9_daysOf_48 : decode cX9_daysOf 48 = .ok (.ifCond .ne 7, 3) := dk_154 0 7 (dk_at dksX9_daysOf_2 2 rfl rfl)
theorem dX9_daysOf_51 : decode cX9_daysOf 51 = .ok (.iload_n 3, 1) := dk_29 (dk_at dksX9_daysOf_2 5 rfl rfl)
theorem dX9_daysOf_52 : decode cX9_daysOf 52 = .ok (.iconst 1, 1) := dk_4 (dk_at dksX9_daysOf_2 6 rfl rfl)
theorem dX9_daysOf_53 : decode cX9_daysOf 53 = .ok (.iadd, 1) := dk_96 (dk_at dksX9_daysOf_2 7 rfl rfl)
theorem dX9_daysOf_54 : decode cX9_daysOf 54 = .ok (.ireturn, 1) := dk_172 (dk_at dksX9_daysOf_2 8 rfl rfl)
theorem dX9_daysOf_55 : decode cX9_daysOf 55 = .ok (.iinc 3 1, 3) := dk_132 3 1 (dk_at dksX9_daysOf_2 9 rfl rfl)
theorem dX9_daysOf_58 : decode cX9_daysOf 58 = .ok (.goto (-46), 3) := dk_167 255 210 (dk_at dksX9_daysOf_2 12 rfl rfl)
theorem dX9_daysOf_61 : decode cX9_daysOf 61 = .ok (.ldc_w 560, 3) := dk_19 2 48 (dk_at dksX9_daysOf_2 15 rfl rfl)
theorem dX9_daysOf_64 : decode cX9_daysOf 64 = .ok (.ireturn, 1) := dk_172 (dk_at dksX9_daysOf_2 18 rfl rfl)
abbrev cX9_will : ByteArray := prog_24_method_91_code
def yX9_will : MethodName := ⟨RX9, "will", "(II)I"⟩
def dkwX9_will_2 : List UInt8 := [172]
abbrev dktX9_will_2 : List UInt8 := dkwX9_will_2 ++ []
def dkwX9_will_1 : List UInt8 := [3, 62, 29, 28, 162, 0, 14, 42, 182, 1, 232, 87, 132, 3, 1, 167, 255, 243, 42, 180, 0, 124, 27, 46]
abbrev dktX9_will_1 : List UInt8 := dkwX9_will_1 ++ dktX9_will_2
def dkwX9_will_0 : List UInt8 := [42, 27, 182, 1, 201, 153, 0, 13, 28, 3, 16, 60, 184, 1, 197, 154, 0, 5, 2, 172, 42, 182, 1, 229]
abbrev dktX9_will_0 : List UInt8 := dkwX9_will_0 ++ dktX9_will_1
theorem dksX9_will_0 : cX9_will.data.toList.drop 0 = dktX9_will_0 := by decide +kernel
theorem dksX9_will_1 : cX9_will.data.toList.drop 24 = dktX9_will_1 := dk_seg dksX9_will_0 24 rfl rfl
theorem dksX9_will_2 : cX9_will.data.toList.drop 48 = dktX9_will_2 := dk_seg dksX9_will_1 24 rfl rfl
theorem dX9_will_0 : decode cX9_will 0 = .ok (.aload_n 0, 1) := dk_42 (dk_at dksX9_will_0 0 rfl rfl)
theorem dX9_will_1 : decode cX9_will 1 = .ok (.iload_n 1, 1) := dk_27 (dk_at dksX9_will_0 1 rfl rfl)
theorem dX9_will_2 : decode cX9_will 2 = .ok (.invokevirtual 457, 3) := dk_182 1 201 (dk_at dksX9_will_0 2 rfl rfl)
theorem dX9_will_5 : decode cX9_will 5 = .ok (.ifCond .eq 13, 3) := dk_153 0 13 (dk_at dksX9_will_0 5 rfl rfl)
theorem dX9_will_8 : decode cX9_will 8 = .ok (.iload_n 2, 1) := dk_28 (dk_at dksX9_will_0 8 rfl rfl)
theorem dX9_will_9 : decode cX9_will 9 = .ok (.iconst 0, 1) := dk_3 (dk_at dksX9_will_0 9 rfl rfl)
theorem dX9_will_10 : decode cX9_will 10 = .ok (.bipush 60, 2) := dk_16 60 (dk_at dksX9_will_0 10 rfl rfl)
theorem dX9_will_12 : decode cX9_will 12 = .ok (.invokestatic 453, 3) := dk_184 1 197 (dk_at dksX9_will_0 12 rfl rfl)
theorem dX9_will_15 : decode cX9_will 15 = .ok (.ifCond .ne 5, 3) := dk_154 0 5 (dk_at dksX9_will_0 15 rfl rfl)
theorem dX9_will_18 : decode cX9_will 18 = .ok (.iconst (-1), 1) := dk_2 (dk_at dksX9_will_0 18 rfl rfl)
theorem dX9_will_19 : decode cX9_will 19 = .ok (.ireturn, 1) := dk_172 (dk_at dksX9_will_0 19 rfl rfl)
theorem dX9_will_20 : decode cX9_will 20 = .ok (.aload_n 0, 1) := dk_42 (dk_at dksX9_will_0 20 rfl rfl)
theorem dX9_will_21 : decode cX9_will 21 = .ok (.invokevirtual 485, 3) := dk_182 1 229 (dk_at dksX9_will_0 21 rfl rfl)
theorem dX9_will_24 : decode cX9_will 24 = .ok (.iconst 0, 1) := dk_3 (dk_at dksX9_will_1 0 rfl rfl)
theorem dX9_will_25 : decode cX9_will 25 = .ok (.istore_n 3, 1) := dk_62 (dk_at dksX9_will_1 1 rfl rfl)
theorem dX9_will_26 : decode cX9_will 26 = .ok (.iload_n 3, 1) := dk_29 (dk_at dksX9_will_1 2 rfl rfl)
theorem dX9_will_27 : decode cX9_will 27 = .ok (.iload_n 2, 1) := dk_28 (dk_at dksX9_will_1 3 rfl rfl)
theorem dX9_will_28 : decode cX9_will 28 = .ok (.if_icmp .ge 14, 3) := dk_162 0 14 (dk_at dksX9_will_1 4 rfl rfl)
theorem dX9_will_31 : decode cX9_will 31 = .ok (.aload_n 0, 1) := dk_42 (dk_at dksX9_will_1 7 rfl rfl)
theorem dX9_will_32 : decode cX9_will 32 = .ok (.invokevirtual 488, 3) := dk_182 1 232 (dk_at dksX9_will_1 8 rfl rfl)
theorem dX9_will_35 : decode cX9_will 35 = .ok (.pop, 1) := dk_87 (dk_at dksX9_will_1 11 rfl rfl)
theorem dX9_will_36 : decode cX9_will 36 = .ok (.iinc 3 1, 3) := dk_132 3 1 (dk_at dksX9_will_1 12 rfl rfl)
theorem dX9_will_39 : decode cX9_will 39 = .ok (.goto (-13), 3) := dk_167 255 243 (dk_at dksX9_will_1 15 rfl rfl)
theorem dX9_will_42 : decode cX9_will 42 = .ok (.aload_n 0, 1) := dk_42 (dk_at dksX9_will_1 18 rfl rfl)
theorem dX9_will_43 : decode cX9_will 43 = .ok (.getfield 124, 3) := dk_180 0 124 (dk_at dksX9_will_1 19 rfl rfl)
theorem dX9_will_46 : decode cX9_will 46 = .ok (.iload_n 1, 1) := dk_27 (dk_at dksX9_will_1 22 rfl rfl)
theorem dX9_will_47 : decode cX9_will 47 = .ok (.iaload, 1) := dk_46 (dk_at dksX9_will_1 23 rfl rfl)
theorem dX9_will_48 : decode cX9_will 48 = .ok (.ireturn, 1) := dk_172 (dk_at dksX9_will_2 0 rfl rfl)
abbrev cX9_truce : ByteArray := prog_24_method_97_code
def yX9_truce : MethodName := ⟨RX9, "truce", "()I"⟩
def dkwX9_truce_4 : List UInt8 := [132, 3, 1, 167, 255, 173, 27, 172]
abbrev dktX9_truce_4 : List UInt8 := dkwX9_truce_4 ++ []
def dkwX9_truce_3 : List UInt8 := [132, 5, 1, 167, 255, 217, 21, 4, 27, 163, 0, 6, 167, 0, 10, 21, 4, 60, 42, 182, 2, 64]
abbrev dktX9_truce_3 : List UInt8 := dkwX9_truce_3 ++ dktX9_truce_4
def dkwX9_truce_2 : List UInt8 := [180, 0, 148, 21, 5, 46, 21, 5, 164, 0, 12, 42, 21, 5, 182, 2, 61, 167, 0, 4, 3, 96, 54, 4]
abbrev dktX9_truce_2 : List UInt8 := dkwX9_truce_2 ++ dktX9_truce_3
def dkwX9_truce_1 : List UInt8 := [154, 0, 6, 167, 0, 67, 3, 54, 4, 3, 54, 5, 21, 5, 42, 180, 1, 167, 162, 0, 36, 21, 4, 42]
abbrev dktX9_truce_1 : List UInt8 := dkwX9_truce_1 ++ dktX9_truce_2
def dkwX9_truce_0 : List UInt8 := [42, 3, 181, 1, 194, 2, 60, 42, 182, 2, 55, 61, 3, 62, 29, 28, 162, 0, 84, 42, 29, 182, 2, 58]
abbrev dktX9_truce_0 : List UInt8 := dkwX9_truce_0 ++ dktX9_truce_1
theorem dksX9_truce_0 : cX9_truce.data.toList.drop 0 = dktX9_truce_0 := by decide +kernel
theorem dksX9_truce_1 : cX9_truce.data.toList.drop 24 = dktX9_truce_1 := dk_seg dksX9_truce_0 24 rfl rfl
theorem dksX9_truce_2 : cX9_truce.data.toList.drop 48 = dktX9_truce_2 := dk_seg dksX9_truce_1 24 rfl rfl
theorem dksX9_truce_3 : cX9_truce.data.toList.drop 72 = dktX9_truce_3 := dk_seg dksX9_truce_2 24 rfl rfl
theorem dksX9_truce_4 : cX9_truce.data.toList.drop 94 = dktX9_truce_4 := dk_seg dksX9_truce_3 22 rfl rfl
theorem dX9_truce_0 : decode cX9_truce 0 = .ok (.aload_n 0, 1) := dk_42 (dk_at dksX9_truce_0 0 rfl rfl)
theorem dX9_truce_1 : decode cX9_truce 1 = .ok (.iconst 0, 1) := dk_3 (dk_at dksX9_truce_0 1 rfl rfl)
theorem dX9_truce_2 : decode cX9_truce 2 = .ok (.putfield 450, 3) := dk_181 1 194 (dk_at dksX9_truce_0 2 rfl rfl)
theorem dX9_truce_5 : decode cX9_truce 5 = .ok (.iconst (-1), 1) := dk_2 (dk_at dksX9_truce_0 5 rfl rfl)
theorem dX9_truce_6 : decode cX9_truce 6 = .ok (.istore_n 1, 1) := dk_60 (dk_at dksX9_truce_0 6 rfl rfl)
theorem dX9_truce_7 : decode cX9_truce 7 = .ok (.aload_n 0, 1) := dk_42 (dk_at dksX9_truce_0 7 rfl rfl)
theorem dX9_truce_8 : decode cX9_truce 8 = .ok (.invokevirtual 567, 3) := dk_182 2 55 (dk_at dksX9_truce_0 8 rfl rfl)
theorem dX9_truce_11 : decode cX9_truce 11 = .ok (.istore_n 2, 1) := dk_61 (dk_at dksX9_truce_0 11 rfl rfl)
theorem dX9_truce_12 : decode cX9_truce 12 = .ok (.iconst 0, 1) := dk_3 (dk_at dksX9_truce_0 12 rfl rfl)
theorem dX9_truce_13 : decode cX9_truce 13 = .ok (.istore_n 3, 1) := dk_62 (dk_at dksX9_truce_0 13 rfl rfl)
theorem dX9_truce_14 : decode cX9_truce 14 = .ok (.iload_n 3, 1) := dk_29 (dk_at dksX9_truce_0 14 rfl rfl)
theorem dX9_truce_15 : decode cX9_truce 15 = .ok (.iload_n 2, 1) := dk_28 (dk_at dksX9_truce_0 15 rfl rfl)
theorem dX9_truce_16 : decode cX9_truce 16 = .ok (.if_icmp .ge 84, 3) := dk_162 0 84 (dk_at dksX9_truce_0 16 rfl rfl)
theorem dX9_truce_19 : decode cX9_truce 19 = .ok (.aload_n 0, 1) := dk_42 (dk_at dksX9_truce_0 19 rfl rfl)
theorem dX9_truce_20 : decode cX9_truce 20 = .ok (.iload_n 3, 1) := dk_29 (dk_at dksX9_truce_0 20 rfl rfl)
theorem dX9_truce_21 : decode cX9_truce 21 = .ok (.invokevirtual 570, 3) := dk_182 2 58 (dk_at dksX9_truce_0 21 rfl rfl)
theorem dX9_truce_24 : decode cX9_truce 24 = .ok (.ifCond .ne 6, 3) := dk_154 0 6 (dk_at dksX9_truce_1 0 rfl rfl)
theorem dX9_truce_27 : decode cX9_truce 27 = .ok (.goto 67, 3) := dk_167 0 67 (dk_at dksX9_truce_1 3 rfl rfl)
theorem dX9_truce_30 : decode cX9_truce 30 = .ok (.iconst 0, 1) := dk_3 (dk_at dksX9_truce_1 6 rfl rfl)
theorem dX9_truce_31 : decode cX9_truce 31 = .ok (.istore 4, 2) := dk_54 4 (dk_at dksX9_truce_1 7 rfl rfl)
theorem dX9_truce_33 : decode cX9_truce 33 = .ok (.iconst 0, 1) := dk_3 (dk_at dksX9_truce_1 9 rfl rfl)
theorem dX9_truce_34 : decode cX9_truce 34 = .ok (.istore 5, 2) := dk_54 5 (dk_at dksX9_truce_1 10 rfl rfl)
theorem dX9_truce_36 : decode cX9_truce 36 = .ok (.iload 5, 2) := dk_21 5 (dk_at dksX9_truce_1 12 rfl rfl)
theorem dX9_truce_38 : decode cX9_truce 38 = .ok (.aload_n 0, 1) := dk_42 (dk_at dksX9_truce_1 14 rfl rfl)
theorem dX9_truce_39 : decode cX9_truce 39 = .ok (.getfield 423, 3) := dk_180 1 167 (dk_at dksX9_truce_1 15 rfl rfl)
theorem dX9_truce_42 : decode cX9_truce 42 = .ok (.if_icmp .ge 36, 3) := dk_162 0 36 (dk_at dksX9_truce_1 18 rfl rfl)
theorem dX9_truce_45 : decode cX9_truce 45 = .ok (.iload 4, 2) := dk_21 4 (dk_at dksX9_truce_1 21 rfl rfl)
theorem dX9_truce_47 : decode cX9_truce 47 = .ok (.aload_n 0, 1) := dk_42 (dk_at dksX9_truce_1 23 rfl rfl)
theorem dX9_truce_48 : decode cX9_truce 48 = .ok (.getfield 148, 3) := dk_180 0 148 (dk_at dksX9_truce_2 0 rfl rfl)
theorem dX9_truce_51 : decode cX9_truce 51 = .ok (.iload 5, 2) := dk_21 5 (dk_at dksX9_truce_2 3 rfl rfl)
theorem dX9_truce_53 : decode cX9_truce 53 = .ok (.iaload, 1) := dk_46 (dk_at dksX9_truce_2 5 rfl rfl)
theorem dX9_truce_54 : decode cX9_truce 54 = .ok (.iload 5, 2) := dk_21 5 (dk_at dksX9_truce_2 6 rfl rfl)
theorem dX9_truce_56 : decode cX9_truce 56 = .ok (.if_icmp .le 12, 3) := dk_164 0 12 (dk_at dksX9_truce_2 8 rfl rfl)
theorem dX9_truce_59 : decode cX9_truce 59 = .ok (.aload_n 0, 1) := dk_42 (dk_at dksX9_truce_2 11 rfl rfl)
theorem dX9_truce_60 : decode cX9_truce 60 = .ok (.iload 5, 2) := dk_21 5 (dk_at dksX9_truce_2 12 rfl rfl)
theorem dX9_truce_62 : decode cX9_truce 62 = .ok (.invokevirtual 573, 3) := dk_182 2 61 (dk_at dksX9_truce_2 14 rfl rfl)
theorem dX9_truce_65 : decode cX9_truce 65 = .ok (.goto 4, 3) := dk_167 0 4 (dk_at dksX9_truce_2 17 rfl rfl)
theorem dX9_truce_68 : decode cX9_truce 68 = .ok (.iconst 0, 1) := dk_3 (dk_at dksX9_truce_2 20 rfl rfl)
theorem dX9_truce_69 : decode cX9_truce 69 = .ok (.iadd, 1) := dk_96 (dk_at dksX9_truce_2 21 rfl rfl)
theorem dX9_truce_70 : decode cX9_truce 70 = .ok (.istore 4, 2) := dk_54 4 (dk_at dksX9_truce_2 22 rfl rfl)
theorem dX9_truce_72 : decode cX9_truce 72 = .ok (.iinc 5 1, 3) := dk_132 5 1 (dk_at dksX9_truce_3 0 rfl rfl)
theorem dX9_truce_75 : decode cX9_truce 75 = .ok (.goto (-39), 3) := dk_167 255 217 (dk_at dksX9_truce_3 3 rfl rfl)
theorem dX9_truce_78 : decode cX9_truce 78 = .ok (.iload 4, 2) := dk_21 4 (dk_at dksX9_truce_3 6 rfl rfl)
theorem dX9_truce_80 : decode cX9_truce 80 = .ok (.iload_n 1, 1) := dk_27 (dk_at dksX9_truce_3 8 rfl rfl)
theorem dX9_truce_81 : decode cX9_truce 81 = .ok (.if_icmp .gt 6, 3) := dk_163 0 6 (dk_at dksX9_truce_3 9 rfl rfl)
theorem dX9_truce_84 : decode cX9_truce 84 = .ok (.goto 10, 3) := dk_167 0 10 (dk_at dksX9_truce_3 12 rfl rfl)
theorem dX9_truce_87 : decode cX9_truce 87 = .ok (.iload 4, 2) := dk_21 4 (dk_at dksX9_truce_3 15 rfl rfl)
theorem dX9_truce_89 : decode cX9_truce 89 = .ok (.istore_n 1, 1) := dk_60 (dk_at dksX9_truce_3 17 rfl rfl)
theorem dX9_truce_90 : decode cX9_truce 90 = .ok (.aload_n 0, 1) := dk_42 (dk_at dksX9_truce_3 18 rfl rfl)
theorem dX9_truce_91 : decode cX9_truce 91 = .ok (.invokevirtual 576, 3) := dk_182 2 64 (dk_at dksX9_truce_3 19 rfl rfl)
theorem dX9_truce_94 : decode cX9_truce 94 = .ok (.iinc 3 1, 3) := dk_132 3 1 (dk_at dksX9_truce_4 0 rfl rfl)
theorem dX9_truce_97 : decode cX9_truce 97 = .ok (.goto (-83), 3) := dk_167 255 173 (dk_at dksX9_truce_4 3 rfl rfl)
theorem dX9_truce_100 : decode cX9_truce 100 = .ok (.iload_n 1, 1) := dk_27 (dk_at dksX9_truce_4 6 rfl rfl)
theorem dX9_truce_101 : decode cX9_truce 101 = .ok (.ireturn, 1) := dk_172 (dk_at dksX9_truce_4 7 rfl rfl)
abbrev cX9_rowsOf : ByteArray := prog_24_method_92_code
def yX9_rowsOf : MethodName := ⟨RX9, "rowsOf", "()I"⟩
def dkwX9_rowsOf_1 : List UInt8 := [167, 255, 236, 27, 172]
abbrev dktX9_rowsOf_1 : List UInt8 := dkwX9_rowsOf_1 ++ []
def dkwX9_rowsOf_0 : List UInt8 := [4, 60, 3, 61, 28, 42, 180, 1, 167, 162, 0, 18, 27, 42, 180, 1, 167, 4, 96, 104, 60, 132, 2, 1]
abbrev dktX9_rowsOf_0 : List UInt8 := dkwX9_rowsOf_0 ++ dktX9_rowsOf_1
theorem dksX9_rowsOf_0 : cX9_rowsOf.data.toList.drop 0 = dktX9_rowsOf_0 := by decide +kernel
theorem dksX9_rowsOf_1 : cX9_rowsOf.data.toList.drop 24 = dktX9_rowsOf_1 := dk_seg dksX9_rowsOf_0 24 rfl rfl
theorem dX9_rowsOf_0 : decode cX9_rowsOf 0 = .ok (.iconst 1, 1) := dk_4 (dk_at dksX9_rowsOf_0 0 rfl rfl)
theorem dX9_rowsOf_1 : decode cX9_rowsOf 1 = .ok (.istore_n 1, 1) := dk_60 (dk_at dksX9_rowsOf_0 1 rfl rfl)
theorem dX9_rowsOf_2 : decode cX9_rowsOf 2 = .ok (.iconst 0, 1) := dk_3 (dk_at dksX9_rowsOf_0 2 rfl rfl)
theorem dX9_rowsOf_3 : decode cX9_rowsOf 3 = .ok (.istore_n 2, 1) := dk_61 (dk_at dksX9_rowsOf_0 3 rfl rfl)
theorem dX9_rowsOf_4 : decode cX9_rowsOf 4 = .ok (.iload_n 2, 1) := dk_28 (dk_at dksX9_rowsOf_0 4 rfl rfl)
theorem dX9_rowsOf_5 : decode cX9_rowsOf 5 = .ok (.aload_n 0, 1) := dk_42 (dk_at dksX9_rowsOf_0 5 rfl rfl)
theorem dX9_rowsOf_6 : decode cX9_rowsOf 6 = .ok (.getfield 423, 3) := dk_180 1 167 (dk_at dksX9_rowsOf_0 6 rfl rfl)
theorem dX9_rowsOf_9 : decode cX9_rowsOf 9 = .ok (.if_icmp .ge 18, 3) := dk_162 0 18 (dk_at dksX9_rowsOf_0 9 rfl rfl)
theorem dX9_rowsOf_12 : decode cX9_rowsOf 12 = .ok (.iload_n 1, 1) := dk_27 (dk_at dksX9_rowsOf_0 12 rfl rfl)
theorem dX9_rowsOf_13 : decode cX9_rowsOf 13 = .ok (.aload_n 0, 1) := dk_42 (dk_at dksX9_rowsOf_0 13 rfl rfl)
theorem dX9_rowsOf_14 : decode cX9_rowsOf 14 = .ok (.getfield 423, 3) := dk_180 1 167 (dk_at dksX9_rowsOf_0 14 rfl rfl)
theorem dX9_rowsOf_17 : decode cX9_rowsOf 17 = .ok (.iconst 1, 1) := dk_4 (dk_at dksX9_rowsOf_0 17 rfl rfl)
theorem dX9_rowsOf_18 : decode cX9_rowsOf 18 = .ok (.iadd, 1) := dk_96 (dk_at dksX9_rowsOf_0 18 rfl rfl)
theorem dX9_rowsOf_19 : decode cX9_rowsOf 19 = .ok (.imul, 1) := dk_104 (dk_at dksX9_rowsOf_0 19 rfl rfl)
theorem dX9_rowsOf_20 : decode cX9_rowsOf 20 = .ok (.istore_n 1, 1) := dk_60 (dk_at dksX9_rowsOf_0 20 rfl rfl)
theorem dX9_rowsOf_21 : decode cX9_rowsOf 21 = .ok (.iinc 2 1, 3) := dk_132 2 1 (dk_at dksX9_rowsOf_0 21 rfl rfl)
theorem dX9_rowsOf_24 : decode cX9_rowsOf 24 = .ok (.goto (-20), 3) := dk_167 255 236 (dk_at dksX9_rowsOf_1 0 rfl rfl)
theorem dX9_rowsOf_27 : decode cX9_rowsOf 27 = .ok (.iload_n 1, 1) := dk_27 (dk_at dksX9_rowsOf_1 3 rfl rfl)
theorem dX9_rowsOf_28 : decode cX9_rowsOf 28 = .ok (.ireturn, 1) := dk_172 (dk_at dksX9_rowsOf_1 4 rfl rfl)
abbrev cX9_layTwos : ByteArray := prog_24_method_94_code
def yX9_layTwos : MethodName := ⟨RX9, "layTwos", "(I)Z"⟩
def dkwX9_layTwos_5 : List UInt8 := [153, 0, 7, 4, 167, 0, 4, 3, 62, 132, 4, 1, 167, 255, 179, 29, 172]
abbrev dktX9_layTwos_5 : List UInt8 := dkwX9_layTwos_5 ++ []
def dkwX9_layTwos_4 : List UInt8 := [21, 4, 46, 46, 21, 4, 160, 0, 23, 42, 21, 4, 42, 180, 0, 148, 21, 4, 46, 182, 2, 52]
abbrev dktX9_layTwos_4 : List UInt8 := dkwX9_layTwos_4 ++ dktX9_layTwos_5
def dkwX9_layTwos_3 : List UInt8 := [155, 0, 48, 42, 180, 0, 148, 21, 4, 46, 21, 4, 159, 0, 40, 42, 180, 0, 148, 42, 180, 0, 148]
abbrev dktX9_layTwos_3 : List UInt8 := dkwX9_layTwos_3 ++ dktX9_layTwos_4
def dkwX9_layTwos_2 : List UInt8 := [54, 4, 21, 4, 42, 180, 1, 167, 162, 0, 74, 29, 153, 0, 70, 42, 180, 0, 148, 21, 4, 46]
abbrev dktX9_layTwos_2 : List UInt8 := dkwX9_layTwos_2 ++ dktX9_layTwos_3
def dkwX9_layTwos_1 : List UInt8 := [96, 112, 4, 100, 79, 28, 42, 180, 1, 167, 4, 96, 108, 61, 132, 3, 255, 167, 255, 224, 4, 62, 3]
abbrev dktX9_layTwos_1 : List UInt8 := dkwX9_layTwos_1 ++ dktX9_layTwos_2
def dkwX9_layTwos_0 : List UInt8 := [27, 61, 42, 180, 1, 167, 4, 100, 62, 29, 155, 0, 34, 42, 180, 0, 148, 29, 28, 42, 180, 1, 167, 4]
abbrev dktX9_layTwos_0 : List UInt8 := dkwX9_layTwos_0 ++ dktX9_layTwos_1
theorem dksX9_layTwos_0 : cX9_layTwos.data.toList.drop 0 = dktX9_layTwos_0 := by decide +kernel
theorem dksX9_layTwos_1 : cX9_layTwos.data.toList.drop 24 = dktX9_layTwos_1 := dk_seg dksX9_layTwos_0 24 rfl rfl
theorem dksX9_layTwos_2 : cX9_layTwos.data.toList.drop 47 = dktX9_layTwos_2 := dk_seg dksX9_layTwos_1 23 rfl rfl
theorem dksX9_layTwos_3 : cX9_layTwos.data.toList.drop 69 = dktX9_layTwos_3 := dk_seg dksX9_layTwos_2 22 rfl rfl
theorem dksX9_layTwos_4 : cX9_layTwos.data.toList.drop 92 = dktX9_layTwos_4 := dk_seg dksX9_layTwos_3 23 rfl rfl
theorem dksX9_layTwos_5 : cX9_layTwos.data.toList.drop 114 = dktX9_layTwos_5 := dk_seg dksX9_layTwos_4 22 rfl rfl
theorem dX9_layTwos_0 : decode cX9_layTwos 0 = .ok (.iload_n 1, 1) := dk_27 (dk_at dksX9_layTwos_0 0 rfl rfl)
theorem dX9_layTwos_1 : decode cX9_layTwos 1 = .ok (.istore_n 2, 1) := dk_61 (dk_at dksX9_layTwos_0 1 rfl rfl)
theorem dX9_layTwos_2 : decode cX9_layTwos 2 = .ok (.aload_n 0, 1) := dk_42 (dk_at dksX9_layTwos_0 2 rfl rfl)
theorem dX9_layTwos_3 : decode cX9_layTwos 3 = .ok (.getfield 423, 3) := dk_180 1 167 (dk_at dksX9_layTwos_0 3 rfl rfl)
theorem dX9_layTwos_6 : decode cX9_layTwos 6 = .ok (.iconst 1, 1) := dk_4 (dk_at dksX9_layTwos_0 6 rfl rfl)
theorem dX9_layTwos_7 : decode cX9_layTwos 7 = .ok (.isub, 1) := dk_100 (dk_at dksX9_layTwos_0 7 rfl rfl)
theorem dX9_layTwos_8 : decode cX9_layTwos 8 = .ok (.istore_n 3, 1) := dk_62 (dk_at dksX9_layTwos_0 8 rfl rfl)
theorem dX9_layTwos_9 : decode cX9_layTwos 9 = .ok (.iload_n 3, 1) := dk_29 (dk_at dksX9_layTwos_0 9 rfl rfl)
theorem dX9_layTwos_10 : decode cX9_layTwos 10 = .ok (.ifCond .lt 34, 3) := dk_155 0 34 (dk_at dksX9_layTwos_0 10 rfl rfl)
theorem dX9_layTwos_13 : decode cX9_layTwos 13 = .ok (.aload_n 0, 1) := dk_42 (dk_at dksX9_layTwos_0 13 rfl rfl)
theorem dX9_layTwos_14 : decode cX9_layTwos 14 = .ok (.getfield 148, 3) := dk_180 0 148 (dk_at dksX9_layTwos_0 14 rfl rfl)
theorem dX9_layTwos_17 : decode cX9_layTwos 17 = .ok (.iload_n 3, 1) := dk_29 (dk_at dksX9_layTwos_0 17 rfl rfl)
theorem dX9_layTwos_18 : decode cX9_layTwos 18 = .ok (.iload_n 2, 1) := dk_28 (dk_at dksX9_layTwos_0 18 rfl rfl)
theorem dX9_layTwos_19 : decode cX9_layTwos 19 = .ok (.aload_n 0, 1) := dk_42 (dk_at dksX9_layTwos_0 19 rfl rfl)
theorem dX9_layTwos_20 : decode cX9_layTwos 20 = .ok (.getfield 423, 3) := dk_180 1 167 (dk_at dksX9_layTwos_0 20 rfl rfl)
theorem dX9_layTwos_23 : decode cX9_layTwos 23 = .ok (.iconst 1, 1) := dk_4 (dk_at dksX9_layTwos_0 23 rfl rfl)
theorem dX9_layTwos_24 : decode cX9_layTwos 24 = .ok (.iadd, 1) := dk_96 (dk_at dksX9_layTwos_1 0 rfl rfl)
theorem dX9_layTwos_25 : decode cX9_layTwos 25 = .ok (.irem, 1) := dk_112 (dk_at dksX9_layTwos_1 1 rfl rfl)
theorem dX9_layTwos_26 : decode cX9_layTwos 26 = .ok (.iconst 1, 1) := dk_4 (dk_at dksX9_layTwos_1 2 rfl rfl)
theorem dX9_layTwos_27 : decode cX9_layTwos 27 = .ok (.isub, 1) := dk_100 (dk_at dksX9_layTwos_1 3 rfl rfl)
theorem dX9_layTwos_28 : decode cX9_layTwos 28 = .ok (.iastore, 1) := dk_79 (dk_at dksX9_layTwos_1 4 rfl rfl)
theorem dX9_layTwos_29 : decode cX9_layTwos 29 = .ok (.iload_n 2, 1) := dk_28 (dk_at dksX9_layTwos_1 5 rfl rfl)
theorem dX9_layTwos_30 : decode cX9_layTwos 30 = .ok (.aload_n 0, 1) := dk_42 (dk_at dksX9_layTwos_1 6 rfl rfl)
theorem dX9_layTwos_31 : decode cX9_layTwos 31 = .ok (.getfield 423, 3) := dk_180 1 167 (dk_at dksX9_layTwos_1 7 rfl rfl)
theorem dX9_layTwos_34 : decode cX9_layTwos 34 = .ok (.iconst 1, 1) := dk_4 (dk_at dksX9_layTwos_1 10 rfl rfl)
theorem dX9_layTwos_35 : decode cX9_layTwos 35 = .ok (.iadd, 1) := dk_96 (dk_at dksX9_layTwos_1 11 rfl rfl)
theorem dX9_layTwos_36 : decode cX9_layTwos 36 = .ok (.idiv, 1) := dk_108 (dk_at dksX9_layTwos_1 12 rfl rfl)
theorem dX9_layTwos_37 : decode cX9_layTwos 37 = .ok (.istore_n 2, 1) := dk_61 (dk_at dksX9_layTwos_1 13 rfl rfl)
theorem dX9_layTwos_38 : decode cX9_layTwos 38 = .ok (.iinc 3 (-1), 3) := dk_132 3 255 (dk_at dksX9_layTwos_1 14 rfl rfl)
theorem dX9_layTwos_41 : decode cX9_layTwos 41 = .ok (.goto (-32), 3) := dk_167 255 224 (dk_at dksX9_layTwos_1 17 rfl rfl)
theorem dX9_layTwos_44 : decode cX9_layTwos 44 = .ok (.iconst 1, 1) := dk_4 (dk_at dksX9_layTwos_1 20 rfl rfl)
theorem dX9_layTwos_45 : decode cX9_layTwos 45 = .ok (.istore_n 3, 1) := dk_62 (dk_at dksX9_layTwos_1 21 rfl rfl)
theorem dX9_layTwos_46 : decode cX9_layTwos 46 = .ok (.iconst 0, 1) := dk_3 (dk_at dksX9_layTwos_1 22 rfl rfl)
theorem dX9_layTwos_47 : decode cX9_layTwos 47 = .ok (.istore 4, 2) := dk_54 4 (dk_at dksX9_layTwos_2 0 rfl rfl)
theorem dX9_layTwos_49 : decode cX9_layTwos 49 = .ok (.iload 4, 2) := dk_21 4 (dk_at dksX9_layTwos_2 2 rfl rfl)
theorem dX9_layTwos_51 : decode cX9_layTwos 51 = .ok (.aload_n 0, 1) := dk_42 (dk_at dksX9_layTwos_2 4 rfl rfl)
theorem dX9_layTwos_52 : decode cX9_layTwos 52 = .ok (.getfield 423, 3) := dk_180 1 167 (dk_at dksX9_layTwos_2 5 rfl rfl)
theorem dX9_layTwos_55 : decode cX9_layTwos 55 = .ok (.if_icmp .ge 74, 3) := dk_162 0 74 (dk_at dksX9_layTwos_2 8 rfl rfl)
theorem dX9_layTwos_58 : decode cX9_layTwos 58 = .ok (.iload_n 3, 1) := dk_29 (dk_at dksX9_layTwos_2 11 rfl rfl)
theorem dX9_layTwos_59 : decode cX9_layTwos 59 = .ok (.ifCond .eq 70, 3) := dk_153 0 70 (dk_at dksX9_layTwos_2 12 rfl rfl)
theorem dX9_layTwos_62 : decode cX9_layTwos 62 = .ok (.aload_n 0, 1) := dk_42 (dk_at dksX9_layTwos_2 15 rfl rfl)
theorem dX9_layTwos_63 : decode cX9_layTwos 63 = .ok (.getfield 148, 3) := dk_180 0 148 (dk_at dksX9_layTwos_2 16 rfl rfl)
theorem dX9_layTwos_66 : decode cX9_layTwos 66 = .ok (.iload 4, 2) := dk_21 4 (dk_at dksX9_layTwos_2 19 rfl rfl)
theorem dX9_layTwos_68 : decode cX9_layTwos 68 = .ok (.iaload, 1) := dk_46 (dk_at dksX9_layTwos_2 21 rfl rfl)
theorem dX9_layTwos_69 : decode cX9_layTwos 69 = .ok (.ifCond .lt 48, 3) := dk_155 0 48 (dk_at dksX9_layTwos_3 0 rfl rfl)
theorem dX9_layTwos_72 : decode cX9_layTwos 72 = .ok (.aload_n 0, 1) := dk_42 (dk_at dksX9_layTwos_3 3 rfl rfl)
theorem dX9_layTwos_73 : decode cX9_layTwos 73 = .ok (.getfield 148, 3) := dk_180 0 148 (dk_at dksX9_layTwos_3 4 rfl rfl)
theorem dX9_layTwos_76 : decode cX9_layTwos 76 = .ok (.iload 4, 2) := dk_21 4 (dk_at dksX9_layTwos_3 7 rfl rfl)
theorem dX9_layTwos_78 : decode cX9_layTwos 78 = .ok (.iaload, 1) := dk_46 (dk_at dksX9_layTwos_3 9 rfl rfl)
theorem dX9_layTwos_79 : decode cX9_layTwos 79 = .ok (.iload 4, 2) := dk_21 4 (dk_at dksX9_layTwos_3 10 rfl rfl)
theorem dX9_layTwos_81 : decode cX9_layTwos 81 = .ok (.if_icmp .eq 40, 3) := dk_159 0 40 (dk_at dksX9_layTwos_3 12 rfl rfl)
theorem dX9_layTwos_84 : decode cX9_layTwos 84 = .ok (.aload_n 0, 1) := dk_42 (dk_at dksX9_layTwos_3 15 rfl rfl)
theorem dX9_layTwos_85 : decode cX9_layTwos 85 = .ok (.getfield 148, 3) := dk_180 0 148 (dk_at dksX9_layTwos_3 16 rfl rfl)
theorem dX9_layTwos_88 : decode cX9_layTwos 88 = .ok (.aload_n 0, 1) := dk_42 (dk_at dksX9_layTwos_3 19 rfl rfl)
theorem dX9_layTwos_89 : decode cX9_layTwos 89 = .ok (.getfield 148, 3) := dk_180 0 148 (dk_at dksX9_layTwos_3 20 rfl rfl)
theorem dX9_layTwos_92 : decode cX9_layTwos 92 = .ok (.iload 4, 2) := dk_21 4 (dk_at dksX9_layTwos_4 0 rfl rfl)
theorem dX9_layTwos_94 : decode cX9_layTwos 94 = .ok (.iaload, 1) := dk_46 (dk_at dksX9_layTwos_4 2 rfl rfl)
theorem dX9_layTwos_95 : decode cX9_layTwos 95 = .ok (.iaload, 1) := dk_46 (dk_at dksX9_layTwos_4 3 rfl rfl)
theorem dX9_layTwos_96 : decode cX9_layTwos 96 = .ok (.iload 4, 2) := dk_21 4 (dk_at dksX9_layTwos_4 4 rfl rfl)
theorem dX9_layTwos_98 : decode cX9_layTwos 98 = .ok (.if_icmp .ne 23, 3) := dk_160 0 23 (dk_at dksX9_layTwos_4 6 rfl rfl)
theorem dX9_layTwos_101 : decode cX9_layTwos 101 = .ok (.aload_n 0, 1) := dk_42 (dk_at dksX9_layTwos_4 9 rfl rfl)
theorem dX9_layTwos_102 : decode cX9_layTwos 102 = .ok (.iload 4, 2) := dk_21 4 (dk_at dksX9_layTwos_4 10 rfl rfl)
theorem dX9_layTwos_104 : decode cX9_layTwos 104 = .ok (.aload_n 0, 1) := dk_42 (dk_at dksX9_layTwos_4 12 rfl rfl)
theorem dX9_layTwos_105 : decode cX9_layTwos 105 = .ok (.getfield 148, 3) := dk_180 0 148 (dk_at dksX9_layTwos_4 13 rfl rfl)
theorem dX9_layTwos_108 : decode cX9_layTwos 108 = .ok (.iload 4, 2) := dk_21 4 (dk_at dksX9_layTwos_4 16 rfl rfl)
theorem dX9_layTwos_110 : decode cX9_layTwos 110 = .ok (.iaload, 1) := dk_46 (dk_at dksX9_layTwos_4 18 rfl rfl)
theorem dX9_layTwos_111 : decode cX9_layTwos 111 = .ok (.invokevirtual 564, 3) := dk_182 2 52 (dk_at dksX9_layTwos_4 19 rfl rfl)
theorem dX9_layTwos_114 : decode cX9_layTwos 114 = .ok (.ifCond .eq 7, 3) := dk_153 0 7 (dk_at dksX9_layTwos_5 0 rfl rfl)
theorem dX9_layTwos_117 : decode cX9_layTwos 117 = .ok (.iconst 1, 1) := dk_4 (dk_at dksX9_layTwos_5 3 rfl rfl)
theorem dX9_layTwos_118 : decode cX9_layTwos 118 = .ok (.goto 4, 3) := dk_167 0 4 (dk_at dksX9_layTwos_5 4 rfl rfl)
theorem dX9_layTwos_121 : decode cX9_layTwos 121 = .ok (.iconst 0, 1) := dk_3 (dk_at dksX9_layTwos_5 7 rfl rfl)
theorem dX9_layTwos_122 : decode cX9_layTwos 122 = .ok (.istore_n 3, 1) := dk_62 (dk_at dksX9_layTwos_5 8 rfl rfl)
theorem dX9_layTwos_123 : decode cX9_layTwos 123 = .ok (.iinc 4 1, 3) := dk_132 4 1 (dk_at dksX9_layTwos_5 9 rfl rfl)
theorem dX9_layTwos_126 : decode cX9_layTwos 126 = .ok (.goto (-77), 3) := dk_167 255 179 (dk_at dksX9_layTwos_5 12 rfl rfl)
theorem dX9_layTwos_129 : decode cX9_layTwos 129 = .ok (.iload_n 3, 1) := dk_29 (dk_at dksX9_layTwos_5 15 rfl rfl)
theorem dX9_layTwos_130 : decode cX9_layTwos 130 = .ok (.ireturn, 1) := dk_172 (dk_at dksX9_layTwos_5 16 rfl rfl)
abbrev cX9_isTold : ByteArray := prog_24_method_93_code
def yX9_isTold : MethodName := ⟨RX9, "isTold", "(II)Z"⟩
def dkwX9_isTold_0 : List UInt8 := [42, 180, 0, 69, 16, 6, 27, 104, 28, 96, 46, 16, 156, 159, 0, 7, 4, 167, 0, 4, 3, 172]
abbrev dktX9_isTold_0 : List UInt8 := dkwX9_isTold_0 ++ []
theorem dksX9_isTold_0 : cX9_isTold.data.toList.drop 0 = dktX9_isTold_0 := by decide +kernel
theorem dX9_isTold_0 : decode cX9_isTold 0 = .ok (.aload_n 0, 1) := dk_42 (dk_at dksX9_isTold_0 0 rfl rfl)
theorem dX9_isTold_1 : decode cX9_isTold 1 = .ok (.getfield 69, 3) := dk_180 0 69 (dk_at dksX9_isTold_0 1 rfl rfl)
theorem dX9_isTold_4 : decode cX9_isTold 4 = .ok (.bipush 6, 2) := dk_16 6 (dk_at dksX9_isTold_0 4 rfl rfl)
theorem dX9_isTold_6 : decode cX9_isTold 6 = .ok (.iload_n 1, 1) := dk_27 (dk_at dksX9_isTold_0 6 rfl rfl)
theorem dX9_isTold_7 : decode cX9_isTold 7 = .ok (.imul, 1) := dk_104 (dk_at dksX9_isTold_0 7 rfl rfl)
theorem dX9_isTold_8 : decode cX9_isTold 8 = .ok (.iload_n 2, 1) := dk_28 (dk_at dksX9_isTold_0 8 rfl rfl)
theorem dX9_isTold_9 : decode cX9_isTold 9 = .ok (.iadd, 1) := dk_96 (dk_at dksX9_isTold_0 9 rfl rfl)
theorem dX9_isTold_10 : decode cX9_isTold 10 = .ok (.iaload, 1) := dk_46 (dk_at dksX9_isTold_0 10 rfl rfl)
theorem dX9_isTold_11 : decode cX9_isTold 11 = .ok (.bipush (-100), 2) := dk_16 156 (dk_at dksX9_isTold_0 11 rfl rfl)
theorem dX9_isTold_13 : decode cX9_isTold 13 = .ok (.if_icmp .eq 7, 3) := dk_159 0 7 (dk_at dksX9_isTold_0 13 rfl rfl)
theorem dX9_isTold_16 : decode cX9_isTold 16 = .ok (.iconst 1, 1) := dk_4 (dk_at dksX9_isTold_0 16 rfl rfl)
theorem dX9_isTold_17 : decode cX9_isTold 17 = .ok (.goto 4, 3) := dk_167 0 4 (dk_at dksX9_isTold_0 17 rfl rfl)
theorem dX9_isTold_20 : decode cX9_isTold 20 = .ok (.iconst 0, 1) := dk_3 (dk_at dksX9_isTold_0 20 rfl rfl)
theorem dX9_isTold_21 : decode cX9_isTold 21 = .ok (.ireturn, 1) := dk_172 (dk_at dksX9_isTold_0 21 rfl rfl)
abbrev cX9_has : ByteArray := prog_24_method_95_code
def yX9_has : MethodName := ⟨RX9, "has", "(I)I"⟩
def dkwX9_has_1 : List UInt8 := [180, 0, 148, 27, 46, 96, 46, 172]
abbrev dktX9_has_1 : List UInt8 := dkwX9_has_1 ++ []
def dkwX9_has_0 : List UInt8 := [42, 180, 0, 148, 27, 46, 156, 0, 7, 3, 167, 0, 19, 42, 180, 0, 69, 16, 6, 27, 104, 42]
abbrev dktX9_has_0 : List UInt8 := dkwX9_has_0 ++ dktX9_has_1
theorem dksX9_has_0 : cX9_has.data.toList.drop 0 = dktX9_has_0 := by decide +kernel
theorem dksX9_has_1 : cX9_has.data.toList.drop 22 = dktX9_has_1 := dk_seg dksX9_has_0 22 rfl rfl
theorem dX9_has_0 : decode cX9_has 0 = .ok (.aload_n 0, 1) := dk_42 (dk_at dksX9_has_0 0 rfl rfl)
theorem dX9_has_1 : decode cX9_has 1 = .ok (.getfield 148, 3) := dk_180 0 148 (dk_at dksX9_has_0 1 rfl rfl)
theorem dX9_has_4 : decode cX9_has 4 = .ok (.iload_n 1, 1) := dk_27 (dk_at dksX9_has_0 4 rfl rfl)
theorem dX9_has_5 : decode cX9_has 5 = .ok (.iaload, 1) := dk_46 (dk_at dksX9_has_0 5 rfl rfl)
theorem dX9_has_6 : decode cX9_has 6 = .ok (.ifCond .ge 7, 3) := dk_156 0 7 (dk_at dksX9_has_0 6 rfl rfl)
theorem dX9_has_9 : decode cX9_has 9 = .ok (.iconst 0, 1) := dk_3 (dk_at dksX9_has_0 9 rfl rfl)
theorem dX9_has_10 : decode cX9_has 10 = .ok (.goto 19, 3) := dk_167 0 19 (dk_at dksX9_has_0 10 rfl rfl)
theorem dX9_has_13 : decode cX9_has 13 = .ok (.aload_n 0, 1) := dk_42 (dk_at dksX9_has_0 13 rfl rfl)
theorem dX9_has_14 : decode cX9_has 14 = .ok (.getfield 69, 3) := dk_180 0 69 (dk_at dksX9_has_0 14 rfl rfl)
theorem dX9_has_17 : decode cX9_has 17 = .ok (.bipush 6, 2) := dk_16 6 (dk_at dksX9_has_0 17 rfl rfl)
theorem dX9_has_19 : decode cX9_has 19 = .ok (.iload_n 1, 1) := dk_27 (dk_at dksX9_has_0 19 rfl rfl)
theorem dX9_has_20 : decode cX9_has 20 = .ok (.imul, 1) := dk_104 (dk_at dksX9_has_0 20 rfl rfl)
theorem dX9_has_21 : decode cX9_has 21 = .ok (.aload_n 0, 1) := dk_42 (dk_at dksX9_has_0 21 rfl rfl)
theorem dX9_has_22 : decode cX9_has 22 = .ok (.getfield 148, 3) := dk_180 0 148 (dk_at dksX9_has_1 0 rfl rfl)
theorem dX9_has_25 : decode cX9_has 25 = .ok (.iload_n 1, 1) := dk_27 (dk_at dksX9_has_1 3 rfl rfl)
theorem dX9_has_26 : decode cX9_has 26 = .ok (.iaload, 1) := dk_46 (dk_at dksX9_has_1 4 rfl rfl)
theorem dX9_has_27 : decode cX9_has 27 = .ok (.iadd, 1) := dk_96 (dk_at dksX9_has_1 5 rfl rfl)
theorem dX9_has_28 : decode cX9_has 28 = .ok (.iaload, 1) := dk_46 (dk_at dksX9_has_1 6 rfl rfl)
theorem dX9_has_29 : decode cX9_has 29 = .ok (.ireturn, 1) := dk_172 (dk_at dksX9_has_1 7 rfl rfl)
abbrev cX9_putTwos : ByteArray := prog_24_method_96_code
def yX9_putTwos : MethodName := ⟨RX9, "putTwos", "()V"⟩
def dkwX9_putTwos_1 : List UInt8 := [132, 1, 1, 167, 255, 233, 42, 42, 180, 1, 167, 181, 1, 194, 177]
abbrev dktX9_putTwos_1 : List UInt8 := dkwX9_putTwos_1 ++ []
def dkwX9_putTwos_0 : List UInt8 := [3, 60, 27, 42, 180, 1, 167, 162, 0, 21, 42, 180, 0, 142, 27, 42, 180, 0, 148, 27, 46, 79]
abbrev dktX9_putTwos_0 : List UInt8 := dkwX9_putTwos_0 ++ dktX9_putTwos_1
theorem dksX9_putTwos_0 : cX9_putTwos.data.toList.drop 0 = dktX9_putTwos_0 := by decide +kernel
theorem dksX9_putTwos_1 : cX9_putTwos.data.toList.drop 22 = dktX9_putTwos_1 := dk_seg dksX9_putTwos_0 22 rfl rfl
theorem dX9_putTwos_0 : decode cX9_putTwos 0 = .ok (.iconst 0, 1) := dk_3 (dk_at dksX9_putTwos_0 0 rfl rfl)
theorem dX9_putTwos_1 : decode cX9_putTwos 1 = .ok (.istore_n 1, 1) := dk_60 (dk_at dksX9_putTwos_0 1 rfl rfl)
theorem dX9_putTwos_2 : decode cX9_putTwos 2 = .ok (.iload_n 1, 1) := dk_27 (dk_at dksX9_putTwos_0 2 rfl rfl)
theorem dX9_putTwos_3 : decode cX9_putTwos 3 = .ok (.aload_n 0, 1) := dk_42 (dk_at dksX9_putTwos_0 3 rfl rfl)
theorem dX9_putTwos_4 : decode cX9_putTwos 4 = .ok (.getfield 423, 3) := dk_180 1 167 (dk_at dksX9_putTwos_0 4 rfl rfl)
theorem dX9_putTwos_7 : decode cX9_putTwos 7 = .ok (.if_icmp .ge 21, 3) := dk_162 0 21 (dk_at dksX9_putTwos_0 7 rfl rfl)
theorem dX9_putTwos_10 : decode cX9_putTwos 10 = .ok (.aload_n 0, 1) := dk_42 (dk_at dksX9_putTwos_0 10 rfl rfl)
theorem dX9_putTwos_11 : decode cX9_putTwos 11 = .ok (.getfield 142, 3) := dk_180 0 142 (dk_at dksX9_putTwos_0 11 rfl rfl)
theorem dX9_putTwos_14 : decode cX9_putTwos 14 = .ok (.iload_n 1, 1) := dk_27 (dk_at dksX9_putTwos_0 14 rfl rfl)
theorem dX9_putTwos_15 : decode cX9_putTwos 15 = .ok (.aload_n 0, 1) := dk_42 (dk_at dksX9_putTwos_0 15 rfl rfl)
theorem dX9_putTwos_16 : decode cX9_putTwos 16 = .ok (.getfield 148, 3) := dk_180 0 148 (dk_at dksX9_putTwos_0 16 rfl rfl)
theorem dX9_putTwos_19 : decode cX9_putTwos 19 = .ok (.iload_n 1, 1) := dk_27 (dk_at dksX9_putTwos_0 19 rfl rfl)
theorem dX9_putTwos_20 : decode cX9_putTwos 20 = .ok (.iaload, 1) := dk_46 (dk_at dksX9_putTwos_0 20 rfl rfl)
theorem dX9_putTwos_21 : decode cX9_putTwos 21 = .ok (.iastore, 1) := dk_79 (dk_at dksX9_putTwos_0 21 rfl rfl)
theorem dX9_putTwos_22 : decode cX9_putTwos 22 = .ok (.iinc 1 1, 3) := dk_132 1 1 (dk_at dksX9_putTwos_1 0 rfl rfl)
theorem dX9_putTwos_25 : decode cX9_putTwos 25 = .ok (.goto (-23), 3) := dk_167 255 233 (dk_at dksX9_putTwos_1 3 rfl rfl)
theorem dX9_putTwos_28 : decode cX9_putTwos 28 = .ok (.aload_n 0, 1) := dk_42 (dk_at dksX9_putTwos_1 6 rfl rfl)
theorem dX9_putTwos_29 : decode cX9_putTwos 29 = .ok (.aload_n 0, 1) := dk_42 (dk_at dksX9_putTwos_1 7 rfl rfl)
theorem dX9_putTwos_30 : decode cX9_putTwos 30 = .ok (.getfield 423, 3) := dk_180 1 167 (dk_at dksX9_putTwos_1 8 rfl rfl)
theorem dX9_putTwos_33 : decode cX9_putTwos 33 = .ok (.putfield 450, 3) := dk_181 1 194 (dk_at dksX9_putTwos_1 11 rfl rfl)
theorem dX9_putTwos_36 : decode cX9_putTwos 36 = .ok (.return_, 1) := dk_177 (dk_at dksX9_putTwos_1 14 rfl rfl)
abbrev cX9_calm : ByteArray := prog_24_method_99_code
def yX9_calm : MethodName := ⟨RX9, "calm", "()I"⟩
def dkwX9_calm_2 : List UInt8 := [132, 3, 1, 167, 255, 219, 27, 172]
abbrev dktX9_calm_2 : List UInt8 := dkwX9_calm_2 ++ []
def dkwX9_calm_1 : List UInt8 := [153, 0, 24, 42, 182, 2, 67, 154, 0, 6, 167, 0, 14, 27, 154, 0, 7, 42, 182, 2, 64, 132, 1, 1]
abbrev dktX9_calm_1 : List UInt8 := dkwX9_calm_1 ++ dktX9_calm_2
def dkwX9_calm_0 : List UInt8 := [42, 3, 181, 1, 194, 3, 60, 42, 182, 2, 55, 61, 3, 62, 29, 28, 162, 0, 38, 42, 29, 182, 2, 58]
abbrev dktX9_calm_0 : List UInt8 := dkwX9_calm_0 ++ dktX9_calm_1
theorem dksX9_calm_0 : cX9_calm.data.toList.drop 0 = dktX9_calm_0 := by decide +kernel
theorem dksX9_calm_1 : cX9_calm.data.toList.drop 24 = dktX9_calm_1 := dk_seg dksX9_calm_0 24 rfl rfl
theorem dksX9_calm_2 : cX9_calm.data.toList.drop 48 = dktX9_calm_2 := dk_seg dksX9_calm_1 24 rfl rfl
theorem dX9_calm_0 : decode cX9_calm 0 = .ok (.aload_n 0, 1) := dk_42 (dk_at dksX9_calm_0 0 rfl rfl)
theorem dX9_calm_1 : decode cX9_calm 1 = .ok (.iconst 0, 1) := dk_3 (dk_at dksX9_calm_0 1 rfl rfl)
theorem dX9_calm_2 : decode cX9_calm 2 = .ok (.putfield 450, 3) := dk_181 1 194 (dk_at dksX9_calm_0 2 rfl rfl)
theorem dX9_calm_5 : decode cX9_calm 5 = .ok (.iconst 0, 1) := dk_3 (dk_at dksX9_calm_0 5 rfl rfl)
theorem dX9_calm_6 : decode cX9_calm 6 = .ok (.istore_n 1, 1) := dk_60 (dk_at dksX9_calm_0 6 rfl rfl)
theorem dX9_calm_7 : decode cX9_calm 7 = .ok (.aload_n 0, 1) := dk_42 (dk_at dksX9_calm_0 7 rfl rfl)
theorem dX9_calm_8 : decode cX9_calm 8 = .ok (.invokevirtual 567, 3) := dk_182 2 55 (dk_at dksX9_calm_0 8 rfl rfl)
theorem dX9_calm_11 : decode cX9_calm 11 = .ok (.istore_n 2, 1) := dk_61 (dk_at dksX9_calm_0 11 rfl rfl)
theorem dX9_calm_12 : decode cX9_calm 12 = .ok (.iconst 0, 1) := dk_3 (dk_at dksX9_calm_0 12 rfl rfl)
theorem dX9_calm_13 : decode cX9_calm 13 = .ok (.istore_n 3, 1) := dk_62 (dk_at dksX9_calm_0 13 rfl rfl)
theorem dX9_calm_14 : decode cX9_calm 14 = .ok (.iload_n 3, 1) := dk_29 (dk_at dksX9_calm_0 14 rfl rfl)
theorem dX9_calm_15 : decode cX9_calm 15 = .ok (.iload_n 2, 1) := dk_28 (dk_at dksX9_calm_0 15 rfl rfl)
theorem dX9_calm_16 : decode cX9_calm 16 = .ok (.if_icmp .ge 38, 3) := dk_162 0 38 (dk_at dksX9_calm_0 16 rfl rfl)
theorem dX9_calm_19 : decode cX9_calm 19 = .ok (.aload_n 0, 1) := dk_42 (dk_at dksX9_calm_0 19 rfl rfl)
theorem dX9_calm_20 : decode cX9_calm 20 = .ok (.iload_n 3, 1) := dk_29 (dk_at dksX9_calm_0 20 rfl rfl)
theorem dX9_calm_21 : decode cX9_calm 21 = .ok (.invokevirtual 570, 3) := dk_182 2 58 (dk_at dksX9_calm_0 21 rfl rfl)
theorem dX9_calm_24 : decode cX9_calm 24 = .ok (.ifCond .eq 24, 3) := dk_153 0 24 (dk_at dksX9_calm_1 0 rfl rfl)
theorem dX9_calm_27 : decode cX9_calm 27 = .ok (.aload_n 0, 1) := dk_42 (dk_at dksX9_calm_1 3 rfl rfl)
theorem dX9_calm_28 : decode cX9_calm 28 = .ok (.invokevirtual 579, 3) := dk_182 2 67 (dk_at dksX9_calm_1 4 rfl rfl)
theorem dX9_calm_31 : decode cX9_calm 31 = .ok (.ifCond .ne 6, 3) := dk_154 0 6 (dk_at dksX9_calm_1 7 rfl rfl)
theorem dX9_calm_34 : decode cX9_calm 34 = .ok (.goto 14, 3) := dk_167 0 14 (dk_at dksX9_calm_1 10 rfl rfl)
theorem dX9_calm_37 : decode cX9_calm 37 = .ok (.iload_n 1, 1) := dk_27 (dk_at dksX9_calm_1 13 rfl rfl)
theorem dX9_calm_38 : decode cX9_calm 38 = .ok (.ifCond .ne 7, 3) := dk_154 0 7 (dk_at dksX9_calm_1 14 rfl rfl)
theorem dX9_calm_41 : decode cX9_calm 41 = .ok (.aload_n 0, 1) := dk_42 (dk_at dksX9_calm_1 17 rfl rfl)
theorem dX9_calm_42 : decode cX9_calm 42 = .ok (.invokevirtual 576, 3) := dk_182 2 64 (dk_at dksX9_calm_1 18 rfl rfl)
theorem dX9_calm_45 : decode cX9_calm 45 = .ok (.iinc 1 1, 3) := dk_132 1 1 (dk_at dksX9_calm_1 21 rfl rfl)
theorem dX9_calm_48 : decode cX9_calm 48 = .ok (.iinc 3 1, 3) := dk_132 3 1 (dk_at dksX9_calm_2 0 rfl rfl)
theorem dX9_calm_51 : decode cX9_calm 51 = .ok (.goto (-37), 3) := dk_167 255 219 (dk_at dksX9_calm_2 3 rfl rfl)
theorem dX9_calm_54 : decode cX9_calm 54 = .ok (.iload_n 1, 1) := dk_27 (dk_at dksX9_calm_2 6 rfl rfl)
theorem dX9_calm_55 : decode cX9_calm 55 = .ok (.ireturn, 1) := dk_172 (dk_at dksX9_calm_2 7 rfl rfl)
abbrev cX9_isCalm : ByteArray := prog_24_method_98_code
def yX9_isCalm : MethodName := ⟨RX9, "isCalm", "()Z"⟩
def dkwX9_isCalm_4 : List UInt8 := [167, 255, 165, 27, 172]
abbrev dktX9_isCalm_4 : List UInt8 := dkwX9_isCalm_4 ++ []
def dkwX9_isCalm_3 : List UInt8 := [42, 29, 182, 2, 61, 163, 0, 7, 4, 167, 0, 4, 3, 60, 132, 3, 1, 167, 255, 181, 132, 2, 1]
abbrev dktX9_isCalm_3 : List UInt8 := dkwX9_isCalm_3 ++ dktX9_isCalm_4
def dkwX9_isCalm_2 : List UInt8 := [28, 104, 29, 96, 46, 42, 28, 182, 2, 61, 164, 0, 22, 42, 180, 0, 69, 16, 6, 28, 104, 29, 96, 46]
abbrev dktX9_isCalm_2 : List UInt8 := dkwX9_isCalm_2 ++ dktX9_isCalm_3
def dkwX9_isCalm_1 : List UInt8 := [28, 29, 182, 2, 52, 153, 0, 51, 42, 180, 0, 148, 28, 46, 29, 159, 0, 41, 42, 180, 0, 69, 16, 6]
abbrev dktX9_isCalm_1 : List UInt8 := dkwX9_isCalm_1 ++ dktX9_isCalm_2
def dkwX9_isCalm_0 : List UInt8 := [4, 60, 3, 61, 28, 42, 180, 1, 167, 162, 0, 89, 3, 62, 29, 28, 162, 0, 76, 27, 153, 0, 64, 42]
abbrev dktX9_isCalm_0 : List UInt8 := dkwX9_isCalm_0 ++ dktX9_isCalm_1
theorem dksX9_isCalm_0 : cX9_isCalm.data.toList.drop 0 = dktX9_isCalm_0 := by decide +kernel
theorem dksX9_isCalm_1 : cX9_isCalm.data.toList.drop 24 = dktX9_isCalm_1 := dk_seg dksX9_isCalm_0 24 rfl rfl
theorem dksX9_isCalm_2 : cX9_isCalm.data.toList.drop 48 = dktX9_isCalm_2 := dk_seg dksX9_isCalm_1 24 rfl rfl
theorem dksX9_isCalm_3 : cX9_isCalm.data.toList.drop 72 = dktX9_isCalm_3 := dk_seg dksX9_isCalm_2 24 rfl rfl
theorem dksX9_isCalm_4 : cX9_isCalm.data.toList.drop 95 = dktX9_isCalm_4 := dk_seg dksX9_isCalm_3 23 rfl rfl
theorem dX9_isCalm_0 : decode cX9_isCalm 0 = .ok (.iconst 1, 1) := dk_4 (dk_at dksX9_isCalm_0 0 rfl rfl)
theorem dX9_isCalm_1 : decode cX9_isCalm 1 = .ok (.istore_n 1, 1) := dk_60 (dk_at dksX9_isCalm_0 1 rfl rfl)
theorem dX9_isCalm_2 : decode cX9_isCalm 2 = .ok (.iconst 0, 1) := dk_3 (dk_at dksX9_isCalm_0 2 rfl rfl)
theorem dX9_isCalm_3 : decode cX9_isCalm 3 = .ok (.istore_n 2, 1) := dk_61 (dk_at dksX9_isCalm_0 3 rfl rfl)
theorem dX9_isCalm_4 : decode cX9_isCalm 4 = .ok (.iload_n 2, 1) := dk_28 (dk_at dksX9_isCalm_0 4 rfl rfl)
theorem dX9_isCalm_5 : decode cX9_isCalm 5 = .ok (.aload_n 0, 1) := dk_42 (dk_at dksX9_isCalm_0 5 rfl rfl)
theorem dX9_isCalm_6 : decode cX9_isCalm 6 = .ok (.getfield 423, 3) := dk_180 1 167 (dk_at dksX9_isCalm_0 6 rfl rfl)
theorem dX9_isCalm_9 : decode cX9_isCalm 9 = .ok (.if_icmp .ge 89, 3) := dk_162 0 89 (dk_at dksX9_isCalm_0 9 rfl rfl)
theorem dX9_isCalm_12 : decode cX9_isCalm 12 = .ok (.iconst 0, 1) := dk_3 (dk_at dksX9_isCalm_0 12 rfl rfl)
theorem dX9_isCalm_13 : decode cX9_isCalm 13 = .ok (.istore_n 3, 1) := dk_62 (dk_at dksX9_isCalm_0 13 rfl rfl)
theorem dX9_isCalm_14 : decode cX9_isCalm 14 = .ok (.iload_n 3, 1) := dk_29 (dk_at dksX9_isCalm_0 14 rfl rfl)
theorem dX9_isCalm_15 : decode cX9_isCalm 15 = .ok (.iload_n 2, 1) := dk_28 (dk_at dksX9_isCalm_0 15 rfl rfl)
theorem dX9_isCalm_16 : decode cX9_isCalm 16 = .ok (.if_icmp .ge 76, 3) := dk_162 0 76 (dk_at dksX9_isCalm_0 16 rfl rfl)
theorem dX9_isCalm_19 : decode cX9_isCalm 19 = .ok (.iload_n 1, 1) := dk_27 (dk_at dksX9_isCalm_0 19 rfl rfl)
theorem dX9_isCalm_20 : decode cX9_isCalm 20 = .ok (.ifCond .eq 64, 3) := dk_153 0 64 (dk_at dksX9_isCalm_0 20 rfl rfl)
theorem dX9_isCalm_23 : decode cX9_isCalm 23 = .ok (.aload_n 0, 1) := dk_42 (dk_at dksX9_isCalm_0 23 rfl rfl)
theorem dX9_isCalm_24 : decode cX9_isCalm 24 = .ok (.iload_n 2, 1) := dk_28 (dk_at dksX9_isCalm_1 0 rfl rfl)
theorem dX9_isCalm_25 : decode cX9_isCalm 25 = .ok (.iload_n 3, 1) := dk_29 (dk_at dksX9_isCalm_1 1 rfl rfl)
theorem dX9_isCalm_26 : decode cX9_isCalm 26 = .ok (.invokevirtual 564, 3) := dk_182 2 52 (dk_at dksX9_isCalm_1 2 rfl rfl)
theorem dX9_isCalm_29 : decode cX9_isCalm 29 = .ok (.ifCond .eq 51, 3) := dk_153 0 51 (dk_at dksX9_isCalm_1 5 rfl rfl)
theorem dX9_isCalm_32 : decode cX9_isCalm 32 = .ok (.aload_n 0, 1) := dk_42 (dk_at dksX9_isCalm_1 8 rfl rfl)
theorem dX9_isCalm_33 : decode cX9_isCalm 33 = .ok (.getfield 148, 3) := dk_180 0 148 (dk_at dksX9_isCalm_1 9 rfl rfl)
theorem dX9_isCalm_36 : decode cX9_isCalm 36 = .ok (.iload_n 2, 1) := dk_28 (dk_at dksX9_isCalm_1 12 rfl rfl)
theorem dX9_isCalm_37 : decode cX9_isCalm 37 = .ok (.iaload, 1) := dk_46 (dk_at dksX9_isCalm_1 13 rfl rfl)
theorem dX9_isCalm_38 : decode cX9_isCalm 38 = .ok (.iload_n 3, 1) := dk_29 (dk_at dksX9_isCalm_1 14 rfl rfl)
theorem dX9_isCalm_39 : decode cX9_isCalm 39 = .ok (.if_icmp .eq 41, 3) := dk_159 0 41 (dk_at dksX9_isCalm_1 15 rfl rfl)
theorem dX9_isCalm_42 : decode cX9_isCalm 42 = .ok (.aload_n 0, 1) := dk_42 (dk_at dksX9_isCalm_1 18 rfl rfl)
theorem dX9_isCalm_43 : decode cX9_isCalm 43 = .ok (.getfield 69, 3) := dk_180 0 69 (dk_at dksX9_isCalm_1 19 rfl rfl)
theorem dX9_isCalm_46 : decode cX9_isCalm 46 = .ok (.bipush 6, 2) := dk_16 6 (dk_at dksX9_isCalm_1 22 rfl rfl)
theorem dX9_isCalm_48 : decode cX9_isCalm 48 = .ok (.iload_n 2, 1) := dk_28 (dk_at dksX9_isCalm_2 0 rfl rfl)
theorem dX9_isCalm_49 : decode cX9_isCalm 49 = .ok (.imul, 1) := dk_104 (dk_at dksX9_isCalm_2 1 rfl rfl)
theorem dX9_isCalm_50 : decode cX9_isCalm 50 = .ok (.iload_n 3, 1) := dk_29 (dk_at dksX9_isCalm_2 2 rfl rfl)
theorem dX9_isCalm_51 : decode cX9_isCalm 51 = .ok (.iadd, 1) := dk_96 (dk_at dksX9_isCalm_2 3 rfl rfl)
theorem dX9_isCalm_52 : decode cX9_isCalm 52 = .ok (.iaload, 1) := dk_46 (dk_at dksX9_isCalm_2 4 rfl rfl)
theorem dX9_isCalm_53 : decode cX9_isCalm 53 = .ok (.aload_n 0, 1) := dk_42 (dk_at dksX9_isCalm_2 5 rfl rfl)
theorem dX9_isCalm_54 : decode cX9_isCalm 54 = .ok (.iload_n 2, 1) := dk_28 (dk_at dksX9_isCalm_2 6 rfl rfl)
theorem dX9_isCalm_55 : decode cX9_isCalm 55 = .ok (.invokevirtual 573, 3) := dk_182 2 61 (dk_at dksX9_isCalm_2 7 rfl rfl)
theorem dX9_isCalm_58 : decode cX9_isCalm 58 = .ok (.if_icmp .le 22, 3) := dk_164 0 22 (dk_at dksX9_isCalm_2 10 rfl rfl)
theorem dX9_isCalm_61 : decode cX9_isCalm 61 = .ok (.aload_n 0, 1) := dk_42 (dk_at dksX9_isCalm_2 13 rfl rfl)
theorem dX9_isCalm_62 : decode cX9_isCalm 62 = .ok (.getfield 69, 3) := dk_180 0 69 (dk_at dksX9_isCalm_2 14 rfl rfl)
theorem dX9_isCalm_65 : decode cX9_isCalm 65 = .ok (.bipush 6, 2) := dk_16 6 (dk_at dksX9_isCalm_2 17 rfl rfl)
theorem dX9_isCalm_67 : decode cX9_isCalm 67 = .ok (.iload_n 2, 1) := dk_28 (dk_at dksX9_isCalm_2 19 rfl rfl)
theorem dX9_isCalm_68 : decode cX9_isCalm 68 = .ok (.imul, 1) := dk_104 (dk_at dksX9_isCalm_2 20 rfl rfl)
theorem dX9_isCalm_69 : decode cX9_isCalm 69 = .ok (.iload_n 3, 1) := dk_29 (dk_at dksX9_isCalm_2 21 rfl rfl)
theorem dX9_isCalm_70 : decode cX9_isCalm 70 = .ok (.iadd, 1) := dk_96 (dk_at dksX9_isCalm_2 22 rfl rfl)
theorem dX9_isCalm_71 : decode cX9_isCalm 71 = .ok (.iaload, 1) := dk_46 (dk_at dksX9_isCalm_2 23 rfl rfl)
theorem dX9_isCalm_72 : decode cX9_isCalm 72 = .ok (.aload_n 0, 1) := dk_42 (dk_at dksX9_isCalm_3 0 rfl rfl)
theorem dX9_isCalm_73 : decode cX9_isCalm 73 = .ok (.iload_n 3, 1) := dk_29 (dk_at dksX9_isCalm_3 1 rfl rfl)
theorem dX9_isCalm_74 : decode cX9_isCalm 74 = .ok (.invokevirtual 573, 3) := dk_182 2 61 (dk_at dksX9_isCalm_3 2 rfl rfl)
theorem dX9_isCalm_77 : decode cX9_isCalm 77 = .ok (.if_icmp .gt 7, 3) := dk_163 0 7 (dk_at dksX9_isCalm_3 5 rfl rfl)
theorem dX9_isCalm_80 : decode cX9_isCalm 80 = .ok (.iconst 1, 1) := dk_4 (dk_at dksX9_isCalm_3 8 rfl rfl)
theorem dX9_isCalm_81 : decode cX9_isCalm 81 = .ok (.goto 4, 3) := dk_167 0 4 (dk_at dksX9_isCalm_3 9 rfl rfl)
theorem dX9_isCalm_84 : decode cX9_isCalm 84 = .ok (.iconst 0, 1) := dk_3 (dk_at dksX9_isCalm_3 12 rfl rfl)
theorem dX9_isCalm_85 : decode cX9_isCalm 85 = .ok (.istore_n 1, 1) := dk_60 (dk_at dksX9_isCalm_3 13 rfl rfl)
theorem dX9_isCalm_86 : decode cX9_isCalm 86 = .ok (.iinc 3 1, 3) := dk_132 3 1 (dk_at dksX9_isCalm_3 14 rfl rfl)
theorem dX9_isCalm_89 : decode cX9_isCalm 89 = .ok (.goto (-75), 3) := dk_167 255 181 (dk_at dksX9_isCalm_3 17 rfl rfl)
theorem dX9_isCalm_92 : decode cX9_isCalm 92 = .ok (.iinc 2 1, 3) := dk_132 2 1 (dk_at dksX9_isCalm_3 20 rfl rfl)
theorem dX9_isCalm_95 : decode cX9_isCalm 95 = .ok (.goto (-91), 3) := dk_167 255 165 (dk_at dksX9_isCalm_4 0 rfl rfl)
theorem dX9_isCalm_98 : decode cX9_isCalm 98 = .ok (.iload_n 1, 1) := dk_27 (dk_at dksX9_isCalm_4 3 rfl rfl)
theorem dX9_isCalm_99 : decode cX9_isCalm 99 = .ok (.ireturn, 1) := dk_172 (dk_at dksX9_isCalm_4 4 rfl rfl)
abbrev cX9_likes : ByteArray := prog_24_method_100_code
def yX9_likes : MethodName := ⟨RX9, "likes", "(II)I"⟩
def dkwX9_likes_1 : List UInt8 := [180, 0, 69, 16, 6, 27, 104, 28, 96, 46, 167, 0, 5, 16, 156, 172]
abbrev dktX9_likes_1 : List UInt8 := dkwX9_likes_1 ++ []
def dkwX9_likes_0 : List UInt8 := [42, 27, 182, 1, 204, 153, 0, 30, 42, 28, 182, 1, 204, 153, 0, 22, 27, 28, 159, 0, 17, 42]
abbrev dktX9_likes_0 : List UInt8 := dkwX9_likes_0 ++ dktX9_likes_1
theorem dksX9_likes_0 : cX9_likes.data.toList.drop 0 = dktX9_likes_0 := by decide +kernel
theorem dksX9_likes_1 : cX9_likes.data.toList.drop 22 = dktX9_likes_1 := dk_seg dksX9_likes_0 22 rfl rfl
theorem dX9_likes_0 : decode cX9_likes 0 = .ok (.aload_n 0, 1) := dk_42 (dk_at dksX9_likes_0 0 rfl rfl)
theorem dX9_likes_1 : decode cX9_likes 1 = .ok (.iload_n 1, 1) := dk_27 (dk_at dksX9_likes_0 1 rfl rfl)
theorem dX9_likes_2 : decode cX9_likes 2 = .ok (.invokevirtual 460, 3) := dk_182 1 204 (dk_at dksX9_likes_0 2 rfl rfl)
theorem dX9_likes_5 : decode cX9_likes 5 = .ok (.ifCond .eq 30, 3) := dk_153 0 30 (dk_at dksX9_likes_0 5 rfl rfl)
theorem dX9_likes_8 : decode cX9_likes 8 = .ok (.aload_n 0, 1) := dk_42 (dk_at dksX9_likes_0 8 rfl rfl)
theorem dX9_likes_9 : decode cX9_likes 9 = .ok (.iload_n 2, 1) := dk_28 (dk_at dksX9_likes_0 9 rfl rfl)
theorem dX9_likes_10 : decode cX9_likes 10 = .ok (.invokevirtual 460, 3) := dk_182 1 204 (dk_at dksX9_likes_0 10 rfl rfl)
theorem dX9_likes_13 : decode cX9_likes 13 = .ok (.ifCond .eq 22, 3) := dk_153 0 22 (dk_at dksX9_likes_0 13 rfl rfl)
theorem dX9_likes_16 : decode cX9_likes 16 = .ok (.iload_n 1, 1) := dk_27 (dk_at dksX9_likes_0 16 rfl rfl)
theorem dX9_likes_17 : decode cX9_likes 17 = .ok (.iload_n 2, 1) := dk_28 (dk_at dksX9_likes_0 17 rfl rfl)
theorem dX9_likes_18 : decode cX9_likes 18 = .ok (.if_icmp .eq 17, 3) := dk_159 0 17 (dk_at dksX9_likes_0 18 rfl rfl)
theorem dX9_likes_21 : decode cX9_likes 21 = .ok (.aload_n 0, 1) := dk_42 (dk_at dksX9_likes_0 21 rfl rfl)
theorem dX9_likes_22 : decode cX9_likes 22 = .ok (.getfield 69, 3) := dk_180 0 69 (dk_at dksX9_likes_1 0 rfl rfl)
theorem dX9_likes_25 : decode cX9_likes 25 = .ok (.bipush 6, 2) := dk_16 6 (dk_at dksX9_likes_1 3 rfl rfl)
theorem dX9_likes_27 : decode cX9_likes 27 = .ok (.iload_n 1, 1) := dk_27 (dk_at dksX9_likes_1 5 rfl rfl)
theorem dX9_likes_28 : decode cX9_likes 28 = .ok (.imul, 1) := dk_104 (dk_at dksX9_likes_1 6 rfl rfl)
theorem dX9_likes_29 : decode cX9_likes 29 = .ok (.iload_n 2, 1) := dk_28 (dk_at dksX9_likes_1 7 rfl rfl)
theorem dX9_likes_30 : decode cX9_likes 30 = .ok (.iadd, 1) := dk_96 (dk_at dksX9_likes_1 8 rfl rfl)
theorem dX9_likes_31 : decode cX9_likes 31 = .ok (.iaload, 1) := dk_46 (dk_at dksX9_likes_1 9 rfl rfl)
theorem dX9_likes_32 : decode cX9_likes 32 = .ok (.goto 5, 3) := dk_167 0 5 (dk_at dksX9_likes_1 10 rfl rfl)
theorem dX9_likes_35 : decode cX9_likes 35 = .ok (.bipush (-100), 2) := dk_16 156 (dk_at dksX9_likes_1 13 rfl rfl)
theorem dX9_likes_37 : decode cX9_likes 37 = .ok (.ireturn, 1) := dk_172 (dk_at dksX9_likes_1 15 rfl rfl)
abbrev cX9_lies : ByteArray := prog_24_method_101_code
def yX9_lies : MethodName := ⟨RX9, "lies", "(I)I"⟩
def dkwX9_lies_1 : List UInt8 := [16, 254, 172]
abbrev dktX9_lies_1 : List UInt8 := dkwX9_lies_1 ++ []
def dkwX9_lies_0 : List UInt8 := [27, 3, 42, 180, 1, 194, 4, 100, 184, 1, 197, 153, 0, 12, 42, 180, 0, 142, 27, 46, 167, 0, 5]
abbrev dktX9_lies_0 : List UInt8 := dkwX9_lies_0 ++ dktX9_lies_1
theorem dksX9_lies_0 : cX9_lies.data.toList.drop 0 = dktX9_lies_0 := by decide +kernel
theorem dksX9_lies_1 : cX9_lies.data.toList.drop 23 = dktX9_lies_1 := dk_seg dksX9_lies_0 23 rfl rfl
theorem dX9_lies_0 : decode cX9_lies 0 = .ok (.iload_n 1, 1) := dk_27 (dk_at dksX9_lies_0 0 rfl rfl)
theorem dX9_lies_1 : decode cX9_lies 1 = .ok (.iconst 0, 1) := dk_3 (dk_at dksX9_lies_0 1 rfl rfl)
theorem dX9_lies_2 : decode cX9_lies 2 = .ok (.aload_n 0, 1) := dk_42 (dk_at dksX9_lies_0 2 rfl rfl)
theorem dX9_lies_3 : decode cX9_lies 3 = .ok (.getfield 450, 3) := dk_180 1 194 (dk_at dksX9_lies_0 3 rfl rfl)
theorem dX9_lies_6 : decode cX9_lies 6 = .ok (.iconst 1, 1) := dk_4 (dk_at dksX9_lies_0 6 rfl rfl)
theorem dX9_lies_7 : decode cX9_lies 7 = .ok (.isub, 1) := dk_100 (dk_at dksX9_lies_0 7 rfl rfl)
theorem dX9_lies_8 : decode cX9_lies 8 = .ok (.invokestatic 453, 3) := dk_184 1 197 (dk_at dksX9_lies_0 8 rfl rfl)
theorem dX9_lies_11 : decode cX9_lies 11 = .ok (.ifCond .eq 12, 3) := dk_153 0 12 (dk_at dksX9_lies_0 11 rfl rfl)
theorem dX9_lies_14 : decode cX9_lies 14 = .ok (.aload_n 0, 1) := dk_42 (dk_at dksX9_lies_0 14 rfl rfl)
theorem dX9_lies_15 : decode cX9_lies 15 = .ok (.getfield 142, 3) := dk_180 0 142 (dk_at dksX9_lies_0 15 rfl rfl)
theorem dX9_lies_18 : decode cX9_lies 18 = .ok (.iload_n 1, 1) := dk_27 (dk_at dksX9_lies_0 18 rfl rfl)
theorem dX9_lies_19 : decode cX9_lies 19 = .ok (.iaload, 1) := dk_46 (dk_at dksX9_lies_0 19 rfl rfl)
theorem dX9_lies_20 : decode cX9_lies 20 = .ok (.goto 5, 3) := dk_167 0 5 (dk_at dksX9_lies_0 20 rfl rfl)
theorem dX9_lies_23 : decode cX9_lies 23 = .ok (.bipush (-2), 2) := dk_16 254 (dk_at dksX9_lies_1 0 rfl rfl)
theorem dX9_lies_25 : decode cX9_lies 25 = .ok (.ireturn, 1) := dk_172 (dk_at dksX9_lies_1 2 rfl rfl)
abbrev cX9_tug : ByteArray := prog_24_method_102_code
def yX9_tug : MethodName := ⟨RX9, "tug", "(IIZ)I"⟩
def dkwX9_tug_4 : List UInt8 := [42, 180, 1, 191, 4, 100, 172]
abbrev dktX9_tug_4 : List UInt8 := dkwX9_tug_4 ++ []
def dkwX9_tug_3 : List UInt8 := [180, 2, 70, 79, 42, 180, 0, 160, 42, 180, 1, 191, 2, 79, 42, 89, 180, 1, 191, 4, 96, 181, 1, 191]
abbrev dktX9_tug_3 : List UInt8 := dkwX9_tug_3 ++ dktX9_tug_4
def dkwX9_tug_2 : List UInt8 := [180, 1, 191, 28, 79, 42, 180, 0, 163, 42, 180, 1, 191, 29, 84, 42, 180, 0, 157, 42, 180, 1, 191, 42]
abbrev dktX9_tug_2 : List UInt8 := dkwX9_tug_2 ++ dktX9_tug_3
def dkwX9_tug_1 : List UInt8 := [16, 30, 160, 0, 5, 2, 172, 42, 180, 0, 151, 42, 180, 1, 191, 27, 79, 42, 180, 0, 154, 42]
abbrev dktX9_tug_1 : List UInt8 := dkwX9_tug_1 ++ dktX9_tug_2
def dkwX9_tug_0 : List UInt8 := [27, 3, 5, 184, 1, 197, 153, 0, 22, 28, 3, 16, 9, 184, 1, 197, 153, 0, 12, 42, 180, 1, 191]
abbrev dktX9_tug_0 : List UInt8 := dkwX9_tug_0 ++ dktX9_tug_1
theorem dksX9_tug_0 : cX9_tug.data.toList.drop 0 = dktX9_tug_0 := by decide +kernel
theorem dksX9_tug_1 : cX9_tug.data.toList.drop 23 = dktX9_tug_1 := dk_seg dksX9_tug_0 23 rfl rfl
theorem dksX9_tug_2 : cX9_tug.data.toList.drop 45 = dktX9_tug_2 := dk_seg dksX9_tug_1 22 rfl rfl
theorem dksX9_tug_3 : cX9_tug.data.toList.drop 69 = dktX9_tug_3 := dk_seg dksX9_tug_2 24 rfl rfl
theorem dksX9_tug_4 : cX9_tug.data.toList.drop 93 = dktX9_tug_4 := dk_seg dksX9_tug_3 24 rfl rfl
theorem dX9_tug_0 : decode cX9_tug 0 = .ok (.iload_n 1, 1) := dk_27 (dk_at dksX9_tug_0 0 rfl rfl)
theorem dX9_tug_1 : decode cX9_tug 1 = .ok (.iconst 0, 1) := dk_3 (dk_at dksX9_tug_0 1 rfl rfl)
theorem dX9_tug_2 : decode cX9_tug 2 = .ok (.iconst 2, 1) := dk_5 (dk_at dksX9_tug_0 2 rfl rfl)
theorem dX9_tug_3 : decode cX9_tug 3 = .ok (.invokestatic 453, 3) := dk_184 1 197 (dk_at dksX9_tug_0 3 rfl rfl)
theorem dX9_tug_6 : decode cX9_tug 6 = .ok (.ifCond .eq 22, 3) := dk_153 0 22 (dk_at dksX9_tug_0 6 rfl rfl)
theorem dX9_tug_9 : decode cX9_tug 9 = .ok (.iload_n 2, 1) := dk_28 (dk_at dksX9_tug_0 9 rfl rfl)
theorem dX9_tug_10 : decode cX9_tug 10 = .ok (.iconst 0, 1) := dk_3 (dk_at dksX9_tug_0 10 rfl rfl)
theorem dX9_tug_11 : decode cX9_tug 11 = .ok (.bipush 9, 2) := dk_16 9 (dk_at dksX9_tug_0 11 rfl rfl)
theorem dX9_tug_13 : decode cX9_tug 13 = .ok (.invokestatic 453, 3) := dk_184 1 197 (dk_at dksX9_tug_0 13 rfl rfl)
theorem dX9_tug_16 : decode cX9_tug 16 = .ok (.ifCond .eq 12, 3) := dk_153 0 12 (dk_at dksX9_tug_0 16 rfl rfl)
theorem dX9_tug_19 : decode cX9_tug 19 = .ok (.aload_n 0, 1) := dk_42 (dk_at dksX9_tug_0 19 rfl rfl)
theorem dX9_tug_20 : decode cX9_tug 20 = .ok (.getfield 447, 3) := dk_180 1 191 (dk_at dksX9_tug_0 20 rfl rfl)
theorem dX9_tug_23 : decode cX9_tug 23 = .ok (.bipush 30, 2) := dk_16 30 (dk_at dksX9_tug_1 0 rfl rfl)
theorem dX9_tug_25 : decode cX9_tug 25 = .ok (.if_icmp .ne 5, 3) := dk_160 0 5 (dk_at dksX9_tug_1 2 rfl rfl)
theorem dX9_tug_28 : decode cX9_tug 28 = .ok (.iconst (-1), 1) := dk_2 (dk_at dksX9_tug_1 5 rfl rfl)
theorem dX9_tug_29 : decode cX9_tug 29 = .ok (.ireturn, 1) := dk_172 (dk_at dksX9_tug_1 6 rfl rfl)
theorem dX9_tug_30 : decode cX9_tug 30 = .ok (.aload_n 0, 1) := dk_42 (dk_at dksX9_tug_1 7 rfl rfl)
theorem dX9_tug_31 : decode cX9_tug 31 = .ok (.getfield 151, 3) := dk_180 0 151 (dk_at dksX9_tug_1 8 rfl rfl)
theorem dX9_tug_34 : decode cX9_tug 34 = .ok (.aload_n 0, 1) := dk_42 (dk_at dksX9_tug_1 11 rfl rfl)
theorem dX9_tug_35 : decode cX9_tug 35 = .ok (.getfield 447, 3) := dk_180 1 191 (dk_at dksX9_tug_1 12 rfl rfl)
theorem dX9_tug_38 : decode cX9_tug 38 = .ok (.iload_n 1, 1) := dk_27 (dk_at dksX9_tug_1 15 rfl rfl)
theorem dX9_tug_39 : decode cX9_tug 39 = .ok (.iastore, 1) := dk_79 (dk_at dksX9_tug_1 16 rfl rfl)
theorem dX9_tug_40 : decode cX9_tug 40 = .ok (.aload_n 0, 1) := dk_42 (dk_at dksX9_tug_1 17 rfl rfl)
theorem dX9_tug_41 : decode cX9_tug 41 = .ok (.getfield 154, 3) := dk_180 0 154 (dk_at dksX9_tug_1 18 rfl rfl)
theorem dX9_tug_44 : decode cX9_tug 44 = .ok (.aload_n 0, 1) := dk_42 (dk_at dksX9_tug_1 21 rfl rfl)
theorem dX9_tug_45 : decode cX9_tug 45 = .ok (.getfield 447, 3) := dk_180 1 191 (dk_at dksX9_tug_2 0 rfl rfl)
theorem dX9_tug_48 : decode cX9_tug 48 = .ok (.iload_n 2, 1) := dk_28 (dk_at dksX9_tug_2 3 rfl rfl)
theorem dX9_tug_49 : decode cX9_tug 49 = .ok (.iastore, 1) := dk_79 (dk_at dksX9_tug_2 4 rfl rfl)
theorem dX9_tug_50 : decode cX9_tug 50 = .ok (.aload_n 0, 1) := dk_42 (dk_at dksX9_tug_2 5 rfl rfl)
theorem dX9_tug_51 : decode cX9_tug 51 = .ok (.getfield 163, 3) := dk_180 0 163 (dk_at dksX9_tug_2 6 rfl rfl)
theorem dX9_tug_54 : decode cX9_tug 54 = .ok (.aload_n 0, 1) := dk_42 (dk_at dksX9_tug_2 9 rfl rfl)
theorem dX9_tug_55 : decode cX9_tug 55 = .ok (.getfield 447, 3) := dk_180 1 191 (dk_at dksX9_tug_2 10 rfl rfl)
theorem dX9_tug_58 : decode cX9_tug 58 = .ok (.iload_n 3, 1) := dk_29 (dk_at dksX9_tug_2 13 rfl rfl)
theorem dX9_tug_59 : decode cX9_tug 59 = .ok (.bastore, 1) := dk_84 (dk_at dksX9_tug_2 14 rfl rfl)
theorem dX9_tug_60 : decode cX9_tug 60 = .ok (.aload_n 0, 1) := dk_42 (dk_at dksX9_tug_2 15 rfl rfl)
theorem dX9_tug_61 : decode cX9_tug 61 = .ok (.getfield 157, 3) := dk_180 0 157 (dk_at dksX9_tug_2 16 rfl rfl)
theorem dX9_tug_64 : decode cX9_tug 64 = .ok (.aload_n 0, 1) := dk_42 (dk_at dksX9_tug_2 19 rfl rfl)
theorem dX9_tug_65 : decode cX9_tug 65 = .ok (.getfield 447, 3) := dk_180 1 191 (dk_at dksX9_tug_2 20 rfl rfl)
theorem dX9_tug_68 : decode cX9_tug 68 = .ok (.aload_n 0, 1) := dk_42 (dk_at dksX9_tug_2 23 rfl rfl)
theorem dX9_tug_69 : decode cX9_tug 69 = .ok (.getfield 582, 3) := dk_180 2 70 (dk_at dksX9_tug_3 0 rfl rfl)
theorem dX9_tug_72 : decode cX9_tug 72 = .ok (.iastore, 1) := dk_79 (dk_at dksX9_tug_3 3 rfl rfl)
theorem dX9_tug_73 : decode cX9_tug 73 = .ok (.aload_n 0, 1) := dk_42 (dk_at dksX9_tug_3 4 rfl rfl)
theorem dX9_tug_74 : decode cX9_tug 74 = .ok (.getfield 160, 3) := dk_180 0 160 (dk_at dksX9_tug_3 5 rfl rfl)
theorem dX9_tug_77 : decode cX9_tug 77 = .ok (.aload_n 0, 1) := dk_42 (dk_at dksX9_tug_3 8 rfl rfl)
theorem dX9_tug_78 : decode cX9_tug 78 = .ok (.getfield 447, 3) := dk_180 1 191 (dk_at dksX9_tug_3 9 rfl rfl)
theorem dX9_tug_81 : decode cX9_tug 81 = .ok (.iconst (-1), 1) := dk_2 (dk_at dksX9_tug_3 12 rfl rfl)
theorem dX9_tug_82 : decode cX9_tug 82 = .ok (.iastore, 1) := dk_79 (dk_at dksX9_tug_3 13 rfl rfl)
theorem dX9_tug_83 : decode cX9_tug 83 = .ok (.aload_n 0, 1) := dk_42 (dk_at dksX9_tug_3 14 rfl rfl)
theorem dX9_tug_84 : decode cX9_tug 84 = .ok (.dup, 1) := dk_89 (dk_at dksX9_tug_3 15 rfl rfl)
theorem dX9_tug_85 : decode cX9_tug 85 = .ok (.getfield 447, 3) := dk_180 1 191 (dk_at dksX9_tug_3 16 rfl rfl)
theorem dX9_tug_88 : decode cX9_tug 88 = .ok (.iconst 1, 1) := dk_4 (dk_at dksX9_tug_3 19 rfl rfl)
theorem dX9_tug_89 : decode cX9_tug 89 = .ok (.iadd, 1) := dk_96 (dk_at dksX9_tug_3 20 rfl rfl)
theorem dX9_tug_90 : decode cX9_tug 90 = .ok (.putfield 447, 3) := dk_181 1 191 (dk_at dksX9_tug_3 21 rfl rfl)
theorem dX9_tug_93 : decode cX9_tug 93 = .ok (.aload_n 0, 1) := dk_42 (dk_at dksX9_tug_4 0 rfl rfl)
theorem dX9_tug_94 : decode cX9_tug 94 = .ok (.getfield 447, 3) := dk_180 1 191 (dk_at dksX9_tug_4 1 rfl rfl)
theorem dX9_tug_97 : decode cX9_tug 97 = .ok (.iconst 1, 1) := dk_4 (dk_at dksX9_tug_4 4 rfl rfl)
theorem dX9_tug_98 : decode cX9_tug 98 = .ok (.isub, 1) := dk_100 (dk_at dksX9_tug_4 5 rfl rfl)
theorem dX9_tug_99 : decode cX9_tug 99 = .ok (.ireturn, 1) := dk_172 (dk_at dksX9_tug_4 6 rfl rfl)
abbrev cX9_untell : ByteArray := prog_24_method_103_code
def yX9_untell : MethodName := ⟨RX9, "untell", "(I)Z"⟩
def dkwX9_untell_1 : List UInt8 := [172, 42, 180, 0, 160, 27, 42, 180, 2, 70, 79, 4, 172]
abbrev dktX9_untell_1 : List UInt8 := dkwX9_untell_1 ++ []
def dkwX9_untell_0 : List UInt8 := [27, 3, 42, 180, 1, 191, 4, 100, 184, 1, 197, 153, 0, 12, 42, 180, 0, 160, 27, 46, 155, 0, 5, 3]
abbrev dktX9_untell_0 : List UInt8 := dkwX9_untell_0 ++ dktX9_untell_1
theorem dksX9_untell_0 : cX9_untell.data.toList.drop 0 = dktX9_untell_0 := by decide +kernel
theorem dksX9_untell_1 : cX9_untell.data.toList.drop 24 = dktX9_untell_1 := dk_seg dksX9_untell_0 24 rfl rfl
theorem dX9_untell_0 : decode cX9_untell 0 = .ok (.iload_n 1, 1) := dk_27 (dk_at dksX9_untell_0 0 rfl rfl)
theorem dX9_untell_1 : decode cX9_untell 1 = .ok (.iconst 0, 1) := dk_3 (dk_at dksX9_untell_0 1 rfl rfl)
theorem dX9_untell_2 : decode cX9_untell 2 = .ok (.aload_n 0, 1) := dk_42 (dk_at dksX9_untell_0 2 rfl rfl)
theorem dX9_untell_3 : decode cX9_untell 3 = .ok (.getfield 447, 3) := dk_180 1 191 (dk_at dksX9_untell_0 3 rfl rfl)
theorem dX9_untell_6 : decode cX9_untell 6 = .ok (.iconst 1, 1) := dk_4 (dk_at dksX9_untell_0 6 rfl rfl)
theorem dX9_untell_7 : decode cX9_untell 7 = .ok (.isub, 1) := dk_100 (dk_at dksX9_untell_0 7 rfl rfl)
theorem dX9_untell_8 : decode cX9_untell 8 = .ok (.invokestatic 453, 3) := dk_184 1 197 (dk_at dksX9_untell_0 8 rfl rfl)
theorem dX9_untell_11 : decode cX9_untell 11 = .ok (.ifCond .eq 12, 3) := dk_153 0 12 (dk_at dksX9_untell_0 11 rfl rfl)
theorem dX9_untell_14 : decode cX9_untell 14 = .ok (.aload_n 0, 1) := dk_42 (dk_at dksX9_untell_0 14 rfl rfl)
theorem dX9_untell_15 : decode cX9_untell 15 = .ok (.getfield 160, 3) := dk_180 0 160 (dk_at dksX9_untell_0 15 rfl rfl)
theorem dX9_untell_18 : decode cX9_untell 18 = .ok (.iload_n 1, 1) := dk_27 (dk_at dksX9_untell_0 18 rfl rfl)
theorem dX9_untell_19 : decode cX9_untell 19 = .ok (.iaload, 1) := dk_46 (dk_at dksX9_untell_0 19 rfl rfl)
theorem dX9_untell_20 : decode cX9_untell 20 = .ok (.ifCond .lt 5, 3) := dk_155 0 5 (dk_at dksX9_untell_0 20 rfl rfl)
theorem dX9_untell_23 : decode cX9_untell 23 = .ok (.iconst 0, 1) := dk_3 (dk_at dksX9_untell_0 23 rfl rfl)
theorem dX9_untell_24 : decode cX9_untell 24 = .ok (.ireturn, 1) := dk_172 (dk_at dksX9_untell_1 0 rfl rfl)
theorem dX9_untell_25 : decode cX9_untell 25 = .ok (.aload_n 0, 1) := dk_42 (dk_at dksX9_untell_1 1 rfl rfl)
theorem dX9_untell_26 : decode cX9_untell 26 = .ok (.getfield 160, 3) := dk_180 0 160 (dk_at dksX9_untell_1 2 rfl rfl)
theorem dX9_untell_29 : decode cX9_untell 29 = .ok (.iload_n 1, 1) := dk_27 (dk_at dksX9_untell_1 5 rfl rfl)
theorem dX9_untell_30 : decode cX9_untell 30 = .ok (.aload_n 0, 1) := dk_42 (dk_at dksX9_untell_1 6 rfl rfl)
theorem dX9_untell_31 : decode cX9_untell 31 = .ok (.getfield 582, 3) := dk_180 2 70 (dk_at dksX9_untell_1 7 rfl rfl)
theorem dX9_untell_34 : decode cX9_untell 34 = .ok (.iastore, 1) := dk_79 (dk_at dksX9_untell_1 10 rfl rfl)
theorem dX9_untell_35 : decode cX9_untell 35 = .ok (.iconst 1, 1) := dk_4 (dk_at dksX9_untell_1 11 rfl rfl)
theorem dX9_untell_36 : decode cX9_untell 36 = .ok (.ireturn, 1) := dk_172 (dk_at dksX9_untell_1 12 rfl rfl)
abbrev cX9_later : ByteArray := prog_24_method_104_code
def yX9_later : MethodName := ⟨RX9, "late\x72", "(I)I"⟩
def dkwX9_later_1 : List UInt8 := [172, 42, 89, 180, 2, 70, 27, 96, 181, 2, 70, 42, 180, 2, 70, 172]
abbrev dktX9_later_1 : List UInt8 := dkwX9_later_1 ++ []
def dkwX9_later_0 : List UInt8 := [27, 155, 0, 22, 27, 17, 3, 232, 163, 0, 15, 42, 180, 2, 70, 27, 96, 19, 2, 73, 164, 0, 5, 2]
abbrev dktX9_later_0 : List UInt8 := dkwX9_later_0 ++ dktX9_later_1
theorem dksX9_later_0 : cX9_later.data.toList.drop 0 = dktX9_later_0 := by decide +kernel
theorem dksX9_later_1 : cX9_later.data.toList.drop 24 = dktX9_later_1 := dk_seg dksX9_later_0 24 rfl rfl
theorem dX9_later_0 : decode cX9_later 0 = .ok (.iload_n 1, 1) := dk_27 (dk_at dksX9_later_0 0 rfl rfl)
theorem dX9_later_1 : decode cX9_later 1 = .ok (.ifCond .lt 22, 3) := dk_155 0 22 (dk_at dksX9_later_0 1 rfl rfl)
theorem dX9_later_4 : decode cX9_later 4 = .ok (.iload_n 1, 1) := dk_27 (dk_at dksX9_later_0 4 rfl rfl)
theorem dX9_later_5 : decode cX9_later 5 = .ok (.sipush 1000, 3) := dk_17 3 232 (dk_at dksX9_later_0 5 rfl rfl)
theorem dX9_later_8 : decode cX9_later 8 = .ok (.if_icmp .gt 15, 3) := dk_163 0 15 (dk_at dksX9_later_0 8 rfl rfl)
theorem dX9_later_11 : decode cX9_later 11 = .ok (.aload_n 0, 1) := dk_42 (dk_at dksX9_later_0 11 rfl rfl)
theorem dX9_later_12 : decode cX9_later 12 = .ok (.getfield 582, 3) := dk_180 2 70 (dk_at dksX9_later_0 12 rfl rfl)
theorem dX9_later_15 : decode cX9_later 15 = .ok (.iload_n 1, 1) := dk_27 (dk_at dksX9_later_0 15 rfl rfl)
theorem dX9_later_16 : decode cX9_later 16 = .ok (.iadd, 1) := dk_96 (dk_at dksX9_later_0 16 rfl rfl)
theorem dX9_later_17 : decode cX9_later 17 = .ok (.ldc_w 585, 3) := dk_19 2 73 (dk_at dksX9_later_0 17 rfl rfl)
theorem dX9_later_20 : decode cX9_later 20 = .ok (.if_icmp .le 5, 3) := dk_164 0 5 (dk_at dksX9_later_0 20 rfl rfl)
theorem dX9_later_23 : decode cX9_later 23 = .ok (.iconst (-1), 1) := dk_2 (dk_at dksX9_later_0 23 rfl rfl)
theorem dX9_later_24 : decode cX9_later 24 = .ok (.ireturn, 1) := dk_172 (dk_at dksX9_later_1 0 rfl rfl)
theorem dX9_later_25 : decode cX9_later 25 = .ok (.aload_n 0, 1) := dk_42 (dk_at dksX9_later_1 1 rfl rfl)
theorem dX9_later_26 : decode cX9_later 26 = .ok (.dup, 1) := dk_89 (dk_at dksX9_later_1 2 rfl rfl)
theorem dX9_later_27 : decode cX9_later 27 = .ok (.getfield 582, 3) := dk_180 2 70 (dk_at dksX9_later_1 3 rfl rfl)
theorem dX9_later_30 : decode cX9_later 30 = .ok (.iload_n 1, 1) := dk_27 (dk_at dksX9_later_1 6 rfl rfl)
theorem dX9_later_31 : decode cX9_later 31 = .ok (.iadd, 1) := dk_96 (dk_at dksX9_later_1 7 rfl rfl)
theorem dX9_later_32 : decode cX9_later 32 = .ok (.putfield 582, 3) := dk_181 2 70 (dk_at dksX9_later_1 8 rfl rfl)
theorem dX9_later_35 : decode cX9_later 35 = .ok (.aload_n 0, 1) := dk_42 (dk_at dksX9_later_1 11 rfl rfl)
theorem dX9_later_36 : decode cX9_later 36 = .ok (.getfield 582, 3) := dk_180 2 70 (dk_at dksX9_later_1 12 rfl rfl)
theorem dX9_later_39 : decode cX9_later 39 = .ok (.ireturn, 1) := dk_172 (dk_at dksX9_later_1 15 rfl rfl)
abbrev cX9_swore : ByteArray := prog_24_method_107_code
def yX9_swore : MethodName := ⟨RX9, "swore", "(I)I"⟩
def dkwX9_swore_1 : List UInt8 := [128, 61, 132, 3, 1, 167, 255, 231, 28, 172]
abbrev dktX9_swore_1 : List UInt8 := dkwX9_swore_1 ++ []
def dkwX9_swore_0 : List UInt8 := [3, 61, 3, 62, 29, 42, 180, 1, 167, 162, 0, 23, 28, 42, 29, 27, 182, 2, 77, 184, 1, 88, 29, 120]
abbrev dktX9_swore_0 : List UInt8 := dkwX9_swore_0 ++ dktX9_swore_1
theorem dksX9_swore_0 : cX9_swore.data.toList.drop 0 = dktX9_swore_0 := by decide +kernel
theorem dksX9_swore_1 : cX9_swore.data.toList.drop 24 = dktX9_swore_1 := dk_seg dksX9_swore_0 24 rfl rfl
theorem dX9_swore_0 : decode cX9_swore 0 = .ok (.iconst 0, 1) := dk_3 (dk_at dksX9_swore_0 0 rfl rfl)
theorem dX9_swore_1 : decode cX9_swore 1 = .ok (.istore_n 2, 1) := dk_61 (dk_at dksX9_swore_0 1 rfl rfl)
theorem dX9_swore_2 : decode cX9_swore 2 = .ok (.iconst 0, 1) := dk_3 (dk_at dksX9_swore_0 2 rfl rfl)
theorem dX9_swore_3 : decode cX9_swore 3 = .ok (.istore_n 3, 1) := dk_62 (dk_at dksX9_swore_0 3 rfl rfl)
theorem dX9_swore_4 : decode cX9_swore 4 = .ok (.iload_n 3, 1) := dk_29 (dk_at dksX9_swore_0 4 rfl rfl)
theorem dX9_swore_5 : decode cX9_swore 5 = .ok (.aload_n 0, 1) := dk_42 (dk_at dksX9_swore_0 5 rfl rfl)
theorem dX9_swore_6 : decode cX9_swore 6 = .ok (.getfield 423, 3) := dk_180 1 167 (dk_at dksX9_swore_0 6 rfl rfl)
theorem dX9_swore_9 : decode cX9_swore 9 = .ok (.if_icmp .ge 23, 3) := dk_162 0 23 (dk_at dksX9_swore_0 9 rfl rfl)
theorem dX9_swore_12 : decode cX9_swore 12 = .ok (.iload_n 2, 1) := dk_28 (dk_at dksX9_swore_0 12 rfl rfl)
theorem dX9_swore_13 : decode cX9_swore 13 = .ok (.aload_n 0, 1) := dk_42 (dk_at dksX9_swore_0 13 rfl rfl)
theorem dX9_swore_14 : decode cX9_swore 14 = .ok (.iload_n 3, 1) := dk_29 (dk_at dksX9_swore_0 14 rfl rfl)
theorem dX9_swore_15 : decode cX9_swore 15 = .ok (.iload_n 1, 1) := dk_27 (dk_at dksX9_swore_0 15 rfl rfl)
theorem dX9_swore_16 : decode cX9_swore 16 = .ok (.invokevirtual 589, 3) := dk_182 2 77 (dk_at dksX9_swore_0 16 rfl rfl)
theorem dX9_swore_19 : decode cX9_swore 19 = .ok (.invokestatic 344, 3) := dk_184 1 88 (dk_at dksX9_swore_0 19 rfl rfl)
theorem dX9_swore_22 : decode cX9_swore 22 = .ok (.iload_n 3, 1) := dk_29 (dk_at dksX9_swore_0 22 rfl rfl)
theorem dX9_swore_23 : decode cX9_swore 23 = .ok (.ishl, 1) := dk_120 (dk_at dksX9_swore_0 23 rfl rfl)
theorem dX9_swore_24 : decode cX9_swore 24 = .ok (.ior, 1) := dk_128 (dk_at dksX9_swore_1 0 rfl rfl)
theorem dX9_swore_25 : decode cX9_swore 25 = .ok (.istore_n 2, 1) := dk_61 (dk_at dksX9_swore_1 1 rfl rfl)
theorem dX9_swore_26 : decode cX9_swore 26 = .ok (.iinc 3 1, 3) := dk_132 3 1 (dk_at dksX9_swore_1 2 rfl rfl)
theorem dX9_swore_29 : decode cX9_swore 29 = .ok (.goto (-25), 3) := dk_167 255 231 (dk_at dksX9_swore_1 5 rfl rfl)
theorem dX9_swore_32 : decode cX9_swore 32 = .ok (.iload_n 2, 1) := dk_28 (dk_at dksX9_swore_1 8 rfl rfl)
theorem dX9_swore_33 : decode cX9_swore 33 = .ok (.ireturn, 1) := dk_172 (dk_at dksX9_swore_1 9 rfl rfl)
abbrev cX9_swears : ByteArray := prog_24_method_106_code
def yX9_swears : MethodName := ⟨RX9, "swears", "(II)Z"⟩
def dkwX9_swears_4 : List UInt8 := [132, 4, 1, 167, 255, 165, 29, 172]
abbrev dktX9_swears_4 : List UInt8 := dkwX9_swears_4 ++ []
def dkwX9_swears_3 : List UInt8 := [160, 0, 7, 4, 167, 0, 4, 3, 42, 180, 0, 163, 21, 4, 51, 160, 0, 7, 4, 167, 0, 4, 3, 62]
abbrev dktX9_swears_3 : List UInt8 := dkwX9_swears_3 ++ dktX9_swears_4
def dkwX9_swears_2 : List UInt8 := [164, 0, 46, 42, 27, 42, 180, 0, 151, 21, 4, 46, 182, 2, 74, 42, 180, 0, 154, 21, 4, 46]
abbrev dktX9_swears_2 : List UInt8 := dkwX9_swears_2 ++ dktX9_swears_3
def dkwX9_swears_1 : List UInt8 := [46, 28, 163, 0, 67, 42, 180, 0, 160, 21, 4, 46, 155, 0, 14, 42, 180, 0, 160, 21, 4, 46, 28]
abbrev dktX9_swears_1 : List UInt8 := dkwX9_swears_1 ++ dktX9_swears_2
def dkwX9_swears_0 : List UInt8 := [4, 62, 3, 54, 4, 21, 4, 42, 180, 1, 191, 162, 0, 88, 29, 153, 0, 84, 42, 180, 0, 157, 21, 4]
abbrev dktX9_swears_0 : List UInt8 := dkwX9_swears_0 ++ dktX9_swears_1
theorem dksX9_swears_0 : cX9_swears.data.toList.drop 0 = dktX9_swears_0 := by decide +kernel
theorem dksX9_swears_1 : cX9_swears.data.toList.drop 24 = dktX9_swears_1 := dk_seg dksX9_swears_0 24 rfl rfl
theorem dksX9_swears_2 : cX9_swears.data.toList.drop 47 = dktX9_swears_2 := dk_seg dksX9_swears_1 23 rfl rfl
theorem dksX9_swears_3 : cX9_swears.data.toList.drop 69 = dktX9_swears_3 := dk_seg dksX9_swears_2 22 rfl rfl
theorem dksX9_swears_4 : cX9_swears.data.toList.drop 93 = dktX9_swears_4 := dk_seg dksX9_swears_3 24 rfl rfl
theorem dX9_swears_0 : decode cX9_swears 0 = .ok (.iconst 1, 1) := dk_4 (dk_at dksX9_swears_0 0 rfl rfl)
theorem dX9_swears_1 : decode cX9_swears 1 = .ok (.istore_n 3, 1) := dk_62 (dk_at dksX9_swears_0 1 rfl rfl)
theorem dX9_swears_2 : decode cX9_swears 2 = .ok (.iconst 0, 1) := dk_3 (dk_at dksX9_swears_0 2 rfl rfl)
theorem dX9_swears_3 : decode cX9_swears 3 = .ok (.istore 4, 2) := dk_54 4 (dk_at dksX9_swears_0 3 rfl rfl)
theorem dX9_swears_5 : decode cX9_swears 5 = .ok (.iload 4, 2) := dk_21 4 (dk_at dksX9_swears_0 5 rfl rfl)
theorem dX9_swears_7 : decode cX9_swears 7 = .ok (.aload_n 0, 1) := dk_42 (dk_at dksX9_swears_0 7 rfl rfl)
theorem dX9_swears_8 : decode cX9_swears 8 = .ok (.getfield 447, 3) := dk_180 1 191 (dk_at dksX9_swears_0 8 rfl rfl)
theorem dX9_swears_11 : decode cX9_swears 11 = .ok (.if_icmp .ge 88, 3) := dk_162 0 88 (dk_at dksX9_swears_0 11 rfl rfl)
theorem dX9_swears_14 : decode cX9_swears 14 = .ok (.iload_n 3, 1) := dk_29 (dk_at dksX9_swears_0 14 rfl rfl)
theorem dX9_swears_15 : decode cX9_swears 15 = .ok (.ifCond .eq 84, 3) := dk_153 0 84 (dk_at dksX9_swears_0 15 rfl rfl)
theorem dX9_swears_18 : decode cX9_swears 18 = .ok (.aload_n 0, 1) := dk_42 (dk_at dksX9_swears_0 18 rfl rfl)
theorem dX9_swears_19 : decode cX9_swears 19 = .ok (.getfield 157, 3) := dk_180 0 157 (dk_at dksX9_swears_0 19 rfl rfl)
theorem dX9_swears_22 : decode cX9_swears 22 = .ok (.iload 4, 2) := dk_21 4 (dk_at dksX9_swears_0 22 rfl rfl)
theorem dX9_swears_24 : decode cX9_swears 24 = .ok (.iaload, 1) := dk_46 (dk_at dksX9_swears_1 0 rfl rfl)
theorem dX9_swears_25 : decode cX9_swears 25 = .ok (.iload_n 2, 1) := dk_28 (dk_at dksX9_swears_1 1 rfl rfl)
theorem dX9_swears_26 : decode cX9_swears 26 = .ok (.if_icmp .gt 67, 3) := dk_163 0 67 (dk_at dksX9_swears_1 2 rfl rfl)
theorem dX9_swears_29 : decode cX9_swears 29 = .ok (.aload_n 0, 1) := dk_42 (dk_at dksX9_swears_1 5 rfl rfl)
theorem dX9_swears_30 : decode cX9_swears 30 = .ok (.getfield 160, 3) := dk_180 0 160 (dk_at dksX9_swears_1 6 rfl rfl)
theorem dX9_swears_33 : decode cX9_swears 33 = .ok (.iload 4, 2) := dk_21 4 (dk_at dksX9_swears_1 9 rfl rfl)
theorem dX9_swears_35 : decode cX9_swears 35 = .ok (.iaload, 1) := dk_46 (dk_at dksX9_swears_1 11 rfl rfl)
theorem dX9_swears_36 : decode cX9_swears 36 = .ok (.ifCond .lt 14, 3) := dk_155 0 14 (dk_at dksX9_swears_1 12 rfl rfl)
theorem dX9_swears_39 : decode cX9_swears 39 = .ok (.aload_n 0, 1) := dk_42 (dk_at dksX9_swears_1 15 rfl rfl)
theorem dX9_swears_40 : decode cX9_swears 40 = .ok (.getfield 160, 3) := dk_180 0 160 (dk_at dksX9_swears_1 16 rfl rfl)
theorem dX9_swears_43 : decode cX9_swears 43 = .ok (.iload 4, 2) := dk_21 4 (dk_at dksX9_swears_1 19 rfl rfl)
theorem dX9_swears_45 : decode cX9_swears 45 = .ok (.iaload, 1) := dk_46 (dk_at dksX9_swears_1 21 rfl rfl)
theorem dX9_swears_46 : decode cX9_swears 46 = .ok (.iload_n 2, 1) := dk_28 (dk_at dksX9_swears_1 22 rfl rfl)
theorem dX9_swears_47 : decode cX9_swears 47 = .ok (.if_icmp .le 46, 3) := dk_164 0 46 (dk_at dksX9_swears_2 0 rfl rfl)
theorem dX9_swears_50 : decode cX9_swears 50 = .ok (.aload_n 0, 1) := dk_42 (dk_at dksX9_swears_2 3 rfl rfl)
theorem dX9_swears_51 : decode cX9_swears 51 = .ok (.iload_n 1, 1) := dk_27 (dk_at dksX9_swears_2 4 rfl rfl)
theorem dX9_swears_52 : decode cX9_swears 52 = .ok (.aload_n 0, 1) := dk_42 (dk_at dksX9_swears_2 5 rfl rfl)
theorem dX9_swears_53 : decode cX9_swears 53 = .ok (.getfield 151, 3) := dk_180 0 151 (dk_at dksX9_swears_2 6 rfl rfl)
theorem dX9_swears_56 : decode cX9_swears 56 = .ok (.iload 4, 2) := dk_21 4 (dk_at dksX9_swears_2 9 rfl rfl)
theorem dX9_swears_58 : decode cX9_swears 58 = .ok (.iaload, 1) := dk_46 (dk_at dksX9_swears_2 11 rfl rfl)
theorem dX9_swears_59 : decode cX9_swears 59 = .ok (.invokevirtual 586, 3) := dk_182 2 74 (dk_at dksX9_swears_2 12 rfl rfl)
theorem dX9_swears_62 : decode cX9_swears 62 = .ok (.aload_n 0, 1) := dk_42 (dk_at dksX9_swears_2 15 rfl rfl)
theorem dX9_swears_63 : decode cX9_swears 63 = .ok (.getfield 154, 3) := dk_180 0 154 (dk_at dksX9_swears_2 16 rfl rfl)
theorem dX9_swears_66 : decode cX9_swears 66 = .ok (.iload 4, 2) := dk_21 4 (dk_at dksX9_swears_2 19 rfl rfl)
theorem dX9_swears_68 : decode cX9_swears 68 = .ok (.iaload, 1) := dk_46 (dk_at dksX9_swears_2 21 rfl rfl)
theorem dX9_swears_69 : decode cX9_swears 69 = .ok (.if_icmp .ne 7, 3) := dk_160 0 7 (dk_at dksX9_swears_3 0 rfl rfl)
theorem dX9_swears_72 : decode cX9_swears 72 = .ok (.iconst 1, 1) := dk_4 (dk_at dksX9_swears_3 3 rfl rfl)
theorem dX9_swears_73 : decode cX9_swears 73 = .ok (.goto 4, 3) := dk_167 0 4 (dk_at dksX9_swears_3 4 rfl rfl)
theorem dX9_swears_76 : decode cX9_swears 76 = .ok (.iconst 0, 1) := dk_3 (dk_at dksX9_swears_3 7 rfl rfl)
theorem dX9_swears_77 : decode cX9_swears 77 = .ok (.aload_n 0, 1) := dk_42 (dk_at dksX9_swears_3 8 rfl rfl)
theorem dX9_swears_78 : decode cX9_swears 78 = .ok (.getfield 163, 3) := dk_180 0 163 (dk_at dksX9_swears_3 9 rfl rfl)
theorem dX9_swears_81 : decode cX9_swears 81 = .ok (.iload 4, 2) := dk_21 4 (dk_at dksX9_swears_3 12 rfl rfl)
theorem dX9_swears_83 : decode cX9_swears 83 = .ok (.baload, 1) := dk_51 (dk_at dksX9_swears_3 14 rfl rfl)
theorem dX9_swears_84 : decode cX9_swears 84 = .ok (.if_icmp .ne 7, 3) := dk_160 0 7 (dk_at dksX9_swears_3 15 rfl rfl)
theorem dX9_swears_87 : decode cX9_swears 87 = .ok (.iconst 1, 1) := dk_4 (dk_at dksX9_swears_3 18 rfl rfl)
theorem dX9_swears_88 : decode cX9_swears 88 = .ok (.goto 4, 3) := dk_167 0 4 (dk_at dksX9_swears_3 19 rfl rfl)
theorem dX9_swears_91 : decode cX9_swears 91 = .ok (.iconst 0, 1) := dk_3 (dk_at dksX9_swears_3 22 rfl rfl)
theorem dX9_swears_92 : decode cX9_swears 92 = .ok (.istore_n 3, 1) := dk_62 (dk_at dksX9_swears_3 23 rfl rfl)
theorem dX9_swears_93 : decode cX9_swears 93 = .ok (.iinc 4 1, 3) := dk_132 4 1 (dk_at dksX9_swears_4 0 rfl rfl)
theorem dX9_swears_96 : decode cX9_swears 96 = .ok (.goto (-91), 3) := dk_167 255 165 (dk_at dksX9_swears_4 3 rfl rfl)
theorem dX9_swears_99 : decode cX9_swears 99 = .ok (.iload_n 3, 1) := dk_29 (dk_at dksX9_swears_4 6 rfl rfl)
theorem dX9_swears_100 : decode cX9_swears 100 = .ok (.ireturn, 1) := dk_172 (dk_at dksX9_swears_4 7 rfl rfl)
abbrev cX9_markOf : ByteArray := prog_24_method_105_code
def yX9_markOf : MethodName := ⟨RX9, "markOf", "(II)I"⟩
def dkwX9_markOf_1 : List UInt8 := [167, 0, 9, 42, 180, 0, 63, 27, 46, 172]
abbrev dktX9_markOf_1 : List UInt8 := dkwX9_markOf_1 ++ []
def dkwX9_markOf_0 : List UInt8 := [28, 154, 0, 12, 42, 180, 0, 57, 27, 46, 167, 0, 23, 28, 4, 160, 0, 12, 42, 180, 0, 60, 27, 46]
abbrev dktX9_markOf_0 : List UInt8 := dkwX9_markOf_0 ++ dktX9_markOf_1
theorem dksX9_markOf_0 : cX9_markOf.data.toList.drop 0 = dktX9_markOf_0 := by decide +kernel
theorem dksX9_markOf_1 : cX9_markOf.data.toList.drop 24 = dktX9_markOf_1 := dk_seg dksX9_markOf_0 24 rfl rfl
theorem dX9_markOf_0 : decode cX9_markOf 0 = .ok (.iload_n 2, 1) := dk_28 (dk_at dksX9_markOf_0 0 rfl rfl)
theorem dX9_markOf_1 : decode cX9_markOf 1 = .ok (.ifCond .ne 12, 3) := dk_154 0 12 (dk_at dksX9_markOf_0 1 rfl rfl)
theorem dX9_markOf_4 : decode cX9_markOf 4 = .ok (.aload_n 0, 1) := dk_42 (dk_at dksX9_markOf_0 4 rfl rfl)
theorem dX9_markOf_5 : decode cX9_markOf 5 = .ok (.getfield 57, 3) := dk_180 0 57 (dk_at dksX9_markOf_0 5 rfl rfl)
theorem dX9_markOf_8 : decode cX9_markOf 8 = .ok (.iload_n 1, 1) := dk_27 (dk_at dksX9_markOf_0 8 rfl rfl)
theorem dX9_markOf_9 : decode cX9_markOf 9 = .ok (.iaload, 1) := dk_46 (dk_at dksX9_markOf_0 9 rfl rfl)
theorem dX9_markOf_10 : decode cX9_markOf 10 = .ok (.goto 23, 3) := dk_167 0 23 (dk_at dksX9_markOf_0 10 rfl rfl)
theorem dX9_markOf_13 : decode cX9_markOf 13 = .ok (.iload_n 2, 1) := dk_28 (dk_at dksX9_markOf_0 13 rfl rfl)
theorem dX9_markOf_14 : decode cX9_markOf 14 = .ok (.iconst 1, 1) := dk_4 (dk_at dksX9_markOf_0 14 rfl rfl)
theorem dX9_markOf_15 : decode cX9_markOf 15 = .ok (.if_icmp .ne 12, 3) := dk_160 0 12 (dk_at dksX9_markOf_0 15 rfl rfl)
theorem dX9_markOf_18 : decode cX9_markOf 18 = .ok (.aload_n 0, 1) := dk_42 (dk_at dksX9_markOf_0 18 rfl rfl)
theorem dX9_markOf_19 : decode cX9_markOf 19 = .ok (.getfield 60, 3) := dk_180 0 60 (dk_at dksX9_markOf_0 19 rfl rfl)
theorem dX9_markOf_22 : decode cX9_markOf 22 = .ok (.iload_n 1, 1) := dk_27 (dk_at dksX9_markOf_0 22 rfl rfl)
theorem dX9_markOf_23 : decode cX9_markOf 23 = .ok (.iaload, 1) := dk_46 (dk_at dksX9_markOf_0 23 rfl rfl)
theorem dX9_markOf_24 : decode cX9_markOf 24 = .ok (.goto 9, 3) := dk_167 0 9 (dk_at dksX9_markOf_1 0 rfl rfl)
theorem dX9_markOf_27 : decode cX9_markOf 27 = .ok (.aload_n 0, 1) := dk_42 (dk_at dksX9_markOf_1 3 rfl rfl)
theorem dX9_markOf_28 : decode cX9_markOf 28 = .ok (.getfield 63, 3) := dk_180 0 63 (dk_at dksX9_markOf_1 4 rfl rfl)
theorem dX9_markOf_31 : decode cX9_markOf 31 = .ok (.iload_n 1, 1) := dk_27 (dk_at dksX9_markOf_1 7 rfl rfl)
theorem dX9_markOf_32 : decode cX9_markOf 32 = .ok (.iaload, 1) := dk_46 (dk_at dksX9_markOf_1 8 rfl rfl)
theorem dX9_markOf_33 : decode cX9_markOf 33 = .ok (.ireturn, 1) := dk_172 (dk_at dksX9_markOf_1 9 rfl rfl)
abbrev cX9_ask : ByteArray := prog_24_method_109_code
def yX9_ask : MethodName := ⟨RX9, "ask", "(II)I"⟩
def dkwX9_ask_3 : List UInt8 := [167, 0, 10, 42, 29, 21, 4, 182, 2, 83, 172]
abbrev dktX9_ask_3 : List UInt8 := dkwX9_ask_3 ++ []
def dkwX9_ask_2 : List UInt8 := [162, 0, 8, 21, 5, 167, 0, 5, 21, 4, 54, 4, 132, 5, 1, 167, 255, 221, 27, 154, 0, 8, 21, 4]
abbrev dktX9_ask_2 : List UInt8 := dkwX9_ask_2 ++ dktX9_ask_3
def dkwX9_ask_1 : List UInt8 := [4, 54, 5, 21, 5, 6, 162, 0, 35, 42, 29, 21, 5, 182, 2, 83, 42, 29, 21, 4, 182, 2, 83]
abbrev dktX9_ask_1 : List UInt8 := dkwX9_ask_1 ++ dktX9_ask_2
def dkwX9_ask_0 : List UInt8 := [42, 28, 182, 2, 80, 62, 27, 3, 4, 184, 1, 197, 153, 0, 7, 29, 154, 0, 5, 2, 172, 3, 54, 4]
abbrev dktX9_ask_0 : List UInt8 := dkwX9_ask_0 ++ dktX9_ask_1
theorem dksX9_ask_0 : cX9_ask.data.toList.drop 0 = dktX9_ask_0 := by decide +kernel
theorem dksX9_ask_1 : cX9_ask.data.toList.drop 24 = dktX9_ask_1 := dk_seg dksX9_ask_0 24 rfl rfl
theorem dksX9_ask_2 : cX9_ask.data.toList.drop 47 = dktX9_ask_2 := dk_seg dksX9_ask_1 23 rfl rfl
theorem dksX9_ask_3 : cX9_ask.data.toList.drop 71 = dktX9_ask_3 := dk_seg dksX9_ask_2 24 rfl rfl
theorem dX9_ask_0 : decode cX9_ask 0 = .ok (.aload_n 0, 1) := dk_42 (dk_at dksX9_ask_0 0 rfl rfl)
theorem dX9_ask_1 : decode cX9_ask 1 = .ok (.iload_n 2, 1) := dk_28 (dk_at dksX9_ask_0 1 rfl rfl)
theorem dX9_ask_2 : decode cX9_ask 2 = .ok (.invokevirtual 592, 3) := dk_182 2 80 (dk_at dksX9_ask_0 2 rfl rfl)
theorem dX9_ask_5 : decode cX9_ask 5 = .ok (.istore_n 3, 1) := dk_62 (dk_at dksX9_ask_0 5 rfl rfl)
theorem dX9_ask_6 : decode cX9_ask 6 = .ok (.iload_n 1, 1) := dk_27 (dk_at dksX9_ask_0 6 rfl rfl)
theorem dX9_ask_7 : decode cX9_ask 7 = .ok (.iconst 0, 1) := dk_3 (dk_at dksX9_ask_0 7 rfl rfl)
theorem dX9_ask_8 : decode cX9_ask 8 = .ok (.iconst 1, 1) := dk_4 (dk_at dksX9_ask_0 8 rfl rfl)
theorem dX9_ask_9 : decode cX9_ask 9 = .ok (.invokestatic 453, 3) := dk_184 1 197 (dk_at dksX9_ask_0 9 rfl rfl)
theorem dX9_ask_12 : decode cX9_ask 12 = .ok (.ifCond .eq 7, 3) := dk_153 0 7 (dk_at dksX9_ask_0 12 rfl rfl)
theorem dX9_ask_15 : decode cX9_ask 15 = .ok (.iload_n 3, 1) := dk_29 (dk_at dksX9_ask_0 15 rfl rfl)
theorem dX9_ask_16 : decode cX9_ask 16 = .ok (.ifCond .ne 5, 3) := dk_154 0 5 (dk_at dksX9_ask_0 16 rfl rfl)
theorem dX9_ask_19 : decode cX9_ask 19 = .ok (.iconst (-1), 1) := dk_2 (dk_at dksX9_ask_0 19 rfl rfl)
theorem dX9_ask_20 : decode cX9_ask 20 = .ok (.ireturn, 1) := dk_172 (dk_at dksX9_ask_0 20 rfl rfl)
theorem dX9_ask_21 : decode cX9_ask 21 = .ok (.iconst 0, 1) := dk_3 (dk_at dksX9_ask_0 21 rfl rfl)
theorem dX9_ask_22 : decode cX9_ask 22 = .ok (.istore 4, 2) := dk_54 4 (dk_at dksX9_ask_0 22 rfl rfl)
theorem dX9_ask_24 : decode cX9_ask 24 = .ok (.iconst 1, 1) := dk_4 (dk_at dksX9_ask_1 0 rfl rfl)
theorem dX9_ask_25 : decode cX9_ask 25 = .ok (.istore 5, 2) := dk_54 5 (dk_at dksX9_ask_1 1 rfl rfl)
theorem dX9_ask_27 : decode cX9_ask 27 = .ok (.iload 5, 2) := dk_21 5 (dk_at dksX9_ask_1 3 rfl rfl)
theorem dX9_ask_29 : decode cX9_ask 29 = .ok (.iconst 3, 1) := dk_6 (dk_at dksX9_ask_1 5 rfl rfl)
theorem dX9_ask_30 : decode cX9_ask 30 = .ok (.if_icmp .ge 35, 3) := dk_162 0 35 (dk_at dksX9_ask_1 6 rfl rfl)
theorem dX9_ask_33 : decode cX9_ask 33 = .ok (.aload_n 0, 1) := dk_42 (dk_at dksX9_ask_1 9 rfl rfl)
theorem dX9_ask_34 : decode cX9_ask 34 = .ok (.iload_n 3, 1) := dk_29 (dk_at dksX9_ask_1 10 rfl rfl)
theorem dX9_ask_35 : decode cX9_ask 35 = .ok (.iload 5, 2) := dk_21 5 (dk_at dksX9_ask_1 11 rfl rfl)
theorem dX9_ask_37 : decode cX9_ask 37 = .ok (.invokevirtual 595, 3) := dk_182 2 83 (dk_at dksX9_ask_1 13 rfl rfl)
theorem dX9_ask_40 : decode cX9_ask 40 = .ok (.aload_n 0, 1) := dk_42 (dk_at dksX9_ask_1 16 rfl rfl)
theorem dX9_ask_41 : decode cX9_ask 41 = .ok (.iload_n 3, 1) := dk_29 (dk_at dksX9_ask_1 17 rfl rfl)
theorem dX9_ask_42 : decode cX9_ask 42 = .ok (.iload 4, 2) := dk_21 4 (dk_at dksX9_ask_1 18 rfl rfl)
theorem dX9_ask_44 : decode cX9_ask 44 = .ok (.invokevirtual 595, 3) := dk_182 2 83 (dk_at dksX9_ask_1 20 rfl rfl)
theorem dX9_ask_47 : decode cX9_ask 47 = .ok (.if_icmp .ge 8, 3) := dk_162 0 8 (dk_at dksX9_ask_2 0 rfl rfl)
theorem dX9_ask_50 : decode cX9_ask 50 = .ok (.iload 5, 2) := dk_21 5 (dk_at dksX9_ask_2 3 rfl rfl)
theorem dX9_ask_52 : decode cX9_ask 52 = .ok (.goto 5, 3) := dk_167 0 5 (dk_at dksX9_ask_2 5 rfl rfl)
theorem dX9_ask_55 : decode cX9_ask 55 = .ok (.iload 4, 2) := dk_21 4 (dk_at dksX9_ask_2 8 rfl rfl)
theorem dX9_ask_57 : decode cX9_ask 57 = .ok (.istore 4, 2) := dk_54 4 (dk_at dksX9_ask_2 10 rfl rfl)
theorem dX9_ask_59 : decode cX9_ask 59 = .ok (.iinc 5 1, 3) := dk_132 5 1 (dk_at dksX9_ask_2 12 rfl rfl)
theorem dX9_ask_62 : decode cX9_ask 62 = .ok (.goto (-35), 3) := dk_167 255 221 (dk_at dksX9_ask_2 15 rfl rfl)
theorem dX9_ask_65 : decode cX9_ask 65 = .ok (.iload_n 1, 1) := dk_27 (dk_at dksX9_ask_2 18 rfl rfl)
theorem dX9_ask_66 : decode cX9_ask 66 = .ok (.ifCond .ne 8, 3) := dk_154 0 8 (dk_at dksX9_ask_2 19 rfl rfl)
theorem dX9_ask_69 : decode cX9_ask 69 = .ok (.iload 4, 2) := dk_21 4 (dk_at dksX9_ask_2 22 rfl rfl)
theorem dX9_ask_71 : decode cX9_ask 71 = .ok (.goto 10, 3) := dk_167 0 10 (dk_at dksX9_ask_3 0 rfl rfl)
theorem dX9_ask_74 : decode cX9_ask 74 = .ok (.aload_n 0, 1) := dk_42 (dk_at dksX9_ask_3 3 rfl rfl)
theorem dX9_ask_75 : decode cX9_ask 75 = .ok (.iload_n 3, 1) := dk_29 (dk_at dksX9_ask_3 4 rfl rfl)
theorem dX9_ask_76 : decode cX9_ask 76 = .ok (.iload 4, 2) := dk_21 4 (dk_at dksX9_ask_3 5 rfl rfl)
theorem dX9_ask_78 : decode cX9_ask 78 = .ok (.invokevirtual 595, 3) := dk_182 2 83 (dk_at dksX9_ask_3 7 rfl rfl)
theorem dX9_ask_81 : decode cX9_ask 81 = .ok (.ireturn, 1) := dk_172 (dk_at dksX9_ask_3 10 rfl rfl)
abbrev cX9_mostLeft : ByteArray := prog_24_method_108_code
def yX9_mostLeft : MethodName := ⟨RX9, "mostLeft", "(II)I"⟩
def dkwX9_mostLeft_3 : List UInt8 := [164, 0, 8, 21, 5, 167, 0, 4, 29, 62, 132, 4, 1, 167, 255, 177, 29, 172]
abbrev dktX9_mostLeft_3 : List UInt8 := dkwX9_mostLeft_3 ++ []
def dkwX9_mostLeft_2 : List UInt8 := [160, 0, 7, 4, 167, 0, 4, 3, 184, 1, 88, 96, 54, 5, 132, 6, 1, 167, 255, 209, 21, 5, 29]
abbrev dktX9_mostLeft_2 : List UInt8 := dkwX9_mostLeft_2 ++ dktX9_mostLeft_3
def dkwX9_mostLeft_1 : List UInt8 := [162, 0, 44, 21, 5, 27, 21, 6, 122, 4, 126, 4, 160, 0, 19, 42, 21, 6, 28, 182, 2, 74, 21, 4]
abbrev dktX9_mostLeft_1 : List UInt8 := dkwX9_mostLeft_1 ++ dktX9_mostLeft_2
def dkwX9_mostLeft_0 : List UInt8 := [3, 62, 3, 54, 4, 21, 4, 16, 9, 163, 0, 78, 3, 54, 5, 3, 54, 6, 21, 6, 42, 180, 1, 167]
abbrev dktX9_mostLeft_0 : List UInt8 := dkwX9_mostLeft_0 ++ dktX9_mostLeft_1
theorem dksX9_mostLeft_0 : cX9_mostLeft.data.toList.drop 0 = dktX9_mostLeft_0 := by decide +kernel
theorem dksX9_mostLeft_1 : cX9_mostLeft.data.toList.drop 24 = dktX9_mostLeft_1 := dk_seg dksX9_mostLeft_0 24 rfl rfl
theorem dksX9_mostLeft_2 : cX9_mostLeft.data.toList.drop 48 = dktX9_mostLeft_2 := dk_seg dksX9_mostLeft_1 24 rfl rfl
theorem dksX9_mostLeft_3 : cX9_mostLeft.data.toList.drop 71 = dktX9_mostLeft_3 := dk_seg dksX9_mostLeft_2 23 rfl rfl
theorem dX9_mostLeft_0 : decode cX9_mostLeft 0 = .ok (.iconst 0, 1) := dk_3 (dk_at dksX9_mostLeft_0 0 rfl rfl)
theorem dX9_mostLeft_1 : decode cX9_mostLeft 1 = .ok (.istore_n 3, 1) := dk_62 (dk_at dksX9_mostLeft_0 1 rfl rfl)
theorem dX9_mostLeft_2 : decode cX9_mostLeft 2 = .ok (.iconst 0, 1) := dk_3 (dk_at dksX9_mostLeft_0 2 rfl rfl)
theorem dX9_mostLeft_3 : decode cX9_mostLeft 3 = .ok (.istore 4, 2) := dk_54 4 (dk_at dksX9_mostLeft_0 3 rfl rfl)
theorem dX9_mostLeft_5 : decode cX9_mostLeft 5 = .ok (.iload 4, 2) := dk_21 4 (dk_at dksX9_mostLeft_0 5 rfl rfl)
theorem dX9_mostLeft_7 : decode cX9_mostLeft 7 = .ok (.bipush 9, 2) := dk_16 9 (dk_at dksX9_mostLeft_0 7 rfl rfl)
theorem dX9_mostLeft_9 : decode cX9_mostLeft 9 = .ok (.if_icmp .gt 78, 3) := dk_163 0 78 (dk_at dksX9_mostLeft_0 9 rfl rfl)
theorem dX9_mostLeft_12 : decode cX9_mostLeft 12 = .ok (.iconst 0, 1) := dk_3 (dk_at dksX9_mostLeft_0 12 rfl rfl)
theorem dX9_mostLeft_13 : decode cX9_mostLeft 13 = .ok (.istore 5, 2) := dk_54 5 (dk_at dksX9_mostLeft_0 13 rfl rfl)
theorem dX9_mostLeft_15 : decode cX9_mostLeft 15 = .ok (.iconst 0, 1) := dk_3 (dk_at dksX9_mostLeft_0 15 rfl rfl)
theorem dX9_mostLeft_16 : decode cX9_mostLeft 16 = .ok (.istore 6, 2) := dk_54 6 (dk_at dksX9_mostLeft_0 16 rfl rfl)
theorem dX9_mostLeft_18 : decode cX9_mostLeft 18 = .ok (.iload 6, 2) := dk_21 6 (dk_at dksX9_mostLeft_0 18 rfl rfl)
theorem dX9_mostLeft_20 : decode cX9_mostLeft 20 = .ok (.aload_n 0, 1) := dk_42 (dk_at dksX9_mostLeft_0 20 rfl rfl)
theorem dX9_mostLeft_21 : decode cX9_mostLeft 21 = .ok (.getfield 423, 3) := dk_180 1 167 (dk_at dksX9_mostLeft_0 21 rfl rfl)
theorem dX9_mostLeft_24 : decode cX9_mostLeft 24 = .ok (.if_icmp .ge 44, 3) := dk_162 0 44 (dk_at dksX9_mostLeft_1 0 rfl rfl)
theorem dX9_mostLeft_27 : decode cX9_mostLeft 27 = .ok (.iload 5, 2) := dk_21 5 (dk_at dksX9_mostLeft_1 3 rfl rfl)
theorem dX9_mostLeft_29 : decode cX9_mostLeft 29 = .ok (.iload_n 1, 1) := dk_27 (dk_at dksX9_mostLeft_1 5 rfl rfl)
theorem dX9_mostLeft_30 : decode cX9_mostLeft 30 = .ok (.iload 6, 2) := dk_21 6 (dk_at dksX9_mostLeft_1 6 rfl rfl)
theorem dX9_mostLeft_32 : decode cX9_mostLeft 32 = .ok (.ishr, 1) := dk_122 (dk_at dksX9_mostLeft_1 8 rfl rfl)
theorem dX9_mostLeft_33 : decode cX9_mostLeft 33 = .ok (.iconst 1, 1) := dk_4 (dk_at dksX9_mostLeft_1 9 rfl rfl)
theorem dX9_mostLeft_34 : decode cX9_mostLeft 34 = .ok (.iand, 1) := dk_126 (dk_at dksX9_mostLeft_1 10 rfl rfl)
theorem dX9_mostLeft_35 : decode cX9_mostLeft 35 = .ok (.iconst 1, 1) := dk_4 (dk_at dksX9_mostLeft_1 11 rfl rfl)
theorem dX9_mostLeft_36 : decode cX9_mostLeft 36 = .ok (.if_icmp .ne 19, 3) := dk_160 0 19 (dk_at dksX9_mostLeft_1 12 rfl rfl)
theorem dX9_mostLeft_39 : decode cX9_mostLeft 39 = .ok (.aload_n 0, 1) := dk_42 (dk_at dksX9_mostLeft_1 15 rfl rfl)
theorem dX9_mostLeft_40 : decode cX9_mostLeft 40 = .ok (.iload 6, 2) := dk_21 6 (dk_at dksX9_mostLeft_1 16 rfl rfl)
theorem dX9_mostLeft_42 : decode cX9_mostLeft 42 = .ok (.iload_n 2, 1) := dk_28 (dk_at dksX9_mostLeft_1 18 rfl rfl)
theorem dX9_mostLeft_43 : decode cX9_mostLeft 43 = .ok (.invokevirtual 586, 3) := dk_182 2 74 (dk_at dksX9_mostLeft_1 19 rfl rfl)
theorem dX9_mostLeft_46 : decode cX9_mostLeft 46 = .ok (.iload 4, 2) := dk_21 4 (dk_at dksX9_mostLeft_1 22 rfl rfl)
theorem dX9_mostLeft_48 : decode cX9_mostLeft 48 = .ok (.if_icmp .ne 7, 3) := dk_160 0 7 (dk_at dksX9_mostLeft_2 0 rfl rfl)
theorem dX9_mostLeft_51 : decode cX9_mostLeft 51 = .ok (.iconst 1, 1) := dk_4 (dk_at dksX9_mostLeft_2 3 rfl rfl)
theorem dX9_mostLeft_52 : decode cX9_mostLeft 52 = .ok (.goto 4, 3) := dk_167 0 4 (dk_at dksX9_mostLeft_2 4 rfl rfl)
theorem dX9_mostLeft_55 : decode cX9_mostLeft 55 = .ok (.iconst 0, 1) := dk_3 (dk_at dksX9_mostLeft_2 7 rfl rfl)
theorem dX9_mostLeft_56 : decode cX9_mostLeft 56 = .ok (.invokestatic 344, 3) := dk_184 1 88 (dk_at dksX9_mostLeft_2 8 rfl rfl)
theorem dX9_mostLeft_59 : decode cX9_mostLeft 59 = .ok (.iadd, 1) := dk_96 (dk_at dksX9_mostLeft_2 11 rfl rfl)
theorem dX9_mostLeft_60 : decode cX9_mostLeft 60 = .ok (.istore 5, 2) := dk_54 5 (dk_at dksX9_mostLeft_2 12 rfl rfl)
theorem dX9_mostLeft_62 : decode cX9_mostLeft 62 = .ok (.iinc 6 1, 3) := dk_132 6 1 (dk_at dksX9_mostLeft_2 14 rfl rfl)
theorem dX9_mostLeft_65 : decode cX9_mostLeft 65 = .ok (.goto (-47), 3) := dk_167 255 209 (dk_at dksX9_mostLeft_2 17 rfl rfl)
theorem dX9_mostLeft_68 : decode cX9_mostLeft 68 = .ok (.iload 5, 2) := dk_21 5 (dk_at dksX9_mostLeft_2 20 rfl rfl)
theorem dX9_mostLeft_70 : decode cX9_mostLeft 70 = .ok (.iload_n 3, 1) := dk_29 (dk_at dksX9_mostLeft_2 22 rfl rfl)
theorem dX9_mostLeft_71 : decode cX9_mostLeft 71 = .ok (.if_icmp .le 8, 3) := dk_164 0 8 (dk_at dksX9_mostLeft_3 0 rfl rfl)
theorem dX9_mostLeft_74 : decode cX9_mostLeft 74 = .ok (.iload 5, 2) := dk_21 5 (dk_at dksX9_mostLeft_3 3 rfl rfl)
theorem dX9_mostLeft_76 : decode cX9_mostLeft 76 = .ok (.goto 4, 3) := dk_167 0 4 (dk_at dksX9_mostLeft_3 5 rfl rfl)
theorem dX9_mostLeft_79 : decode cX9_mostLeft 79 = .ok (.iload_n 3, 1) := dk_29 (dk_at dksX9_mostLeft_3 8 rfl rfl)
theorem dX9_mostLeft_80 : decode cX9_mostLeft 80 = .ok (.istore_n 3, 1) := dk_62 (dk_at dksX9_mostLeft_3 9 rfl rfl)
theorem dX9_mostLeft_81 : decode cX9_mostLeft 81 = .ok (.iinc 4 1, 3) := dk_132 4 1 (dk_at dksX9_mostLeft_3 10 rfl rfl)
theorem dX9_mostLeft_84 : decode cX9_mostLeft 84 = .ok (.goto (-79), 3) := dk_167 255 177 (dk_at dksX9_mostLeft_3 13 rfl rfl)
theorem dX9_mostLeft_87 : decode cX9_mostLeft 87 = .ok (.iload_n 3, 1) := dk_29 (dk_at dksX9_mostLeft_3 16 rfl rfl)
theorem dX9_mostLeft_88 : decode cX9_mostLeft 88 = .ok (.ireturn, 1) := dk_172 (dk_at dksX9_mostLeft_3 17 rfl rfl)
abbrev cX9_image : ByteArray := prog_24_method_111_code
def yX9_image : MethodName := ⟨RX9, "image", "(I)I"⟩
def dkwX9_image_2 : List UInt8 := [180, 0, 118, 16, 20, 46, 172]
abbrev dktX9_image_2 : List UInt8 := dkwX9_image_2 ++ []
def dkwX9_image_1 : List UInt8 := [42, 180, 0, 169, 16, 24, 27, 104, 28, 96, 42, 180, 0, 118, 28, 46, 79, 132, 2, 1, 167, 255, 230, 42]
abbrev dktX9_image_1 : List UInt8 := dkwX9_image_1 ++ dktX9_image_2
def dkwX9_image_0 : List UInt8 := [27, 184, 2, 86, 154, 0, 5, 2, 172, 42, 180, 0, 166, 27, 4, 84, 3, 61, 28, 16, 23, 162, 0, 26]
abbrev dktX9_image_0 : List UInt8 := dkwX9_image_0 ++ dktX9_image_1
theorem dksX9_image_0 : cX9_image.data.toList.drop 0 = dktX9_image_0 := by decide +kernel
theorem dksX9_image_1 : cX9_image.data.toList.drop 24 = dktX9_image_1 := dk_seg dksX9_image_0 24 rfl rfl
theorem dksX9_image_2 : cX9_image.data.toList.drop 48 = dktX9_image_2 := dk_seg dksX9_image_1 24 rfl rfl
theorem dX9_image_0 : decode cX9_image 0 = .ok (.iload_n 1, 1) := dk_27 (dk_at dksX9_image_0 0 rfl rfl)
theorem dX9_image_1 : decode cX9_image 1 = .ok (.invokestatic 598, 3) := dk_184 2 86 (dk_at dksX9_image_0 1 rfl rfl)
theorem dX9_image_4 : decode cX9_image 4 = .ok (.ifCond .ne 5, 3) := dk_154 0 5 (dk_at dksX9_image_0 4 rfl rfl)
theorem dX9_image_7 : decode cX9_image 7 = .ok (.iconst (-1), 1) := dk_2 (dk_at dksX9_image_0 7 rfl rfl)
theorem dX9_image_8 : decode cX9_image 8 = .ok (.ireturn, 1) := dk_172 (dk_at dksX9_image_0 8 rfl rfl)
theorem dX9_image_9 : decode cX9_image 9 = .ok (.aload_n 0, 1) := dk_42 (dk_at dksX9_image_0 9 rfl rfl)
theorem dX9_image_10 : decode cX9_image 10 = .ok (.getfield 166, 3) := dk_180 0 166 (dk_at dksX9_image_0 10 rfl rfl)
theorem dX9_image_13 : decode cX9_image 13 = .ok (.iload_n 1, 1) := dk_27 (dk_at dksX9_image_0 13 rfl rfl)
theorem dX9_image_14 : decode cX9_image 14 = .ok (.iconst 1, 1) := dk_4 (dk_at dksX9_image_0 14 rfl rfl)
theorem dX9_image_15 : decode cX9_image 15 = .ok (.bastore, 1) := dk_84 (dk_at dksX9_image_0 15 rfl rfl)
theorem dX9_image_16 : decode cX9_image 16 = .ok (.iconst 0, 1) := dk_3 (dk_at dksX9_image_0 16 rfl rfl)
theorem dX9_image_17 : decode cX9_image 17 = .ok (.istore_n 2, 1) := dk_61 (dk_at dksX9_image_0 17 rfl rfl)
theorem dX9_image_18 : decode cX9_image 18 = .ok (.iload_n 2, 1) := dk_28 (dk_at dksX9_image_0 18 rfl rfl)
theorem dX9_image_19 : decode cX9_image 19 = .ok (.bipush 23, 2) := dk_16 23 (dk_at dksX9_image_0 19 rfl rfl)
theorem dX9_image_21 : decode cX9_image 21 = .ok (.if_icmp .ge 26, 3) := dk_162 0 26 (dk_at dksX9_image_0 21 rfl rfl)
theorem dX9_image_24 : decode cX9_image 24 = .ok (.aload_n 0, 1) := dk_42 (dk_at dksX9_image_1 0 rfl rfl)
theorem dX9_image_25 : decode cX9_image 25 = .ok (.getfield 169, 3) := dk_180 0 169 (dk_at dksX9_image_1 1 rfl rfl)
theorem dX9_image_28 : decode cX9_image 28 = .ok (.bipush 24, 2) := dk_16 24 (dk_at dksX9_image_1 4 rfl rfl)
theorem dX9_image_30 : decode cX9_image 30 = .ok (.iload_n 1, 1) := dk_27 (dk_at dksX9_image_1 6 rfl rfl)
theorem dX9_image_31 : decode cX9_image 31 = .ok (.imul, 1) := dk_104 (dk_at dksX9_image_1 7 rfl rfl)
theorem dX9_image_32 : decode cX9_image 32 = .ok (.iload_n 2, 1) := dk_28 (dk_at dksX9_image_1 8 rfl rfl)
theorem dX9_image_33 : decode cX9_image 33 = .ok (.iadd, 1) := dk_96 (dk_at dksX9_image_1 9 rfl rfl)
theorem dX9_image_34 : decode cX9_image 34 = .ok (.aload_n 0, 1) := dk_42 (dk_at dksX9_image_1 10 rfl rfl)
theorem dX9_image_35 : decode cX9_image 35 = .ok (.getfield 118, 3) := dk_180 0 118 (dk_at dksX9_image_1 11 rfl rfl)
theorem dX9_image_38 : decode cX9_image 38 = .ok (.iload_n 2, 1) := dk_28 (dk_at dksX9_image_1 14 rfl rfl)
theorem dX9_image_39 : decode cX9_image 39 = .ok (.iaload, 1) := dk_46 (dk_at dksX9_image_1 15 rfl rfl)
theorem dX9_image_40 : decode cX9_image 40 = .ok (.iastore, 1) := dk_79 (dk_at dksX9_image_1 16 rfl rfl)
theorem dX9_image_41 : decode cX9_image 41 = .ok (.iinc 2 1, 3) := dk_132 2 1 (dk_at dksX9_image_1 17 rfl rfl)
theorem dX9_image_44 : decode cX9_image 44 = .ok (.goto (-26), 3) := dk_167 255 230 (dk_at dksX9_image_1 20 rfl rfl)
theorem dX9_image_47 : decode cX9_image 47 = .ok (.aload_n 0, 1) := dk_42 (dk_at dksX9_image_1 23 rfl rfl)
theorem dX9_image_48 : decode cX9_image 48 = .ok (.getfield 118, 3) := dk_180 0 118 (dk_at dksX9_image_2 0 rfl rfl)
theorem dX9_image_51 : decode cX9_image 51 = .ok (.bipush 20, 2) := dk_16 20 (dk_at dksX9_image_2 3 rfl rfl)
theorem dX9_image_53 : decode cX9_image 53 = .ok (.iaload, 1) := dk_46 (dk_at dksX9_image_2 5 rfl rfl)
theorem dX9_image_54 : decode cX9_image 54 = .ok (.ireturn, 1) := dk_172 (dk_at dksX9_image_2 6 rfl rfl)
abbrev cX9_isBox : ByteArray := prog_24_method_110_code
def yX9_isBox : MethodName := ⟨RX9, "isBox", "(I)Z"⟩
def dkwX9_isBox_0 : List UInt8 := [26, 155, 0, 12, 26, 6, 162, 0, 7, 4, 167, 0, 4, 3, 172]
abbrev dktX9_isBox_0 : List UInt8 := dkwX9_isBox_0 ++ []
theorem dksX9_isBox_0 : cX9_isBox.data.toList.drop 0 = dktX9_isBox_0 := by decide +kernel
theorem dX9_isBox_0 : decode cX9_isBox 0 = .ok (.iload_n 0, 1) := dk_26 (dk_at dksX9_isBox_0 0 rfl rfl)
theorem dX9_isBox_1 : decode cX9_isBox 1 = .ok (.ifCond .lt 12, 3) := dk_155 0 12 (dk_at dksX9_isBox_0 1 rfl rfl)
theorem dX9_isBox_4 : decode cX9_isBox 4 = .ok (.iload_n 0, 1) := dk_26 (dk_at dksX9_isBox_0 4 rfl rfl)
theorem dX9_isBox_5 : decode cX9_isBox 5 = .ok (.iconst 3, 1) := dk_6 (dk_at dksX9_isBox_0 5 rfl rfl)
theorem dX9_isBox_6 : decode cX9_isBox 6 = .ok (.if_icmp .ge 7, 3) := dk_162 0 7 (dk_at dksX9_isBox_0 6 rfl rfl)
theorem dX9_isBox_9 : decode cX9_isBox 9 = .ok (.iconst 1, 1) := dk_4 (dk_at dksX9_isBox_0 9 rfl rfl)
theorem dX9_isBox_10 : decode cX9_isBox 10 = .ok (.goto 4, 3) := dk_167 0 4 (dk_at dksX9_isBox_0 10 rfl rfl)
theorem dX9_isBox_13 : decode cX9_isBox 13 = .ok (.iconst 0, 1) := dk_3 (dk_at dksX9_isBox_0 13 rfl rfl)
theorem dX9_isBox_14 : decode cX9_isBox 14 = .ok (.ireturn, 1) := dk_172 (dk_at dksX9_isBox_0 14 rfl rfl)
abbrev cX9_back : ByteArray := prog_24_method_112_code
def yX9_back : MethodName := ⟨RX9, "back", "(I)I"⟩
def dkwX9_back_2 : List UInt8 := [167, 255, 230, 42, 3, 181, 1, 185, 42, 3, 181, 1, 188, 42, 180, 0, 118, 16, 20, 46, 172]
abbrev dktX9_back_2 : List UInt8 := dkwX9_back_2 ++ []
def dkwX9_back_1 : List UInt8 := [162, 0, 26, 42, 180, 0, 118, 28, 42, 180, 0, 169, 16, 24, 27, 104, 28, 96, 46, 79, 132, 2, 1]
abbrev dktX9_back_1 : List UInt8 := dkwX9_back_1 ++ dktX9_back_2
def dkwX9_back_0 : List UInt8 := [27, 184, 2, 86, 153, 0, 12, 42, 180, 0, 166, 27, 51, 154, 0, 5, 2, 172, 3, 61, 28, 16, 23]
abbrev dktX9_back_0 : List UInt8 := dkwX9_back_0 ++ dktX9_back_1
theorem dksX9_back_0 : cX9_back.data.toList.drop 0 = dktX9_back_0 := by decide +kernel
theorem dksX9_back_1 : cX9_back.data.toList.drop 23 = dktX9_back_1 := dk_seg dksX9_back_0 23 rfl rfl
theorem dksX9_back_2 : cX9_back.data.toList.drop 46 = dktX9_back_2 := dk_seg dksX9_back_1 23 rfl rfl
theorem dX9_back_0 : decode cX9_back 0 = .ok (.iload_n 1, 1) := dk_27 (dk_at dksX9_back_0 0 rfl rfl)
theorem dX9_back_1 : decode cX9_back 1 = .ok (.invokestatic 598, 3) := dk_184 2 86 (dk_at dksX9_back_0 1 rfl rfl)
theorem dX9_back_4 : decode cX9_back 4 = .ok (.ifCond .eq 12, 3) := dk_153 0 12 (dk_at dksX9_back_0 4 rfl rfl)
theorem dX9_back_7 : decode cX9_back 7 = .ok (.aload_n 0, 1) := dk_42 (dk_at dksX9_back_0 7 rfl rfl)
theorem dX9_back_8 : decode cX9_back 8 = .ok (.getfield 166, 3) := dk_180 0 166 (dk_at dksX9_back_0 8 rfl rfl)
theorem dX9_back_11 : decode cX9_back 11 = .ok (.iload_n 1, 1) := dk_27 (dk_at dksX9_back_0 11 rfl rfl)
theorem dX9_back_12 : decode cX9_back 12 = .ok (.baload, 1) := dk_51 (dk_at dksX9_back_0 12 rfl rfl)
theorem dX9_back_13 : decode cX9_back 13 = .ok (.ifCond .ne 5, 3) := dk_154 0 5 (dk_at dksX9_back_0 13 rfl rfl)
theorem dX9_back_16 : decode cX9_back 16 = .ok (.iconst (-1), 1) := dk_2 (dk_at dksX9_back_0 16 rfl rfl)
theorem dX9_back_17 : decode cX9_back 17 = .ok (.ireturn, 1) := dk_172 (dk_at dksX9_back_0 17 rfl rfl)
theorem dX9_back_18 : decode cX9_back 18 = .ok (.iconst 0, 1) := dk_3 (dk_at dksX9_back_0 18 rfl rfl)
theorem dX9_back_19 : decode cX9_back 19 = .ok (.istore_n 2, 1) := dk_61 (dk_at dksX9_back_0 19 rfl rfl)
theorem dX9_back_20 : decode cX9_back 20 = .ok (.iload_n 2, 1) := dk_28 (dk_at dksX9_back_0 20 rfl rfl)
theorem dX9_back_21 : decode cX9_back 21 = .ok (.bipush 23, 2) := dk_16 23 (dk_at dksX9_back_0 21 rfl rfl)
theorem dX9_back_23 : decode cX9_back 23 = .ok (.if_icmp .ge 26, 3) := dk_162 0 26 (dk_at dksX9_back_1 0 rfl rfl)
theorem dX9_back_26 : decode cX9_back 26 = .ok (.aload_n 0, 1) := dk_42 (dk_at dksX9_back_1 3 rfl rfl)
theorem dX9_back_27 : decode cX9_back 27 = .ok (.getfield 118, 3) := dk_180 0 118 (dk_at dksX9_back_1 4 rfl rfl)
theorem dX9_back_30 : decode cX9_back 30 = .ok (.iload_n 2, 1) := dk_28 (dk_at dksX9_back_1 7 rfl rfl)
theorem dX9_back_31 : decode cX9_back 31 = .ok (.aload_n 0, 1) := dk_42 (dk_at dksX9_back_1 8 rfl rfl)
theorem dX9_back_32 : decode cX9_back 32 = .ok (.getfield 169, 3) := dk_180 0 169 (dk_at dksX9_back_1 9 rfl rfl)
theorem dX9_back_35 : decode cX9_back 35 = .ok (.bipush 24, 2) := dk_16 24 (dk_at dksX9_back_1 12 rfl rfl)
theorem dX9_back_37 : decode cX9_back 37 = .ok (.iload_n 1, 1) := dk_27 (dk_at dksX9_back_1 14 rfl rfl)
theorem dX9_back_38 : decode cX9_back 38 = .ok (.imul, 1) := dk_104 (dk_at dksX9_back_1 15 rfl rfl)
theorem dX9_back_39 : decode cX9_back 39 = .ok (.iload_n 2, 1) := dk_28 (dk_at dksX9_back_1 16 rfl rfl)
theorem dX9_back_40 : decode cX9_back 40 = .ok (.iadd, 1) := dk_96 (dk_at dksX9_back_1 17 rfl rfl)
theorem dX9_back_41 : decode cX9_back 41 = .ok (.iaload, 1) := dk_46 (dk_at dksX9_back_1 18 rfl rfl)
theorem dX9_back_42 : decode cX9_back 42 = .ok (.iastore, 1) := dk_79 (dk_at dksX9_back_1 19 rfl rfl)
theorem dX9_back_43 : decode cX9_back 43 = .ok (.iinc 2 1, 3) := dk_132 2 1 (dk_at dksX9_back_1 20 rfl rfl)
theorem dX9_back_46 : decode cX9_back 46 = .ok (.goto (-26), 3) := dk_167 255 230 (dk_at dksX9_back_2 0 rfl rfl)
theorem dX9_back_49 : decode cX9_back 49 = .ok (.aload_n 0, 1) := dk_42 (dk_at dksX9_back_2 3 rfl rfl)
theorem dX9_back_50 : decode cX9_back 50 = .ok (.iconst 0, 1) := dk_3 (dk_at dksX9_back_2 4 rfl rfl)
theorem dX9_back_51 : decode cX9_back 51 = .ok (.putfield 441, 3) := dk_181 1 185 (dk_at dksX9_back_2 5 rfl rfl)
theorem dX9_back_54 : decode cX9_back 54 = .ok (.aload_n 0, 1) := dk_42 (dk_at dksX9_back_2 8 rfl rfl)
theorem dX9_back_55 : decode cX9_back 55 = .ok (.iconst 0, 1) := dk_3 (dk_at dksX9_back_2 9 rfl rfl)
theorem dX9_back_56 : decode cX9_back 56 = .ok (.putfield 444, 3) := dk_181 1 188 (dk_at dksX9_back_2 10 rfl rfl)
theorem dX9_back_59 : decode cX9_back 59 = .ok (.aload_n 0, 1) := dk_42 (dk_at dksX9_back_2 13 rfl rfl)
theorem dX9_back_60 : decode cX9_back 60 = .ok (.getfield 118, 3) := dk_180 0 118 (dk_at dksX9_back_2 14 rfl rfl)
theorem dX9_back_63 : decode cX9_back 63 = .ok (.bipush 20, 2) := dk_16 20 (dk_at dksX9_back_2 17 rfl rfl)
theorem dX9_back_65 : decode cX9_back 65 = .ok (.iaload, 1) := dk_46 (dk_at dksX9_back_2 19 rfl rfl)
theorem dX9_back_66 : decode cX9_back 66 = .ok (.ireturn, 1) := dk_172 (dk_at dksX9_back_2 20 rfl rfl)
abbrev cX9_about : ByteArray := prog_24_method_113_code
def yX9_about : MethodName := ⟨RX9, "about", "(I)I"⟩
def dkwX9_about_5 : List UInt8 := [180, 0, 172, 172, 42, 180, 1, 182, 172, 42, 180, 1, 194, 172, 2, 172]
abbrev dktX9_about_5 : List UInt8 := dkwX9_about_5 ++ []
def dkwX9_about_4 : List UInt8 := [172, 42, 180, 1, 185, 172, 42, 180, 1, 188, 172, 42, 180, 1, 191, 172, 42, 180, 2, 70, 172, 42]
abbrev dktX9_about_4 : List UInt8 := dkwX9_about_4 ++ dktX9_about_5
def dkwX9_about_3 : List UInt8 := [16, 20, 46, 172, 42, 180, 0, 118, 16, 21, 46, 172, 42, 180, 0, 118, 16, 22, 46, 172, 42, 180, 0, 115]
abbrev dktX9_about_3 : List UInt8 := dkwX9_about_3 ++ dktX9_about_4
def dkwX9_about_2 : List UInt8 := [42, 180, 1, 173, 172, 42, 180, 1, 167, 172, 42, 180, 1, 170, 172, 42, 180, 1, 176, 172, 42, 180, 0, 118]
abbrev dktX9_about_2 : List UInt8 := dkwX9_about_2 ++ dktX9_about_3
def dkwX9_about_1 : List UInt8 := [170, 0, 0, 0, 0, 0, 159, 0, 0, 0, 0, 0, 0, 0, 14, 0, 0, 0, 75, 0, 0, 0, 80, 0, 0, 0, 85, 0, 0, 0, 90, 0, 0, 0, 95, 0, 0, 0, 103, 0, 0, 0, 111, 0, 0, 0, 119, 0, 0, 0, 124, 0, 0, 0, 129, 0, 0, 0, 134, 0, 0, 0, 139, 0, 0, 0, 144, 0, 0, 0, 149, 0, 0, 0, 154]
abbrev dktX9_about_1 : List UInt8 := dkwX9_about_1 ++ dktX9_about_2
def dkwX9_about_0 : List UInt8 := [27]
abbrev dktX9_about_0 : List UInt8 := dkwX9_about_0 ++ dktX9_about_1
theorem dksX9_about_0 : cX9_about.data.toList.drop 0 = dktX9_about_0 := by decide +kernel
theorem dksX9_about_1 : cX9_about.data.toList.drop 1 = dktX9_about_1 := dk_seg dksX9_about_0 1 rfl rfl
theorem dksX9_about_2 : cX9_about.data.toList.drop 76 = dktX9_about_2 := dk_seg dksX9_about_1 75 rfl rfl
theorem dksX9_about_3 : cX9_about.data.toList.drop 100 = dktX9_about_3 := dk_seg dksX9_about_2 24 rfl rfl
theorem dksX9_about_4 : cX9_about.data.toList.drop 124 = dktX9_about_4 := dk_seg dksX9_about_3 24 rfl rfl
theorem dksX9_about_5 : cX9_about.data.toList.drop 146 = dktX9_about_5 := dk_seg dksX9_about_4 22 rfl rfl
theorem dX9_about_0 : decode cX9_about 0 = .ok (.iload_n 1, 1) := dk_27 (dk_at dksX9_about_0 0 rfl rfl)
theorem dX9_about_1 : decode cX9_about 1 = .ok (.tableswitch 159 0 14 #[75, 80, 85, 90, 95, 103, 111, 119, 124, 129, 134, 139, 144, 149, 154], 75) := by decide +kernel
theorem dX9_about_76 : decode cX9_about 76 = .ok (.aload_n 0, 1) := dk_42 (dk_at dksX9_about_2 0 rfl rfl)
theorem dX9_about_77 : decode cX9_about 77 = .ok (.getfield 429, 3) := dk_180 1 173 (dk_at dksX9_about_2 1 rfl rfl)
theorem dX9_about_80 : decode cX9_about 80 = .ok (.ireturn, 1) := dk_172 (dk_at dksX9_about_2 4 rfl rfl)
theorem dX9_about_81 : decode cX9_about 81 = .ok (.aload_n 0, 1) := dk_42 (dk_at dksX9_about_2 5 rfl rfl)
theorem dX9_about_82 : decode cX9_about 82 = .ok (.getfield 423, 3) := dk_180 1 167 (dk_at dksX9_about_2 6 rfl rfl)
theorem dX9_about_85 : decode cX9_about 85 = .ok (.ireturn, 1) := dk_172 (dk_at dksX9_about_2 9 rfl rfl)
theorem dX9_about_86 : decode cX9_about 86 = .ok (.aload_n 0, 1) := dk_42 (dk_at dksX9_about_2 10 rfl rfl)
theorem dX9_about_87 : decode cX9_about 87 = .ok (.getfield 426, 3) := dk_180 1 170 (dk_at dksX9_about_2 11 rfl rfl)
theorem dX9_about_90 : decode cX9_about 90 = .ok (.ireturn, 1) := dk_172 (dk_at dksX9_about_2 14 rfl rfl)
theorem dX9_about_91 : decode cX9_about 91 = .ok (.aload_n 0, 1) := dk_42 (dk_at dksX9_about_2 15 rfl rfl)
theorem dX9_about_92 : decode cX9_about 92 = .ok (.getfield 432, 3) := dk_180 1 176 (dk_at dksX9_about_2 16 rfl rfl)
theorem dX9_about_95 : decode cX9_about 95 = .ok (.ireturn, 1) := dk_172 (dk_at dksX9_about_2 19 rfl rfl)
theorem dX9_about_96 : decode cX9_about 96 = .ok (.aload_n 0, 1) := dk_42 (dk_at dksX9_about_2 20 rfl rfl)
theorem dX9_about_97 : decode cX9_about 97 = .ok (.getfield 118, 3) := dk_180 0 118 (dk_at dksX9_about_2 21 rfl rfl)
theorem dX9_about_100 : decode cX9_about 100 = .ok (.bipush 20, 2) := dk_16 20 (dk_at dksX9_about_3 0 rfl rfl)
theorem dX9_about_102 : decode cX9_about 102 = .ok (.iaload, 1) := dk_46 (dk_at dksX9_about_3 2 rfl rfl)
theorem dX9_about_103 : decode cX9_about 103 = .ok (.ireturn, 1) := dk_172 (dk_at dksX9_about_3 3 rfl rfl)
theorem dX9_about_104 : decode cX9_about 104 = .ok (.aload_n 0, 1) := dk_42 (dk_at dksX9_about_3 4 rfl rfl)
theorem dX9_about_105 : decode cX9_about 105 = .ok (.getfield 118, 3) := dk_180 0 118 (dk_at dksX9_about_3 5 rfl rfl)
theorem dX9_about_108 : decode cX9_about 108 = .ok (.bipush 21, 2) := dk_16 21 (dk_at dksX9_about_3 8 rfl rfl)
theorem dX9_about_110 : decode cX9_about 110 = .ok (.iaload, 1) := dk_46 (dk_at dksX9_about_3 10 rfl rfl)
theorem dX9_about_111 : decode cX9_about 111 = .ok (.ireturn, 1) := dk_172 (dk_at dksX9_about_3 11 rfl rfl)
theorem dX9_about_112 : decode cX9_about 112 = .ok (.aload_n 0, 1) := dk_42 (dk_at dksX9_about_3 12 rfl rfl)
theorem dX9_about_113 : decode cX9_about 113 = .ok (.getfield 118, 3) := dk_180 0 118 (dk_at dksX9_about_3 13 rfl rfl)
theorem dX9_about_116 : decode cX9_about 116 = .ok (.bipush 22, 2) := dk_16 22 (dk_at dksX9_about_3 16 rfl rfl)
theorem dX9_about_118 : decode cX9_about 118 = .ok (.iaload, 1) := dk_46 (dk_at dksX9_about_3 18 rfl rfl)
theorem dX9_about_119 : decode cX9_about 119 = .ok (.ireturn, 1) := dk_172 (dk_at dksX9_about_3 19 rfl rfl)
theorem dX9_about_120 : decode cX9_about 120 = .ok (.aload_n 0, 1) := dk_42 (dk_at dksX9_about_3 20 rfl rfl)
theorem dX9_about_121 : decode cX9_about 121 = .ok (.getfield 115, 3) := dk_180 0 115 (dk_at dksX9_about_3 21 rfl rfl)
theorem dX9_about_124 : decode cX9_about 124 = .ok (.ireturn, 1) := dk_172 (dk_at dksX9_about_4 0 rfl rfl)
theorem dX9_about_125 : decode cX9_about 125 = .ok (.aload_n 0, 1) := dk_42 (dk_at dksX9_about_4 1 rfl rfl)
theorem dX9_about_126 : decode cX9_about 126 = .ok (.getfield 441, 3) := dk_180 1 185 (dk_at dksX9_about_4 2 rfl rfl)
theorem dX9_about_129 : decode cX9_about 129 = .ok (.ireturn, 1) := dk_172 (dk_at dksX9_about_4 5 rfl rfl)
theorem dX9_about_130 : decode cX9_about 130 = .ok (.aload_n 0, 1) := dk_42 (dk_at dksX9_about_4 6 rfl rfl)
theorem dX9_about_131 : decode cX9_about 131 = .ok (.getfield 444, 3) := dk_180 1 188 (dk_at dksX9_about_4 7 rfl rfl)
theorem dX9_about_134 : decode cX9_about 134 = .ok (.ireturn, 1) := dk_172 (dk_at dksX9_about_4 10 rfl rfl)
theorem dX9_about_135 : decode cX9_about 135 = .ok (.aload_n 0, 1) := dk_42 (dk_at dksX9_about_4 11 rfl rfl)
theorem dX9_about_136 : decode cX9_about 136 = .ok (.getfield 447, 3) := dk_180 1 191 (dk_at dksX9_about_4 12 rfl rfl)
theorem dX9_about_139 : decode cX9_about 139 = .ok (.ireturn, 1) := dk_172 (dk_at dksX9_about_4 15 rfl rfl)
theorem dX9_about_140 : decode cX9_about 140 = .ok (.aload_n 0, 1) := dk_42 (dk_at dksX9_about_4 16 rfl rfl)
theorem dX9_about_141 : decode cX9_about 141 = .ok (.getfield 582, 3) := dk_180 2 70 (dk_at dksX9_about_4 17 rfl rfl)
theorem dX9_about_144 : decode cX9_about 144 = .ok (.ireturn, 1) := dk_172 (dk_at dksX9_about_4 20 rfl rfl)
theorem dX9_about_145 : decode cX9_about 145 = .ok (.aload_n 0, 1) := dk_42 (dk_at dksX9_about_4 21 rfl rfl)
theorem dX9_about_146 : decode cX9_about 146 = .ok (.getfield 172, 3) := dk_180 0 172 (dk_at dksX9_about_5 0 rfl rfl)
theorem dX9_about_149 : decode cX9_about 149 = .ok (.ireturn, 1) := dk_172 (dk_at dksX9_about_5 3 rfl rfl)
theorem dX9_about_150 : decode cX9_about 150 = .ok (.aload_n 0, 1) := dk_42 (dk_at dksX9_about_5 4 rfl rfl)
theorem dX9_about_151 : decode cX9_about 151 = .ok (.getfield 438, 3) := dk_180 1 182 (dk_at dksX9_about_5 5 rfl rfl)
theorem dX9_about_154 : decode cX9_about 154 = .ok (.ireturn, 1) := dk_172 (dk_at dksX9_about_5 8 rfl rfl)
theorem dX9_about_155 : decode cX9_about 155 = .ok (.aload_n 0, 1) := dk_42 (dk_at dksX9_about_5 9 rfl rfl)
theorem dX9_about_156 : decode cX9_about 156 = .ok (.getfield 450, 3) := dk_180 1 194 (dk_at dksX9_about_5 10 rfl rfl)
theorem dX9_about_159 : decode cX9_about 159 = .ok (.ireturn, 1) := dk_172 (dk_at dksX9_about_5 13 rfl rfl)
theorem dX9_about_160 : decode cX9_about 160 = .ok (.iconst (-1), 1) := dk_2 (dk_at dksX9_about_5 14 rfl rfl)
theorem dX9_about_161 : decode cX9_about 161 = .ok (.ireturn, 1) := dk_172 (dk_at dksX9_about_5 15 rfl rfl)
theorem q133 : (Jvm.Cond.initialized "OathButtonsModel") ∈ lw_all := lw_g (lw_at lw_m1 17 rfl) rfl
theorem q836 : (Jvm.Cond.selects "OathButtonsModel" ({ cls := "java/lang/Object", name := "getClass", desc := "()Ljava/lang/Class;" } : Jvm.MethodName) ({ cls := "java/lang/Object", name := "getClass", desc := "()Ljava/lang/Class;" } : Jvm.MethodName)) ∈ lw_all := lw_g (lw_at lw_m4 0 rfl) rfl
theorem q1433 : (Jvm.Cond.instantiable "OathButtonsModel" (97 : Nat)) ∈ lw_all := lw_g (lw_at lw_m6 117 rfl) rfl
theorem q1435 : (Jvm.Cond.instanceMethod ({ cls := "OathButtonsModel", name := "<init>", desc := "()V" } : Jvm.MethodName)) ∈ lw_all := lw_g (lw_at lw_m6 119 rfl) rfl
theorem q1436 : (Jvm.Cond.code ({ cls := "OathButtonsModel", name := "<init>", desc := "()V" } : Jvm.MethodName) prog_24_method_1_code (1 : Nat) (Option.none : Option Jvm.ClassFile.FieldType)) ∈ lw_all := lw_g (lw_at lw_m6 120 rfl) rfl
theorem q1437 : (Jvm.Cond.methodLink "OathButtonsModel" (1 : Nat) ({ cls := "java/lang/Object", name := "<init>", desc := "()V" } : Jvm.MethodName)) ∈ lw_all := lw_g (lw_at lw_m6 121 rfl) rfl
theorem q1438 : (Jvm.Cond.fieldLink "OathButtonsModel" (7 : Nat) "OathButtonsModel" "tape" "[I") ∈ lw_all := lw_g (lw_at lw_m6 122 rfl) rfl
theorem q1439 : (Jvm.Cond.fieldLink "OathButtonsModel" (172 : Nat) "OathButtonsModel" "taped" "I") ∈ lw_all := lw_g (lw_at lw_m6 123 rfl) rfl
theorem q1440 : (Jvm.Cond.fieldLink "OathButtonsModel" (212 : Nat) "OathButtonsModel" "fault" "I") ∈ lw_all := lw_g (lw_at lw_m6 124 rfl) rfl
theorem q1441 : (Jvm.Cond.fieldLink "OathButtonsModel" (13 : Nat) "OathButtonsModel" "faultPlace" "I") ∈ lw_all := lw_g (lw_at lw_m6 125 rfl) rfl
theorem q1442 : (Jvm.Cond.fieldLink "OathButtonsModel" (179 : Nat) "OathButtonsModel" "at" "I") ∈ lw_all := lw_g (lw_at lw_m6 126 rfl) rfl
theorem q1443 : (Jvm.Cond.fieldLink "OathButtonsModel" (182 : Nat) "OathButtonsModel" "size" "I") ∈ lw_all := lw_g (lw_at lw_m6 127 rfl) rfl
theorem q1444 : (Jvm.Cond.fieldLink "OathButtonsModel" (199 : Nat) "OathButtonsModel" "sort" "I") ∈ lw_all := lw_g (lw_at lw_m6 128 rfl) rfl
theorem q1445 : (Jvm.Cond.fieldLink "OathButtonsModel" (189 : Nat) "OathButtonsModel" "place" "I") ∈ lw_all := lw_g (lw_at lw_m6 129 rfl) rfl
theorem q1446 : (Jvm.Cond.fieldLink "OathButtonsModel" (196 : Nat) "OathButtonsModel" "numbe\x72" "I") ∈ lw_all := lw_g (lw_at lw_m6 130 rfl) rfl
theorem q1447 : (Jvm.Cond.fieldLink "OathButtonsModel" (192 : Nat) "OathButtonsModel" "word" "J") ∈ lw_all := lw_g (lw_at lw_m6 131 rfl) rfl
theorem q1448 : (Jvm.Cond.fieldLink "OathButtonsModel" (17 : Nat) "OathButtonsModel" "nName" "[J") ∈ lw_all := lw_g (lw_at lw_m6 132 rfl) rfl
theorem q1449 : (Jvm.Cond.fieldLink "OathButtonsModel" (21 : Nat) "OathButtonsModel" "nStep" "[I") ∈ lw_all := lw_g (lw_at lw_m6 133 rfl) rfl
theorem q1450 : (Jvm.Cond.fieldLink "OathButtonsModel" (24 : Nat) "OathButtonsModel" "nArg" "[I") ∈ lw_all := lw_g (lw_at lw_m6 134 rfl) rfl
theorem q1451 : (Jvm.Cond.fieldLink "OathButtonsModel" (27 : Nat) "OathButtonsModel" "step" "[I") ∈ lw_all := lw_g (lw_at lw_m6 135 rfl) rfl
theorem q1452 : (Jvm.Cond.fieldLink "OathButtonsModel" (30 : Nat) "OathButtonsModel" "arg" "[I") ∈ lw_all := lw_g (lw_at lw_m6 136 rfl) rfl
theorem q1453 : (Jvm.Cond.fieldLink "OathButtonsModel" (33 : Nat) "OathButtonsModel" "open" "[I") ∈ lw_all := lw_g (lw_at lw_m6 137 rfl) rfl
theorem q1454 : (Jvm.Cond.fieldLink "OathButtonsModel" (36 : Nat) "OathButtonsModel" "values" "[I") ∈ lw_all := lw_g (lw_at lw_m6 138 rfl) rfl
theorem q1455 : (Jvm.Cond.fieldLink "OathButtonsModel" (291 : Nat) "OathButtonsModel" "nSteps" "I") ∈ lw_all := lw_g (lw_at lw_m6 139 rfl) rfl
theorem q1456 : (Jvm.Cond.fieldLink "OathButtonsModel" (352 : Nat) "OathButtonsModel" "steps" "I") ∈ lw_all := lw_g (lw_at lw_m6 140 rfl) rfl
theorem q1457 : (Jvm.Cond.fieldLink "OathButtonsModel" (294 : Nat) "OathButtonsModel" "opens" "I") ∈ lw_all := lw_g (lw_at lw_m6 141 rfl) rfl
theorem q1458 : (Jvm.Cond.fieldLink "OathButtonsModel" (307 : Nat) "OathButtonsModel" "nUnits" "I") ∈ lw_all := lw_g (lw_at lw_m6 142 rfl) rfl
theorem q1459 : (Jvm.Cond.fieldLink "OathButtonsModel" (438 : Nat) "OathButtonsModel" "units" "I") ∈ lw_all := lw_g (lw_at lw_m6 143 rfl) rfl
theorem q1460 : (Jvm.Cond.fieldLink "OathButtonsModel" (310 : Nat) "OathButtonsModel" "ownUnits" "I") ∈ lw_all := lw_g (lw_at lw_m6 144 rfl) rfl
theorem q1461 : (Jvm.Cond.fieldLink "OathButtonsModel" (304 : Nat) "OathButtonsModel" "deep" "I") ∈ lw_all := lw_g (lw_at lw_m6 145 rfl) rfl
theorem q1462 : (Jvm.Cond.fieldLink "OathButtonsModel" (39 : Nat) "OathButtonsModel" "asks" "[I") ∈ lw_all := lw_g (lw_at lw_m6 146 rfl) rfl
theorem q1463 : (Jvm.Cond.fieldLink "OathButtonsModel" (42 : Nat) "OathButtonsModel" "nColou\x72" "[I") ∈ lw_all := lw_g (lw_at lw_m6 147 rfl) rfl
theorem q1464 : (Jvm.Cond.fieldLink "OathButtonsModel" (45 : Nat) "OathButtonsModel" "nHoles" "[I") ∈ lw_all := lw_g (lw_at lw_m6 148 rfl) rfl
theorem q1465 : (Jvm.Cond.fieldLink "OathButtonsModel" (48 : Nat) "OathButtonsModel" "nLeft" "[I") ∈ lw_all := lw_g (lw_at lw_m6 149 rfl) rfl
theorem q1466 : (Jvm.Cond.fieldLink "OathButtonsModel" (51 : Nat) "OathButtonsModel" "nHours" "[I") ∈ lw_all := lw_g (lw_at lw_m6 150 rfl) rfl
theorem q1467 : (Jvm.Cond.fieldLink "OathButtonsModel" (54 : Nat) "OathButtonsModel" "nFriend" "[I") ∈ lw_all := lw_g (lw_at lw_m6 151 rfl) rfl
theorem q1468 : (Jvm.Cond.fieldLink "OathButtonsModel" (57 : Nat) "OathButtonsModel" "colou\x72" "[I") ∈ lw_all := lw_g (lw_at lw_m6 152 rfl) rfl
theorem q1469 : (Jvm.Cond.fieldLink "OathButtonsModel" (60 : Nat) "OathButtonsModel" "holes" "[I") ∈ lw_all := lw_g (lw_at lw_m6 153 rfl) rfl
theorem q1470 : (Jvm.Cond.fieldLink "OathButtonsModel" (63 : Nat) "OathButtonsModel" "left" "[I") ∈ lw_all := lw_g (lw_at lw_m6 154 rfl) rfl
theorem q1471 : (Jvm.Cond.fieldLink "OathButtonsModel" (66 : Nat) "OathButtonsModel" "hours" "[I") ∈ lw_all := lw_g (lw_at lw_m6 155 rfl) rfl
theorem q1472 : (Jvm.Cond.fieldLink "OathButtonsModel" (69 : Nat) "OathButtonsModel" "friend" "[I") ∈ lw_all := lw_g (lw_at lw_m6 156 rfl) rfl
theorem q1473 : (Jvm.Cond.fieldLink "OathButtonsModel" (72 : Nat) "OathButtonsModel" "nOn" "[I") ∈ lw_all := lw_g (lw_at lw_m6 157 rfl) rfl
theorem q1474 : (Jvm.Cond.fieldLink "OathButtonsModel" (75 : Nat) "OathButtonsModel" "nBy" "[I") ∈ lw_all := lw_g (lw_at lw_m6 158 rfl) rfl
theorem q1475 : (Jvm.Cond.fieldLink "OathButtonsModel" (78 : Nat) "OathButtonsModel" "nDeed" "[I") ∈ lw_all := lw_g (lw_at lw_m6 159 rfl) rfl
theorem q1476 : (Jvm.Cond.fieldLink "OathButtonsModel" (81 : Nat) "OathButtonsModel" "nUntil" "[I") ∈ lw_all := lw_g (lw_at lw_m6 160 rfl) rfl
theorem q1477 : (Jvm.Cond.fieldLink "OathButtonsModel" (84 : Nat) "OathButtonsModel" "nThread" "[I") ∈ lw_all := lw_g (lw_at lw_m6 161 rfl) rfl
theorem q1478 : (Jvm.Cond.fieldLink "OathButtonsModel" (87 : Nat) "OathButtonsModel" "nAfte\x72" "[I") ∈ lw_all := lw_g (lw_at lw_m6 162 rfl) rfl
theorem q1479 : (Jvm.Cond.fieldLink "OathButtonsModel" (90 : Nat) "OathButtonsModel" "onMan" "[I") ∈ lw_all := lw_g (lw_at lw_m6 163 rfl) rfl
theorem q1480 : (Jvm.Cond.fieldLink "OathButtonsModel" (93 : Nat) "OathButtonsModel" "byMan" "[I") ∈ lw_all := lw_g (lw_at lw_m6 164 rfl) rfl
theorem q1481 : (Jvm.Cond.fieldLink "OathButtonsModel" (96 : Nat) "OathButtonsModel" "deedOf" "[I") ∈ lw_all := lw_g (lw_at lw_m6 165 rfl) rfl
theorem q1482 : (Jvm.Cond.fieldLink "OathButtonsModel" (99 : Nat) "OathButtonsModel" "until" "[I") ∈ lw_all := lw_g (lw_at lw_m6 166 rfl) rfl
theorem q1483 : (Jvm.Cond.fieldLink "OathButtonsModel" (102 : Nat) "OathButtonsModel" "toldThread" "[I") ∈ lw_all := lw_g (lw_at lw_m6 167 rfl) rfl
theorem q1484 : (Jvm.Cond.fieldLink "OathButtonsModel" (105 : Nat) "OathButtonsModel" "afte\x72" "[I") ∈ lw_all := lw_g (lw_at lw_m6 168 rfl) rfl
theorem q1485 : (Jvm.Cond.fieldLink "OathButtonsModel" (108 : Nat) "OathButtonsModel" "nPromises" "[Z") ∈ lw_all := lw_g (lw_at lw_m6 169 rfl) rfl
theorem q1486 : (Jvm.Cond.fieldLink "OathButtonsModel" (112 : Nat) "OathButtonsModel" "promises" "[Z") ∈ lw_all := lw_g (lw_at lw_m6 170 rfl) rfl
theorem q1487 : (Jvm.Cond.fieldLink "OathButtonsModel" (359 : Nat) "OathButtonsModel" "nMen" "I") ∈ lw_all := lw_g (lw_at lw_m6 171 rfl) rfl
theorem q1488 : (Jvm.Cond.fieldLink "OathButtonsModel" (369 : Nat) "OathButtonsModel" "nDeeds" "I") ∈ lw_all := lw_g (lw_at lw_m6 172 rfl) rfl
theorem q1489 : (Jvm.Cond.fieldLink "OathButtonsModel" (372 : Nat) "OathButtonsModel" "nButtons" "I") ∈ lw_all := lw_g (lw_at lw_m6 173 rfl) rfl
theorem q1490 : (Jvm.Cond.fieldLink "OathButtonsModel" (378 : Nat) "OathButtonsModel" "nFriends" "I") ∈ lw_all := lw_g (lw_at lw_m6 174 rfl) rfl
theorem q1491 : (Jvm.Cond.fieldLink "OathButtonsModel" (402 : Nat) "OathButtonsModel" "nDay" "I") ∈ lw_all := lw_g (lw_at lw_m6 175 rfl) rfl
theorem q1492 : (Jvm.Cond.fieldLink "OathButtonsModel" (408 : Nat) "OathButtonsModel" "nStorm" "I") ∈ lw_all := lw_g (lw_at lw_m6 176 rfl) rfl
theorem q1493 : (Jvm.Cond.fieldLink "OathButtonsModel" (414 : Nat) "OathButtonsModel" "nDraw" "I") ∈ lw_all := lw_g (lw_at lw_m6 177 rfl) rfl
theorem q1494 : (Jvm.Cond.fieldLink "OathButtonsModel" (423 : Nat) "OathButtonsModel" "men" "I") ∈ lw_all := lw_g (lw_at lw_m6 178 rfl) rfl
theorem q1495 : (Jvm.Cond.fieldLink "OathButtonsModel" (426 : Nat) "OathButtonsModel" "deeds" "I") ∈ lw_all := lw_g (lw_at lw_m6 179 rfl) rfl
theorem q1496 : (Jvm.Cond.fieldLink "OathButtonsModel" (429 : Nat) "OathButtonsModel" "buttons" "I") ∈ lw_all := lw_g (lw_at lw_m6 180 rfl) rfl
theorem q1497 : (Jvm.Cond.fieldLink "OathButtonsModel" (432 : Nat) "OathButtonsModel" "friends" "I") ∈ lw_all := lw_g (lw_at lw_m6 181 rfl) rfl
theorem q1498 : (Jvm.Cond.fieldLink "OathButtonsModel" (115 : Nat) "OathButtonsModel" "dayHours" "I") ∈ lw_all := lw_g (lw_at lw_m6 182 rfl) rfl
theorem q1499 : (Jvm.Cond.fieldLink "OathButtonsModel" (435 : Nat) "OathButtonsModel" "storm" "I") ∈ lw_all := lw_g (lw_at lw_m6 183 rfl) rfl
theorem q1500 : (Jvm.Cond.fieldLink "OathButtonsModel" (393 : Nat) "OathButtonsModel" "nHasWea\x72" "Z") ∈ lw_all := lw_g (lw_at lw_m6 184 rfl) rfl
theorem q1501 : (Jvm.Cond.fieldLink "OathButtonsModel" (399 : Nat) "OathButtonsModel" "nHasDay" "Z") ∈ lw_all := lw_g (lw_at lw_m6 185 rfl) rfl
theorem q1502 : (Jvm.Cond.fieldLink "OathButtonsModel" (405 : Nat) "OathButtonsModel" "nHasStorm" "Z") ∈ lw_all := lw_g (lw_at lw_m6 186 rfl) rfl
theorem q1503 : (Jvm.Cond.fieldLink "OathButtonsModel" (411 : Nat) "OathButtonsModel" "nHasDraw" "Z") ∈ lw_all := lw_g (lw_at lw_m6 187 rfl) rfl
theorem q1504 : (Jvm.Cond.fieldLink "OathButtonsModel" (348 : Nat) "OathButtonsModel" "hasWea\x72" "Z") ∈ lw_all := lw_g (lw_at lw_m6 188 rfl) rfl
theorem q1505 : (Jvm.Cond.fieldLink "OathButtonsModel" (118 : Nat) "OathButtonsModel" "now" "[I") ∈ lw_all := lw_g (lw_at lw_m6 189 rfl) rfl
theorem q1506 : (Jvm.Cond.fieldLink "OathButtonsModel" (121 : Nat) "OathButtonsModel" "were" "[I") ∈ lw_all := lw_g (lw_at lw_m6 190 rfl) rfl
theorem q1507 : (Jvm.Cond.fieldLink "OathButtonsModel" (441 : Nat) "OathButtonsModel" "acts" "I") ∈ lw_all := lw_g (lw_at lw_m6 191 rfl) rfl
theorem q1508 : (Jvm.Cond.fieldLink "OathButtonsModel" (444 : Nat) "OathButtonsModel" "undone" "I") ∈ lw_all := lw_g (lw_at lw_m6 192 rfl) rfl
theorem q1509 : (Jvm.Cond.fieldLink "OathButtonsModel" (124 : Nat) "OathButtonsModel" "state" "[I") ∈ lw_all := lw_g (lw_at lw_m6 193 rfl) rfl
theorem q1510 : (Jvm.Cond.fieldLink "OathButtonsModel" (127 : Nat) "OathButtonsModel" "thread" "[I") ∈ lw_all := lw_g (lw_at lw_m6 194 rfl) rfl
theorem q1511 : (Jvm.Cond.fieldLink "OathButtonsModel" (475 : Nat) "OathButtonsModel" "day" "I") ∈ lw_all := lw_g (lw_at lw_m6 195 rfl) rfl
theorem q1512 : (Jvm.Cond.fieldLink "OathButtonsModel" (478 : Nat) "OathButtonsModel" "seed" "I") ∈ lw_all := lw_g (lw_at lw_m6 196 rfl) rfl
theorem q1513 : (Jvm.Cond.fieldLink "OathButtonsModel" (130 : Nat) "OathButtonsModel" "orde\x72" "[I") ∈ lw_all := lw_g (lw_at lw_m6 197 rfl) rfl
theorem q1514 : (Jvm.Cond.fieldLink "OathButtonsModel" (133 : Nat) "OathButtonsModel" "spent" "[I") ∈ lw_all := lw_g (lw_at lw_m6 198 rfl) rfl
theorem q1515 : (Jvm.Cond.fieldLink "OathButtonsModel" (136 : Nat) "OathButtonsModel" "keptBy" "[I") ∈ lw_all := lw_g (lw_at lw_m6 199 rfl) rfl
theorem q1516 : (Jvm.Cond.fieldLink "OathButtonsModel" (139 : Nat) "OathButtonsModel" "bestOrde\x72" "[I") ∈ lw_all := lw_g (lw_at lw_m6 200 rfl) rfl
theorem q1517 : (Jvm.Cond.fieldLink "OathButtonsModel" (497 : Nat) "OathButtonsModel" "orderMany" "I") ∈ lw_all := lw_g (lw_at lw_m6 201 rfl) rfl
theorem q1518 : (Jvm.Cond.fieldLink "OathButtonsModel" (494 : Nat) "OathButtonsModel" "beginDay" "I") ∈ lw_all := lw_g (lw_at lw_m6 202 rfl) rfl
theorem q1519 : (Jvm.Cond.fieldLink "OathButtonsModel" (513 : Nat) "OathButtonsModel" "bestMany" "I") ∈ lw_all := lw_g (lw_at lw_m6 203 rfl) rfl
theorem q1520 : (Jvm.Cond.fieldLink "OathButtonsModel" (522 : Nat) "OathButtonsModel" "bestHours" "I") ∈ lw_all := lw_g (lw_at lw_m6 204 rfl) rfl
theorem q1521 : (Jvm.Cond.fieldLink "OathButtonsModel" (519 : Nat) "OathButtonsModel" "bestKept" "I") ∈ lw_all := lw_g (lw_at lw_m6 205 rfl) rfl
theorem q1522 : (Jvm.Cond.fieldLink "OathButtonsModel" (142 : Nat) "OathButtonsModel" "lies" "[I") ∈ lw_all := lw_g (lw_at lw_m6 206 rfl) rfl
theorem q1523 : (Jvm.Cond.fieldLink "OathButtonsModel" (450 : Nat) "OathButtonsModel" "lain" "I") ∈ lw_all := lw_g (lw_at lw_m6 207 rfl) rfl
theorem q1524 : (Jvm.Cond.fieldLink "OathButtonsModel" (145 : Nat) "OathButtonsModel" "canKeep" "[Z") ∈ lw_all := lw_g (lw_at lw_m6 208 rfl) rfl
theorem q1525 : (Jvm.Cond.fieldLink "OathButtonsModel" (148 : Nat) "OathButtonsModel" "with" "[I") ∈ lw_all := lw_g (lw_at lw_m6 209 rfl) rfl
theorem q1526 : (Jvm.Cond.fieldLink "OathButtonsModel" (151 : Nat) "OathButtonsModel" "tugWhat" "[I") ∈ lw_all := lw_g (lw_at lw_m6 210 rfl) rfl
theorem q1527 : (Jvm.Cond.fieldLink "OathButtonsModel" (154 : Nat) "OathButtonsModel" "tugNumbe\x72" "[I") ∈ lw_all := lw_g (lw_at lw_m6 211 rfl) rfl
theorem q1528 : (Jvm.Cond.fieldLink "OathButtonsModel" (157 : Nat) "OathButtonsModel" "tugTold" "[I") ∈ lw_all := lw_g (lw_at lw_m6 212 rfl) rfl
theorem q1529 : (Jvm.Cond.fieldLink "OathButtonsModel" (160 : Nat) "OathButtonsModel" "tugUntold" "[I") ∈ lw_all := lw_g (lw_at lw_m6 213 rfl) rfl
theorem q1530 : (Jvm.Cond.fieldLink "OathButtonsModel" (163 : Nat) "OathButtonsModel" "tugIs" "[Z") ∈ lw_all := lw_g (lw_at lw_m6 214 rfl) rfl
theorem q1531 : (Jvm.Cond.fieldLink "OathButtonsModel" (447 : Nat) "OathButtonsModel" "tugs" "I") ∈ lw_all := lw_g (lw_at lw_m6 215 rfl) rfl
theorem q1532 : (Jvm.Cond.fieldLink "OathButtonsModel" (582 : Nat) "OathButtonsModel" "time" "I") ∈ lw_all := lw_g (lw_at lw_m6 216 rfl) rfl
theorem q1533 : (Jvm.Cond.fieldLink "OathButtonsModel" (166 : Nat) "OathButtonsModel" "hasBox" "[Z") ∈ lw_all := lw_g (lw_at lw_m6 217 rfl) rfl
theorem q1534 : (Jvm.Cond.fieldLink "OathButtonsModel" (169 : Nat) "OathButtonsModel" "boxes" "[I") ∈ lw_all := lw_g (lw_at lw_m6 218 rfl) rfl
theorem q1535 : (Jvm.Cond.laysFinal "OathButtonsModel" "OathButtonsModel" "tape" "[I") ∈ lw_all := lw_g (lw_at lw_m6 219 rfl) rfl
theorem q1536 : (Jvm.Cond.soleField "OathButtonsModel" "tape") ∈ lw_all := lw_g (lw_at lw_m6 220 rfl) rfl
theorem q1537 : (Jvm.Cond.lays "OathButtonsModel" "OathButtonsModel" "taped" "I") ∈ lw_all := lw_g (lw_at lw_m6 221 rfl) rfl
theorem q1538 : (Jvm.Cond.soleField "OathButtonsModel" "taped") ∈ lw_all := lw_g (lw_at lw_m6 222 rfl) rfl
theorem q1539 : (Jvm.Cond.lays "OathButtonsModel" "OathButtonsModel" "fault" "I") ∈ lw_all := lw_g (lw_at lw_m6 223 rfl) rfl
theorem q1540 : (Jvm.Cond.soleField "OathButtonsModel" "fault") ∈ lw_all := lw_g (lw_at lw_m6 224 rfl) rfl
theorem q1541 : (Jvm.Cond.lays "OathButtonsModel" "OathButtonsModel" "faultPlace" "I") ∈ lw_all := lw_g (lw_at lw_m6 225 rfl) rfl
theorem q1542 : (Jvm.Cond.soleField "OathButtonsModel" "faultPlace") ∈ lw_all := lw_g (lw_at lw_m6 226 rfl) rfl
theorem q1543 : (Jvm.Cond.lays "OathButtonsModel" "OathButtonsModel" "at" "I") ∈ lw_all := lw_g (lw_at lw_m6 227 rfl) rfl
theorem q1544 : (Jvm.Cond.soleField "OathButtonsModel" "at") ∈ lw_all := lw_g (lw_at lw_m6 228 rfl) rfl
theorem q1545 : (Jvm.Cond.lays "OathButtonsModel" "OathButtonsModel" "size" "I") ∈ lw_all := lw_g (lw_at lw_m6 229 rfl) rfl
theorem q1546 : (Jvm.Cond.soleField "OathButtonsModel" "size") ∈ lw_all := lw_g (lw_at lw_m6 230 rfl) rfl
theorem q1547 : (Jvm.Cond.lays "OathButtonsModel" "OathButtonsModel" "sort" "I") ∈ lw_all := lw_g (lw_at lw_m6 231 rfl) rfl
theorem q1548 : (Jvm.Cond.soleField "OathButtonsModel" "sort") ∈ lw_all := lw_g (lw_at lw_m6 232 rfl) rfl
theorem q1549 : (Jvm.Cond.lays "OathButtonsModel" "OathButtonsModel" "place" "I") ∈ lw_all := lw_g (lw_at lw_m6 233 rfl) rfl
theorem q1550 : (Jvm.Cond.soleField "OathButtonsModel" "place") ∈ lw_all := lw_g (lw_at lw_m6 234 rfl) rfl
theorem q1551 : (Jvm.Cond.lays "OathButtonsModel" "OathButtonsModel" "numbe\x72" "I") ∈ lw_all := lw_g (lw_at lw_m6 235 rfl) rfl
theorem q1552 : (Jvm.Cond.soleField "OathButtonsModel" "numbe\x72") ∈ lw_all := lw_g (lw_at lw_m6 236 rfl) rfl
theorem q1553 : (Jvm.Cond.lays "OathButtonsModel" "OathButtonsModel" "word" "J") ∈ lw_all := lw_g (lw_at lw_m6 237 rfl) rfl
theorem q1554 : (Jvm.Cond.soleField "OathButtonsModel" "word") ∈ lw_all := lw_g (lw_at lw_m6 238 rfl) rfl
theorem q1555 : (Jvm.Cond.laysFinal "OathButtonsModel" "OathButtonsModel" "nName" "[J") ∈ lw_all := lw_g (lw_at lw_m6 239 rfl) rfl
theorem q1556 : (Jvm.Cond.soleField "OathButtonsModel" "nName") ∈ lw_all := lw_g (lw_at lw_m7 0 rfl) rfl
theorem q1557 : (Jvm.Cond.laysFinal "OathButtonsModel" "OathButtonsModel" "nStep" "[I") ∈ lw_all := lw_g (lw_at lw_m7 1 rfl) rfl
theorem q1558 : (Jvm.Cond.soleField "OathButtonsModel" "nStep") ∈ lw_all := lw_g (lw_at lw_m7 2 rfl) rfl
theorem q1559 : (Jvm.Cond.laysFinal "OathButtonsModel" "OathButtonsModel" "nArg" "[I") ∈ lw_all := lw_g (lw_at lw_m7 3 rfl) rfl
theorem q1560 : (Jvm.Cond.soleField "OathButtonsModel" "nArg") ∈ lw_all := lw_g (lw_at lw_m7 4 rfl) rfl
theorem q1561 : (Jvm.Cond.laysFinal "OathButtonsModel" "OathButtonsModel" "step" "[I") ∈ lw_all := lw_g (lw_at lw_m7 5 rfl) rfl
theorem q1562 : (Jvm.Cond.soleField "OathButtonsModel" "step") ∈ lw_all := lw_g (lw_at lw_m7 6 rfl) rfl
theorem q1563 : (Jvm.Cond.laysFinal "OathButtonsModel" "OathButtonsModel" "arg" "[I") ∈ lw_all := lw_g (lw_at lw_m7 7 rfl) rfl
theorem q1564 : (Jvm.Cond.soleField "OathButtonsModel" "arg") ∈ lw_all := lw_g (lw_at lw_m7 8 rfl) rfl
theorem q1565 : (Jvm.Cond.laysFinal "OathButtonsModel" "OathButtonsModel" "open" "[I") ∈ lw_all := lw_g (lw_at lw_m7 9 rfl) rfl
theorem q1566 : (Jvm.Cond.soleField "OathButtonsModel" "open") ∈ lw_all := lw_g (lw_at lw_m7 10 rfl) rfl
theorem q1567 : (Jvm.Cond.laysFinal "OathButtonsModel" "OathButtonsModel" "values" "[I") ∈ lw_all := lw_g (lw_at lw_m7 11 rfl) rfl
theorem q1568 : (Jvm.Cond.soleField "OathButtonsModel" "values") ∈ lw_all := lw_g (lw_at lw_m7 12 rfl) rfl
theorem q1569 : (Jvm.Cond.lays "OathButtonsModel" "OathButtonsModel" "nSteps" "I") ∈ lw_all := lw_g (lw_at lw_m7 13 rfl) rfl
theorem q1570 : (Jvm.Cond.soleField "OathButtonsModel" "nSteps") ∈ lw_all := lw_g (lw_at lw_m7 14 rfl) rfl
theorem q1571 : (Jvm.Cond.lays "OathButtonsModel" "OathButtonsModel" "steps" "I") ∈ lw_all := lw_g (lw_at lw_m7 15 rfl) rfl
theorem q1572 : (Jvm.Cond.soleField "OathButtonsModel" "steps") ∈ lw_all := lw_g (lw_at lw_m7 16 rfl) rfl
theorem q1573 : (Jvm.Cond.lays "OathButtonsModel" "OathButtonsModel" "opens" "I") ∈ lw_all := lw_g (lw_at lw_m7 17 rfl) rfl
theorem q1574 : (Jvm.Cond.soleField "OathButtonsModel" "opens") ∈ lw_all := lw_g (lw_at lw_m7 18 rfl) rfl
theorem q1575 : (Jvm.Cond.lays "OathButtonsModel" "OathButtonsModel" "nUnits" "I") ∈ lw_all := lw_g (lw_at lw_m7 19 rfl) rfl
theorem q1576 : (Jvm.Cond.soleField "OathButtonsModel" "nUnits") ∈ lw_all := lw_g (lw_at lw_m7 20 rfl) rfl
theorem q1577 : (Jvm.Cond.lays "OathButtonsModel" "OathButtonsModel" "units" "I") ∈ lw_all := lw_g (lw_at lw_m7 21 rfl) rfl
theorem q1578 : (Jvm.Cond.soleField "OathButtonsModel" "units") ∈ lw_all := lw_g (lw_at lw_m7 22 rfl) rfl
theorem q1579 : (Jvm.Cond.lays "OathButtonsModel" "OathButtonsModel" "ownUnits" "I") ∈ lw_all := lw_g (lw_at lw_m7 23 rfl) rfl
theorem q1580 : (Jvm.Cond.soleField "OathButtonsModel" "ownUnits") ∈ lw_all := lw_g (lw_at lw_m7 24 rfl) rfl
theorem q1581 : (Jvm.Cond.lays "OathButtonsModel" "OathButtonsModel" "deep" "I") ∈ lw_all := lw_g (lw_at lw_m7 25 rfl) rfl
theorem q1582 : (Jvm.Cond.soleField "OathButtonsModel" "deep") ∈ lw_all := lw_g (lw_at lw_m7 26 rfl) rfl
theorem q1583 : (Jvm.Cond.laysFinal "OathButtonsModel" "OathButtonsModel" "asks" "[I") ∈ lw_all := lw_g (lw_at lw_m7 27 rfl) rfl
theorem q1584 : (Jvm.Cond.soleField "OathButtonsModel" "asks") ∈ lw_all := lw_g (lw_at lw_m7 28 rfl) rfl
theorem q1585 : (Jvm.Cond.laysFinal "OathButtonsModel" "OathButtonsModel" "nColou\x72" "[I") ∈ lw_all := lw_g (lw_at lw_m7 29 rfl) rfl
theorem q1586 : (Jvm.Cond.soleField "OathButtonsModel" "nColou\x72") ∈ lw_all := lw_g (lw_at lw_m7 30 rfl) rfl
theorem q1587 : (Jvm.Cond.laysFinal "OathButtonsModel" "OathButtonsModel" "nHoles" "[I") ∈ lw_all := lw_g (lw_at lw_m7 31 rfl) rfl
theorem q1588 : (Jvm.Cond.soleField "OathButtonsModel" "nHoles") ∈ lw_all := lw_g (lw_at lw_m7 32 rfl) rfl
theorem q1589 : (Jvm.Cond.laysFinal "OathButtonsModel" "OathButtonsModel" "nLeft" "[I") ∈ lw_all := lw_g (lw_at lw_m7 33 rfl) rfl
theorem q1590 : (Jvm.Cond.soleField "OathButtonsModel" "nLeft") ∈ lw_all := lw_g (lw_at lw_m7 34 rfl) rfl
theorem q1591 : (Jvm.Cond.laysFinal "OathButtonsModel" "OathButtonsModel" "nHours" "[I") ∈ lw_all := lw_g (lw_at lw_m7 35 rfl) rfl
theorem q1592 : (Jvm.Cond.soleField "OathButtonsModel" "nHours") ∈ lw_all := lw_g (lw_at lw_m7 36 rfl) rfl
theorem q1593 : (Jvm.Cond.laysFinal "OathButtonsModel" "OathButtonsModel" "nFriend" "[I") ∈ lw_all := lw_g (lw_at lw_m7 37 rfl) rfl
theorem q1594 : (Jvm.Cond.soleField "OathButtonsModel" "nFriend") ∈ lw_all := lw_g (lw_at lw_m7 38 rfl) rfl
theorem q1595 : (Jvm.Cond.laysFinal "OathButtonsModel" "OathButtonsModel" "colou\x72" "[I") ∈ lw_all := lw_g (lw_at lw_m7 39 rfl) rfl
theorem q1596 : (Jvm.Cond.soleField "OathButtonsModel" "colou\x72") ∈ lw_all := lw_g (lw_at lw_m7 40 rfl) rfl
theorem q1597 : (Jvm.Cond.laysFinal "OathButtonsModel" "OathButtonsModel" "holes" "[I") ∈ lw_all := lw_g (lw_at lw_m7 41 rfl) rfl
theorem q1598 : (Jvm.Cond.soleField "OathButtonsModel" "holes") ∈ lw_all := lw_g (lw_at lw_m7 42 rfl) rfl
theorem q1599 : (Jvm.Cond.laysFinal "OathButtonsModel" "OathButtonsModel" "left" "[I") ∈ lw_all := lw_g (lw_at lw_m7 43 rfl) rfl
theorem q1600 : (Jvm.Cond.soleField "OathButtonsModel" "left") ∈ lw_all := lw_g (lw_at lw_m7 44 rfl) rfl
theorem q1601 : (Jvm.Cond.laysFinal "OathButtonsModel" "OathButtonsModel" "hours" "[I") ∈ lw_all := lw_g (lw_at lw_m7 45 rfl) rfl
theorem q1602 : (Jvm.Cond.soleField "OathButtonsModel" "hours") ∈ lw_all := lw_g (lw_at lw_m7 46 rfl) rfl
theorem q1603 : (Jvm.Cond.laysFinal "OathButtonsModel" "OathButtonsModel" "friend" "[I") ∈ lw_all := lw_g (lw_at lw_m7 47 rfl) rfl
theorem q1604 : (Jvm.Cond.soleField "OathButtonsModel" "friend") ∈ lw_all := lw_g (lw_at lw_m7 48 rfl) rfl
theorem q1605 : (Jvm.Cond.laysFinal "OathButtonsModel" "OathButtonsModel" "nOn" "[I") ∈ lw_all := lw_g (lw_at lw_m7 49 rfl) rfl
theorem q1606 : (Jvm.Cond.soleField "OathButtonsModel" "nOn") ∈ lw_all := lw_g (lw_at lw_m7 50 rfl) rfl
theorem q1607 : (Jvm.Cond.laysFinal "OathButtonsModel" "OathButtonsModel" "nBy" "[I") ∈ lw_all := lw_g (lw_at lw_m7 51 rfl) rfl
theorem q1608 : (Jvm.Cond.soleField "OathButtonsModel" "nBy") ∈ lw_all := lw_g (lw_at lw_m7 52 rfl) rfl
theorem q1609 : (Jvm.Cond.laysFinal "OathButtonsModel" "OathButtonsModel" "nDeed" "[I") ∈ lw_all := lw_g (lw_at lw_m7 53 rfl) rfl
theorem q1610 : (Jvm.Cond.soleField "OathButtonsModel" "nDeed") ∈ lw_all := lw_g (lw_at lw_m7 54 rfl) rfl
theorem q1611 : (Jvm.Cond.laysFinal "OathButtonsModel" "OathButtonsModel" "nUntil" "[I") ∈ lw_all := lw_g (lw_at lw_m7 55 rfl) rfl
theorem q1612 : (Jvm.Cond.soleField "OathButtonsModel" "nUntil") ∈ lw_all := lw_g (lw_at lw_m7 56 rfl) rfl
theorem q1613 : (Jvm.Cond.laysFinal "OathButtonsModel" "OathButtonsModel" "nThread" "[I") ∈ lw_all := lw_g (lw_at lw_m7 57 rfl) rfl
theorem q1614 : (Jvm.Cond.soleField "OathButtonsModel" "nThread") ∈ lw_all := lw_g (lw_at lw_m7 58 rfl) rfl
theorem q1615 : (Jvm.Cond.laysFinal "OathButtonsModel" "OathButtonsModel" "nAfte\x72" "[I") ∈ lw_all := lw_g (lw_at lw_m7 59 rfl) rfl
theorem q1616 : (Jvm.Cond.soleField "OathButtonsModel" "nAfte\x72") ∈ lw_all := lw_g (lw_at lw_m7 60 rfl) rfl
theorem q1617 : (Jvm.Cond.laysFinal "OathButtonsModel" "OathButtonsModel" "onMan" "[I") ∈ lw_all := lw_g (lw_at lw_m7 61 rfl) rfl
theorem q1618 : (Jvm.Cond.soleField "OathButtonsModel" "onMan") ∈ lw_all := lw_g (lw_at lw_m7 62 rfl) rfl
theorem q1619 : (Jvm.Cond.laysFinal "OathButtonsModel" "OathButtonsModel" "byMan" "[I") ∈ lw_all := lw_g (lw_at lw_m7 63 rfl) rfl
theorem q1620 : (Jvm.Cond.soleField "OathButtonsModel" "byMan") ∈ lw_all := lw_g (lw_at lw_m7 64 rfl) rfl
theorem q1621 : (Jvm.Cond.laysFinal "OathButtonsModel" "OathButtonsModel" "deedOf" "[I") ∈ lw_all := lw_g (lw_at lw_m7 65 rfl) rfl
theorem q1622 : (Jvm.Cond.soleField "OathButtonsModel" "deedOf") ∈ lw_all := lw_g (lw_at lw_m7 66 rfl) rfl
theorem q1623 : (Jvm.Cond.laysFinal "OathButtonsModel" "OathButtonsModel" "until" "[I") ∈ lw_all := lw_g (lw_at lw_m7 67 rfl) rfl
theorem q1624 : (Jvm.Cond.soleField "OathButtonsModel" "until") ∈ lw_all := lw_g (lw_at lw_m7 68 rfl) rfl
theorem q1625 : (Jvm.Cond.laysFinal "OathButtonsModel" "OathButtonsModel" "toldThread" "[I") ∈ lw_all := lw_g (lw_at lw_m7 69 rfl) rfl
theorem q1626 : (Jvm.Cond.soleField "OathButtonsModel" "toldThread") ∈ lw_all := lw_g (lw_at lw_m7 70 rfl) rfl
theorem q1627 : (Jvm.Cond.laysFinal "OathButtonsModel" "OathButtonsModel" "afte\x72" "[I") ∈ lw_all := lw_g (lw_at lw_m7 71 rfl) rfl
theorem q1628 : (Jvm.Cond.soleField "OathButtonsModel" "afte\x72") ∈ lw_all := lw_g (lw_at lw_m7 72 rfl) rfl
theorem q1629 : (Jvm.Cond.laysFinal "OathButtonsModel" "OathButtonsModel" "nPromises" "[Z") ∈ lw_all := lw_g (lw_at lw_m7 73 rfl) rfl
theorem q1630 : (Jvm.Cond.soleField "OathButtonsModel" "nPromises") ∈ lw_all := lw_g (lw_at lw_m7 74 rfl) rfl
theorem q1631 : (Jvm.Cond.laysFinal "OathButtonsModel" "OathButtonsModel" "promises" "[Z") ∈ lw_all := lw_g (lw_at lw_m7 75 rfl) rfl
theorem q1632 : (Jvm.Cond.soleField "OathButtonsModel" "promises") ∈ lw_all := lw_g (lw_at lw_m7 76 rfl) rfl
theorem q1633 : (Jvm.Cond.lays "OathButtonsModel" "OathButtonsModel" "nMen" "I") ∈ lw_all := lw_g (lw_at lw_m7 77 rfl) rfl
theorem q1634 : (Jvm.Cond.soleField "OathButtonsModel" "nMen") ∈ lw_all := lw_g (lw_at lw_m7 78 rfl) rfl
theorem q1635 : (Jvm.Cond.lays "OathButtonsModel" "OathButtonsModel" "nDeeds" "I") ∈ lw_all := lw_g (lw_at lw_m7 79 rfl) rfl
theorem q1636 : (Jvm.Cond.soleField "OathButtonsModel" "nDeeds") ∈ lw_all := lw_g (lw_at lw_m7 80 rfl) rfl
theorem q1637 : (Jvm.Cond.lays "OathButtonsModel" "OathButtonsModel" "nButtons" "I") ∈ lw_all := lw_g (lw_at lw_m7 81 rfl) rfl
theorem q1638 : (Jvm.Cond.soleField "OathButtonsModel" "nButtons") ∈ lw_all := lw_g (lw_at lw_m7 82 rfl) rfl
theorem q1639 : (Jvm.Cond.lays "OathButtonsModel" "OathButtonsModel" "nFriends" "I") ∈ lw_all := lw_g (lw_at lw_m7 83 rfl) rfl
theorem q1640 : (Jvm.Cond.soleField "OathButtonsModel" "nFriends") ∈ lw_all := lw_g (lw_at lw_m7 84 rfl) rfl
theorem q1641 : (Jvm.Cond.lays "OathButtonsModel" "OathButtonsModel" "nDay" "I") ∈ lw_all := lw_g (lw_at lw_m7 85 rfl) rfl
theorem q1642 : (Jvm.Cond.soleField "OathButtonsModel" "nDay") ∈ lw_all := lw_g (lw_at lw_m7 86 rfl) rfl
theorem q1643 : (Jvm.Cond.lays "OathButtonsModel" "OathButtonsModel" "nStorm" "I") ∈ lw_all := lw_g (lw_at lw_m7 87 rfl) rfl
theorem q1644 : (Jvm.Cond.soleField "OathButtonsModel" "nStorm") ∈ lw_all := lw_g (lw_at lw_m7 88 rfl) rfl
theorem q1645 : (Jvm.Cond.lays "OathButtonsModel" "OathButtonsModel" "nDraw" "I") ∈ lw_all := lw_g (lw_at lw_m7 89 rfl) rfl
theorem q1646 : (Jvm.Cond.soleField "OathButtonsModel" "nDraw") ∈ lw_all := lw_g (lw_at lw_m7 90 rfl) rfl
theorem q1647 : (Jvm.Cond.lays "OathButtonsModel" "OathButtonsModel" "men" "I") ∈ lw_all := lw_g (lw_at lw_m7 91 rfl) rfl
theorem q1648 : (Jvm.Cond.soleField "OathButtonsModel" "men") ∈ lw_all := lw_g (lw_at lw_m7 92 rfl) rfl
theorem q1649 : (Jvm.Cond.lays "OathButtonsModel" "OathButtonsModel" "deeds" "I") ∈ lw_all := lw_g (lw_at lw_m7 93 rfl) rfl
theorem q1650 : (Jvm.Cond.soleField "OathButtonsModel" "deeds") ∈ lw_all := lw_g (lw_at lw_m7 94 rfl) rfl
theorem q1651 : (Jvm.Cond.lays "OathButtonsModel" "OathButtonsModel" "buttons" "I") ∈ lw_all := lw_g (lw_at lw_m7 95 rfl) rfl
theorem q1652 : (Jvm.Cond.soleField "OathButtonsModel" "buttons") ∈ lw_all := lw_g (lw_at lw_m7 96 rfl) rfl
theorem q1653 : (Jvm.Cond.lays "OathButtonsModel" "OathButtonsModel" "friends" "I") ∈ lw_all := lw_g (lw_at lw_m7 97 rfl) rfl
theorem q1654 : (Jvm.Cond.soleField "OathButtonsModel" "friends") ∈ lw_all := lw_g (lw_at lw_m7 98 rfl) rfl
theorem q1655 : (Jvm.Cond.lays "OathButtonsModel" "OathButtonsModel" "dayHours" "I") ∈ lw_all := lw_g (lw_at lw_m7 99 rfl) rfl
theorem q1656 : (Jvm.Cond.soleField "OathButtonsModel" "dayHours") ∈ lw_all := lw_g (lw_at lw_m7 100 rfl) rfl
theorem q1657 : (Jvm.Cond.lays "OathButtonsModel" "OathButtonsModel" "storm" "I") ∈ lw_all := lw_g (lw_at lw_m7 101 rfl) rfl
theorem q1658 : (Jvm.Cond.soleField "OathButtonsModel" "storm") ∈ lw_all := lw_g (lw_at lw_m7 102 rfl) rfl
theorem q1659 : (Jvm.Cond.lays "OathButtonsModel" "OathButtonsModel" "nHasWea\x72" "Z") ∈ lw_all := lw_g (lw_at lw_m7 103 rfl) rfl
theorem q1660 : (Jvm.Cond.soleField "OathButtonsModel" "nHasWea\x72") ∈ lw_all := lw_g (lw_at lw_m7 104 rfl) rfl
theorem q1661 : (Jvm.Cond.lays "OathButtonsModel" "OathButtonsModel" "nHasDay" "Z") ∈ lw_all := lw_g (lw_at lw_m7 105 rfl) rfl
theorem q1662 : (Jvm.Cond.soleField "OathButtonsModel" "nHasDay") ∈ lw_all := lw_g (lw_at lw_m7 106 rfl) rfl
theorem q1663 : (Jvm.Cond.lays "OathButtonsModel" "OathButtonsModel" "nHasStorm" "Z") ∈ lw_all := lw_g (lw_at lw_m7 107 rfl) rfl
theorem q1664 : (Jvm.Cond.soleField "OathButtonsModel" "nHasStorm") ∈ lw_all := lw_g (lw_at lw_m7 108 rfl) rfl
theorem q1665 : (Jvm.Cond.lays "OathButtonsModel" "OathButtonsModel" "nHasDraw" "Z") ∈ lw_all := lw_g (lw_at lw_m7 109 rfl) rfl
theorem q1666 : (Jvm.Cond.soleField "OathButtonsModel" "nHasDraw") ∈ lw_all := lw_g (lw_at lw_m7 110 rfl) rfl
theorem q1667 : (Jvm.Cond.lays "OathButtonsModel" "OathButtonsModel" "hasWea\x72" "Z") ∈ lw_all := lw_g (lw_at lw_m7 111 rfl) rfl
theorem q1668 : (Jvm.Cond.soleField "OathButtonsModel" "hasWea\x72") ∈ lw_all := lw_g (lw_at lw_m7 112 rfl) rfl
theorem q1669 : (Jvm.Cond.laysFinal "OathButtonsModel" "OathButtonsModel" "now" "[I") ∈ lw_all := lw_g (lw_at lw_m7 113 rfl) rfl
theorem q1670 : (Jvm.Cond.soleField "OathButtonsModel" "now") ∈ lw_all := lw_g (lw_at lw_m7 114 rfl) rfl
theorem q1671 : (Jvm.Cond.laysFinal "OathButtonsModel" "OathButtonsModel" "were" "[I") ∈ lw_all := lw_g (lw_at lw_m7 115 rfl) rfl
theorem q1672 : (Jvm.Cond.soleField "OathButtonsModel" "were") ∈ lw_all := lw_g (lw_at lw_m7 116 rfl) rfl
theorem q1673 : (Jvm.Cond.lays "OathButtonsModel" "OathButtonsModel" "acts" "I") ∈ lw_all := lw_g (lw_at lw_m7 117 rfl) rfl
theorem q1674 : (Jvm.Cond.soleField "OathButtonsModel" "acts") ∈ lw_all := lw_g (lw_at lw_m7 118 rfl) rfl
theorem q1675 : (Jvm.Cond.lays "OathButtonsModel" "OathButtonsModel" "undone" "I") ∈ lw_all := lw_g (lw_at lw_m7 119 rfl) rfl
theorem q1676 : (Jvm.Cond.soleField "OathButtonsModel" "undone") ∈ lw_all := lw_g (lw_at lw_m7 120 rfl) rfl
theorem q1677 : (Jvm.Cond.laysFinal "OathButtonsModel" "OathButtonsModel" "state" "[I") ∈ lw_all := lw_g (lw_at lw_m7 121 rfl) rfl
theorem q1678 : (Jvm.Cond.soleField "OathButtonsModel" "state") ∈ lw_all := lw_g (lw_at lw_m7 122 rfl) rfl
theorem q1679 : (Jvm.Cond.laysFinal "OathButtonsModel" "OathButtonsModel" "thread" "[I") ∈ lw_all := lw_g (lw_at lw_m7 123 rfl) rfl
theorem q1680 : (Jvm.Cond.soleField "OathButtonsModel" "thread") ∈ lw_all := lw_g (lw_at lw_m7 124 rfl) rfl
theorem q1681 : (Jvm.Cond.lays "OathButtonsModel" "OathButtonsModel" "day" "I") ∈ lw_all := lw_g (lw_at lw_m7 125 rfl) rfl
theorem q1682 : (Jvm.Cond.soleField "OathButtonsModel" "day") ∈ lw_all := lw_g (lw_at lw_m7 126 rfl) rfl
theorem q1683 : (Jvm.Cond.lays "OathButtonsModel" "OathButtonsModel" "seed" "I") ∈ lw_all := lw_g (lw_at lw_m7 127 rfl) rfl
theorem q1684 : (Jvm.Cond.soleField "OathButtonsModel" "seed") ∈ lw_all := lw_g (lw_at lw_m7 128 rfl) rfl
theorem q1685 : (Jvm.Cond.laysFinal "OathButtonsModel" "OathButtonsModel" "orde\x72" "[I") ∈ lw_all := lw_g (lw_at lw_m7 129 rfl) rfl
theorem q1686 : (Jvm.Cond.soleField "OathButtonsModel" "orde\x72") ∈ lw_all := lw_g (lw_at lw_m7 130 rfl) rfl
theorem q1687 : (Jvm.Cond.laysFinal "OathButtonsModel" "OathButtonsModel" "spent" "[I") ∈ lw_all := lw_g (lw_at lw_m7 131 rfl) rfl
theorem q1688 : (Jvm.Cond.soleField "OathButtonsModel" "spent") ∈ lw_all := lw_g (lw_at lw_m7 132 rfl) rfl
theorem q1689 : (Jvm.Cond.laysFinal "OathButtonsModel" "OathButtonsModel" "keptBy" "[I") ∈ lw_all := lw_g (lw_at lw_m7 133 rfl) rfl
theorem q1690 : (Jvm.Cond.soleField "OathButtonsModel" "keptBy") ∈ lw_all := lw_g (lw_at lw_m7 134 rfl) rfl
theorem q1691 : (Jvm.Cond.laysFinal "OathButtonsModel" "OathButtonsModel" "bestOrde\x72" "[I") ∈ lw_all := lw_g (lw_at lw_m7 135 rfl) rfl
theorem q1692 : (Jvm.Cond.soleField "OathButtonsModel" "bestOrde\x72") ∈ lw_all := lw_g (lw_at lw_m7 136 rfl) rfl
theorem q1693 : (Jvm.Cond.lays "OathButtonsModel" "OathButtonsModel" "orderMany" "I") ∈ lw_all := lw_g (lw_at lw_m7 137 rfl) rfl
theorem q1694 : (Jvm.Cond.soleField "OathButtonsModel" "orderMany") ∈ lw_all := lw_g (lw_at lw_m7 138 rfl) rfl
theorem q1695 : (Jvm.Cond.lays "OathButtonsModel" "OathButtonsModel" "beginDay" "I") ∈ lw_all := lw_g (lw_at lw_m7 139 rfl) rfl
theorem q1696 : (Jvm.Cond.soleField "OathButtonsModel" "beginDay") ∈ lw_all := lw_g (lw_at lw_m7 140 rfl) rfl
theorem q1697 : (Jvm.Cond.lays "OathButtonsModel" "OathButtonsModel" "bestMany" "I") ∈ lw_all := lw_g (lw_at lw_m7 141 rfl) rfl
theorem q1698 : (Jvm.Cond.soleField "OathButtonsModel" "bestMany") ∈ lw_all := lw_g (lw_at lw_m7 142 rfl) rfl
theorem q1699 : (Jvm.Cond.lays "OathButtonsModel" "OathButtonsModel" "bestHours" "I") ∈ lw_all := lw_g (lw_at lw_m7 143 rfl) rfl
theorem q1700 : (Jvm.Cond.soleField "OathButtonsModel" "bestHours") ∈ lw_all := lw_g (lw_at lw_m7 144 rfl) rfl
theorem q1701 : (Jvm.Cond.lays "OathButtonsModel" "OathButtonsModel" "bestKept" "I") ∈ lw_all := lw_g (lw_at lw_m7 145 rfl) rfl
theorem q1702 : (Jvm.Cond.soleField "OathButtonsModel" "bestKept") ∈ lw_all := lw_g (lw_at lw_m7 146 rfl) rfl
theorem q1703 : (Jvm.Cond.laysFinal "OathButtonsModel" "OathButtonsModel" "lies" "[I") ∈ lw_all := lw_g (lw_at lw_m7 147 rfl) rfl
theorem q1704 : (Jvm.Cond.soleField "OathButtonsModel" "lies") ∈ lw_all := lw_g (lw_at lw_m7 148 rfl) rfl
theorem q1705 : (Jvm.Cond.lays "OathButtonsModel" "OathButtonsModel" "lain" "I") ∈ lw_all := lw_g (lw_at lw_m7 149 rfl) rfl
theorem q1706 : (Jvm.Cond.soleField "OathButtonsModel" "lain") ∈ lw_all := lw_g (lw_at lw_m7 150 rfl) rfl
theorem q1707 : (Jvm.Cond.laysFinal "OathButtonsModel" "OathButtonsModel" "canKeep" "[Z") ∈ lw_all := lw_g (lw_at lw_m7 151 rfl) rfl
theorem q1708 : (Jvm.Cond.soleField "OathButtonsModel" "canKeep") ∈ lw_all := lw_g (lw_at lw_m7 152 rfl) rfl
theorem q1709 : (Jvm.Cond.laysFinal "OathButtonsModel" "OathButtonsModel" "with" "[I") ∈ lw_all := lw_g (lw_at lw_m7 153 rfl) rfl
theorem q1710 : (Jvm.Cond.soleField "OathButtonsModel" "with") ∈ lw_all := lw_g (lw_at lw_m7 154 rfl) rfl
theorem q1711 : (Jvm.Cond.laysFinal "OathButtonsModel" "OathButtonsModel" "tugWhat" "[I") ∈ lw_all := lw_g (lw_at lw_m7 155 rfl) rfl
theorem q1712 : (Jvm.Cond.soleField "OathButtonsModel" "tugWhat") ∈ lw_all := lw_g (lw_at lw_m7 156 rfl) rfl
theorem q1713 : (Jvm.Cond.laysFinal "OathButtonsModel" "OathButtonsModel" "tugNumbe\x72" "[I") ∈ lw_all := lw_g (lw_at lw_m7 157 rfl) rfl
theorem q1714 : (Jvm.Cond.soleField "OathButtonsModel" "tugNumbe\x72") ∈ lw_all := lw_g (lw_at lw_m7 158 rfl) rfl
theorem q1715 : (Jvm.Cond.laysFinal "OathButtonsModel" "OathButtonsModel" "tugTold" "[I") ∈ lw_all := lw_g (lw_at lw_m7 159 rfl) rfl
theorem q1716 : (Jvm.Cond.soleField "OathButtonsModel" "tugTold") ∈ lw_all := lw_g (lw_at lw_m7 160 rfl) rfl
theorem q1717 : (Jvm.Cond.laysFinal "OathButtonsModel" "OathButtonsModel" "tugUntold" "[I") ∈ lw_all := lw_g (lw_at lw_m7 161 rfl) rfl
theorem q1718 : (Jvm.Cond.soleField "OathButtonsModel" "tugUntold") ∈ lw_all := lw_g (lw_at lw_m7 162 rfl) rfl
theorem q1719 : (Jvm.Cond.laysFinal "OathButtonsModel" "OathButtonsModel" "tugIs" "[Z") ∈ lw_all := lw_g (lw_at lw_m7 163 rfl) rfl
theorem q1720 : (Jvm.Cond.soleField "OathButtonsModel" "tugIs") ∈ lw_all := lw_g (lw_at lw_m7 164 rfl) rfl
theorem q1721 : (Jvm.Cond.lays "OathButtonsModel" "OathButtonsModel" "tugs" "I") ∈ lw_all := lw_g (lw_at lw_m7 165 rfl) rfl
theorem q1722 : (Jvm.Cond.soleField "OathButtonsModel" "tugs") ∈ lw_all := lw_g (lw_at lw_m7 166 rfl) rfl
theorem q1723 : (Jvm.Cond.lays "OathButtonsModel" "OathButtonsModel" "time" "I") ∈ lw_all := lw_g (lw_at lw_m7 167 rfl) rfl
theorem q1724 : (Jvm.Cond.soleField "OathButtonsModel" "time") ∈ lw_all := lw_g (lw_at lw_m7 168 rfl) rfl
theorem q1725 : (Jvm.Cond.laysFinal "OathButtonsModel" "OathButtonsModel" "hasBox" "[Z") ∈ lw_all := lw_g (lw_at lw_m7 169 rfl) rfl
theorem q1726 : (Jvm.Cond.soleField "OathButtonsModel" "hasBox") ∈ lw_all := lw_g (lw_at lw_m7 170 rfl) rfl
theorem q1727 : (Jvm.Cond.laysFinal "OathButtonsModel" "OathButtonsModel" "boxes" "[I") ∈ lw_all := lw_g (lw_at lw_m7 171 rfl) rfl
theorem q1728 : (Jvm.Cond.soleField "OathButtonsModel" "boxes") ∈ lw_all := lw_g (lw_at lw_m7 172 rfl) rfl
theorem q1729 : (Jvm.Cond.superclass "OathButtonsModel" "java/lang/Object") ∈ lw_all := lw_g (lw_at lw_m7 173 rfl) rfl
theorem q1731 : (Jvm.Cond.instanceMethod ({ cls := "OathButtonsModel", name := "feed", desc := "(IIIII)I" } : Jvm.MethodName)) ∈ lw_all := lw_g (lw_at lw_m7 175 rfl) rfl
theorem q1732 : (Jvm.Cond.selects "OathButtonsModel" ({ cls := "OathButtonsModel", name := "feed", desc := "(IIIII)I" } : Jvm.MethodName) ({ cls := "OathButtonsModel", name := "feed", desc := "(IIIII)I" } : Jvm.MethodName)) ∈ lw_all := lw_g (lw_at lw_m7 176 rfl) rfl
theorem q1733 : (Jvm.Cond.code ({ cls := "OathButtonsModel", name := "feed", desc := "(IIIII)I" } : Jvm.MethodName) prog_24_method_2_code (6 : Nat) (Option.some Jvm.ClassFile.FieldType.int)) ∈ lw_all := lw_g (lw_at lw_m7 177 rfl) rfl
theorem q1734 : (Jvm.Cond.methodLink "OathButtonsModel" (175 : Nat) ({ cls := "OathButtonsModel", name := "fou\x72", desc := "(I)V" } : Jvm.MethodName)) ∈ lw_all := lw_g (lw_at lw_m7 178 rfl) rfl
theorem q1735 : (Jvm.Cond.privateMethod ({ cls := "OathButtonsModel", name := "fou\x72", desc := "(I)V" } : Jvm.MethodName)) ∈ lw_tbl := lw_at lw_m7 179 rfl
theorem q1736 : (Jvm.Cond.instanceMethod ({ cls := "OathButtonsModel", name := "fou\x72", desc := "(I)V" } : Jvm.MethodName)) ∈ lw_all := lw_g (lw_at lw_m7 180 rfl) rfl
theorem q1737 : (Jvm.Cond.code ({ cls := "OathButtonsModel", name := "fou\x72", desc := "(I)V" } : Jvm.MethodName) prog_24_method_3_code (3 : Nat) (Option.none : Option Jvm.ClassFile.FieldType)) ∈ lw_all := lw_g (lw_at lw_m7 181 rfl) rfl
theorem q1739 : (Jvm.Cond.instanceMethod ({ cls := "OathButtonsModel", name := "end", desc := "(I)I" } : Jvm.MethodName)) ∈ lw_all := lw_g (lw_at lw_m7 183 rfl) rfl
theorem q1740 : (Jvm.Cond.selects "OathButtonsModel" ({ cls := "OathButtonsModel", name := "end", desc := "(I)I" } : Jvm.MethodName) ({ cls := "OathButtonsModel", name := "end", desc := "(I)I" } : Jvm.MethodName)) ∈ lw_all := lw_g (lw_at lw_m7 184 rfl) rfl
theorem q1741 : (Jvm.Cond.code ({ cls := "OathButtonsModel", name := "end", desc := "(I)I" } : Jvm.MethodName) prog_24_method_4_code (2 : Nat) (Option.some Jvm.ClassFile.FieldType.int)) ∈ lw_all := lw_g (lw_at lw_m7 185 rfl) rfl
theorem q1743 : (Jvm.Cond.instanceMethod ({ cls := "OathButtonsModel", name := "regiment", desc := "()I" } : Jvm.MethodName)) ∈ lw_all := lw_g (lw_at lw_m7 187 rfl) rfl
theorem q1744 : (Jvm.Cond.selects "OathButtonsModel" ({ cls := "OathButtonsModel", name := "regiment", desc := "()I" } : Jvm.MethodName) ({ cls := "OathButtonsModel", name := "regiment", desc := "()I" } : Jvm.MethodName)) ∈ lw_all := lw_g (lw_at lw_m7 188 rfl) rfl
theorem q1745 : (Jvm.Cond.code ({ cls := "OathButtonsModel", name := "regiment", desc := "()I" } : Jvm.MethodName) prog_24_method_43_code (3 : Nat) (Option.some Jvm.ClassFile.FieldType.int)) ∈ lw_all := lw_g (lw_at lw_m7 189 rfl) rfl
theorem q1746 : (Jvm.Cond.methodLink "OathButtonsModel" (420 : Nat) ({ cls := "OathButtonsModel", name := "readAll", desc := "()V" } : Jvm.MethodName)) ∈ lw_all := lw_g (lw_at lw_m7 190 rfl) rfl
theorem q1747 : (Jvm.Cond.privateMethod ({ cls := "OathButtonsModel", name := "readAll", desc := "()V" } : Jvm.MethodName)) ∈ lw_tbl := lw_at lw_m7 191 rfl
theorem q1748 : (Jvm.Cond.instanceMethod ({ cls := "OathButtonsModel", name := "readAll", desc := "()V" } : Jvm.MethodName)) ∈ lw_all := lw_g (lw_at lw_m7 192 rfl) rfl
theorem q1749 : (Jvm.Cond.code ({ cls := "OathButtonsModel", name := "readAll", desc := "()V" } : Jvm.MethodName) prog_24_method_42_code (1 : Nat) (Option.none : Option Jvm.ClassFile.FieldType)) ∈ lw_all := lw_g (lw_at lw_m7 193 rfl) rfl
theorem q1750 : (Jvm.Cond.methodLink "OathButtonsModel" (270 : Nat) ({ cls := "OathButtonsModel", name := "token", desc := "()V" } : Jvm.MethodName)) ∈ lw_all := lw_g (lw_at lw_m7 194 rfl) rfl
theorem q1751 : (Jvm.Cond.privateMethod ({ cls := "OathButtonsModel", name := "token", desc := "()V" } : Jvm.MethodName)) ∈ lw_tbl := lw_at lw_m7 195 rfl
theorem q1752 : (Jvm.Cond.instanceMethod ({ cls := "OathButtonsModel", name := "token", desc := "()V" } : Jvm.MethodName)) ∈ lw_all := lw_g (lw_at lw_m7 196 rfl) rfl
theorem q1753 : (Jvm.Cond.code ({ cls := "OathButtonsModel", name := "token", desc := "()V" } : Jvm.MethodName) prog_24_method_9_code (3 : Nat) (Option.none : Option Jvm.ClassFile.FieldType)) ∈ lw_all := lw_g (lw_at lw_m7 197 rfl) rfl
theorem q1754 : (Jvm.Cond.methodLink "OathButtonsModel" (185 : Nat) ({ cls := "OathButtonsModel", name := "here", desc := "(I)I" } : Jvm.MethodName)) ∈ lw_all := lw_g (lw_at lw_m7 198 rfl) rfl
theorem q1755 : (Jvm.Cond.privateMethod ({ cls := "OathButtonsModel", name := "here", desc := "(I)I" } : Jvm.MethodName)) ∈ lw_tbl := lw_at lw_m7 199 rfl
theorem q1756 : (Jvm.Cond.instanceMethod ({ cls := "OathButtonsModel", name := "here", desc := "(I)I" } : Jvm.MethodName)) ∈ lw_all := lw_g (lw_at lw_m7 200 rfl) rfl
theorem q1757 : (Jvm.Cond.code ({ cls := "OathButtonsModel", name := "here", desc := "(I)I" } : Jvm.MethodName) prog_24_method_5_code (2 : Nat) (Option.some Jvm.ClassFile.FieldType.int)) ∈ lw_all := lw_g (lw_at lw_m7 201 rfl) rfl
theorem q1758 : (Jvm.Cond.methodLink "OathButtonsModel" (202 : Nat) ({ cls := "OathButtonsModel", name := "isLette\x72", desc := "(I)Z" } : Jvm.MethodName)) ∈ lw_all := lw_g (lw_at lw_m7 202 rfl) rfl
theorem q1759 : (Jvm.Cond.static ({ cls := "OathButtonsModel", name := "isLette\x72", desc := "(I)Z" } : Jvm.MethodName)) ∈ lw_all := lw_g (lw_at lw_m7 203 rfl) rfl
theorem q1760 : (Jvm.Cond.code ({ cls := "OathButtonsModel", name := "isLette\x72", desc := "(I)Z" } : Jvm.MethodName) prog_24_method_6_code (1 : Nat) (Option.some Jvm.ClassFile.FieldType.boolean)) ∈ lw_all := lw_g (lw_at lw_m7 204 rfl) rfl
theorem q1761 : (Jvm.Cond.methodLink "OathButtonsModel" (206 : Nat) ({ cls := "OathButtonsModel", name := "isDigit", desc := "(I)Z" } : Jvm.MethodName)) ∈ lw_all := lw_g (lw_at lw_m7 205 rfl) rfl
theorem q1762 : (Jvm.Cond.static ({ cls := "OathButtonsModel", name := "isDigit", desc := "(I)Z" } : Jvm.MethodName)) ∈ lw_all := lw_g (lw_at lw_m7 206 rfl) rfl
theorem q1763 : (Jvm.Cond.code ({ cls := "OathButtonsModel", name := "isDigit", desc := "(I)Z" } : Jvm.MethodName) prog_24_method_7_code (1 : Nat) (Option.some Jvm.ClassFile.FieldType.boolean)) ∈ lw_all := lw_g (lw_at lw_m7 207 rfl) rfl
theorem q1764 : (Jvm.Cond.methodLink "OathButtonsModel" (209 : Nat) ({ cls := "OathButtonsModel", name := "isSign", desc := "(I)Z" } : Jvm.MethodName)) ∈ lw_all := lw_g (lw_at lw_m7 208 rfl) rfl
theorem q1765 : (Jvm.Cond.static ({ cls := "OathButtonsModel", name := "isSign", desc := "(I)Z" } : Jvm.MethodName)) ∈ lw_all := lw_g (lw_at lw_m7 209 rfl) rfl
theorem q1766 : (Jvm.Cond.code ({ cls := "OathButtonsModel", name := "isSign", desc := "(I)Z" } : Jvm.MethodName) prog_24_method_8_code (1 : Nat) (Option.some Jvm.ClassFile.FieldType.boolean)) ∈ lw_all := lw_g (lw_at lw_m7 210 rfl) rfl
theorem q1767 : (Jvm.Cond.methodLink "OathButtonsModel" (417 : Nat) ({ cls := "OathButtonsModel", name := "readLine", desc := "()V" } : Jvm.MethodName)) ∈ lw_all := lw_g (lw_at lw_m7 211 rfl) rfl
theorem q1768 : (Jvm.Cond.privateMethod ({ cls := "OathButtonsModel", name := "readLine", desc := "()V" } : Jvm.MethodName)) ∈ lw_tbl := lw_at lw_m7 212 rfl
theorem q1769 : (Jvm.Cond.instanceMethod ({ cls := "OathButtonsModel", name := "readLine", desc := "()V" } : Jvm.MethodName)) ∈ lw_all := lw_g (lw_at lw_m7 213 rfl) rfl
theorem q1770 : (Jvm.Cond.code ({ cls := "OathButtonsModel", name := "readLine", desc := "()V" } : Jvm.MethodName) prog_24_method_41_code (1 : Nat) (Option.none : Option Jvm.ClassFile.FieldType)) ∈ lw_all := lw_g (lw_at lw_m7 214 rfl) rfl
theorem q1771 : (Jvm.Cond.constantLong "OathButtonsModel" (215 : Nat) (7168366 : Int64)) ∈ lw_all := lw_g (lw_at lw_m7 215 rfl) rfl
theorem q1772 : (Jvm.Cond.methodLink "OathButtonsModel" (263 : Nat) ({ cls := "OathButtonsModel", name := "isWord", desc := "(J)Z" } : Jvm.MethodName)) ∈ lw_all := lw_g (lw_at lw_m7 216 rfl) rfl
theorem q1773 : (Jvm.Cond.privateMethod ({ cls := "OathButtonsModel", name := "isWord", desc := "(J)Z" } : Jvm.MethodName)) ∈ lw_tbl := lw_at lw_m7 217 rfl
theorem q1774 : (Jvm.Cond.instanceMethod ({ cls := "OathButtonsModel", name := "isWord", desc := "(J)Z" } : Jvm.MethodName)) ∈ lw_all := lw_g (lw_at lw_m7 218 rfl) rfl
theorem q1775 : (Jvm.Cond.code ({ cls := "OathButtonsModel", name := "isWord", desc := "(J)Z" } : Jvm.MethodName) prog_24_method_11_code (3 : Nat) (Option.some Jvm.ClassFile.FieldType.boolean)) ∈ lw_all := lw_g (lw_at lw_m7 219 rfl) rfl
theorem q1776 : (Jvm.Cond.methodLink "OathButtonsModel" (381 : Nat) ({ cls := "OathButtonsModel", name := "readMan", desc := "()V" } : Jvm.MethodName)) ∈ lw_all := lw_g (lw_at lw_m7 220 rfl) rfl
theorem q1777 : (Jvm.Cond.privateMethod ({ cls := "OathButtonsModel", name := "readMan", desc := "()V" } : Jvm.MethodName)) ∈ lw_tbl := lw_at lw_m7 221 rfl
theorem q1778 : (Jvm.Cond.instanceMethod ({ cls := "OathButtonsModel", name := "readMan", desc := "()V" } : Jvm.MethodName)) ∈ lw_all := lw_g (lw_at lw_m7 222 rfl) rfl
theorem q1779 : (Jvm.Cond.code ({ cls := "OathButtonsModel", name := "readMan", desc := "()V" } : Jvm.MethodName) prog_24_method_37_code (3 : Nat) (Option.none : Option Jvm.ClassFile.FieldType)) ∈ lw_all := lw_g (lw_at lw_m7 223 rfl) rfl
theorem q1780 : (Jvm.Cond.methodLink "OathButtonsModel" (362 : Nat) ({ cls := "OathButtonsModel", name := "newName", desc := "(II)V" } : Jvm.MethodName)) ∈ lw_all := lw_g (lw_at lw_m7 224 rfl) rfl
theorem q1781 : (Jvm.Cond.privateMethod ({ cls := "OathButtonsModel", name := "newName", desc := "(II)V" } : Jvm.MethodName)) ∈ lw_tbl := lw_at lw_m7 225 rfl
theorem q1782 : (Jvm.Cond.instanceMethod ({ cls := "OathButtonsModel", name := "newName", desc := "(II)V" } : Jvm.MethodName)) ∈ lw_all := lw_g (lw_at lw_m7 226 rfl) rfl
theorem q1783 : (Jvm.Cond.code ({ cls := "OathButtonsModel", name := "newName", desc := "(II)V" } : Jvm.MethodName) prog_24_method_19_code (3 : Nat) (Option.none : Option Jvm.ClassFile.FieldType)) ∈ lw_all := lw_g (lw_at lw_m7 227 rfl) rfl
theorem q1784 : (Jvm.Cond.methodLink "OathButtonsModel" (285 : Nat) ({ cls := "OathButtonsModel", name := "isName", desc := "()Z" } : Jvm.MethodName)) ∈ lw_all := lw_g (lw_at lw_m7 228 rfl) rfl
theorem q1785 : (Jvm.Cond.privateMethod ({ cls := "OathButtonsModel", name := "isName", desc := "()Z" } : Jvm.MethodName)) ∈ lw_tbl := lw_at lw_m7 229 rfl
theorem q1786 : (Jvm.Cond.instanceMethod ({ cls := "OathButtonsModel", name := "isName", desc := "()Z" } : Jvm.MethodName)) ∈ lw_all := lw_g (lw_at lw_m7 230 rfl) rfl
theorem q1787 : (Jvm.Cond.code ({ cls := "OathButtonsModel", name := "isName", desc := "()Z" } : Jvm.MethodName) prog_24_method_13_code (1 : Nat) (Option.some Jvm.ClassFile.FieldType.boolean)) ∈ lw_all := lw_g (lw_at lw_m7 231 rfl) rfl
theorem q1788 : (Jvm.Cond.methodLink "OathButtonsModel" (259 : Nat) ({ cls := "OathButtonsModel", name := "isOwn", desc := "()Z" } : Jvm.MethodName)) ∈ lw_all := lw_g (lw_at lw_m7 232 rfl) rfl
theorem q1789 : (Jvm.Cond.privateMethod ({ cls := "OathButtonsModel", name := "isOwn", desc := "()Z" } : Jvm.MethodName)) ∈ lw_tbl := lw_at lw_m7 233 rfl
theorem q1790 : (Jvm.Cond.instanceMethod ({ cls := "OathButtonsModel", name := "isOwn", desc := "()Z" } : Jvm.MethodName)) ∈ lw_all := lw_g (lw_at lw_m7 234 rfl) rfl
theorem q1791 : (Jvm.Cond.code ({ cls := "OathButtonsModel", name := "isOwn", desc := "()Z" } : Jvm.MethodName) prog_24_method_12_code (1 : Nat) (Option.some Jvm.ClassFile.FieldType.boolean)) ∈ lw_all := lw_g (lw_at lw_m7 235 rfl) rfl
theorem q1792 : (Jvm.Cond.constantLong "OathButtonsModel" (217 : Nat) (109330211763570 : Int64)) ∈ lw_all := lw_g (lw_at lw_m7 236 rfl) rfl
theorem q1793 : (Jvm.Cond.constantLong "OathButtonsModel" (219 : Nat) (448545973619 : Int64)) ∈ lw_all := lw_g (lw_at lw_m7 237 rfl) rfl
theorem q1794 : (Jvm.Cond.constantLong "OathButtonsModel" (221 : Nat) (1818584692 : Int64)) ∈ lw_all := lw_g (lw_at lw_m7 238 rfl) rfl
theorem q1795 : (Jvm.Cond.constantLong "OathButtonsModel" (223 : Nat) (1684366692 : Int64)) ∈ lw_all := lw_g (lw_at lw_m7 239 rfl) rfl
theorem q1796 : (Jvm.Cond.constantLong "OathButtonsModel" (225 : Nat) (448546566771 : Int64)) ∈ lw_all := lw_g (lw_at lw_m8 0 rfl) rfl
theorem q1797 : (Jvm.Cond.constantLong "OathButtonsModel" (227 : Nat) (108256604483438 : Int64)) ∈ lw_all := lw_g (lw_at lw_m8 1 rfl) rfl
theorem q1798 : (Jvm.Cond.constantLong "OathButtonsModel" (229 : Nat) (28526 : Int64)) ∈ lw_all := lw_g (lw_at lw_m8 2 rfl) rfl
theorem q1799 : (Jvm.Cond.constantLong "OathButtonsModel" (231 : Nat) (25209 : Int64)) ∈ lw_all := lw_g (lw_at lw_m8 3 rfl) rfl
theorem q1800 : (Jvm.Cond.constantLong "OathButtonsModel" (233 : Nat) (1685022067 : Int64)) ∈ lw_all := lw_g (lw_at lw_m8 4 rfl) rfl
theorem q1801 : (Jvm.Cond.constantLong "OathButtonsModel" (235 : Nat) (474148660594 : Int64)) ∈ lw_all := lw_g (lw_at lw_m8 5 rfl) rfl
theorem q1802 : (Jvm.Cond.constantLong "OathButtonsModel" (237 : Nat) (504364296556 : Int64)) ∈ lw_all := lw_g (lw_at lw_m8 6 rfl) rfl
theorem q1803 : (Jvm.Cond.constantLong "OathButtonsModel" (239 : Nat) (127991944667492 : Int64)) ∈ lw_all := lw_g (lw_at lw_m8 7 rfl) rfl
theorem q1804 : (Jvm.Cond.constantLong "OathButtonsModel" (241 : Nat) (418330731890 : Int64)) ∈ lw_all := lw_g (lw_at lw_m8 8 rfl) rfl
theorem q1805 : (Jvm.Cond.constantLong "OathButtonsModel" (243 : Nat) (112641580559972 : Int64)) ∈ lw_all := lw_g (lw_at lw_m8 9 rfl) rfl
theorem q1806 : (Jvm.Cond.constantLong "OathButtonsModel" (245 : Nat) (2003132786 : Int64)) ∈ lw_all := lw_g (lw_at lw_m8 10 rfl) rfl
theorem q1807 : (Jvm.Cond.constantLong "OathButtonsModel" (247 : Nat) (6578553 : Int64)) ∈ lw_all := lw_g (lw_at lw_m8 11 rfl) rfl
theorem q1808 : (Jvm.Cond.constantLong "OathButtonsModel" (249 : Nat) (495874699885 : Int64)) ∈ lw_all := lw_g (lw_at lw_m8 12 rfl) rfl
theorem q1809 : (Jvm.Cond.constantLong "OathButtonsModel" (251 : Nat) (1685217655 : Int64)) ∈ lw_all := lw_g (lw_at lw_m8 13 rfl) rfl
theorem q1810 : (Jvm.Cond.constantLong "OathButtonsModel" (253 : Nat) (6385252 : Int64)) ∈ lw_all := lw_g (lw_at lw_m8 14 rfl) rfl
theorem q1811 : (Jvm.Cond.constantLong "OathButtonsModel" (255 : Nat) (28530 : Int64)) ∈ lw_all := lw_g (lw_at lw_m8 15 rfl) rfl
theorem q1812 : (Jvm.Cond.constantLong "OathButtonsModel" (257 : Nat) (7237492 : Int64)) ∈ lw_all := lw_g (lw_at lw_m8 16 rfl) rfl
theorem q1813 : (Jvm.Cond.methodLink "OathButtonsModel" (267 : Nat) ({ cls := "OathButtonsModel", name := "wrong", desc := "(I)V" } : Jvm.MethodName)) ∈ lw_all := lw_g (lw_at lw_m8 17 rfl) rfl
theorem q1814 : (Jvm.Cond.privateMethod ({ cls := "OathButtonsModel", name := "wrong", desc := "(I)V" } : Jvm.MethodName)) ∈ lw_tbl := lw_at lw_m8 18 rfl
theorem q1815 : (Jvm.Cond.instanceMethod ({ cls := "OathButtonsModel", name := "wrong", desc := "(I)V" } : Jvm.MethodName)) ∈ lw_all := lw_g (lw_at lw_m8 19 rfl) rfl
theorem q1816 : (Jvm.Cond.code ({ cls := "OathButtonsModel", name := "wrong", desc := "(I)V" } : Jvm.MethodName) prog_24_method_10_code (2 : Nat) (Option.none : Option Jvm.ClassFile.FieldType)) ∈ lw_all := lw_g (lw_at lw_m8 20 rfl) rfl
theorem q1817 : (Jvm.Cond.methodLink "OathButtonsModel" (288 : Nat) ({ cls := "OathButtonsModel", name := "find", desc := "(II)I" } : Jvm.MethodName)) ∈ lw_all := lw_g (lw_at lw_m8 21 rfl) rfl
theorem q1818 : (Jvm.Cond.privateMethod ({ cls := "OathButtonsModel", name := "find", desc := "(II)I" } : Jvm.MethodName)) ∈ lw_tbl := lw_at lw_m8 22 rfl
theorem q1819 : (Jvm.Cond.instanceMethod ({ cls := "OathButtonsModel", name := "find", desc := "(II)I" } : Jvm.MethodName)) ∈ lw_all := lw_g (lw_at lw_m8 23 rfl) rfl
theorem q1820 : (Jvm.Cond.code ({ cls := "OathButtonsModel", name := "find", desc := "(II)I" } : Jvm.MethodName) prog_24_method_18_code (5 : Nat) (Option.some Jvm.ClassFile.FieldType.int)) ∈ lw_all := lw_g (lw_at lw_m8 24 rfl) rfl
theorem q1821 : (Jvm.Cond.methodLink "OathButtonsModel" (365 : Nat) ({ cls := "OathButtonsModel", name := "option", desc := "(JIII)I" } : Jvm.MethodName)) ∈ lw_all := lw_g (lw_at lw_m8 25 rfl) rfl
theorem q1822 : (Jvm.Cond.privateMethod ({ cls := "OathButtonsModel", name := "option", desc := "(JIII)I" } : Jvm.MethodName)) ∈ lw_tbl := lw_at lw_m8 26 rfl
theorem q1823 : (Jvm.Cond.instanceMethod ({ cls := "OathButtonsModel", name := "option", desc := "(JIII)I" } : Jvm.MethodName)) ∈ lw_all := lw_g (lw_at lw_m8 27 rfl) rfl
theorem q1824 : (Jvm.Cond.code ({ cls := "OathButtonsModel", name := "option", desc := "(JIII)I" } : Jvm.MethodName) prog_24_method_17_code (6 : Nat) (Option.some Jvm.ClassFile.FieldType.int)) ∈ lw_all := lw_g (lw_at lw_m8 28 rfl) rfl
theorem q1825 : (Jvm.Cond.methodLink "OathButtonsModel" (281 : Nat) ({ cls := "OathButtonsModel", name := "told", desc := "(JII)I" } : Jvm.MethodName)) ∈ lw_all := lw_g (lw_at lw_m8 29 rfl) rfl
theorem q1826 : (Jvm.Cond.privateMethod ({ cls := "OathButtonsModel", name := "told", desc := "(JII)I" } : Jvm.MethodName)) ∈ lw_tbl := lw_at lw_m8 30 rfl
theorem q1827 : (Jvm.Cond.instanceMethod ({ cls := "OathButtonsModel", name := "told", desc := "(JII)I" } : Jvm.MethodName)) ∈ lw_all := lw_g (lw_at lw_m8 31 rfl) rfl
theorem q1828 : (Jvm.Cond.code ({ cls := "OathButtonsModel", name := "told", desc := "(JII)I" } : Jvm.MethodName) prog_24_method_16_code (5 : Nat) (Option.some Jvm.ClassFile.FieldType.int)) ∈ lw_all := lw_g (lw_at lw_m8 32 rfl) rfl
theorem q1829 : (Jvm.Cond.methodLink "OathButtonsModel" (273 : Nat) ({ cls := "OathButtonsModel", name := "want", desc := "(J)V" } : Jvm.MethodName)) ∈ lw_all := lw_g (lw_at lw_m8 33 rfl) rfl
theorem q1830 : (Jvm.Cond.privateMethod ({ cls := "OathButtonsModel", name := "want", desc := "(J)V" } : Jvm.MethodName)) ∈ lw_tbl := lw_at lw_m8 34 rfl
theorem q1831 : (Jvm.Cond.instanceMethod ({ cls := "OathButtonsModel", name := "want", desc := "(J)V" } : Jvm.MethodName)) ∈ lw_all := lw_g (lw_at lw_m8 35 rfl) rfl
theorem q1832 : (Jvm.Cond.code ({ cls := "OathButtonsModel", name := "want", desc := "(J)V" } : Jvm.MethodName) prog_24_method_14_code (3 : Nat) (Option.none : Option Jvm.ClassFile.FieldType)) ∈ lw_all := lw_g (lw_at lw_m8 36 rfl) rfl
theorem q1833 : (Jvm.Cond.methodLink "OathButtonsModel" (277 : Nat) ({ cls := "OathButtonsModel", name := "toldNumbe\x72", desc := "(II)I" } : Jvm.MethodName)) ∈ lw_all := lw_g (lw_at lw_m8 37 rfl) rfl
theorem q1834 : (Jvm.Cond.privateMethod ({ cls := "OathButtonsModel", name := "toldNumbe\x72", desc := "(II)I" } : Jvm.MethodName)) ∈ lw_tbl := lw_at lw_m8 38 rfl
theorem q1835 : (Jvm.Cond.instanceMethod ({ cls := "OathButtonsModel", name := "toldNumbe\x72", desc := "(II)I" } : Jvm.MethodName)) ∈ lw_all := lw_g (lw_at lw_m8 39 rfl) rfl
theorem q1836 : (Jvm.Cond.code ({ cls := "OathButtonsModel", name := "toldNumbe\x72", desc := "(II)I" } : Jvm.MethodName) prog_24_method_15_code (4 : Nat) (Option.some Jvm.ClassFile.FieldType.int)) ∈ lw_all := lw_g (lw_at lw_m8 40 rfl) rfl
theorem q1837 : (Jvm.Cond.methodLink "OathButtonsModel" (344 : Nat) ({ cls := "OathButtonsModel", name := "truth", desc := "(Z)I" } : Jvm.MethodName)) ∈ lw_all := lw_g (lw_at lw_m8 41 rfl) rfl
theorem q1838 : (Jvm.Cond.static ({ cls := "OathButtonsModel", name := "truth", desc := "(Z)I" } : Jvm.MethodName)) ∈ lw_all := lw_g (lw_at lw_m8 42 rfl) rfl
theorem q1839 : (Jvm.Cond.code ({ cls := "OathButtonsModel", name := "truth", desc := "(Z)I" } : Jvm.MethodName) prog_24_method_34_code (1 : Nat) (Option.some Jvm.ClassFile.FieldType.int)) ∈ lw_all := lw_g (lw_at lw_m8 43 rfl) rfl
theorem q1840 : (Jvm.Cond.methodLink "OathButtonsModel" (384 : Nat) ({ cls := "OathButtonsModel", name := "readDeed", desc := "()V" } : Jvm.MethodName)) ∈ lw_all := lw_g (lw_at lw_m8 44 rfl) rfl
theorem q1841 : (Jvm.Cond.privateMethod ({ cls := "OathButtonsModel", name := "readDeed", desc := "()V" } : Jvm.MethodName)) ∈ lw_tbl := lw_at lw_m8 45 rfl
theorem q1842 : (Jvm.Cond.instanceMethod ({ cls := "OathButtonsModel", name := "readDeed", desc := "()V" } : Jvm.MethodName)) ∈ lw_all := lw_g (lw_at lw_m8 46 rfl) rfl
theorem q1843 : (Jvm.Cond.code ({ cls := "OathButtonsModel", name := "readDeed", desc := "()V" } : Jvm.MethodName) prog_24_method_38_code (1 : Nat) (Option.none : Option Jvm.ClassFile.FieldType)) ∈ lw_all := lw_g (lw_at lw_m8 47 rfl) rfl
theorem q1844 : (Jvm.Cond.methodLink "OathButtonsModel" (387 : Nat) ({ cls := "OathButtonsModel", name := "readButton", desc := "()V" } : Jvm.MethodName)) ∈ lw_all := lw_g (lw_at lw_m8 48 rfl) rfl
theorem q1845 : (Jvm.Cond.privateMethod ({ cls := "OathButtonsModel", name := "readButton", desc := "()V" } : Jvm.MethodName)) ∈ lw_tbl := lw_at lw_m8 49 rfl
theorem q1846 : (Jvm.Cond.instanceMethod ({ cls := "OathButtonsModel", name := "readButton", desc := "()V" } : Jvm.MethodName)) ∈ lw_all := lw_g (lw_at lw_m8 50 rfl) rfl
theorem q1847 : (Jvm.Cond.code ({ cls := "OathButtonsModel", name := "readButton", desc := "()V" } : Jvm.MethodName) prog_24_method_39_code (2 : Nat) (Option.none : Option Jvm.ClassFile.FieldType)) ∈ lw_all := lw_g (lw_at lw_m8 51 rfl) rfl
theorem q1848 : (Jvm.Cond.methodLink "OathButtonsModel" (375 : Nat) ({ cls := "OathButtonsModel", name := "oldName", desc := "(II)I" } : Jvm.MethodName)) ∈ lw_all := lw_g (lw_at lw_m8 52 rfl) rfl
theorem q1849 : (Jvm.Cond.privateMethod ({ cls := "OathButtonsModel", name := "oldName", desc := "(II)I" } : Jvm.MethodName)) ∈ lw_tbl := lw_at lw_m8 53 rfl
theorem q1850 : (Jvm.Cond.instanceMethod ({ cls := "OathButtonsModel", name := "oldName", desc := "(II)I" } : Jvm.MethodName)) ∈ lw_all := lw_g (lw_at lw_m8 54 rfl) rfl
theorem q1851 : (Jvm.Cond.code ({ cls := "OathButtonsModel", name := "oldName", desc := "(II)I" } : Jvm.MethodName) prog_24_method_20_code (3 : Nat) (Option.some Jvm.ClassFile.FieldType.int)) ∈ lw_all := lw_g (lw_at lw_m8 55 rfl) rfl
theorem q1852 : (Jvm.Cond.methodLink "OathButtonsModel" (390 : Nat) ({ cls := "OathButtonsModel", name := "readFriend", desc := "()V" } : Jvm.MethodName)) ∈ lw_all := lw_g (lw_at lw_m8 56 rfl) rfl
theorem q1853 : (Jvm.Cond.privateMethod ({ cls := "OathButtonsModel", name := "readFriend", desc := "()V" } : Jvm.MethodName)) ∈ lw_tbl := lw_at lw_m8 57 rfl
theorem q1854 : (Jvm.Cond.instanceMethod ({ cls := "OathButtonsModel", name := "readFriend", desc := "()V" } : Jvm.MethodName)) ∈ lw_all := lw_g (lw_at lw_m8 58 rfl) rfl
theorem q1855 : (Jvm.Cond.code ({ cls := "OathButtonsModel", name := "readFriend", desc := "()V" } : Jvm.MethodName) prog_24_method_40_code (6 : Nat) (Option.none : Option Jvm.ClassFile.FieldType)) ∈ lw_all := lw_g (lw_at lw_m8 59 rfl) rfl
theorem q1856 : (Jvm.Cond.methodLink "OathButtonsModel" (396 : Nat) ({ cls := "OathButtonsModel", name := "readWea\x72", desc := "()V" } : Jvm.MethodName)) ∈ lw_all := lw_g (lw_at lw_m8 60 rfl) rfl
theorem q1857 : (Jvm.Cond.privateMethod ({ cls := "OathButtonsModel", name := "readWea\x72", desc := "()V" } : Jvm.MethodName)) ∈ lw_tbl := lw_at lw_m8 61 rfl
theorem q1858 : (Jvm.Cond.instanceMethod ({ cls := "OathButtonsModel", name := "readWea\x72", desc := "()V" } : Jvm.MethodName)) ∈ lw_all := lw_g (lw_at lw_m8 62 rfl) rfl
theorem q1859 : (Jvm.Cond.code ({ cls := "OathButtonsModel", name := "readWea\x72", desc := "()V" } : Jvm.MethodName) prog_24_method_33_code (3 : Nat) (Option.none : Option Jvm.ClassFile.FieldType)) ∈ lw_all := lw_g (lw_at lw_m8 63 rfl) rfl
theorem q1860 : (Jvm.Cond.methodLink "OathButtonsModel" (329 : Nat) ({ cls := "OathButtonsModel", name := "unit", desc := "()V" } : Jvm.MethodName)) ∈ lw_all := lw_g (lw_at lw_m8 64 rfl) rfl
theorem q1861 : (Jvm.Cond.privateMethod ({ cls := "OathButtonsModel", name := "unit", desc := "()V" } : Jvm.MethodName)) ∈ lw_tbl := lw_at lw_m8 65 rfl
theorem q1862 : (Jvm.Cond.instanceMethod ({ cls := "OathButtonsModel", name := "unit", desc := "()V" } : Jvm.MethodName)) ∈ lw_all := lw_g (lw_at lw_m8 66 rfl) rfl
theorem q1863 : (Jvm.Cond.code ({ cls := "OathButtonsModel", name := "unit", desc := "()V" } : Jvm.MethodName) prog_24_method_30_code (3 : Nat) (Option.none : Option Jvm.ClassFile.FieldType)) ∈ lw_all := lw_g (lw_at lw_m8 67 rfl) rfl
theorem q1864 : (Jvm.Cond.methodLink "OathButtonsModel" (313 : Nat) ({ cls := "OathButtonsModel", name := "mayNot", desc := "()Z" } : Jvm.MethodName)) ∈ lw_all := lw_g (lw_at lw_m8 68 rfl) rfl
theorem q1865 : (Jvm.Cond.privateMethod ({ cls := "OathButtonsModel", name := "mayNot", desc := "()Z" } : Jvm.MethodName)) ∈ lw_tbl := lw_at lw_m8 69 rfl
theorem q1866 : (Jvm.Cond.instanceMethod ({ cls := "OathButtonsModel", name := "mayNot", desc := "()Z" } : Jvm.MethodName)) ∈ lw_all := lw_g (lw_at lw_m8 70 rfl) rfl
theorem q1867 : (Jvm.Cond.code ({ cls := "OathButtonsModel", name := "mayNot", desc := "()Z" } : Jvm.MethodName) prog_24_method_25_code (1 : Nat) (Option.some Jvm.ClassFile.FieldType.boolean)) ∈ lw_all := lw_g (lw_at lw_m8 71 rfl) rfl
theorem q1868 : (Jvm.Cond.methodLink "OathButtonsModel" (297 : Nat) ({ cls := "OathButtonsModel", name := "tight", desc := "(I)I" } : Jvm.MethodName)) ∈ lw_all := lw_g (lw_at lw_m8 72 rfl) rfl
theorem q1869 : (Jvm.Cond.static ({ cls := "OathButtonsModel", name := "tight", desc := "(I)I" } : Jvm.MethodName)) ∈ lw_all := lw_g (lw_at lw_m8 73 rfl) rfl
theorem q1870 : (Jvm.Cond.code ({ cls := "OathButtonsModel", name := "tight", desc := "(I)I" } : Jvm.MethodName) prog_24_method_22_code (1 : Nat) (Option.some Jvm.ClassFile.FieldType.int)) ∈ lw_all := lw_g (lw_at lw_m8 74 rfl) rfl
theorem q1871 : (Jvm.Cond.methodLink "OathButtonsModel" (316 : Nat) ({ cls := "OathButtonsModel", name := "openUp", desc := "(I)V" } : Jvm.MethodName)) ∈ lw_all := lw_g (lw_at lw_m8 75 rfl) rfl
theorem q1872 : (Jvm.Cond.privateMethod ({ cls := "OathButtonsModel", name := "openUp", desc := "(I)V" } : Jvm.MethodName)) ∈ lw_tbl := lw_at lw_m8 76 rfl
theorem q1873 : (Jvm.Cond.instanceMethod ({ cls := "OathButtonsModel", name := "openUp", desc := "(I)V" } : Jvm.MethodName)) ∈ lw_all := lw_g (lw_at lw_m8 77 rfl) rfl
theorem q1874 : (Jvm.Cond.code ({ cls := "OathButtonsModel", name := "openUp", desc := "(I)V" } : Jvm.MethodName) prog_24_method_29_code (2 : Nat) (Option.none : Option Jvm.ClassFile.FieldType)) ∈ lw_all := lw_g (lw_at lw_m8 78 rfl) rfl
theorem q1875 : (Jvm.Cond.methodLink "OathButtonsModel" (319 : Nat) ({ cls := "OathButtonsModel", name := "isFull", desc := "()Z" } : Jvm.MethodName)) ∈ lw_all := lw_g (lw_at lw_m8 79 rfl) rfl
theorem q1876 : (Jvm.Cond.privateMethod ({ cls := "OathButtonsModel", name := "isFull", desc := "()Z" } : Jvm.MethodName)) ∈ lw_tbl := lw_at lw_m8 80 rfl
theorem q1877 : (Jvm.Cond.instanceMethod ({ cls := "OathButtonsModel", name := "isFull", desc := "()Z" } : Jvm.MethodName)) ∈ lw_all := lw_g (lw_at lw_m8 81 rfl) rfl
theorem q1878 : (Jvm.Cond.code ({ cls := "OathButtonsModel", name := "isFull", desc := "()Z" } : Jvm.MethodName) prog_24_method_27_code (1 : Nat) (Option.some Jvm.ClassFile.FieldType.boolean)) ∈ lw_all := lw_g (lw_at lw_m8 82 rfl) rfl
theorem q1879 : (Jvm.Cond.methodLink "OathButtonsModel" (322 : Nat) ({ cls := "OathButtonsModel", name := "countUnit", desc := "()V" } : Jvm.MethodName)) ∈ lw_all := lw_g (lw_at lw_m8 83 rfl) rfl
theorem q1880 : (Jvm.Cond.privateMethod ({ cls := "OathButtonsModel", name := "countUnit", desc := "()V" } : Jvm.MethodName)) ∈ lw_tbl := lw_at lw_m8 84 rfl
theorem q1881 : (Jvm.Cond.instanceMethod ({ cls := "OathButtonsModel", name := "countUnit", desc := "()V" } : Jvm.MethodName)) ∈ lw_all := lw_g (lw_at lw_m8 85 rfl) rfl
theorem q1882 : (Jvm.Cond.code ({ cls := "OathButtonsModel", name := "countUnit", desc := "()V" } : Jvm.MethodName) prog_24_method_28_code (1 : Nat) (Option.none : Option Jvm.ClassFile.FieldType)) ∈ lw_all := lw_g (lw_at lw_m8 86 rfl) rfl
theorem q1883 : (Jvm.Cond.methodLink "OathButtonsModel" (325 : Nat) ({ cls := "OathButtonsModel", name := "asked", desc := "()I" } : Jvm.MethodName)) ∈ lw_all := lw_g (lw_at lw_m8 87 rfl) rfl
theorem q1884 : (Jvm.Cond.privateMethod ({ cls := "OathButtonsModel", name := "asked", desc := "()I" } : Jvm.MethodName)) ∈ lw_tbl := lw_at lw_m8 88 rfl
theorem q1885 : (Jvm.Cond.instanceMethod ({ cls := "OathButtonsModel", name := "asked", desc := "()I" } : Jvm.MethodName)) ∈ lw_all := lw_g (lw_at lw_m8 89 rfl) rfl
theorem q1886 : (Jvm.Cond.code ({ cls := "OathButtonsModel", name := "asked", desc := "()I" } : Jvm.MethodName) prog_24_method_26_code (1 : Nat) (Option.some Jvm.ClassFile.FieldType.int)) ∈ lw_all := lw_g (lw_at lw_m8 90 rfl) rfl
theorem q1887 : (Jvm.Cond.methodLink "OathButtonsModel" (300 : Nat) ({ cls := "OathButtonsModel", name := "add", desc := "(II)V" } : Jvm.MethodName)) ∈ lw_all := lw_g (lw_at lw_m8 91 rfl) rfl
theorem q1888 : (Jvm.Cond.privateMethod ({ cls := "OathButtonsModel", name := "add", desc := "(II)V" } : Jvm.MethodName)) ∈ lw_tbl := lw_at lw_m8 92 rfl
theorem q1889 : (Jvm.Cond.instanceMethod ({ cls := "OathButtonsModel", name := "add", desc := "(II)V" } : Jvm.MethodName)) ∈ lw_all := lw_g (lw_at lw_m8 93 rfl) rfl
theorem q1890 : (Jvm.Cond.code ({ cls := "OathButtonsModel", name := "add", desc := "(II)V" } : Jvm.MethodName) prog_24_method_21_code (3 : Nat) (Option.none : Option Jvm.ClassFile.FieldType)) ∈ lw_all := lw_g (lw_at lw_m8 94 rfl) rfl
theorem q1891 : (Jvm.Cond.methodLink "OathButtonsModel" (332 : Nat) ({ cls := "OathButtonsModel", name := "sign", desc := "()I" } : Jvm.MethodName)) ∈ lw_all := lw_g (lw_at lw_m8 95 rfl) rfl
theorem q1892 : (Jvm.Cond.privateMethod ({ cls := "OathButtonsModel", name := "sign", desc := "()I" } : Jvm.MethodName)) ∈ lw_tbl := lw_at lw_m8 96 rfl
theorem q1893 : (Jvm.Cond.instanceMethod ({ cls := "OathButtonsModel", name := "sign", desc := "()I" } : Jvm.MethodName)) ∈ lw_all := lw_g (lw_at lw_m8 97 rfl) rfl
theorem q1894 : (Jvm.Cond.code ({ cls := "OathButtonsModel", name := "sign", desc := "()I" } : Jvm.MethodName) prog_24_method_31_code (1 : Nat) (Option.some Jvm.ClassFile.FieldType.int)) ∈ lw_all := lw_g (lw_at lw_m8 98 rfl) rfl
theorem q1895 : (Jvm.Cond.methodLink "OathButtonsModel" (335 : Nat) ({ cls := "OathButtonsModel", name := "hasBracket", desc := "()Z" } : Jvm.MethodName)) ∈ lw_all := lw_g (lw_at lw_m8 99 rfl) rfl
theorem q1896 : (Jvm.Cond.privateMethod ({ cls := "OathButtonsModel", name := "hasBracket", desc := "()Z" } : Jvm.MethodName)) ∈ lw_tbl := lw_at lw_m8 100 rfl
theorem q1897 : (Jvm.Cond.instanceMethod ({ cls := "OathButtonsModel", name := "hasBracket", desc := "()Z" } : Jvm.MethodName)) ∈ lw_all := lw_g (lw_at lw_m8 101 rfl) rfl
theorem q1898 : (Jvm.Cond.code ({ cls := "OathButtonsModel", name := "hasBracket", desc := "()Z" } : Jvm.MethodName) prog_24_method_32_code (3 : Nat) (Option.some Jvm.ClassFile.FieldType.boolean)) ∈ lw_all := lw_g (lw_at lw_m8 102 rfl) rfl
theorem q1899 : (Jvm.Cond.methodLink "OathButtonsModel" (338 : Nat) ({ cls := "OathButtonsModel", name := "close", desc := "(I)V" } : Jvm.MethodName)) ∈ lw_all := lw_g (lw_at lw_m8 103 rfl) rfl
theorem q1900 : (Jvm.Cond.privateMethod ({ cls := "OathButtonsModel", name := "close", desc := "(I)V" } : Jvm.MethodName)) ∈ lw_tbl := lw_at lw_m8 104 rfl
theorem q1901 : (Jvm.Cond.instanceMethod ({ cls := "OathButtonsModel", name := "close", desc := "(I)V" } : Jvm.MethodName)) ∈ lw_all := lw_g (lw_at lw_m8 105 rfl) rfl
theorem q1902 : (Jvm.Cond.code ({ cls := "OathButtonsModel", name := "close", desc := "(I)V" } : Jvm.MethodName) prog_24_method_23_code (2 : Nat) (Option.none : Option Jvm.ClassFile.FieldType)) ∈ lw_all := lw_g (lw_at lw_m8 106 rfl) rfl
theorem q1903 : (Jvm.Cond.methodLink "OathButtonsModel" (341 : Nat) ({ cls := "OathButtonsModel", name := "hasRelation", desc := "()Z" } : Jvm.MethodName)) ∈ lw_all := lw_g (lw_at lw_m8 107 rfl) rfl
theorem q1904 : (Jvm.Cond.privateMethod ({ cls := "OathButtonsModel", name := "hasRelation", desc := "()Z" } : Jvm.MethodName)) ∈ lw_tbl := lw_at lw_m8 108 rfl
theorem q1905 : (Jvm.Cond.instanceMethod ({ cls := "OathButtonsModel", name := "hasRelation", desc := "()Z" } : Jvm.MethodName)) ∈ lw_all := lw_g (lw_at lw_m8 109 rfl) rfl
theorem q1906 : (Jvm.Cond.code ({ cls := "OathButtonsModel", name := "hasRelation", desc := "()Z" } : Jvm.MethodName) prog_24_method_24_code (2 : Nat) (Option.some Jvm.ClassFile.FieldType.boolean)) ∈ lw_all := lw_g (lw_at lw_m8 110 rfl) rfl
theorem q1908 : (Jvm.Cond.instanceMethod ({ cls := "OathButtonsModel", name := "fault", desc := "(I)I" } : Jvm.MethodName)) ∈ lw_all := lw_g (lw_at lw_m8 112 rfl) rfl
theorem q1909 : (Jvm.Cond.selects "OathButtonsModel" ({ cls := "OathButtonsModel", name := "fault", desc := "(I)I" } : Jvm.MethodName) ({ cls := "OathButtonsModel", name := "fault", desc := "(I)I" } : Jvm.MethodName)) ∈ lw_all := lw_g (lw_at lw_m8 113 rfl) rfl
theorem q1910 : (Jvm.Cond.code ({ cls := "OathButtonsModel", name := "fault", desc := "(I)I" } : Jvm.MethodName) prog_24_method_44_code (2 : Nat) (Option.some Jvm.ClassFile.FieldType.int)) ∈ lw_all := lw_g (lw_at lw_m8 114 rfl) rfl
theorem q1912 : (Jvm.Cond.instanceMethod ({ cls := "OathButtonsModel", name := "button", desc := "(II)I" } : Jvm.MethodName)) ∈ lw_all := lw_g (lw_at lw_m8 116 rfl) rfl
theorem q1913 : (Jvm.Cond.selects "OathButtonsModel" ({ cls := "OathButtonsModel", name := "button", desc := "(II)I" } : Jvm.MethodName) ({ cls := "OathButtonsModel", name := "button", desc := "(II)I" } : Jvm.MethodName)) ∈ lw_all := lw_g (lw_at lw_m8 117 rfl) rfl
theorem q1914 : (Jvm.Cond.code ({ cls := "OathButtonsModel", name := "button", desc := "(II)I" } : Jvm.MethodName) prog_24_method_50_code (3 : Nat) (Option.some Jvm.ClassFile.FieldType.int)) ∈ lw_all := lw_g (lw_at lw_m8 118 rfl) rfl
theorem q1915 : (Jvm.Cond.methodLink "OathButtonsModel" (457 : Nat) ({ cls := "OathButtonsModel", name := "isButton", desc := "(I)Z" } : Jvm.MethodName)) ∈ lw_all := lw_g (lw_at lw_m8 119 rfl) rfl
theorem q1916 : (Jvm.Cond.privateMethod ({ cls := "OathButtonsModel", name := "isButton", desc := "(I)Z" } : Jvm.MethodName)) ∈ lw_tbl := lw_at lw_m8 120 rfl
theorem q1917 : (Jvm.Cond.instanceMethod ({ cls := "OathButtonsModel", name := "isButton", desc := "(I)Z" } : Jvm.MethodName)) ∈ lw_all := lw_g (lw_at lw_m8 121 rfl) rfl
theorem q1918 : (Jvm.Cond.code ({ cls := "OathButtonsModel", name := "isButton", desc := "(I)Z" } : Jvm.MethodName) prog_24_method_48_code (2 : Nat) (Option.some Jvm.ClassFile.FieldType.boolean)) ∈ lw_all := lw_g (lw_at lw_m8 122 rfl) rfl
theorem q1919 : (Jvm.Cond.methodLink "OathButtonsModel" (453 : Nat) ({ cls := "OathButtonsModel", name := "isIn", desc := "(III)Z" } : Jvm.MethodName)) ∈ lw_all := lw_g (lw_at lw_m8 123 rfl) rfl
theorem q1920 : (Jvm.Cond.static ({ cls := "OathButtonsModel", name := "isIn", desc := "(III)Z" } : Jvm.MethodName)) ∈ lw_all := lw_g (lw_at lw_m8 124 rfl) rfl
theorem q1921 : (Jvm.Cond.code ({ cls := "OathButtonsModel", name := "isIn", desc := "(III)Z" } : Jvm.MethodName) prog_24_method_45_code (3 : Nat) (Option.some Jvm.ClassFile.FieldType.boolean)) ∈ lw_all := lw_g (lw_at lw_m8 125 rfl) rfl
theorem q1923 : (Jvm.Cond.instanceMethod ({ cls := "OathButtonsModel", name := "coat", desc := "(II)I" } : Jvm.MethodName)) ∈ lw_all := lw_g (lw_at lw_m8 127 rfl) rfl
theorem q1924 : (Jvm.Cond.selects "OathButtonsModel" ({ cls := "OathButtonsModel", name := "coat", desc := "(II)I" } : Jvm.MethodName) ({ cls := "OathButtonsModel", name := "coat", desc := "(II)I" } : Jvm.MethodName)) ∈ lw_all := lw_g (lw_at lw_m8 128 rfl) rfl
theorem q1925 : (Jvm.Cond.code ({ cls := "OathButtonsModel", name := "coat", desc := "(II)I" } : Jvm.MethodName) prog_24_method_51_code (6 : Nat) (Option.some Jvm.ClassFile.FieldType.int)) ∈ lw_all := lw_g (lw_at lw_m8 129 rfl) rfl
theorem q1926 : (Jvm.Cond.methodLink "OathButtonsModel" (460 : Nat) ({ cls := "OathButtonsModel", name := "isMan", desc := "(I)Z" } : Jvm.MethodName)) ∈ lw_all := lw_g (lw_at lw_m8 130 rfl) rfl
theorem q1927 : (Jvm.Cond.privateMethod ({ cls := "OathButtonsModel", name := "isMan", desc := "(I)Z" } : Jvm.MethodName)) ∈ lw_tbl := lw_at lw_m8 131 rfl
theorem q1928 : (Jvm.Cond.instanceMethod ({ cls := "OathButtonsModel", name := "isMan", desc := "(I)Z" } : Jvm.MethodName)) ∈ lw_all := lw_g (lw_at lw_m8 132 rfl) rfl
theorem q1929 : (Jvm.Cond.code ({ cls := "OathButtonsModel", name := "isMan", desc := "(I)Z" } : Jvm.MethodName) prog_24_method_46_code (2 : Nat) (Option.some Jvm.ClassFile.FieldType.boolean)) ∈ lw_all := lw_g (lw_at lw_m8 133 rfl) rfl
theorem q1931 : (Jvm.Cond.instanceMethod ({ cls := "OathButtonsModel", name := "free", desc := "()I" } : Jvm.MethodName)) ∈ lw_all := lw_g (lw_at lw_m8 135 rfl) rfl
theorem q1932 : (Jvm.Cond.selects "OathButtonsModel" ({ cls := "OathButtonsModel", name := "free", desc := "()I" } : Jvm.MethodName) ({ cls := "OathButtonsModel", name := "free", desc := "()I" } : Jvm.MethodName)) ∈ lw_all := lw_g (lw_at lw_m8 136 rfl) rfl
theorem q1933 : (Jvm.Cond.code ({ cls := "OathButtonsModel", name := "free", desc := "()I" } : Jvm.MethodName) prog_24_method_52_code (3 : Nat) (Option.some Jvm.ClassFile.FieldType.int)) ∈ lw_all := lw_g (lw_at lw_m8 137 rfl) rfl
theorem q1934 : (Jvm.Cond.methodLink "OathButtonsModel" (463 : Nat) ({ cls := "OathButtonsModel", name := "coat", desc := "(II)I" } : Jvm.MethodName)) ∈ lw_all := lw_g (lw_at lw_m8 138 rfl) rfl
theorem q1936 : (Jvm.Cond.instanceMethod ({ cls := "OathButtonsModel", name := "sworn", desc := "(II)I" } : Jvm.MethodName)) ∈ lw_all := lw_g (lw_at lw_m8 140 rfl) rfl
theorem q1937 : (Jvm.Cond.selects "OathButtonsModel" ({ cls := "OathButtonsModel", name := "sworn", desc := "(II)I" } : Jvm.MethodName) ({ cls := "OathButtonsModel", name := "sworn", desc := "(II)I" } : Jvm.MethodName)) ∈ lw_all := lw_g (lw_at lw_m8 141 rfl) rfl
theorem q1938 : (Jvm.Cond.code ({ cls := "OathButtonsModel", name := "sworn", desc := "(II)I" } : Jvm.MethodName) prog_24_method_53_code (5 : Nat) (Option.some Jvm.ClassFile.FieldType.int)) ∈ lw_all := lw_g (lw_at lw_m8 142 rfl) rfl
theorem q1939 : (Jvm.Cond.methodLink "OathButtonsModel" (466 : Nat) ({ cls := "OathButtonsModel", name := "isDeed", desc := "(I)Z" } : Jvm.MethodName)) ∈ lw_all := lw_g (lw_at lw_m8 143 rfl) rfl
theorem q1940 : (Jvm.Cond.privateMethod ({ cls := "OathButtonsModel", name := "isDeed", desc := "(I)Z" } : Jvm.MethodName)) ∈ lw_tbl := lw_at lw_m8 144 rfl
theorem q1941 : (Jvm.Cond.instanceMethod ({ cls := "OathButtonsModel", name := "isDeed", desc := "(I)Z" } : Jvm.MethodName)) ∈ lw_all := lw_g (lw_at lw_m8 145 rfl) rfl
theorem q1942 : (Jvm.Cond.code ({ cls := "OathButtonsModel", name := "isDeed", desc := "(I)Z" } : Jvm.MethodName) prog_24_method_47_code (2 : Nat) (Option.some Jvm.ClassFile.FieldType.boolean)) ∈ lw_all := lw_g (lw_at lw_m8 146 rfl) rfl
theorem q1943 : (Jvm.Cond.methodLink "OathButtonsModel" (469 : Nat) ({ cls := "OathButtonsModel", name := "isOn", desc := "(I)Z" } : Jvm.MethodName)) ∈ lw_all := lw_g (lw_at lw_m8 147 rfl) rfl
theorem q1944 : (Jvm.Cond.privateMethod ({ cls := "OathButtonsModel", name := "isOn", desc := "(I)Z" } : Jvm.MethodName)) ∈ lw_tbl := lw_at lw_m8 148 rfl
theorem q1945 : (Jvm.Cond.instanceMethod ({ cls := "OathButtonsModel", name := "isOn", desc := "(I)Z" } : Jvm.MethodName)) ∈ lw_all := lw_g (lw_at lw_m8 149 rfl) rfl
theorem q1946 : (Jvm.Cond.code ({ cls := "OathButtonsModel", name := "isOn", desc := "(I)Z" } : Jvm.MethodName) prog_24_method_49_code (2 : Nat) (Option.some Jvm.ClassFile.FieldType.boolean)) ∈ lw_all := lw_g (lw_at lw_m8 150 rfl) rfl
theorem q1948 : (Jvm.Cond.instanceMethod ({ cls := "OathButtonsModel", name := "many", desc := "(I)I" } : Jvm.MethodName)) ∈ lw_all := lw_g (lw_at lw_m8 152 rfl) rfl
theorem q1949 : (Jvm.Cond.selects "OathButtonsModel" ({ cls := "OathButtonsModel", name := "many", desc := "(I)I" } : Jvm.MethodName) ({ cls := "OathButtonsModel", name := "many", desc := "(I)I" } : Jvm.MethodName)) ∈ lw_all := lw_g (lw_at lw_m8 153 rfl) rfl
theorem q1950 : (Jvm.Cond.code ({ cls := "OathButtonsModel", name := "many", desc := "(I)I" } : Jvm.MethodName) prog_24_method_54_code (4 : Nat) (Option.some Jvm.ClassFile.FieldType.int)) ∈ lw_all := lw_g (lw_at lw_m8 154 rfl) rfl
theorem q1952 : (Jvm.Cond.instanceMethod ({ cls := "OathButtonsModel", name := "does", desc := "(II)I" } : Jvm.MethodName)) ∈ lw_all := lw_g (lw_at lw_m8 156 rfl) rfl
theorem q1953 : (Jvm.Cond.selects "OathButtonsModel" ({ cls := "OathButtonsModel", name := "does", desc := "(II)I" } : Jvm.MethodName) ({ cls := "OathButtonsModel", name := "does", desc := "(II)I" } : Jvm.MethodName)) ∈ lw_all := lw_g (lw_at lw_m8 157 rfl) rfl
theorem q1954 : (Jvm.Cond.code ({ cls := "OathButtonsModel", name := "does", desc := "(II)I" } : Jvm.MethodName) prog_24_method_57_code (6 : Nat) (Option.some Jvm.ClassFile.FieldType.int)) ∈ lw_all := lw_g (lw_at lw_m8 158 rfl) rfl
theorem q1955 : (Jvm.Cond.methodLink "OathButtonsModel" (472 : Nat) ({ cls := "OathButtonsModel", name := "act", desc := "()V" } : Jvm.MethodName)) ∈ lw_all := lw_g (lw_at lw_m8 159 rfl) rfl
theorem q1956 : (Jvm.Cond.privateMethod ({ cls := "OathButtonsModel", name := "act", desc := "()V" } : Jvm.MethodName)) ∈ lw_tbl := lw_at lw_m8 160 rfl
theorem q1957 : (Jvm.Cond.instanceMethod ({ cls := "OathButtonsModel", name := "act", desc := "()V" } : Jvm.MethodName)) ∈ lw_all := lw_g (lw_at lw_m8 161 rfl) rfl
theorem q1958 : (Jvm.Cond.code ({ cls := "OathButtonsModel", name := "act", desc := "()V" } : Jvm.MethodName) prog_24_method_55_code (2 : Nat) (Option.none : Option Jvm.ClassFile.FieldType)) ∈ lw_all := lw_g (lw_at lw_m8 162 rfl) rfl
theorem q1960 : (Jvm.Cond.instanceMethod ({ cls := "OathButtonsModel", name := "undoes", desc := "(I)Z" } : Jvm.MethodName)) ∈ lw_all := lw_g (lw_at lw_m8 164 rfl) rfl
theorem q1961 : (Jvm.Cond.selects "OathButtonsModel" ({ cls := "OathButtonsModel", name := "undoes", desc := "(I)Z" } : Jvm.MethodName) ({ cls := "OathButtonsModel", name := "undoes", desc := "(I)Z" } : Jvm.MethodName)) ∈ lw_all := lw_g (lw_at lw_m8 165 rfl) rfl
theorem q1962 : (Jvm.Cond.code ({ cls := "OathButtonsModel", name := "undoes", desc := "(I)Z" } : Jvm.MethodName) prog_24_method_58_code (2 : Nat) (Option.some Jvm.ClassFile.FieldType.boolean)) ∈ lw_all := lw_g (lw_at lw_m8 166 rfl) rfl
theorem q1964 : (Jvm.Cond.instanceMethod ({ cls := "OathButtonsModel", name := "cut", desc := "(I)I" } : Jvm.MethodName)) ∈ lw_all := lw_g (lw_at lw_m8 168 rfl) rfl
theorem q1965 : (Jvm.Cond.selects "OathButtonsModel" ({ cls := "OathButtonsModel", name := "cut", desc := "(I)I" } : Jvm.MethodName) ({ cls := "OathButtonsModel", name := "cut", desc := "(I)I" } : Jvm.MethodName)) ∈ lw_all := lw_g (lw_at lw_m8 169 rfl) rfl
theorem q1966 : (Jvm.Cond.code ({ cls := "OathButtonsModel", name := "cut", desc := "(I)I" } : Jvm.MethodName) prog_24_method_59_code (2 : Nat) (Option.some Jvm.ClassFile.FieldType.int)) ∈ lw_all := lw_g (lw_at lw_m8 170 rfl) rfl
theorem q1968 : (Jvm.Cond.instanceMethod ({ cls := "OathButtonsModel", name := "sew", desc := "(I)I" } : Jvm.MethodName)) ∈ lw_all := lw_g (lw_at lw_m8 172 rfl) rfl
theorem q1969 : (Jvm.Cond.selects "OathButtonsModel" ({ cls := "OathButtonsModel", name := "sew", desc := "(I)I" } : Jvm.MethodName) ({ cls := "OathButtonsModel", name := "sew", desc := "(I)I" } : Jvm.MethodName)) ∈ lw_all := lw_g (lw_at lw_m8 173 rfl) rfl
theorem q1970 : (Jvm.Cond.code ({ cls := "OathButtonsModel", name := "sew", desc := "(I)I" } : Jvm.MethodName) prog_24_method_60_code (3 : Nat) (Option.some Jvm.ClassFile.FieldType.int)) ∈ lw_all := lw_g (lw_at lw_m8 174 rfl) rfl
theorem q1972 : (Jvm.Cond.instanceMethod ({ cls := "OathButtonsModel", name := "day", desc := "()I" } : Jvm.MethodName)) ∈ lw_all := lw_g (lw_at lw_m8 176 rfl) rfl
theorem q1973 : (Jvm.Cond.selects "OathButtonsModel" ({ cls := "OathButtonsModel", name := "day", desc := "()I" } : Jvm.MethodName) ({ cls := "OathButtonsModel", name := "day", desc := "()I" } : Jvm.MethodName)) ∈ lw_all := lw_g (lw_at lw_m8 177 rfl) rfl
theorem q1974 : (Jvm.Cond.code ({ cls := "OathButtonsModel", name := "day", desc := "()I" } : Jvm.MethodName) prog_24_method_63_code (3 : Nat) (Option.some Jvm.ClassFile.FieldType.int)) ∈ lw_all := lw_g (lw_at lw_m8 178 rfl) rfl
theorem q1975 : (Jvm.Cond.methodLink "OathButtonsModel" (485 : Nat) ({ cls := "OathButtonsModel", name := "load", desc := "()V" } : Jvm.MethodName)) ∈ lw_all := lw_g (lw_at lw_m8 179 rfl) rfl
theorem q1976 : (Jvm.Cond.privateMethod ({ cls := "OathButtonsModel", name := "load", desc := "()V" } : Jvm.MethodName)) ∈ lw_tbl := lw_at lw_m8 180 rfl
theorem q1977 : (Jvm.Cond.instanceMethod ({ cls := "OathButtonsModel", name := "load", desc := "()V" } : Jvm.MethodName)) ∈ lw_all := lw_g (lw_at lw_m8 181 rfl) rfl
theorem q1978 : (Jvm.Cond.code ({ cls := "OathButtonsModel", name := "load", desc := "()V" } : Jvm.MethodName) prog_24_method_61_code (2 : Nat) (Option.none : Option Jvm.ClassFile.FieldType)) ∈ lw_all := lw_g (lw_at lw_m8 182 rfl) rfl
theorem q1979 : (Jvm.Cond.methodLink "OathButtonsModel" (488 : Nat) ({ cls := "OathButtonsModel", name := "goDay", desc := "()I" } : Jvm.MethodName)) ∈ lw_all := lw_g (lw_at lw_m8 183 rfl) rfl
theorem q1980 : (Jvm.Cond.privateMethod ({ cls := "OathButtonsModel", name := "goDay", desc := "()I" } : Jvm.MethodName)) ∈ lw_tbl := lw_at lw_m8 184 rfl
theorem q1981 : (Jvm.Cond.instanceMethod ({ cls := "OathButtonsModel", name := "goDay", desc := "()I" } : Jvm.MethodName)) ∈ lw_all := lw_g (lw_at lw_m8 185 rfl) rfl
theorem q1982 : (Jvm.Cond.code ({ cls := "OathButtonsModel", name := "goDay", desc := "()I" } : Jvm.MethodName) prog_24_method_62_code (4 : Nat) (Option.some Jvm.ClassFile.FieldType.int)) ∈ lw_all := lw_g (lw_at lw_m8 186 rfl) rfl
theorem q1983 : (Jvm.Cond.methodLink "OathButtonsModel" (481 : Nat) ({ cls := "OathButtonsModel", name := "wearOf", desc := "(IIII)I" } : Jvm.MethodName)) ∈ lw_all := lw_g (lw_at lw_m8 187 rfl) rfl
theorem q1984 : (Jvm.Cond.privateMethod ({ cls := "OathButtonsModel", name := "wearOf", desc := "(IIII)I" } : Jvm.MethodName)) ∈ lw_tbl := lw_at lw_m8 188 rfl
theorem q1985 : (Jvm.Cond.instanceMethod ({ cls := "OathButtonsModel", name := "wearOf", desc := "(IIII)I" } : Jvm.MethodName)) ∈ lw_all := lw_g (lw_at lw_m8 189 rfl) rfl
theorem q1986 : (Jvm.Cond.code ({ cls := "OathButtonsModel", name := "wearOf", desc := "(IIII)I" } : Jvm.MethodName) prog_24_method_36_code (7 : Nat) (Option.some Jvm.ClassFile.FieldType.int)) ∈ lw_all := lw_g (lw_at lw_m8 190 rfl) rfl
theorem q1987 : (Jvm.Cond.methodLink "OathButtonsModel" (355 : Nat) ({ cls := "OathButtonsModel", name := "done", desc := "(III)I" } : Jvm.MethodName)) ∈ lw_all := lw_g (lw_at lw_m8 191 rfl) rfl
theorem q1988 : (Jvm.Cond.static ({ cls := "OathButtonsModel", name := "done", desc := "(III)I" } : Jvm.MethodName)) ∈ lw_all := lw_g (lw_at lw_m8 192 rfl) rfl
theorem q1989 : (Jvm.Cond.code ({ cls := "OathButtonsModel", name := "done", desc := "(III)I" } : Jvm.MethodName) prog_24_method_35_code (3 : Nat) (Option.some Jvm.ClassFile.FieldType.int)) ∈ lw_all := lw_g (lw_at lw_m8 193 rfl) rfl
theorem q1991 : (Jvm.Cond.instanceMethod ({ cls := "OathButtonsModel", name := "undo", desc := "()Z" } : Jvm.MethodName)) ∈ lw_all := lw_g (lw_at lw_m8 195 rfl) rfl
theorem q1992 : (Jvm.Cond.selects "OathButtonsModel" ({ cls := "OathButtonsModel", name := "undo", desc := "()Z" } : Jvm.MethodName) ({ cls := "OathButtonsModel", name := "undo", desc := "()Z" } : Jvm.MethodName)) ∈ lw_all := lw_g (lw_at lw_m8 196 rfl) rfl
theorem q1993 : (Jvm.Cond.code ({ cls := "OathButtonsModel", name := "undo", desc := "()Z" } : Jvm.MethodName) prog_24_method_64_code (1 : Nat) (Option.some Jvm.ClassFile.FieldType.boolean)) ∈ lw_all := lw_g (lw_at lw_m8 197 rfl) rfl
theorem q1994 : (Jvm.Cond.methodLink "OathButtonsModel" (491 : Nat) ({ cls := "OathButtonsModel", name := "exchange", desc := "(I)V" } : Jvm.MethodName)) ∈ lw_all := lw_g (lw_at lw_m8 198 rfl) rfl
theorem q1995 : (Jvm.Cond.privateMethod ({ cls := "OathButtonsModel", name := "exchange", desc := "(I)V" } : Jvm.MethodName)) ∈ lw_tbl := lw_at lw_m8 199 rfl
theorem q1996 : (Jvm.Cond.instanceMethod ({ cls := "OathButtonsModel", name := "exchange", desc := "(I)V" } : Jvm.MethodName)) ∈ lw_all := lw_g (lw_at lw_m8 200 rfl) rfl
theorem q1997 : (Jvm.Cond.code ({ cls := "OathButtonsModel", name := "exchange", desc := "(I)V" } : Jvm.MethodName) prog_24_method_56_code (4 : Nat) (Option.none : Option Jvm.ClassFile.FieldType)) ∈ lw_all := lw_g (lw_at lw_m8 201 rfl) rfl
theorem q1999 : (Jvm.Cond.instanceMethod ({ cls := "OathButtonsModel", name := "redo", desc := "()Z" } : Jvm.MethodName)) ∈ lw_all := lw_g (lw_at lw_m8 203 rfl) rfl
theorem q2000 : (Jvm.Cond.selects "OathButtonsModel" ({ cls := "OathButtonsModel", name := "redo", desc := "()Z" } : Jvm.MethodName) ({ cls := "OathButtonsModel", name := "redo", desc := "()Z" } : Jvm.MethodName)) ∈ lw_all := lw_g (lw_at lw_m8 204 rfl) rfl
theorem q2001 : (Jvm.Cond.code ({ cls := "OathButtonsModel", name := "redo", desc := "()Z" } : Jvm.MethodName) prog_24_method_65_code (1 : Nat) (Option.some Jvm.ClassFile.FieldType.boolean)) ∈ lw_all := lw_g (lw_at lw_m8 205 rfl) rfl
theorem q2003 : (Jvm.Cond.instanceMethod ({ cls := "OathButtonsModel", name := "keep", desc := "(II)I" } : Jvm.MethodName)) ∈ lw_all := lw_g (lw_at lw_m8 207 rfl) rfl
theorem q2004 : (Jvm.Cond.selects "OathButtonsModel" ({ cls := "OathButtonsModel", name := "keep", desc := "(II)I" } : Jvm.MethodName) ({ cls := "OathButtonsModel", name := "keep", desc := "(II)I" } : Jvm.MethodName)) ∈ lw_all := lw_g (lw_at lw_m8 208 rfl) rfl
theorem q2005 : (Jvm.Cond.code ({ cls := "OathButtonsModel", name := "keep", desc := "(II)I" } : Jvm.MethodName) prog_24_method_76_code (4 : Nat) (Option.some Jvm.ClassFile.FieldType.int)) ∈ lw_all := lw_g (lw_at lw_m8 209 rfl) rfl
theorem q2006 : (Jvm.Cond.methodLink "OathButtonsModel" (537 : Nat) ({ cls := "OathButtonsModel", name := "layBest", desc := "(II)V" } : Jvm.MethodName)) ∈ lw_all := lw_g (lw_at lw_m8 210 rfl) rfl
theorem q2007 : (Jvm.Cond.privateMethod ({ cls := "OathButtonsModel", name := "layBest", desc := "(II)V" } : Jvm.MethodName)) ∈ lw_tbl := lw_at lw_m8 211 rfl
theorem q2008 : (Jvm.Cond.instanceMethod ({ cls := "OathButtonsModel", name := "layBest", desc := "(II)V" } : Jvm.MethodName)) ∈ lw_all := lw_g (lw_at lw_m8 212 rfl) rfl
theorem q2009 : (Jvm.Cond.code ({ cls := "OathButtonsModel", name := "layBest", desc := "(II)V" } : Jvm.MethodName) prog_24_method_75_code (4 : Nat) (Option.none : Option Jvm.ClassFile.FieldType)) ∈ lw_all := lw_g (lw_at lw_m8 213 rfl) rfl
theorem q2010 : (Jvm.Cond.methodLink "OathButtonsModel" (528 : Nat) ({ cls := "OathButtonsModel", name := "beginOrde\x72", desc := "()V" } : Jvm.MethodName)) ∈ lw_all := lw_g (lw_at lw_m8 214 rfl) rfl
theorem q2011 : (Jvm.Cond.privateMethod ({ cls := "OathButtonsModel", name := "beginOrde\x72", desc := "()V" } : Jvm.MethodName)) ∈ lw_tbl := lw_at lw_m8 215 rfl
theorem q2012 : (Jvm.Cond.instanceMethod ({ cls := "OathButtonsModel", name := "beginOrde\x72", desc := "()V" } : Jvm.MethodName)) ∈ lw_all := lw_g (lw_at lw_m8 216 rfl) rfl
theorem q2013 : (Jvm.Cond.code ({ cls := "OathButtonsModel", name := "beginOrde\x72", desc := "()V" } : Jvm.MethodName) prog_24_method_70_code (1 : Nat) (Option.none : Option Jvm.ClassFile.FieldType)) ∈ lw_all := lw_g (lw_at lw_m8 217 rfl) rfl
theorem q2014 : (Jvm.Cond.methodLink "OathButtonsModel" (531 : Nat) ({ cls := "OathButtonsModel", name := "nextOrde\x72", desc := "(I)Z" } : Jvm.MethodName)) ∈ lw_all := lw_g (lw_at lw_m8 218 rfl) rfl
theorem q2015 : (Jvm.Cond.privateMethod ({ cls := "OathButtonsModel", name := "nextOrde\x72", desc := "(I)Z" } : Jvm.MethodName)) ∈ lw_tbl := lw_at lw_m8 219 rfl
theorem q2016 : (Jvm.Cond.instanceMethod ({ cls := "OathButtonsModel", name := "nextOrde\x72", desc := "(I)Z" } : Jvm.MethodName)) ∈ lw_all := lw_g (lw_at lw_m8 220 rfl) rfl
theorem q2017 : (Jvm.Cond.code ({ cls := "OathButtonsModel", name := "nextOrde\x72", desc := "(I)Z" } : Jvm.MethodName) prog_24_method_71_code (3 : Nat) (Option.some Jvm.ClassFile.FieldType.boolean)) ∈ lw_all := lw_g (lw_at lw_m8 221 rfl) rfl
theorem q2018 : (Jvm.Cond.methodLink "OathButtonsModel" (509 : Nat) ({ cls := "OathButtonsModel", name := "canPut", desc := "(II)Z" } : Jvm.MethodName)) ∈ lw_all := lw_g (lw_at lw_m8 222 rfl) rfl
theorem q2019 : (Jvm.Cond.privateMethod ({ cls := "OathButtonsModel", name := "canPut", desc := "(II)Z" } : Jvm.MethodName)) ∈ lw_tbl := lw_at lw_m8 223 rfl
theorem q2020 : (Jvm.Cond.instanceMethod ({ cls := "OathButtonsModel", name := "canPut", desc := "(II)Z" } : Jvm.MethodName)) ∈ lw_all := lw_g (lw_at lw_m8 224 rfl) rfl
theorem q2021 : (Jvm.Cond.code ({ cls := "OathButtonsModel", name := "canPut", desc := "(II)Z" } : Jvm.MethodName) prog_24_method_69_code (4 : Nat) (Option.some Jvm.ClassFile.FieldType.boolean)) ∈ lw_all := lw_g (lw_at lw_m8 225 rfl) rfl
theorem q2022 : (Jvm.Cond.methodLink "OathButtonsModel" (500 : Nat) ({ cls := "OathButtonsModel", name := "doneOn", desc := "(I)I" } : Jvm.MethodName)) ∈ lw_all := lw_g (lw_at lw_m8 226 rfl) rfl
theorem q2023 : (Jvm.Cond.privateMethod ({ cls := "OathButtonsModel", name := "doneOn", desc := "(I)I" } : Jvm.MethodName)) ∈ lw_tbl := lw_at lw_m8 227 rfl
theorem q2024 : (Jvm.Cond.instanceMethod ({ cls := "OathButtonsModel", name := "doneOn", desc := "(I)I" } : Jvm.MethodName)) ∈ lw_all := lw_g (lw_at lw_m8 228 rfl) rfl
theorem q2025 : (Jvm.Cond.code ({ cls := "OathButtonsModel", name := "doneOn", desc := "(I)I" } : Jvm.MethodName) prog_24_method_66_code (2 : Nat) (Option.some Jvm.ClassFile.FieldType.int)) ∈ lw_all := lw_g (lw_at lw_m8 229 rfl) rfl
theorem q2026 : (Jvm.Cond.methodLink "OathButtonsModel" (503 : Nat) ({ cls := "OathButtonsModel", name := "isForbidden", desc := "(III)Z" } : Jvm.MethodName)) ∈ lw_all := lw_g (lw_at lw_m8 230 rfl) rfl
theorem q2027 : (Jvm.Cond.privateMethod ({ cls := "OathButtonsModel", name := "isForbidden", desc := "(III)Z" } : Jvm.MethodName)) ∈ lw_tbl := lw_at lw_m8 231 rfl
theorem q2028 : (Jvm.Cond.instanceMethod ({ cls := "OathButtonsModel", name := "isForbidden", desc := "(III)Z" } : Jvm.MethodName)) ∈ lw_all := lw_g (lw_at lw_m8 232 rfl) rfl
theorem q2029 : (Jvm.Cond.code ({ cls := "OathButtonsModel", name := "isForbidden", desc := "(III)Z" } : Jvm.MethodName) prog_24_method_67_code (6 : Nat) (Option.some Jvm.ClassFile.FieldType.boolean)) ∈ lw_all := lw_g (lw_at lw_m8 233 rfl) rfl
theorem q2030 : (Jvm.Cond.methodLink "OathButtonsModel" (506 : Nat) ({ cls := "OathButtonsModel", name := "keptOf", desc := "(III)I" } : Jvm.MethodName)) ∈ lw_all := lw_g (lw_at lw_m8 234 rfl) rfl
theorem q2031 : (Jvm.Cond.privateMethod ({ cls := "OathButtonsModel", name := "keptOf", desc := "(III)I" } : Jvm.MethodName)) ∈ lw_tbl := lw_at lw_m8 235 rfl
theorem q2032 : (Jvm.Cond.instanceMethod ({ cls := "OathButtonsModel", name := "keptOf", desc := "(III)I" } : Jvm.MethodName)) ∈ lw_all := lw_g (lw_at lw_m8 236 rfl) rfl
theorem q2033 : (Jvm.Cond.code ({ cls := "OathButtonsModel", name := "keptOf", desc := "(III)I" } : Jvm.MethodName) prog_24_method_68_code (6 : Nat) (Option.some Jvm.ClassFile.FieldType.int)) ∈ lw_all := lw_g (lw_at lw_m8 237 rfl) rfl
theorem q2034 : (Jvm.Cond.methodLink "OathButtonsModel" (534 : Nat) ({ cls := "OathButtonsModel", name := "isBette\x72", desc := "()Z" } : Jvm.MethodName)) ∈ lw_all := lw_g (lw_at lw_m8 238 rfl) rfl
theorem q2035 : (Jvm.Cond.privateMethod ({ cls := "OathButtonsModel", name := "isBette\x72", desc := "()Z" } : Jvm.MethodName)) ∈ lw_tbl := lw_at lw_m8 239 rfl
theorem q2036 : (Jvm.Cond.instanceMethod ({ cls := "OathButtonsModel", name := "isBette\x72", desc := "()Z" } : Jvm.MethodName)) ∈ lw_all := lw_g (lw_at lw_m9 0 rfl) rfl
theorem q2037 : (Jvm.Cond.code ({ cls := "OathButtonsModel", name := "isBette\x72", desc := "()Z" } : Jvm.MethodName) prog_24_method_74_code (3 : Nat) (Option.some Jvm.ClassFile.FieldType.boolean)) ∈ lw_all := lw_g (lw_at lw_m9 1 rfl) rfl
theorem q2038 : (Jvm.Cond.methodLink "OathButtonsModel" (516 : Nat) ({ cls := "OathButtonsModel", name := "members", desc := "(I)I" } : Jvm.MethodName)) ∈ lw_all := lw_g (lw_at lw_m9 2 rfl) rfl
theorem q2039 : (Jvm.Cond.static ({ cls := "OathButtonsModel", name := "members", desc := "(I)I" } : Jvm.MethodName)) ∈ lw_all := lw_g (lw_at lw_m9 3 rfl) rfl
theorem q2040 : (Jvm.Cond.code ({ cls := "OathButtonsModel", name := "members", desc := "(I)I" } : Jvm.MethodName) prog_24_method_72_code (3 : Nat) (Option.some Jvm.ClassFile.FieldType.int)) ∈ lw_all := lw_g (lw_at lw_m9 4 rfl) rfl
theorem q2041 : (Jvm.Cond.methodLink "OathButtonsModel" (525 : Nat) ({ cls := "OathButtonsModel", name := "isAhead", desc := "()Z" } : Jvm.MethodName)) ∈ lw_all := lw_g (lw_at lw_m9 5 rfl) rfl
theorem q2042 : (Jvm.Cond.privateMethod ({ cls := "OathButtonsModel", name := "isAhead", desc := "()Z" } : Jvm.MethodName)) ∈ lw_tbl := lw_at lw_m9 6 rfl
theorem q2043 : (Jvm.Cond.instanceMethod ({ cls := "OathButtonsModel", name := "isAhead", desc := "()Z" } : Jvm.MethodName)) ∈ lw_all := lw_g (lw_at lw_m9 7 rfl) rfl
theorem q2044 : (Jvm.Cond.code ({ cls := "OathButtonsModel", name := "isAhead", desc := "()Z" } : Jvm.MethodName) prog_24_method_73_code (2 : Nat) (Option.some Jvm.ClassFile.FieldType.boolean)) ∈ lw_all := lw_g (lw_at lw_m9 8 rfl) rfl
theorem q2046 : (Jvm.Cond.instanceMethod ({ cls := "OathButtonsModel", name := "rest", desc := "(I)I" } : Jvm.MethodName)) ∈ lw_all := lw_g (lw_at lw_m9 10 rfl) rfl
theorem q2047 : (Jvm.Cond.selects "OathButtonsModel" ({ cls := "OathButtonsModel", name := "rest", desc := "(I)I" } : Jvm.MethodName) ({ cls := "OathButtonsModel", name := "rest", desc := "(I)I" } : Jvm.MethodName)) ∈ lw_all := lw_g (lw_at lw_m9 11 rfl) rfl
theorem q2048 : (Jvm.Cond.code ({ cls := "OathButtonsModel", name := "rest", desc := "(I)I" } : Jvm.MethodName) prog_24_method_77_code (4 : Nat) (Option.some Jvm.ClassFile.FieldType.int)) ∈ lw_all := lw_g (lw_at lw_m9 12 rfl) rfl
theorem q2050 : (Jvm.Cond.instanceMethod ({ cls := "OathButtonsModel", name := "ties", desc := "(II)I" } : Jvm.MethodName)) ∈ lw_all := lw_g (lw_at lw_m9 14 rfl) rfl
theorem q2051 : (Jvm.Cond.selects "OathButtonsModel" ({ cls := "OathButtonsModel", name := "ties", desc := "(II)I" } : Jvm.MethodName) ({ cls := "OathButtonsModel", name := "ties", desc := "(II)I" } : Jvm.MethodName)) ∈ lw_all := lw_g (lw_at lw_m9 15 rfl) rfl
theorem q2052 : (Jvm.Cond.code ({ cls := "OathButtonsModel", name := "ties", desc := "(II)I" } : Jvm.MethodName) prog_24_method_78_code (5 : Nat) (Option.some Jvm.ClassFile.FieldType.int)) ∈ lw_all := lw_g (lw_at lw_m9 16 rfl) rfl
theorem q2054 : (Jvm.Cond.instanceMethod ({ cls := "OathButtonsModel", name := "clash", desc := "(II)I" } : Jvm.MethodName)) ∈ lw_all := lw_g (lw_at lw_m9 18 rfl) rfl
theorem q2055 : (Jvm.Cond.selects "OathButtonsModel" ({ cls := "OathButtonsModel", name := "clash", desc := "(II)I" } : Jvm.MethodName) ({ cls := "OathButtonsModel", name := "clash", desc := "(II)I" } : Jvm.MethodName)) ∈ lw_all := lw_g (lw_at lw_m9 19 rfl) rfl
theorem q2056 : (Jvm.Cond.code ({ cls := "OathButtonsModel", name := "clash", desc := "(II)I" } : Jvm.MethodName) prog_24_method_80_code (6 : Nat) (Option.some Jvm.ClassFile.FieldType.int)) ∈ lw_all := lw_g (lw_at lw_m9 20 rfl) rfl
theorem q2057 : (Jvm.Cond.methodLink "OathButtonsModel" (540 : Nat) ({ cls := "OathButtonsModel", name := "layCanKeep", desc := "(I)V" } : Jvm.MethodName)) ∈ lw_all := lw_g (lw_at lw_m9 21 rfl) rfl
theorem q2058 : (Jvm.Cond.privateMethod ({ cls := "OathButtonsModel", name := "layCanKeep", desc := "(I)V" } : Jvm.MethodName)) ∈ lw_tbl := lw_at lw_m9 22 rfl
theorem q2059 : (Jvm.Cond.instanceMethod ({ cls := "OathButtonsModel", name := "layCanKeep", desc := "(I)V" } : Jvm.MethodName)) ∈ lw_all := lw_g (lw_at lw_m9 23 rfl) rfl
theorem q2060 : (Jvm.Cond.code ({ cls := "OathButtonsModel", name := "layCanKeep", desc := "(I)V" } : Jvm.MethodName) prog_24_method_79_code (4 : Nat) (Option.none : Option Jvm.ClassFile.FieldType)) ∈ lw_all := lw_g (lw_at lw_m9 24 rfl) rfl
theorem q2062 : (Jvm.Cond.instanceMethod ({ cls := "OathButtonsModel", name := "leave", desc := "(II)I" } : Jvm.MethodName)) ∈ lw_all := lw_g (lw_at lw_m9 26 rfl) rfl
theorem q2063 : (Jvm.Cond.selects "OathButtonsModel" ({ cls := "OathButtonsModel", name := "leave", desc := "(II)I" } : Jvm.MethodName) ({ cls := "OathButtonsModel", name := "leave", desc := "(II)I" } : Jvm.MethodName)) ∈ lw_all := lw_g (lw_at lw_m9 27 rfl) rfl
theorem q2064 : (Jvm.Cond.code ({ cls := "OathButtonsModel", name := "leave", desc := "(II)I" } : Jvm.MethodName) prog_24_method_82_code (5 : Nat) (Option.some Jvm.ClassFile.FieldType.int)) ∈ lw_all := lw_g (lw_at lw_m9 28 rfl) rfl
theorem q2065 : (Jvm.Cond.methodLink "OathButtonsModel" (543 : Nat) ({ cls := "OathButtonsModel", name := "leaving", desc := "(II)I" } : Jvm.MethodName)) ∈ lw_all := lw_g (lw_at lw_m9 29 rfl) rfl
theorem q2066 : (Jvm.Cond.privateMethod ({ cls := "OathButtonsModel", name := "leaving", desc := "(II)I" } : Jvm.MethodName)) ∈ lw_tbl := lw_at lw_m9 30 rfl
theorem q2067 : (Jvm.Cond.instanceMethod ({ cls := "OathButtonsModel", name := "leaving", desc := "(II)I" } : Jvm.MethodName)) ∈ lw_all := lw_g (lw_at lw_m9 31 rfl) rfl
theorem q2068 : (Jvm.Cond.code ({ cls := "OathButtonsModel", name := "leaving", desc := "(II)I" } : Jvm.MethodName) prog_24_method_81_code (5 : Nat) (Option.some Jvm.ClassFile.FieldType.int)) ∈ lw_all := lw_g (lw_at lw_m9 32 rfl) rfl
theorem q2070 : (Jvm.Cond.instanceMethod ({ cls := "OathButtonsModel", name := "asked", desc := "(II)I" } : Jvm.MethodName)) ∈ lw_all := lw_g (lw_at lw_m9 34 rfl) rfl
theorem q2071 : (Jvm.Cond.selects "OathButtonsModel" ({ cls := "OathButtonsModel", name := "asked", desc := "(II)I" } : Jvm.MethodName) ({ cls := "OathButtonsModel", name := "asked", desc := "(II)I" } : Jvm.MethodName)) ∈ lw_all := lw_g (lw_at lw_m9 35 rfl) rfl
theorem q2072 : (Jvm.Cond.code ({ cls := "OathButtonsModel", name := "asked", desc := "(II)I" } : Jvm.MethodName) prog_24_method_83_code (6 : Nat) (Option.some Jvm.ClassFile.FieldType.int)) ∈ lw_all := lw_g (lw_at lw_m9 36 rfl) rfl
theorem q2074 : (Jvm.Cond.instanceMethod ({ cls := "OathButtonsModel", name := "holds", desc := "(III)I" } : Jvm.MethodName)) ∈ lw_all := lw_g (lw_at lw_m9 38 rfl) rfl
theorem q2075 : (Jvm.Cond.selects "OathButtonsModel" ({ cls := "OathButtonsModel", name := "holds", desc := "(III)I" } : Jvm.MethodName) ({ cls := "OathButtonsModel", name := "holds", desc := "(III)I" } : Jvm.MethodName)) ∈ lw_all := lw_g (lw_at lw_m9 39 rfl) rfl
theorem q2076 : (Jvm.Cond.code ({ cls := "OathButtonsModel", name := "holds", desc := "(III)I" } : Jvm.MethodName) prog_24_method_86_code (4 : Nat) (Option.some Jvm.ClassFile.FieldType.int)) ∈ lw_all := lw_g (lw_at lw_m9 40 rfl) rfl
theorem q2077 : (Jvm.Cond.methodLink "OathButtonsModel" (546 : Nat) ({ cls := "OathButtonsModel", name := "threadSame", desc := "(III)I" } : Jvm.MethodName)) ∈ lw_all := lw_g (lw_at lw_m9 41 rfl) rfl
theorem q2078 : (Jvm.Cond.privateMethod ({ cls := "OathButtonsModel", name := "threadSame", desc := "(III)I" } : Jvm.MethodName)) ∈ lw_tbl := lw_at lw_m9 42 rfl
theorem q2079 : (Jvm.Cond.instanceMethod ({ cls := "OathButtonsModel", name := "threadSame", desc := "(III)I" } : Jvm.MethodName)) ∈ lw_all := lw_g (lw_at lw_m9 43 rfl) rfl
theorem q2080 : (Jvm.Cond.code ({ cls := "OathButtonsModel", name := "threadSame", desc := "(III)I" } : Jvm.MethodName) prog_24_method_85_code (6 : Nat) (Option.some Jvm.ClassFile.FieldType.int)) ∈ lw_all := lw_g (lw_at lw_m9 44 rfl) rfl
theorem q2082 : (Jvm.Cond.instanceMethod ({ cls := "OathButtonsModel", name := "odds", desc := "(III)J" } : Jvm.MethodName)) ∈ lw_all := lw_g (lw_at lw_m9 46 rfl) rfl
theorem q2083 : (Jvm.Cond.selects "OathButtonsModel" ({ cls := "OathButtonsModel", name := "odds", desc := "(III)J" } : Jvm.MethodName) ({ cls := "OathButtonsModel", name := "odds", desc := "(III)J" } : Jvm.MethodName)) ∈ lw_all := lw_g (lw_at lw_m9 47 rfl) rfl
theorem q2084 : (Jvm.Cond.code ({ cls := "OathButtonsModel", name := "odds", desc := "(III)J" } : Jvm.MethodName) prog_24_method_88_code (12 : Nat) (Option.some Jvm.ClassFile.FieldType.long)) ∈ lw_all := lw_g (lw_at lw_m9 48 rfl) rfl
theorem q2085 : (Jvm.Cond.constantLong "OathButtonsModel" (549 : Nat) (-1 : Int64)) ∈ lw_all := lw_g (lw_at lw_m9 49 rfl) rfl
theorem q2086 : (Jvm.Cond.constantLong "OathButtonsModel" (551 : Nat) (100 : Int64)) ∈ lw_all := lw_g (lw_at lw_m9 50 rfl) rfl
theorem q2087 : (Jvm.Cond.methodLink "OathButtonsModel" (553 : Nat) ({ cls := "OathButtonsModel", name := "threadBy", desc := "(III)I" } : Jvm.MethodName)) ∈ lw_all := lw_g (lw_at lw_m9 51 rfl) rfl
theorem q2088 : (Jvm.Cond.privateMethod ({ cls := "OathButtonsModel", name := "threadBy", desc := "(III)I" } : Jvm.MethodName)) ∈ lw_tbl := lw_at lw_m9 52 rfl
theorem q2089 : (Jvm.Cond.instanceMethod ({ cls := "OathButtonsModel", name := "threadBy", desc := "(III)I" } : Jvm.MethodName)) ∈ lw_all := lw_g (lw_at lw_m9 53 rfl) rfl
theorem q2090 : (Jvm.Cond.code ({ cls := "OathButtonsModel", name := "threadBy", desc := "(III)I" } : Jvm.MethodName) prog_24_method_84_code (6 : Nat) (Option.some Jvm.ClassFile.FieldType.int)) ∈ lw_all := lw_g (lw_at lw_m9 54 rfl) rfl
theorem q2091 : (Jvm.Cond.methodLink "OathButtonsModel" (556 : Nat) ({ cls := "OathButtonsModel", name := "common", desc := "(JJ)J" } : Jvm.MethodName)) ∈ lw_all := lw_g (lw_at lw_m9 55 rfl) rfl
theorem q2092 : (Jvm.Cond.static ({ cls := "OathButtonsModel", name := "common", desc := "(JJ)J" } : Jvm.MethodName)) ∈ lw_all := lw_g (lw_at lw_m9 56 rfl) rfl
theorem q2093 : (Jvm.Cond.code ({ cls := "OathButtonsModel", name := "common", desc := "(JJ)J" } : Jvm.MethodName) prog_24_method_87_code (10 : Nat) (Option.some Jvm.ClassFile.FieldType.long)) ∈ lw_all := lw_g (lw_at lw_m9 57 rfl) rfl
theorem q2095 : (Jvm.Cond.instanceMethod ({ cls := "OathButtonsModel", name := "first", desc := "(I)I" } : Jvm.MethodName)) ∈ lw_all := lw_g (lw_at lw_m9 59 rfl) rfl
theorem q2096 : (Jvm.Cond.selects "OathButtonsModel" ({ cls := "OathButtonsModel", name := "first", desc := "(I)I" } : Jvm.MethodName) ({ cls := "OathButtonsModel", name := "first", desc := "(I)I" } : Jvm.MethodName)) ∈ lw_all := lw_g (lw_at lw_m9 60 rfl) rfl
theorem q2097 : (Jvm.Cond.code ({ cls := "OathButtonsModel", name := "first", desc := "(I)I" } : Jvm.MethodName) prog_24_method_90_code (6 : Nat) (Option.some Jvm.ClassFile.FieldType.int)) ∈ lw_all := lw_g (lw_at lw_m9 61 rfl) rfl
theorem q2098 : (Jvm.Cond.constant "OathButtonsModel" (560 : Nat) (1000000 : Int32)) ∈ lw_all := lw_g (lw_at lw_m9 62 rfl) rfl
theorem q2099 : (Jvm.Cond.methodLink "OathButtonsModel" (561 : Nat) ({ cls := "OathButtonsModel", name := "daysOf", desc := "(I)I" } : Jvm.MethodName)) ∈ lw_all := lw_g (lw_at lw_m9 63 rfl) rfl
theorem q2100 : (Jvm.Cond.privateMethod ({ cls := "OathButtonsModel", name := "daysOf", desc := "(I)I" } : Jvm.MethodName)) ∈ lw_tbl := lw_at lw_m9 64 rfl
theorem q2101 : (Jvm.Cond.instanceMethod ({ cls := "OathButtonsModel", name := "daysOf", desc := "(I)I" } : Jvm.MethodName)) ∈ lw_all := lw_g (lw_at lw_m9 65 rfl) rfl
theorem q2102 : (Jvm.Cond.code ({ cls := "OathButtonsModel", name := "daysOf", desc := "(I)I" } : Jvm.MethodName) prog_24_method_89_code (4 : Nat) (Option.some Jvm.ClassFile.FieldType.int)) ∈ lw_all := lw_g (lw_at lw_m9 66 rfl) rfl
theorem q2104 : (Jvm.Cond.instanceMethod ({ cls := "OathButtonsModel", name := "will", desc := "(II)I" } : Jvm.MethodName)) ∈ lw_all := lw_g (lw_at lw_m9 68 rfl) rfl
theorem q2105 : (Jvm.Cond.selects "OathButtonsModel" ({ cls := "OathButtonsModel", name := "will", desc := "(II)I" } : Jvm.MethodName) ({ cls := "OathButtonsModel", name := "will", desc := "(II)I" } : Jvm.MethodName)) ∈ lw_all := lw_g (lw_at lw_m9 69 rfl) rfl
theorem q2106 : (Jvm.Cond.code ({ cls := "OathButtonsModel", name := "will", desc := "(II)I" } : Jvm.MethodName) prog_24_method_91_code (4 : Nat) (Option.some Jvm.ClassFile.FieldType.int)) ∈ lw_all := lw_g (lw_at lw_m9 70 rfl) rfl
theorem q2108 : (Jvm.Cond.instanceMethod ({ cls := "OathButtonsModel", name := "truce", desc := "()I" } : Jvm.MethodName)) ∈ lw_all := lw_g (lw_at lw_m9 72 rfl) rfl
theorem q2109 : (Jvm.Cond.selects "OathButtonsModel" ({ cls := "OathButtonsModel", name := "truce", desc := "()I" } : Jvm.MethodName) ({ cls := "OathButtonsModel", name := "truce", desc := "()I" } : Jvm.MethodName)) ∈ lw_all := lw_g (lw_at lw_m9 73 rfl) rfl
theorem q2110 : (Jvm.Cond.code ({ cls := "OathButtonsModel", name := "truce", desc := "()I" } : Jvm.MethodName) prog_24_method_97_code (6 : Nat) (Option.some Jvm.ClassFile.FieldType.int)) ∈ lw_all := lw_g (lw_at lw_m9 74 rfl) rfl
theorem q2111 : (Jvm.Cond.methodLink "OathButtonsModel" (567 : Nat) ({ cls := "OathButtonsModel", name := "rowsOf", desc := "()I" } : Jvm.MethodName)) ∈ lw_all := lw_g (lw_at lw_m9 75 rfl) rfl
theorem q2112 : (Jvm.Cond.privateMethod ({ cls := "OathButtonsModel", name := "rowsOf", desc := "()I" } : Jvm.MethodName)) ∈ lw_tbl := lw_at lw_m9 76 rfl
theorem q2113 : (Jvm.Cond.instanceMethod ({ cls := "OathButtonsModel", name := "rowsOf", desc := "()I" } : Jvm.MethodName)) ∈ lw_all := lw_g (lw_at lw_m9 77 rfl) rfl
theorem q2114 : (Jvm.Cond.code ({ cls := "OathButtonsModel", name := "rowsOf", desc := "()I" } : Jvm.MethodName) prog_24_method_92_code (3 : Nat) (Option.some Jvm.ClassFile.FieldType.int)) ∈ lw_all := lw_g (lw_at lw_m9 78 rfl) rfl
theorem q2115 : (Jvm.Cond.methodLink "OathButtonsModel" (570 : Nat) ({ cls := "OathButtonsModel", name := "layTwos", desc := "(I)Z" } : Jvm.MethodName)) ∈ lw_all := lw_g (lw_at lw_m9 79 rfl) rfl
theorem q2116 : (Jvm.Cond.privateMethod ({ cls := "OathButtonsModel", name := "layTwos", desc := "(I)Z" } : Jvm.MethodName)) ∈ lw_tbl := lw_at lw_m9 80 rfl
theorem q2117 : (Jvm.Cond.instanceMethod ({ cls := "OathButtonsModel", name := "layTwos", desc := "(I)Z" } : Jvm.MethodName)) ∈ lw_all := lw_g (lw_at lw_m9 81 rfl) rfl
theorem q2118 : (Jvm.Cond.code ({ cls := "OathButtonsModel", name := "layTwos", desc := "(I)Z" } : Jvm.MethodName) prog_24_method_94_code (5 : Nat) (Option.some Jvm.ClassFile.FieldType.boolean)) ∈ lw_all := lw_g (lw_at lw_m9 82 rfl) rfl
theorem q2119 : (Jvm.Cond.methodLink "OathButtonsModel" (564 : Nat) ({ cls := "OathButtonsModel", name := "isTold", desc := "(II)Z" } : Jvm.MethodName)) ∈ lw_all := lw_g (lw_at lw_m9 83 rfl) rfl
theorem q2120 : (Jvm.Cond.privateMethod ({ cls := "OathButtonsModel", name := "isTold", desc := "(II)Z" } : Jvm.MethodName)) ∈ lw_tbl := lw_at lw_m9 84 rfl
theorem q2121 : (Jvm.Cond.instanceMethod ({ cls := "OathButtonsModel", name := "isTold", desc := "(II)Z" } : Jvm.MethodName)) ∈ lw_all := lw_g (lw_at lw_m9 85 rfl) rfl
theorem q2122 : (Jvm.Cond.code ({ cls := "OathButtonsModel", name := "isTold", desc := "(II)Z" } : Jvm.MethodName) prog_24_method_93_code (3 : Nat) (Option.some Jvm.ClassFile.FieldType.boolean)) ∈ lw_all := lw_g (lw_at lw_m9 86 rfl) rfl
theorem q2123 : (Jvm.Cond.methodLink "OathButtonsModel" (573 : Nat) ({ cls := "OathButtonsModel", name := "has", desc := "(I)I" } : Jvm.MethodName)) ∈ lw_all := lw_g (lw_at lw_m9 87 rfl) rfl
theorem q2124 : (Jvm.Cond.privateMethod ({ cls := "OathButtonsModel", name := "has", desc := "(I)I" } : Jvm.MethodName)) ∈ lw_tbl := lw_at lw_m9 88 rfl
theorem q2125 : (Jvm.Cond.instanceMethod ({ cls := "OathButtonsModel", name := "has", desc := "(I)I" } : Jvm.MethodName)) ∈ lw_all := lw_g (lw_at lw_m9 89 rfl) rfl
theorem q2126 : (Jvm.Cond.code ({ cls := "OathButtonsModel", name := "has", desc := "(I)I" } : Jvm.MethodName) prog_24_method_95_code (2 : Nat) (Option.some Jvm.ClassFile.FieldType.int)) ∈ lw_all := lw_g (lw_at lw_m9 90 rfl) rfl
theorem q2127 : (Jvm.Cond.methodLink "OathButtonsModel" (576 : Nat) ({ cls := "OathButtonsModel", name := "putTwos", desc := "()V" } : Jvm.MethodName)) ∈ lw_all := lw_g (lw_at lw_m9 91 rfl) rfl
theorem q2128 : (Jvm.Cond.privateMethod ({ cls := "OathButtonsModel", name := "putTwos", desc := "()V" } : Jvm.MethodName)) ∈ lw_tbl := lw_at lw_m9 92 rfl
theorem q2129 : (Jvm.Cond.instanceMethod ({ cls := "OathButtonsModel", name := "putTwos", desc := "()V" } : Jvm.MethodName)) ∈ lw_all := lw_g (lw_at lw_m9 93 rfl) rfl
theorem q2130 : (Jvm.Cond.code ({ cls := "OathButtonsModel", name := "putTwos", desc := "()V" } : Jvm.MethodName) prog_24_method_96_code (2 : Nat) (Option.none : Option Jvm.ClassFile.FieldType)) ∈ lw_all := lw_g (lw_at lw_m9 94 rfl) rfl
theorem q2132 : (Jvm.Cond.instanceMethod ({ cls := "OathButtonsModel", name := "calm", desc := "()I" } : Jvm.MethodName)) ∈ lw_all := lw_g (lw_at lw_m9 96 rfl) rfl
theorem q2133 : (Jvm.Cond.selects "OathButtonsModel" ({ cls := "OathButtonsModel", name := "calm", desc := "()I" } : Jvm.MethodName) ({ cls := "OathButtonsModel", name := "calm", desc := "()I" } : Jvm.MethodName)) ∈ lw_all := lw_g (lw_at lw_m9 97 rfl) rfl
theorem q2134 : (Jvm.Cond.code ({ cls := "OathButtonsModel", name := "calm", desc := "()I" } : Jvm.MethodName) prog_24_method_99_code (4 : Nat) (Option.some Jvm.ClassFile.FieldType.int)) ∈ lw_all := lw_g (lw_at lw_m9 98 rfl) rfl
theorem q2135 : (Jvm.Cond.methodLink "OathButtonsModel" (579 : Nat) ({ cls := "OathButtonsModel", name := "isCalm", desc := "()Z" } : Jvm.MethodName)) ∈ lw_all := lw_g (lw_at lw_m9 99 rfl) rfl
theorem q2136 : (Jvm.Cond.privateMethod ({ cls := "OathButtonsModel", name := "isCalm", desc := "()Z" } : Jvm.MethodName)) ∈ lw_tbl := lw_at lw_m9 100 rfl
theorem q2137 : (Jvm.Cond.instanceMethod ({ cls := "OathButtonsModel", name := "isCalm", desc := "()Z" } : Jvm.MethodName)) ∈ lw_all := lw_g (lw_at lw_m9 101 rfl) rfl
theorem q2138 : (Jvm.Cond.code ({ cls := "OathButtonsModel", name := "isCalm", desc := "()Z" } : Jvm.MethodName) prog_24_method_98_code (4 : Nat) (Option.some Jvm.ClassFile.FieldType.boolean)) ∈ lw_all := lw_g (lw_at lw_m9 102 rfl) rfl
theorem q2140 : (Jvm.Cond.instanceMethod ({ cls := "OathButtonsModel", name := "likes", desc := "(II)I" } : Jvm.MethodName)) ∈ lw_all := lw_g (lw_at lw_m9 104 rfl) rfl
theorem q2141 : (Jvm.Cond.selects "OathButtonsModel" ({ cls := "OathButtonsModel", name := "likes", desc := "(II)I" } : Jvm.MethodName) ({ cls := "OathButtonsModel", name := "likes", desc := "(II)I" } : Jvm.MethodName)) ∈ lw_all := lw_g (lw_at lw_m9 105 rfl) rfl
theorem q2142 : (Jvm.Cond.code ({ cls := "OathButtonsModel", name := "likes", desc := "(II)I" } : Jvm.MethodName) prog_24_method_100_code (3 : Nat) (Option.some Jvm.ClassFile.FieldType.int)) ∈ lw_all := lw_g (lw_at lw_m9 106 rfl) rfl
theorem q2144 : (Jvm.Cond.instanceMethod ({ cls := "OathButtonsModel", name := "lies", desc := "(I)I" } : Jvm.MethodName)) ∈ lw_all := lw_g (lw_at lw_m9 108 rfl) rfl
theorem q2145 : (Jvm.Cond.selects "OathButtonsModel" ({ cls := "OathButtonsModel", name := "lies", desc := "(I)I" } : Jvm.MethodName) ({ cls := "OathButtonsModel", name := "lies", desc := "(I)I" } : Jvm.MethodName)) ∈ lw_all := lw_g (lw_at lw_m9 109 rfl) rfl
theorem q2146 : (Jvm.Cond.code ({ cls := "OathButtonsModel", name := "lies", desc := "(I)I" } : Jvm.MethodName) prog_24_method_101_code (2 : Nat) (Option.some Jvm.ClassFile.FieldType.int)) ∈ lw_all := lw_g (lw_at lw_m9 110 rfl) rfl
theorem q2148 : (Jvm.Cond.instanceMethod ({ cls := "OathButtonsModel", name := "tug", desc := "(IIZ)I" } : Jvm.MethodName)) ∈ lw_all := lw_g (lw_at lw_m9 112 rfl) rfl
theorem q2149 : (Jvm.Cond.selects "OathButtonsModel" ({ cls := "OathButtonsModel", name := "tug", desc := "(IIZ)I" } : Jvm.MethodName) ({ cls := "OathButtonsModel", name := "tug", desc := "(IIZ)I" } : Jvm.MethodName)) ∈ lw_all := lw_g (lw_at lw_m9 113 rfl) rfl
theorem q2150 : (Jvm.Cond.code ({ cls := "OathButtonsModel", name := "tug", desc := "(IIZ)I" } : Jvm.MethodName) prog_24_method_102_code (4 : Nat) (Option.some Jvm.ClassFile.FieldType.int)) ∈ lw_all := lw_g (lw_at lw_m9 114 rfl) rfl
theorem q2152 : (Jvm.Cond.instanceMethod ({ cls := "OathButtonsModel", name := "untell", desc := "(I)Z" } : Jvm.MethodName)) ∈ lw_all := lw_g (lw_at lw_m9 116 rfl) rfl
theorem q2153 : (Jvm.Cond.selects "OathButtonsModel" ({ cls := "OathButtonsModel", name := "untell", desc := "(I)Z" } : Jvm.MethodName) ({ cls := "OathButtonsModel", name := "untell", desc := "(I)Z" } : Jvm.MethodName)) ∈ lw_all := lw_g (lw_at lw_m9 117 rfl) rfl
theorem q2154 : (Jvm.Cond.code ({ cls := "OathButtonsModel", name := "untell", desc := "(I)Z" } : Jvm.MethodName) prog_24_method_103_code (2 : Nat) (Option.some Jvm.ClassFile.FieldType.boolean)) ∈ lw_all := lw_g (lw_at lw_m9 118 rfl) rfl
theorem q2156 : (Jvm.Cond.instanceMethod ({ cls := "OathButtonsModel", name := "late\x72", desc := "(I)I" } : Jvm.MethodName)) ∈ lw_all := lw_g (lw_at lw_m9 120 rfl) rfl
theorem q2157 : (Jvm.Cond.selects "OathButtonsModel" ({ cls := "OathButtonsModel", name := "late\x72", desc := "(I)I" } : Jvm.MethodName) ({ cls := "OathButtonsModel", name := "late\x72", desc := "(I)I" } : Jvm.MethodName)) ∈ lw_all := lw_g (lw_at lw_m9 121 rfl) rfl
theorem q2158 : (Jvm.Cond.code ({ cls := "OathButtonsModel", name := "late\x72", desc := "(I)I" } : Jvm.MethodName) prog_24_method_104_code (2 : Nat) (Option.some Jvm.ClassFile.FieldType.int)) ∈ lw_all := lw_g (lw_at lw_m9 122 rfl) rfl
theorem q2159 : (Jvm.Cond.constant "OathButtonsModel" (585 : Nat) (100000 : Int32)) ∈ lw_all := lw_g (lw_at lw_m9 123 rfl) rfl
theorem q2161 : (Jvm.Cond.instanceMethod ({ cls := "OathButtonsModel", name := "swore", desc := "(I)I" } : Jvm.MethodName)) ∈ lw_all := lw_g (lw_at lw_m9 125 rfl) rfl
theorem q2162 : (Jvm.Cond.selects "OathButtonsModel" ({ cls := "OathButtonsModel", name := "swore", desc := "(I)I" } : Jvm.MethodName) ({ cls := "OathButtonsModel", name := "swore", desc := "(I)I" } : Jvm.MethodName)) ∈ lw_all := lw_g (lw_at lw_m9 126 rfl) rfl
theorem q2163 : (Jvm.Cond.code ({ cls := "OathButtonsModel", name := "swore", desc := "(I)I" } : Jvm.MethodName) prog_24_method_107_code (4 : Nat) (Option.some Jvm.ClassFile.FieldType.int)) ∈ lw_all := lw_g (lw_at lw_m9 127 rfl) rfl
theorem q2164 : (Jvm.Cond.methodLink "OathButtonsModel" (589 : Nat) ({ cls := "OathButtonsModel", name := "swears", desc := "(II)Z" } : Jvm.MethodName)) ∈ lw_all := lw_g (lw_at lw_m9 128 rfl) rfl
theorem q2165 : (Jvm.Cond.privateMethod ({ cls := "OathButtonsModel", name := "swears", desc := "(II)Z" } : Jvm.MethodName)) ∈ lw_tbl := lw_at lw_m9 129 rfl
theorem q2166 : (Jvm.Cond.instanceMethod ({ cls := "OathButtonsModel", name := "swears", desc := "(II)Z" } : Jvm.MethodName)) ∈ lw_all := lw_g (lw_at lw_m9 130 rfl) rfl
theorem q2167 : (Jvm.Cond.code ({ cls := "OathButtonsModel", name := "swears", desc := "(II)Z" } : Jvm.MethodName) prog_24_method_106_code (5 : Nat) (Option.some Jvm.ClassFile.FieldType.boolean)) ∈ lw_all := lw_g (lw_at lw_m9 131 rfl) rfl
theorem q2168 : (Jvm.Cond.methodLink "OathButtonsModel" (586 : Nat) ({ cls := "OathButtonsModel", name := "markOf", desc := "(II)I" } : Jvm.MethodName)) ∈ lw_all := lw_g (lw_at lw_m9 132 rfl) rfl
theorem q2169 : (Jvm.Cond.privateMethod ({ cls := "OathButtonsModel", name := "markOf", desc := "(II)I" } : Jvm.MethodName)) ∈ lw_tbl := lw_at lw_m9 133 rfl
theorem q2170 : (Jvm.Cond.instanceMethod ({ cls := "OathButtonsModel", name := "markOf", desc := "(II)I" } : Jvm.MethodName)) ∈ lw_all := lw_g (lw_at lw_m9 134 rfl) rfl
theorem q2171 : (Jvm.Cond.code ({ cls := "OathButtonsModel", name := "markOf", desc := "(II)I" } : Jvm.MethodName) prog_24_method_105_code (3 : Nat) (Option.some Jvm.ClassFile.FieldType.int)) ∈ lw_all := lw_g (lw_at lw_m9 135 rfl) rfl
theorem q2173 : (Jvm.Cond.instanceMethod ({ cls := "OathButtonsModel", name := "ask", desc := "(II)I" } : Jvm.MethodName)) ∈ lw_all := lw_g (lw_at lw_m9 137 rfl) rfl
theorem q2174 : (Jvm.Cond.selects "OathButtonsModel" ({ cls := "OathButtonsModel", name := "ask", desc := "(II)I" } : Jvm.MethodName) ({ cls := "OathButtonsModel", name := "ask", desc := "(II)I" } : Jvm.MethodName)) ∈ lw_all := lw_g (lw_at lw_m9 138 rfl) rfl
theorem q2175 : (Jvm.Cond.code ({ cls := "OathButtonsModel", name := "ask", desc := "(II)I" } : Jvm.MethodName) prog_24_method_109_code (6 : Nat) (Option.some Jvm.ClassFile.FieldType.int)) ∈ lw_all := lw_g (lw_at lw_m9 139 rfl) rfl
theorem q2176 : (Jvm.Cond.methodLink "OathButtonsModel" (592 : Nat) ({ cls := "OathButtonsModel", name := "swore", desc := "(I)I" } : Jvm.MethodName)) ∈ lw_all := lw_g (lw_at lw_m9 140 rfl) rfl
theorem q2177 : (Jvm.Cond.methodLink "OathButtonsModel" (595 : Nat) ({ cls := "OathButtonsModel", name := "mostLeft", desc := "(II)I" } : Jvm.MethodName)) ∈ lw_all := lw_g (lw_at lw_m9 141 rfl) rfl
theorem q2178 : (Jvm.Cond.privateMethod ({ cls := "OathButtonsModel", name := "mostLeft", desc := "(II)I" } : Jvm.MethodName)) ∈ lw_tbl := lw_at lw_m9 142 rfl
theorem q2179 : (Jvm.Cond.instanceMethod ({ cls := "OathButtonsModel", name := "mostLeft", desc := "(II)I" } : Jvm.MethodName)) ∈ lw_all := lw_g (lw_at lw_m9 143 rfl) rfl
theorem q2180 : (Jvm.Cond.code ({ cls := "OathButtonsModel", name := "mostLeft", desc := "(II)I" } : Jvm.MethodName) prog_24_method_108_code (7 : Nat) (Option.some Jvm.ClassFile.FieldType.int)) ∈ lw_all := lw_g (lw_at lw_m9 144 rfl) rfl
theorem q2182 : (Jvm.Cond.instanceMethod ({ cls := "OathButtonsModel", name := "image", desc := "(I)I" } : Jvm.MethodName)) ∈ lw_all := lw_g (lw_at lw_m9 146 rfl) rfl
theorem q2183 : (Jvm.Cond.selects "OathButtonsModel" ({ cls := "OathButtonsModel", name := "image", desc := "(I)I" } : Jvm.MethodName) ({ cls := "OathButtonsModel", name := "image", desc := "(I)I" } : Jvm.MethodName)) ∈ lw_all := lw_g (lw_at lw_m9 147 rfl) rfl
theorem q2184 : (Jvm.Cond.code ({ cls := "OathButtonsModel", name := "image", desc := "(I)I" } : Jvm.MethodName) prog_24_method_111_code (3 : Nat) (Option.some Jvm.ClassFile.FieldType.int)) ∈ lw_all := lw_g (lw_at lw_m9 148 rfl) rfl
theorem q2185 : (Jvm.Cond.methodLink "OathButtonsModel" (598 : Nat) ({ cls := "OathButtonsModel", name := "isBox", desc := "(I)Z" } : Jvm.MethodName)) ∈ lw_all := lw_g (lw_at lw_m9 149 rfl) rfl
theorem q2186 : (Jvm.Cond.static ({ cls := "OathButtonsModel", name := "isBox", desc := "(I)Z" } : Jvm.MethodName)) ∈ lw_all := lw_g (lw_at lw_m9 150 rfl) rfl
theorem q2187 : (Jvm.Cond.code ({ cls := "OathButtonsModel", name := "isBox", desc := "(I)Z" } : Jvm.MethodName) prog_24_method_110_code (1 : Nat) (Option.some Jvm.ClassFile.FieldType.boolean)) ∈ lw_all := lw_g (lw_at lw_m9 151 rfl) rfl
theorem q2189 : (Jvm.Cond.instanceMethod ({ cls := "OathButtonsModel", name := "back", desc := "(I)I" } : Jvm.MethodName)) ∈ lw_all := lw_g (lw_at lw_m9 153 rfl) rfl
theorem q2190 : (Jvm.Cond.selects "OathButtonsModel" ({ cls := "OathButtonsModel", name := "back", desc := "(I)I" } : Jvm.MethodName) ({ cls := "OathButtonsModel", name := "back", desc := "(I)I" } : Jvm.MethodName)) ∈ lw_all := lw_g (lw_at lw_m9 154 rfl) rfl
theorem q2191 : (Jvm.Cond.code ({ cls := "OathButtonsModel", name := "back", desc := "(I)I" } : Jvm.MethodName) prog_24_method_112_code (3 : Nat) (Option.some Jvm.ClassFile.FieldType.int)) ∈ lw_all := lw_g (lw_at lw_m9 155 rfl) rfl
theorem q2193 : (Jvm.Cond.instanceMethod ({ cls := "OathButtonsModel", name := "about", desc := "(I)I" } : Jvm.MethodName)) ∈ lw_all := lw_g (lw_at lw_m9 157 rfl) rfl
theorem q2194 : (Jvm.Cond.selects "OathButtonsModel" ({ cls := "OathButtonsModel", name := "about", desc := "(I)I" } : Jvm.MethodName) ({ cls := "OathButtonsModel", name := "about", desc := "(I)I" } : Jvm.MethodName)) ∈ lw_all := lw_g (lw_at lw_m9 158 rfl) rfl
theorem q2195 : (Jvm.Cond.code ({ cls := "OathButtonsModel", name := "about", desc := "(I)I" } : Jvm.MethodName) prog_24_method_113_code (2 : Nat) (Option.some Jvm.ClassFile.FieldType.int)) ∈ lw_all := lw_g (lw_at lw_m9 159 rfl) rfl
theorem q2214 : (Jvm.Cond.castable "OathButtonsModel" "java/lang/Object") ∈ lw_tbl := lw_at lw_m9 178 rfl
theorem in_X9 : ∀ w ∈ wsX90, w ∈ lw_all := lw_in wsX90 [1535, 1537, 1539, 1541, 1543, 1545, 1547, 1549, 1551, 1553, 1555, 1557, 1559, 1561, 1563, 1565, 1567, 1569, 1571, 1573, 1575, 1577, 1579, 1581, 1583, 1585, 1587, 1589, 1591, 1593, 1595, 1597, 1599, 1601, 1603, 1605, 1607, 1609, 1611, 1613, 1615, 1617, 1619, 1621, 1623, 1625, 1627, 1629, 1631, 1633, 1635, 1637, 1639, 1641, 1643, 1645, 1647, 1649, 1651, 1653, 1655, 1657, 1659, 1661, 1663, 1665, 1667, 1669, 1671, 1673, 1675, 1677, 1679, 1681, 1683, 1685, 1687, 1689, 1691, 1693, 1695, 1697, 1699, 1701, 1703, 1705, 1707, 1709, 1711, 1713, 1715, 1717, 1719, 1721, 1723, 1725, 1727] (by decide +kernel) (by decide +kernel)
