/-! OperaHouseModel -/
set_option maxRecDepth 100000
def RX4 : String := "OperaHouseModel"
def TX4 : u_T := fun k => match k with
  | 0 => ("OperaHouseModel", "thrown", "I", false)
  | 1 => ("OperaHouseModel", "tape", "[B", true)
  | 2 => ("OperaHouseModel", "length", "I", false)
  | 3 => ("OperaHouseModel", "size", "I", false)
  | 4 => ("OperaHouseModel", "p", "I", false)
  | 5 => ("OperaHouseModel", "today", "I", false)
  | 6 => ("OperaHouseModel", "tellings", "I", false)
  | 7 => ("OperaHouseModel", "hoursOf", "[I", true)
  | 8 => ("OperaHouseModel", "setOf", "[I", true)
  | 9 => ("OperaHouseModel", "need", "[I", true)
  | 10 => ("OperaHouseModel", "seats", "[I", true)
  | 11 => ("OperaHouseModel", "rolesOf", "[I", true)
  | 12 => ("OperaHouseModel", "voice", "[I", true)
  | 13 => ("OperaHouseModel", "strain", "[I", true)
  | 14 => ("OperaHouseModel", "tongue", "[I", true)
  | 15 => ("OperaHouseModel", "roleSize", "[I", true)
  | 16 => ("OperaHouseModel", "hasChorus", "[Z", true)
  | 17 => ("OperaHouseModel", "voices", "[I", true)
  | 18 => ("OperaHouseModel", "tongues", "[I", true)
  | 19 => ("OperaHouseModel", "sizeOf", "[I", true)
  | 20 => ("OperaHouseModel", "half", "[I", true)
  | 21 => ("OperaHouseModel", "operas", "I", false)
  | 22 => ("OperaHouseModel", "singers", "I", false)
  | 23 => ("OperaHouseModel", "daily", "I", false)
  | 24 => ("OperaHouseModel", "weekly", "I", false)
  | 25 => ("OperaHouseModel", "law", "[I", true)
  | 26 => ("OperaHouseModel", "leaves", "[I", true)
  | 27 => ("OperaHouseModel", "leaveFrom", "[I", true)
  | 28 => ("OperaHouseModel", "leaveTo", "[I", true)
  | 29 => ("OperaHouseModel", "fees", "[I", true)
  | 30 => ("OperaHouseModel", "feeOf", "[I", true)
  | 31 => ("OperaHouseModel", "feeFrom", "[I", true)
  | 32 => ("OperaHouseModel", "feeTo", "[I", true)
  | 33 => ("OperaHouseModel", "step", "[I", true)
  | 34 => ("OperaHouseModel", "stepSign", "[I", true)
  | 35 => ("OperaHouseModel", "stepNumber", "[I", true)
  | 36 => ("OperaHouseModel", "pile", "[I", true)
  | 37 => ("OperaHouseModel", "stepMany", "I", false)
  | 38 => ("OperaHouseModel", "pileMany", "I", false)
  | 39 => ("OperaHouseModel", "ones", "I", false)
  | 40 => ("OperaHouseModel", "token", "I", false)
  | 41 => ("OperaHouseModel", "at", "I", false)
  | 42 => ("OperaHouseModel", "span", "I", false)
  | 43 => ("OperaHouseModel", "number", "I", false)
  | 44 => ("OperaHouseModel", "fault", "I", false)
  | 45 => ("OperaHouseModel", "faultAt", "I", false)
  | 46 => ("OperaHouseModel", "told", "I", false)
  | 47 => ("OperaHouseModel", "word", "J", false)
  | 48 => ("OperaHouseModel", "learnWho", "[I", true)
  | 49 => ("OperaHouseModel", "learnRole", "[I", true)
  | 50 => ("OperaHouseModel", "learnHours", "[I", true)
  | 51 => ("OperaHouseModel", "learnDay", "[I", true)
  | 52 => ("OperaHouseModel", "illWho", "[I", true)
  | 53 => ("OperaHouseModel", "illFrom", "[I", true)
  | 54 => ("OperaHouseModel", "illTo", "[I", true)
  | 55 => ("OperaHouseModel", "illDay", "[I", true)
  | 56 => ("OperaHouseModel", "castCall", "[I", true)
  | 57 => ("OperaHouseModel", "castRole", "[I", true)
  | 58 => ("OperaHouseModel", "castWho", "[I", true)
  | 59 => ("OperaHouseModel", "castDay", "[I", true)
  | 60 => ("OperaHouseModel", "callDay", "[I", true)
  | 61 => ("OperaHouseModel", "begin", "[I", true)
  | 62 => ("OperaHouseModel", "finish", "[I", true)
  | 63 => ("OperaHouseModel", "kind", "[I", true)
  | 64 => ("OperaHouseModel", "operaOf", "[I", true)
  | 65 => ("OperaHouseModel", "halves", "[I", true)
  | 66 => ("OperaHouseModel", "castCover", "[Z", true)
  | 67 => ("OperaHouseModel", "learns", "I", false)
  | 68 => ("OperaHouseModel", "ills", "I", false)
  | 69 => ("OperaHouseModel", "casts", "I", false)
  | 70 => ("OperaHouseModel", "calls", "I", false)
  | 71 => ("OperaHouseModel", "all", "I", false)
  | 72 => ("OperaHouseModel", "cast", "[I", true)
  | 73 => ("OperaHouseModel", "cover", "[I", true)
  | 74 => ("OperaHouseModel", "before", "[I", true)
  | 75 => ("OperaHouseModel", "order", "[I", true)
  | 76 => ("OperaHouseModel", "rank", "[I", true)
  | 77 => ("OperaHouseModel", "roster", "[I", true)
  | 78 => ("OperaHouseModel", "asOf", "I", false)
  | 79 => ("OperaHouseModel", "holds", "[Z", true)
  | 80 => ("OperaHouseModel", "may", "[Z", true)
  | 81 => ("OperaHouseModel", "was", "[Z", true)
  | 82 => ("OperaHouseModel", "busy", "[Z", true)
  | 83 => ("OperaHouseModel", "badSet", "[Z", true)
  | 84 => ("OperaHouseModel", "wrongKind", "[I", true)
  | 85 => ("OperaHouseModel", "wrongCall", "[I", true)
  | 86 => ("OperaHouseModel", "wrongRole", "[I", true)
  | 87 => ("OperaHouseModel", "mark", "[Z", true)
  | 88 => ("OperaHouseModel", "wrongs", "I", false)
  | 89 => ("OperaHouseModel", "toldWrongs", "I", false)
  | 90 => ("OperaHouseModel", "toldKind", "[I", true)
  | 91 => ("OperaHouseModel", "toldCall", "[I", true)
  | 92 => ("OperaHouseModel", "toldRole", "[I", true)
  | 93 => ("OperaHouseModel", "wish", "[I", true)
  | 94 => ("OperaHouseModel", "dayOf", "[I", true)
  | 95 => ("OperaHouseModel", "laid", "[I", true)
  | 96 => ("OperaHouseModel", "laidWish", "[I", true)
  | 97 => ("OperaHouseModel", "wishes", "I", false)
  | 98 => ("OperaHouseModel", "laidMany", "I", false)
  | 99 => ("OperaHouseModel", "laidHour", "I", false)
  | _ => ("OperaHouseModel", "laidTelling", "I", false)
def tyX4 : Nat → FieldType := fun k => match k with
  | 0 => .int
  | 1 => .array .byte
  | 2 => .int
  | 3 => .int
  | 4 => .int
  | 5 => .int
  | 6 => .int
  | 7 => .array .int
  | 8 => .array .int
  | 9 => .array .int
  | 10 => .array .int
  | 11 => .array .int
  | 12 => .array .int
  | 13 => .array .int
  | 14 => .array .int
  | 15 => .array .int
  | 16 => .array .boolean
  | 17 => .array .int
  | 18 => .array .int
  | 19 => .array .int
  | 20 => .array .int
  | 21 => .int
  | 22 => .int
  | 23 => .int
  | 24 => .int
  | 25 => .array .int
  | 26 => .array .int
  | 27 => .array .int
  | 28 => .array .int
  | 29 => .array .int
  | 30 => .array .int
  | 31 => .array .int
  | 32 => .array .int
  | 33 => .array .int
  | 34 => .array .int
  | 35 => .array .int
  | 36 => .array .int
  | 37 => .int
  | 38 => .int
  | 39 => .int
  | 40 => .int
  | 41 => .int
  | 42 => .int
  | 43 => .int
  | 44 => .int
  | 45 => .int
  | 46 => .int
  | 47 => .long
  | 48 => .array .int
  | 49 => .array .int
  | 50 => .array .int
  | 51 => .array .int
  | 52 => .array .int
  | 53 => .array .int
  | 54 => .array .int
  | 55 => .array .int
  | 56 => .array .int
  | 57 => .array .int
  | 58 => .array .int
  | 59 => .array .int
  | 60 => .array .int
  | 61 => .array .int
  | 62 => .array .int
  | 63 => .array .int
  | 64 => .array .int
  | 65 => .array .int
  | 66 => .array .boolean
  | 67 => .int
  | 68 => .int
  | 69 => .int
  | 70 => .int
  | 71 => .int
  | 72 => .array .int
  | 73 => .array .int
  | 74 => .array .int
  | 75 => .array .int
  | 76 => .array .int
  | 77 => .array .int
  | 78 => .int
  | 79 => .array .boolean
  | 80 => .array .boolean
  | 81 => .array .boolean
  | 82 => .array .boolean
  | 83 => .array .boolean
  | 84 => .array .int
  | 85 => .array .int
  | 86 => .array .int
  | 87 => .array .boolean
  | 88 => .int
  | 89 => .int
  | 90 => .array .int
  | 91 => .array .int
  | 92 => .array .int
  | 93 => .array .int
  | 94 => .array .int
  | 95 => .array .int
  | 96 => .array .int
  | 97 => .int
  | 98 => .int
  | 99 => .int
  | _ => .int
abbrev wsX40 : List Cond := u_ws RX4 TX4 101
set_option maxRecDepth 100000 in
theorem nmX4 : ∀ a, a < 101 → ∀ b, b < 101 → a ≠ b → (TX4 a).2.1 ≠ (TX4 b).2.1 := by decide +kernel
set_option maxRecDepth 100000 in
theorem tyX4_ok : ∀ k, k < 101 → parseFieldDescriptor (TX4 k).2.2.1 = some (tyX4 k) := by decide +kernel
abbrev cX4_init : ByteArray := prog_18_method_1_code
def yX4_init : MethodName := ⟨RX4, "<init>", "()V"⟩
def dkwX4_init_25 : List UInt8 := [188, 10, 181, 0, 220, 42, 2, 181, 0, 223, 177]
abbrev dktX4_init_25 : List UInt8 := dkwX4_init_25 ++ []
def dkwX4_init_24 : List UInt8 := [188, 10, 181, 0, 211, 42, 16, 6, 188, 10, 181, 0, 214, 42, 16, 6, 188, 10, 181, 0, 217, 42, 16, 6]
abbrev dktX4_init_24 : List UInt8 := dkwX4_init_24 ++ dktX4_init_25
def dkwX4_init_23 : List UInt8 := [181, 0, 202, 42, 17, 20, 80, 188, 10, 181, 0, 205, 42, 17, 20, 80, 188, 10, 181, 0, 208, 42, 16, 6]
abbrev dktX4_init_23 : List UInt8 := dkwX4_init_23 ++ dktX4_init_24
def dkwX4_init_22 : List UInt8 := [17, 20, 80, 188, 10, 181, 0, 196, 42, 17, 37, 32, 188, 4, 181, 0, 199, 42, 17, 20, 80, 188, 10]
abbrev dktX4_init_22 : List UInt8 := dkwX4_init_22 ++ dktX4_init_23
def dkwX4_init_21 : List UInt8 := [188, 4, 181, 0, 187, 42, 17, 20, 80, 188, 10, 181, 0, 190, 42, 17, 20, 80, 188, 10, 181, 0, 193, 42]
abbrev dktX4_init_21 : List UInt8 := dkwX4_init_21 ++ dktX4_init_22
def dkwX4_init_20 : List UInt8 := [181, 0, 178, 42, 17, 2, 113, 188, 4, 181, 0, 181, 42, 17, 2, 209, 188, 4, 181, 0, 184, 42, 16, 66]
abbrev dktX4_init_20 : List UInt8 := dkwX4_init_20 ++ dktX4_init_21
def dkwX4_init_19 : List UInt8 := [42, 16, 66, 188, 10, 181, 0, 172, 42, 16, 64, 188, 4, 181, 0, 175, 42, 17, 2, 113, 188, 4]
abbrev dktX4_init_19 : List UInt8 := dkwX4_init_19 ++ dktX4_init_20
def dkwX4_init_18 : List UInt8 := [17, 2, 16, 188, 10, 181, 0, 163, 42, 16, 66, 188, 10, 181, 0, 166, 42, 16, 66, 188, 10, 181, 0, 169]
abbrev dktX4_init_18 : List UInt8 := dkwX4_init_18 ++ dktX4_init_19
def dkwX4_init_17 : List UInt8 := [188, 4, 181, 0, 154, 42, 17, 2, 16, 188, 10, 181, 0, 157, 42, 17, 2, 16, 188, 10, 181, 0, 160, 42]
abbrev dktX4_init_17 : List UInt8 := dkwX4_init_17 ++ dktX4_init_18
def dkwX4_init_16 : List UInt8 := [181, 0, 145, 42, 16, 66, 188, 10, 181, 0, 148, 42, 16, 66, 188, 10, 181, 0, 151, 42, 17, 1, 144]
abbrev dktX4_init_16 : List UInt8 := dkwX4_init_16 ++ dktX4_init_17
def dkwX4_init_15 : List UInt8 := [181, 0, 136, 42, 16, 66, 188, 10, 181, 0, 139, 42, 16, 66, 188, 10, 181, 0, 142, 42, 16, 66, 188, 10]
abbrev dktX4_init_15 : List UInt8 := dkwX4_init_15 ++ dktX4_init_16
def dkwX4_init_14 : List UInt8 := [17, 1, 144, 188, 10, 181, 0, 130, 42, 17, 1, 144, 188, 10, 181, 0, 133, 42, 16, 66, 188, 10]
abbrev dktX4_init_14 : List UInt8 := dkwX4_init_14 ++ dktX4_init_15
def dkwX4_init_13 : List UInt8 := [181, 0, 121, 42, 17, 1, 144, 188, 10, 181, 0, 124, 42, 17, 1, 144, 188, 10, 181, 0, 127, 42]
abbrev dktX4_init_13 : List UInt8 := dkwX4_init_13 ++ dktX4_init_14
def dkwX4_init_12 : List UInt8 := [181, 0, 112, 42, 16, 60, 188, 10, 181, 0, 115, 42, 16, 60, 188, 10, 181, 0, 118, 42, 16, 60, 188, 10]
abbrev dktX4_init_12 : List UInt8 := dkwX4_init_12 ++ dktX4_init_13
def dkwX4_init_11 : List UInt8 := [17, 0, 200, 188, 10, 181, 0, 106, 42, 17, 0, 200, 188, 10, 181, 0, 109, 42, 16, 60, 188, 10]
abbrev dktX4_init_11 : List UInt8 := dkwX4_init_11 ++ dktX4_init_12
def dkwX4_init_10 : List UInt8 := [181, 0, 97, 42, 17, 0, 200, 188, 10, 181, 0, 100, 42, 17, 0, 200, 188, 10, 181, 0, 103, 42]
abbrev dktX4_init_10 : List UInt8 := dkwX4_init_10 ++ dktX4_init_11
def dkwX4_init_9 : List UInt8 := [17, 8, 52, 188, 10, 181, 0, 91, 42, 17, 8, 52, 188, 10, 181, 0, 94, 42, 16, 64, 188, 10]
abbrev dktX4_init_9 : List UInt8 := dkwX4_init_9 ++ dktX4_init_10
def dkwX4_init_8 : List UInt8 := [188, 10, 181, 0, 82, 42, 17, 0, 168, 188, 10, 181, 0, 85, 42, 17, 8, 52, 188, 10, 181, 0, 88, 42]
abbrev dktX4_init_8 : List UInt8 := dkwX4_init_8 ++ dktX4_init_9
def dkwX4_init_7 : List UInt8 := [181, 0, 73, 42, 16, 21, 188, 10, 181, 0, 76, 42, 17, 0, 168, 188, 10, 181, 0, 79, 42, 17, 0, 168]
abbrev dktX4_init_7 : List UInt8 := dkwX4_init_7 ++ dktX4_init_8
def dkwX4_init_6 : List UInt8 := [181, 0, 64, 42, 16, 21, 188, 10, 181, 0, 67, 42, 16, 126, 188, 10, 181, 0, 70, 42, 16, 126, 188, 10]
abbrev dktX4_init_6 : List UInt8 := dkwX4_init_6 ++ dktX4_init_7
def dkwX4_init_5 : List UInt8 := [188, 10, 181, 0, 54, 42, 16, 24, 181, 0, 57, 42, 17, 0, 168, 181, 0, 61, 42, 16, 84, 188, 10]
abbrev dktX4_init_5 : List UInt8 := dkwX4_init_5 ++ dktX4_init_6
def dkwX4_init_4 : List UInt8 := [188, 10, 181, 0, 45, 42, 16, 20, 188, 10, 181, 0, 48, 42, 16, 20, 188, 10, 181, 0, 51, 42, 16, 8]
abbrev dktX4_init_4 : List UInt8 := dkwX4_init_4 ++ dktX4_init_5
def dkwX4_init_3 : List UInt8 := [188, 10, 181, 0, 35, 42, 16, 72, 188, 10, 181, 0, 38, 42, 16, 9, 188, 4, 181, 0, 41, 42, 16, 20]
abbrev dktX4_init_3 : List UInt8 := dkwX4_init_3 ++ dktX4_init_4
def dkwX4_init_2 : List UInt8 := [188, 10, 181, 0, 26, 42, 16, 72, 188, 10, 181, 0, 29, 42, 16, 72, 188, 10, 181, 0, 32, 42, 16, 72]
abbrev dktX4_init_2 : List UInt8 := dkwX4_init_2 ++ dktX4_init_3
def dkwX4_init_1 : List UInt8 := [188, 10, 181, 0, 17, 42, 16, 9, 188, 10, 181, 0, 20, 42, 16, 36, 188, 10, 181, 0, 23, 42, 16, 9]
abbrev dktX4_init_1 : List UInt8 := dkwX4_init_1 ++ dktX4_init_2
def dkwX4_init_0 : List UInt8 := [42, 183, 0, 1, 42, 17, 1, 84, 188, 8, 181, 0, 7, 42, 16, 9, 188, 10, 181, 0, 13, 42, 16, 9]
abbrev dktX4_init_0 : List UInt8 := dkwX4_init_0 ++ dktX4_init_1
theorem dksX4_init_0 : cX4_init.data.toList.drop 0 = dktX4_init_0 := by decide +kernel
theorem dksX4_init_1 : cX4_init.data.toList.drop 24 = dktX4_init_1 := dk_seg dksX4_init_0 24 rfl rfl
theorem dksX4_init_2 : cX4_init.data.toList.drop 48 = dktX4_init_2 := dk_seg dksX4_init_1 24 rfl rfl
theorem dksX4_init_3 : cX4_init.data.toList.drop 72 = dktX4_init_3 := dk_seg dksX4_init_2 24 rfl rfl
theorem dksX4_init_4 : cX4_init.data.toList.drop 96 = dktX4_init_4 := dk_seg dksX4_init_3 24 rfl rfl
theorem dksX4_init_5 : cX4_init.data.toList.drop 120 = dktX4_init_5 := dk_seg dksX4_init_4 24 rfl rfl
theorem dksX4_init_6 : cX4_init.data.toList.drop 143 = dktX4_init_6 := dk_seg dksX4_init_5 23 rfl rfl
theorem dksX4_init_7 : cX4_init.data.toList.drop 167 = dktX4_init_7 := dk_seg dksX4_init_6 24 rfl rfl
theorem dksX4_init_8 : cX4_init.data.toList.drop 191 = dktX4_init_8 := dk_seg dksX4_init_7 24 rfl rfl
theorem dksX4_init_9 : cX4_init.data.toList.drop 215 = dktX4_init_9 := dk_seg dksX4_init_8 24 rfl rfl
theorem dksX4_init_10 : cX4_init.data.toList.drop 237 = dktX4_init_10 := dk_seg dksX4_init_9 22 rfl rfl
theorem dksX4_init_11 : cX4_init.data.toList.drop 259 = dktX4_init_11 := dk_seg dksX4_init_10 22 rfl rfl
theorem dksX4_init_12 : cX4_init.data.toList.drop 281 = dktX4_init_12 := dk_seg dksX4_init_11 22 rfl rfl
theorem dksX4_init_13 : cX4_init.data.toList.drop 305 = dktX4_init_13 := dk_seg dksX4_init_12 24 rfl rfl
theorem dksX4_init_14 : cX4_init.data.toList.drop 327 = dktX4_init_14 := dk_seg dksX4_init_13 22 rfl rfl
theorem dksX4_init_15 : cX4_init.data.toList.drop 349 = dktX4_init_15 := dk_seg dksX4_init_14 22 rfl rfl
theorem dksX4_init_16 : cX4_init.data.toList.drop 373 = dktX4_init_16 := dk_seg dksX4_init_15 24 rfl rfl
theorem dksX4_init_17 : cX4_init.data.toList.drop 396 = dktX4_init_17 := dk_seg dksX4_init_16 23 rfl rfl
theorem dksX4_init_18 : cX4_init.data.toList.drop 420 = dktX4_init_18 := dk_seg dksX4_init_17 24 rfl rfl
theorem dksX4_init_19 : cX4_init.data.toList.drop 444 = dktX4_init_19 := dk_seg dksX4_init_18 24 rfl rfl
theorem dksX4_init_20 : cX4_init.data.toList.drop 466 = dktX4_init_20 := dk_seg dksX4_init_19 22 rfl rfl
theorem dksX4_init_21 : cX4_init.data.toList.drop 490 = dktX4_init_21 := dk_seg dksX4_init_20 24 rfl rfl
theorem dksX4_init_22 : cX4_init.data.toList.drop 514 = dktX4_init_22 := dk_seg dksX4_init_21 24 rfl rfl
theorem dksX4_init_23 : cX4_init.data.toList.drop 537 = dktX4_init_23 := dk_seg dksX4_init_22 23 rfl rfl
theorem dksX4_init_24 : cX4_init.data.toList.drop 561 = dktX4_init_24 := dk_seg dksX4_init_23 24 rfl rfl
theorem dksX4_init_25 : cX4_init.data.toList.drop 585 = dktX4_init_25 := dk_seg dksX4_init_24 24 rfl rfl
theorem dX4_init_0 : decode cX4_init 0 = .ok (.aload_n 0, 1) := dk_42 (dk_at dksX4_init_0 0 rfl rfl)
theorem dX4_init_1 : decode cX4_init 1 = .ok (.invokespecial 1, 3) := dk_183 0 1 (dk_at dksX4_init_0 1 rfl rfl)
theorem dX4_init_4 : decode cX4_init 4 = .ok (.aload_n 0, 1) := dk_42 (dk_at dksX4_init_0 4 rfl rfl)
theorem dX4_init_5 : decode cX4_init 5 = .ok (.sipush 340, 3) := dk_17 1 84 (dk_at dksX4_init_0 5 rfl rfl)
theorem dX4_init_8 : decode cX4_init 8 = .ok (.newarray .byte, 2) := dk_188_8 (dk_at dksX4_init_0 8 rfl rfl)
theorem dX4_init_10 : decode cX4_init 10 = .ok (.putfield 7, 3) := dk_181 0 7 (dk_at dksX4_init_0 10 rfl rfl)
theorem dX4_init_13 : decode cX4_init 13 = .ok (.aload_n 0, 1) := dk_42 (dk_at dksX4_init_0 13 rfl rfl)
theorem dX4_init_14 : decode cX4_init 14 = .ok (.bipush 9, 2) := dk_16 9 (dk_at dksX4_init_0 14 rfl rfl)
theorem dX4_init_16 : decode cX4_init 16 = .ok (.newarray .int, 2) := dk_188_10 (dk_at dksX4_init_0 16 rfl rfl)
theorem dX4_init_18 : decode cX4_init 18 = .ok (.putfield 13, 3) := dk_181 0 13 (dk_at dksX4_init_0 18 rfl rfl)
theorem dX4_init_21 : decode cX4_init 21 = .ok (.aload_n 0, 1) := dk_42 (dk_at dksX4_init_0 21 rfl rfl)
theorem dX4_init_22 : decode cX4_init 22 = .ok (.bipush 9, 2) := dk_16 9 (dk_at dksX4_init_0 22 rfl rfl)
theorem dX4_init_24 : decode cX4_init 24 = .ok (.newarray .int, 2) := dk_188_10 (dk_at dksX4_init_1 0 rfl rfl)
theorem dX4_init_26 : decode cX4_init 26 = .ok (.putfield 17, 3) := dk_181 0 17 (dk_at dksX4_init_1 2 rfl rfl)
theorem dX4_init_29 : decode cX4_init 29 = .ok (.aload_n 0, 1) := dk_42 (dk_at dksX4_init_1 5 rfl rfl)
theorem dX4_init_30 : decode cX4_init 30 = .ok (.bipush 9, 2) := dk_16 9 (dk_at dksX4_init_1 6 rfl rfl)
theorem dX4_init_32 : decode cX4_init 32 = .ok (.newarray .int, 2) := dk_188_10 (dk_at dksX4_init_1 8 rfl rfl)
theorem dX4_init_34 : decode cX4_init 34 = .ok (.putfield 20, 3) := dk_181 0 20 (dk_at dksX4_init_1 10 rfl rfl)
theorem dX4_init_37 : decode cX4_init 37 = .ok (.aload_n 0, 1) := dk_42 (dk_at dksX4_init_1 13 rfl rfl)
theorem dX4_init_38 : decode cX4_init 38 = .ok (.bipush 36, 2) := dk_16 36 (dk_at dksX4_init_1 14 rfl rfl)
theorem dX4_init_40 : decode cX4_init 40 = .ok (.newarray .int, 2) := dk_188_10 (dk_at dksX4_init_1 16 rfl rfl)
theorem dX4_init_42 : decode cX4_init 42 = .ok (.putfield 23, 3) := dk_181 0 23 (dk_at dksX4_init_1 18 rfl rfl)
theorem dX4_init_45 : decode cX4_init 45 = .ok (.aload_n 0, 1) := dk_42 (dk_at dksX4_init_1 21 rfl rfl)
theorem dX4_init_46 : decode cX4_init 46 = .ok (.bipush 9, 2) := dk_16 9 (dk_at dksX4_init_1 22 rfl rfl)
theorem dX4_init_48 : decode cX4_init 48 = .ok (.newarray .int, 2) := dk_188_10 (dk_at dksX4_init_2 0 rfl rfl)
theorem dX4_init_50 : decode cX4_init 50 = .ok (.putfield 26, 3) := dk_181 0 26 (dk_at dksX4_init_2 2 rfl rfl)
theorem dX4_init_53 : decode cX4_init 53 = .ok (.aload_n 0, 1) := dk_42 (dk_at dksX4_init_2 5 rfl rfl)
theorem dX4_init_54 : decode cX4_init 54 = .ok (.bipush 72, 2) := dk_16 72 (dk_at dksX4_init_2 6 rfl rfl)
theorem dX4_init_56 : decode cX4_init 56 = .ok (.newarray .int, 2) := dk_188_10 (dk_at dksX4_init_2 8 rfl rfl)
theorem dX4_init_58 : decode cX4_init 58 = .ok (.putfield 29, 3) := dk_181 0 29 (dk_at dksX4_init_2 10 rfl rfl)
theorem dX4_init_61 : decode cX4_init 61 = .ok (.aload_n 0, 1) := dk_42 (dk_at dksX4_init_2 13 rfl rfl)
theorem dX4_init_62 : decode cX4_init 62 = .ok (.bipush 72, 2) := dk_16 72 (dk_at dksX4_init_2 14 rfl rfl)
theorem dX4_init_64 : decode cX4_init 64 = .ok (.newarray .int, 2) := dk_188_10 (dk_at dksX4_init_2 16 rfl rfl)
theorem dX4_init_66 : decode cX4_init 66 = .ok (.putfield 32, 3) := dk_181 0 32 (dk_at dksX4_init_2 18 rfl rfl)
theorem dX4_init_69 : decode cX4_init 69 = .ok (.aload_n 0, 1) := dk_42 (dk_at dksX4_init_2 21 rfl rfl)
theorem dX4_init_70 : decode cX4_init 70 = .ok (.bipush 72, 2) := dk_16 72 (dk_at dksX4_init_2 22 rfl rfl)
theorem dX4_init_72 : decode cX4_init 72 = .ok (.newarray .int, 2) := dk_188_10 (dk_at dksX4_init_3 0 rfl rfl)
theorem dX4_init_74 : decode cX4_init 74 = .ok (.putfield 35, 3) := dk_181 0 35 (dk_at dksX4_init_3 2 rfl rfl)
theorem dX4_init_77 : decode cX4_init 77 = .ok (.aload_n 0, 1) := dk_42 (dk_at dksX4_init_3 5 rfl rfl)
theorem dX4_init_78 : decode cX4_init 78 = .ok (.bipush 72, 2) := dk_16 72 (dk_at dksX4_init_3 6 rfl rfl)
theorem dX4_init_80 : decode cX4_init 80 = .ok (.newarray .int, 2) := dk_188_10 (dk_at dksX4_init_3 8 rfl rfl)
theorem dX4_init_82 : decode cX4_init 82 = .ok (.putfield 38, 3) := dk_181 0 38 (dk_at dksX4_init_3 10 rfl rfl)
theorem dX4_init_85 : decode cX4_init 85 = .ok (.aload_n 0, 1) := dk_42 (dk_at dksX4_init_3 13 rfl rfl)
theorem dX4_init_86 : decode cX4_init 86 = .ok (.bipush 9, 2) := dk_16 9 (dk_at dksX4_init_3 14 rfl rfl)
theorem dX4_init_88 : decode cX4_init 88 = .ok (.newarray .boolean, 2) := dk_188_4 (dk_at dksX4_init_3 16 rfl rfl)
theorem dX4_init_90 : decode cX4_init 90 = .ok (.putfield 41, 3) := dk_181 0 41 (dk_at dksX4_init_3 18 rfl rfl)
theorem dX4_init_93 : decode cX4_init 93 = .ok (.aload_n 0, 1) := dk_42 (dk_at dksX4_init_3 21 rfl rfl)
theorem dX4_init_94 : decode cX4_init 94 = .ok (.bipush 20, 2) := dk_16 20 (dk_at dksX4_init_3 22 rfl rfl)
theorem dX4_init_96 : decode cX4_init 96 = .ok (.newarray .int, 2) := dk_188_10 (dk_at dksX4_init_4 0 rfl rfl)
theorem dX4_init_98 : decode cX4_init 98 = .ok (.putfield 45, 3) := dk_181 0 45 (dk_at dksX4_init_4 2 rfl rfl)
theorem dX4_init_101 : decode cX4_init 101 = .ok (.aload_n 0, 1) := dk_42 (dk_at dksX4_init_4 5 rfl rfl)
theorem dX4_init_102 : decode cX4_init 102 = .ok (.bipush 20, 2) := dk_16 20 (dk_at dksX4_init_4 6 rfl rfl)
theorem dX4_init_104 : decode cX4_init 104 = .ok (.newarray .int, 2) := dk_188_10 (dk_at dksX4_init_4 8 rfl rfl)
theorem dX4_init_106 : decode cX4_init 106 = .ok (.putfield 48, 3) := dk_181 0 48 (dk_at dksX4_init_4 10 rfl rfl)
theorem dX4_init_109 : decode cX4_init 109 = .ok (.aload_n 0, 1) := dk_42 (dk_at dksX4_init_4 13 rfl rfl)
theorem dX4_init_110 : decode cX4_init 110 = .ok (.bipush 20, 2) := dk_16 20 (dk_at dksX4_init_4 14 rfl rfl)
theorem dX4_init_112 : decode cX4_init 112 = .ok (.newarray .int, 2) := dk_188_10 (dk_at dksX4_init_4 16 rfl rfl)
theorem dX4_init_114 : decode cX4_init 114 = .ok (.putfield 51, 3) := dk_181 0 51 (dk_at dksX4_init_4 18 rfl rfl)
theorem dX4_init_117 : decode cX4_init 117 = .ok (.aload_n 0, 1) := dk_42 (dk_at dksX4_init_4 21 rfl rfl)
theorem dX4_init_118 : decode cX4_init 118 = .ok (.bipush 8, 2) := dk_16 8 (dk_at dksX4_init_4 22 rfl rfl)
theorem dX4_init_120 : decode cX4_init 120 = .ok (.newarray .int, 2) := dk_188_10 (dk_at dksX4_init_5 0 rfl rfl)
theorem dX4_init_122 : decode cX4_init 122 = .ok (.putfield 54, 3) := dk_181 0 54 (dk_at dksX4_init_5 2 rfl rfl)
theorem dX4_init_125 : decode cX4_init 125 = .ok (.aload_n 0, 1) := dk_42 (dk_at dksX4_init_5 5 rfl rfl)
theorem dX4_init_126 : decode cX4_init 126 = .ok (.bipush 24, 2) := dk_16 24 (dk_at dksX4_init_5 6 rfl rfl)
theorem dX4_init_128 : decode cX4_init 128 = .ok (.putfield 57, 3) := dk_181 0 57 (dk_at dksX4_init_5 8 rfl rfl)
theorem dX4_init_131 : decode cX4_init 131 = .ok (.aload_n 0, 1) := dk_42 (dk_at dksX4_init_5 11 rfl rfl)
theorem dX4_init_132 : decode cX4_init 132 = .ok (.sipush 168, 3) := dk_17 0 168 (dk_at dksX4_init_5 12 rfl rfl)
theorem dX4_init_135 : decode cX4_init 135 = .ok (.putfield 61, 3) := dk_181 0 61 (dk_at dksX4_init_5 15 rfl rfl)
theorem dX4_init_138 : decode cX4_init 138 = .ok (.aload_n 0, 1) := dk_42 (dk_at dksX4_init_5 18 rfl rfl)
theorem dX4_init_139 : decode cX4_init 139 = .ok (.bipush 84, 2) := dk_16 84 (dk_at dksX4_init_5 19 rfl rfl)
theorem dX4_init_141 : decode cX4_init 141 = .ok (.newarray .int, 2) := dk_188_10 (dk_at dksX4_init_5 21 rfl rfl)
theorem dX4_init_143 : decode cX4_init 143 = .ok (.putfield 64, 3) := dk_181 0 64 (dk_at dksX4_init_6 0 rfl rfl)
theorem dX4_init_146 : decode cX4_init 146 = .ok (.aload_n 0, 1) := dk_42 (dk_at dksX4_init_6 3 rfl rfl)
theorem dX4_init_147 : decode cX4_init 147 = .ok (.bipush 21, 2) := dk_16 21 (dk_at dksX4_init_6 4 rfl rfl)
theorem dX4_init_149 : decode cX4_init 149 = .ok (.newarray .int, 2) := dk_188_10 (dk_at dksX4_init_6 6 rfl rfl)
theorem dX4_init_151 : decode cX4_init 151 = .ok (.putfield 67, 3) := dk_181 0 67 (dk_at dksX4_init_6 8 rfl rfl)
theorem dX4_init_154 : decode cX4_init 154 = .ok (.aload_n 0, 1) := dk_42 (dk_at dksX4_init_6 11 rfl rfl)
theorem dX4_init_155 : decode cX4_init 155 = .ok (.bipush 126, 2) := dk_16 126 (dk_at dksX4_init_6 12 rfl rfl)
theorem dX4_init_157 : decode cX4_init 157 = .ok (.newarray .int, 2) := dk_188_10 (dk_at dksX4_init_6 14 rfl rfl)
theorem dX4_init_159 : decode cX4_init 159 = .ok (.putfield 70, 3) := dk_181 0 70 (dk_at dksX4_init_6 16 rfl rfl)
theorem dX4_init_162 : decode cX4_init 162 = .ok (.aload_n 0, 1) := dk_42 (dk_at dksX4_init_6 19 rfl rfl)
theorem dX4_init_163 : decode cX4_init 163 = .ok (.bipush 126, 2) := dk_16 126 (dk_at dksX4_init_6 20 rfl rfl)
theorem dX4_init_165 : decode cX4_init 165 = .ok (.newarray .int, 2) := dk_188_10 (dk_at dksX4_init_6 22 rfl rfl)
theorem dX4_init_167 : decode cX4_init 167 = .ok (.putfield 73, 3) := dk_181 0 73 (dk_at dksX4_init_7 0 rfl rfl)
theorem dX4_init_170 : decode cX4_init 170 = .ok (.aload_n 0, 1) := dk_42 (dk_at dksX4_init_7 3 rfl rfl)
theorem dX4_init_171 : decode cX4_init 171 = .ok (.bipush 21, 2) := dk_16 21 (dk_at dksX4_init_7 4 rfl rfl)
theorem dX4_init_173 : decode cX4_init 173 = .ok (.newarray .int, 2) := dk_188_10 (dk_at dksX4_init_7 6 rfl rfl)
theorem dX4_init_175 : decode cX4_init 175 = .ok (.putfield 76, 3) := dk_181 0 76 (dk_at dksX4_init_7 8 rfl rfl)
theorem dX4_init_178 : decode cX4_init 178 = .ok (.aload_n 0, 1) := dk_42 (dk_at dksX4_init_7 11 rfl rfl)
theorem dX4_init_179 : decode cX4_init 179 = .ok (.sipush 168, 3) := dk_17 0 168 (dk_at dksX4_init_7 12 rfl rfl)
theorem dX4_init_182 : decode cX4_init 182 = .ok (.newarray .int, 2) := dk_188_10 (dk_at dksX4_init_7 15 rfl rfl)
theorem dX4_init_184 : decode cX4_init 184 = .ok (.putfield 79, 3) := dk_181 0 79 (dk_at dksX4_init_7 17 rfl rfl)
theorem dX4_init_187 : decode cX4_init 187 = .ok (.aload_n 0, 1) := dk_42 (dk_at dksX4_init_7 20 rfl rfl)
theorem dX4_init_188 : decode cX4_init 188 = .ok (.sipush 168, 3) := dk_17 0 168 (dk_at dksX4_init_7 21 rfl rfl)
theorem dX4_init_191 : decode cX4_init 191 = .ok (.newarray .int, 2) := dk_188_10 (dk_at dksX4_init_8 0 rfl rfl)
theorem dX4_init_193 : decode cX4_init 193 = .ok (.putfield 82, 3) := dk_181 0 82 (dk_at dksX4_init_8 2 rfl rfl)
theorem dX4_init_196 : decode cX4_init 196 = .ok (.aload_n 0, 1) := dk_42 (dk_at dksX4_init_8 5 rfl rfl)
theorem dX4_init_197 : decode cX4_init 197 = .ok (.sipush 168, 3) := dk_17 0 168 (dk_at dksX4_init_8 6 rfl rfl)
theorem dX4_init_200 : decode cX4_init 200 = .ok (.newarray .int, 2) := dk_188_10 (dk_at dksX4_init_8 9 rfl rfl)
theorem dX4_init_202 : decode cX4_init 202 = .ok (.putfield 85, 3) := dk_181 0 85 (dk_at dksX4_init_8 11 rfl rfl)
theorem dX4_init_205 : decode cX4_init 205 = .ok (.aload_n 0, 1) := dk_42 (dk_at dksX4_init_8 14 rfl rfl)
theorem dX4_init_206 : decode cX4_init 206 = .ok (.sipush 2100, 3) := dk_17 8 52 (dk_at dksX4_init_8 15 rfl rfl)
theorem dX4_init_209 : decode cX4_init 209 = .ok (.newarray .int, 2) := dk_188_10 (dk_at dksX4_init_8 18 rfl rfl)
theorem dX4_init_211 : decode cX4_init 211 = .ok (.putfield 88, 3) := dk_181 0 88 (dk_at dksX4_init_8 20 rfl rfl)
theorem dX4_init_214 : decode cX4_init 214 = .ok (.aload_n 0, 1) := dk_42 (dk_at dksX4_init_8 23 rfl rfl)
theorem dX4_init_215 : decode cX4_init 215 = .ok (.sipush 2100, 3) := dk_17 8 52 (dk_at dksX4_init_9 0 rfl rfl)
theorem dX4_init_218 : decode cX4_init 218 = .ok (.newarray .int, 2) := dk_188_10 (dk_at dksX4_init_9 3 rfl rfl)
theorem dX4_init_220 : decode cX4_init 220 = .ok (.putfield 91, 3) := dk_181 0 91 (dk_at dksX4_init_9 5 rfl rfl)
theorem dX4_init_223 : decode cX4_init 223 = .ok (.aload_n 0, 1) := dk_42 (dk_at dksX4_init_9 8 rfl rfl)
theorem dX4_init_224 : decode cX4_init 224 = .ok (.sipush 2100, 3) := dk_17 8 52 (dk_at dksX4_init_9 9 rfl rfl)
theorem dX4_init_227 : decode cX4_init 227 = .ok (.newarray .int, 2) := dk_188_10 (dk_at dksX4_init_9 12 rfl rfl)
theorem dX4_init_229 : decode cX4_init 229 = .ok (.putfield 94, 3) := dk_181 0 94 (dk_at dksX4_init_9 14 rfl rfl)
theorem dX4_init_232 : decode cX4_init 232 = .ok (.aload_n 0, 1) := dk_42 (dk_at dksX4_init_9 17 rfl rfl)
theorem dX4_init_233 : decode cX4_init 233 = .ok (.bipush 64, 2) := dk_16 64 (dk_at dksX4_init_9 18 rfl rfl)
theorem dX4_init_235 : decode cX4_init 235 = .ok (.newarray .int, 2) := dk_188_10 (dk_at dksX4_init_9 20 rfl rfl)
theorem dX4_init_237 : decode cX4_init 237 = .ok (.putfield 97, 3) := dk_181 0 97 (dk_at dksX4_init_10 0 rfl rfl)
theorem dX4_init_240 : decode cX4_init 240 = .ok (.aload_n 0, 1) := dk_42 (dk_at dksX4_init_10 3 rfl rfl)
theorem dX4_init_241 : decode cX4_init 241 = .ok (.sipush 200, 3) := dk_17 0 200 (dk_at dksX4_init_10 4 rfl rfl)
theorem dX4_init_244 : decode cX4_init 244 = .ok (.newarray .int, 2) := dk_188_10 (dk_at dksX4_init_10 7 rfl rfl)
theorem dX4_init_246 : decode cX4_init 246 = .ok (.putfield 100, 3) := dk_181 0 100 (dk_at dksX4_init_10 9 rfl rfl)
theorem dX4_init_249 : decode cX4_init 249 = .ok (.aload_n 0, 1) := dk_42 (dk_at dksX4_init_10 12 rfl rfl)
theorem dX4_init_250 : decode cX4_init 250 = .ok (.sipush 200, 3) := dk_17 0 200 (dk_at dksX4_init_10 13 rfl rfl)
theorem dX4_init_253 : decode cX4_init 253 = .ok (.newarray .int, 2) := dk_188_10 (dk_at dksX4_init_10 16 rfl rfl)
theorem dX4_init_255 : decode cX4_init 255 = .ok (.putfield 103, 3) := dk_181 0 103 (dk_at dksX4_init_10 18 rfl rfl)
theorem dX4_init_258 : decode cX4_init 258 = .ok (.aload_n 0, 1) := dk_42 (dk_at dksX4_init_10 21 rfl rfl)
theorem dX4_init_259 : decode cX4_init 259 = .ok (.sipush 200, 3) := dk_17 0 200 (dk_at dksX4_init_11 0 rfl rfl)
theorem dX4_init_262 : decode cX4_init 262 = .ok (.newarray .int, 2) := dk_188_10 (dk_at dksX4_init_11 3 rfl rfl)
theorem dX4_init_264 : decode cX4_init 264 = .ok (.putfield 106, 3) := dk_181 0 106 (dk_at dksX4_init_11 5 rfl rfl)
theorem dX4_init_267 : decode cX4_init 267 = .ok (.aload_n 0, 1) := dk_42 (dk_at dksX4_init_11 8 rfl rfl)
theorem dX4_init_268 : decode cX4_init 268 = .ok (.sipush 200, 3) := dk_17 0 200 (dk_at dksX4_init_11 9 rfl rfl)
theorem dX4_init_271 : decode cX4_init 271 = .ok (.newarray .int, 2) := dk_188_10 (dk_at dksX4_init_11 12 rfl rfl)
theorem dX4_init_273 : decode cX4_init 273 = .ok (.putfield 109, 3) := dk_181 0 109 (dk_at dksX4_init_11 14 rfl rfl)
theorem dX4_init_276 : decode cX4_init 276 = .ok (.aload_n 0, 1) := dk_42 (dk_at dksX4_init_11 17 rfl rfl)
theorem dX4_init_277 : decode cX4_init 277 = .ok (.bipush 60, 2) := dk_16 60 (dk_at dksX4_init_11 18 rfl rfl)
theorem dX4_init_279 : decode cX4_init 279 = .ok (.newarray .int, 2) := dk_188_10 (dk_at dksX4_init_11 20 rfl rfl)
theorem dX4_init_281 : decode cX4_init 281 = .ok (.putfield 112, 3) := dk_181 0 112 (dk_at dksX4_init_12 0 rfl rfl)
theorem dX4_init_284 : decode cX4_init 284 = .ok (.aload_n 0, 1) := dk_42 (dk_at dksX4_init_12 3 rfl rfl)
theorem dX4_init_285 : decode cX4_init 285 = .ok (.bipush 60, 2) := dk_16 60 (dk_at dksX4_init_12 4 rfl rfl)
theorem dX4_init_287 : decode cX4_init 287 = .ok (.newarray .int, 2) := dk_188_10 (dk_at dksX4_init_12 6 rfl rfl)
theorem dX4_init_289 : decode cX4_init 289 = .ok (.putfield 115, 3) := dk_181 0 115 (dk_at dksX4_init_12 8 rfl rfl)
theorem dX4_init_292 : decode cX4_init 292 = .ok (.aload_n 0, 1) := dk_42 (dk_at dksX4_init_12 11 rfl rfl)
theorem dX4_init_293 : decode cX4_init 293 = .ok (.bipush 60, 2) := dk_16 60 (dk_at dksX4_init_12 12 rfl rfl)
theorem dX4_init_295 : decode cX4_init 295 = .ok (.newarray .int, 2) := dk_188_10 (dk_at dksX4_init_12 14 rfl rfl)
theorem dX4_init_297 : decode cX4_init 297 = .ok (.putfield 118, 3) := dk_181 0 118 (dk_at dksX4_init_12 16 rfl rfl)
theorem dX4_init_300 : decode cX4_init 300 = .ok (.aload_n 0, 1) := dk_42 (dk_at dksX4_init_12 19 rfl rfl)
theorem dX4_init_301 : decode cX4_init 301 = .ok (.bipush 60, 2) := dk_16 60 (dk_at dksX4_init_12 20 rfl rfl)
theorem dX4_init_303 : decode cX4_init 303 = .ok (.newarray .int, 2) := dk_188_10 (dk_at dksX4_init_12 22 rfl rfl)
theorem dX4_init_305 : decode cX4_init 305 = .ok (.putfield 121, 3) := dk_181 0 121 (dk_at dksX4_init_13 0 rfl rfl)
theorem dX4_init_308 : decode cX4_init 308 = .ok (.aload_n 0, 1) := dk_42 (dk_at dksX4_init_13 3 rfl rfl)
theorem dX4_init_309 : decode cX4_init 309 = .ok (.sipush 400, 3) := dk_17 1 144 (dk_at dksX4_init_13 4 rfl rfl)
theorem dX4_init_312 : decode cX4_init 312 = .ok (.newarray .int, 2) := dk_188_10 (dk_at dksX4_init_13 7 rfl rfl)
theorem dX4_init_314 : decode cX4_init 314 = .ok (.putfield 124, 3) := dk_181 0 124 (dk_at dksX4_init_13 9 rfl rfl)
theorem dX4_init_317 : decode cX4_init 317 = .ok (.aload_n 0, 1) := dk_42 (dk_at dksX4_init_13 12 rfl rfl)
theorem dX4_init_318 : decode cX4_init 318 = .ok (.sipush 400, 3) := dk_17 1 144 (dk_at dksX4_init_13 13 rfl rfl)
theorem dX4_init_321 : decode cX4_init 321 = .ok (.newarray .int, 2) := dk_188_10 (dk_at dksX4_init_13 16 rfl rfl)
theorem dX4_init_323 : decode cX4_init 323 = .ok (.putfield 127, 3) := dk_181 0 127 (dk_at dksX4_init_13 18 rfl rfl)
theorem dX4_init_326 : decode cX4_init 326 = .ok (.aload_n 0, 1) := dk_42 (dk_at dksX4_init_13 21 rfl rfl)
theorem dX4_init_327 : decode cX4_init 327 = .ok (.sipush 400, 3) := dk_17 1 144 (dk_at dksX4_init_14 0 rfl rfl)
theorem dX4_init_330 : decode cX4_init 330 = .ok (.newarray .int, 2) := dk_188_10 (dk_at dksX4_init_14 3 rfl rfl)
theorem dX4_init_332 : decode cX4_init 332 = .ok (.putfield 130, 3) := dk_181 0 130 (dk_at dksX4_init_14 5 rfl rfl)
theorem dX4_init_335 : decode cX4_init 335 = .ok (.aload_n 0, 1) := dk_42 (dk_at dksX4_init_14 8 rfl rfl)
theorem dX4_init_336 : decode cX4_init 336 = .ok (.sipush 400, 3) := dk_17 1 144 (dk_at dksX4_init_14 9 rfl rfl)
theorem dX4_init_339 : decode cX4_init 339 = .ok (.newarray .int, 2) := dk_188_10 (dk_at dksX4_init_14 12 rfl rfl)
theorem dX4_init_341 : decode cX4_init 341 = .ok (.putfield 133, 3) := dk_181 0 133 (dk_at dksX4_init_14 14 rfl rfl)
theorem dX4_init_344 : decode cX4_init 344 = .ok (.aload_n 0, 1) := dk_42 (dk_at dksX4_init_14 17 rfl rfl)
theorem dX4_init_345 : decode cX4_init 345 = .ok (.bipush 66, 2) := dk_16 66 (dk_at dksX4_init_14 18 rfl rfl)
theorem dX4_init_347 : decode cX4_init 347 = .ok (.newarray .int, 2) := dk_188_10 (dk_at dksX4_init_14 20 rfl rfl)
theorem dX4_init_349 : decode cX4_init 349 = .ok (.putfield 136, 3) := dk_181 0 136 (dk_at dksX4_init_15 0 rfl rfl)
theorem dX4_init_352 : decode cX4_init 352 = .ok (.aload_n 0, 1) := dk_42 (dk_at dksX4_init_15 3 rfl rfl)
theorem dX4_init_353 : decode cX4_init 353 = .ok (.bipush 66, 2) := dk_16 66 (dk_at dksX4_init_15 4 rfl rfl)
theorem dX4_init_355 : decode cX4_init 355 = .ok (.newarray .int, 2) := dk_188_10 (dk_at dksX4_init_15 6 rfl rfl)
theorem dX4_init_357 : decode cX4_init 357 = .ok (.putfield 139, 3) := dk_181 0 139 (dk_at dksX4_init_15 8 rfl rfl)
theorem dX4_init_360 : decode cX4_init 360 = .ok (.aload_n 0, 1) := dk_42 (dk_at dksX4_init_15 11 rfl rfl)
theorem dX4_init_361 : decode cX4_init 361 = .ok (.bipush 66, 2) := dk_16 66 (dk_at dksX4_init_15 12 rfl rfl)
theorem dX4_init_363 : decode cX4_init 363 = .ok (.newarray .int, 2) := dk_188_10 (dk_at dksX4_init_15 14 rfl rfl)
theorem dX4_init_365 : decode cX4_init 365 = .ok (.putfield 142, 3) := dk_181 0 142 (dk_at dksX4_init_15 16 rfl rfl)
theorem dX4_init_368 : decode cX4_init 368 = .ok (.aload_n 0, 1) := dk_42 (dk_at dksX4_init_15 19 rfl rfl)
theorem dX4_init_369 : decode cX4_init 369 = .ok (.bipush 66, 2) := dk_16 66 (dk_at dksX4_init_15 20 rfl rfl)
theorem dX4_init_371 : decode cX4_init 371 = .ok (.newarray .int, 2) := dk_188_10 (dk_at dksX4_init_15 22 rfl rfl)
theorem dX4_init_373 : decode cX4_init 373 = .ok (.putfield 145, 3) := dk_181 0 145 (dk_at dksX4_init_16 0 rfl rfl)
theorem dX4_init_376 : decode cX4_init 376 = .ok (.aload_n 0, 1) := dk_42 (dk_at dksX4_init_16 3 rfl rfl)
theorem dX4_init_377 : decode cX4_init 377 = .ok (.bipush 66, 2) := dk_16 66 (dk_at dksX4_init_16 4 rfl rfl)
theorem dX4_init_379 : decode cX4_init 379 = .ok (.newarray .int, 2) := dk_188_10 (dk_at dksX4_init_16 6 rfl rfl)
theorem dX4_init_381 : decode cX4_init 381 = .ok (.putfield 148, 3) := dk_181 0 148 (dk_at dksX4_init_16 8 rfl rfl)
theorem dX4_init_384 : decode cX4_init 384 = .ok (.aload_n 0, 1) := dk_42 (dk_at dksX4_init_16 11 rfl rfl)
theorem dX4_init_385 : decode cX4_init 385 = .ok (.bipush 66, 2) := dk_16 66 (dk_at dksX4_init_16 12 rfl rfl)
theorem dX4_init_387 : decode cX4_init 387 = .ok (.newarray .int, 2) := dk_188_10 (dk_at dksX4_init_16 14 rfl rfl)
theorem dX4_init_389 : decode cX4_init 389 = .ok (.putfield 151, 3) := dk_181 0 151 (dk_at dksX4_init_16 16 rfl rfl)
theorem dX4_init_392 : decode cX4_init 392 = .ok (.aload_n 0, 1) := dk_42 (dk_at dksX4_init_16 19 rfl rfl)
theorem dX4_init_393 : decode cX4_init 393 = .ok (.sipush 400, 3) := dk_17 1 144 (dk_at dksX4_init_16 20 rfl rfl)
theorem dX4_init_396 : decode cX4_init 396 = .ok (.newarray .boolean, 2) := dk_188_4 (dk_at dksX4_init_17 0 rfl rfl)
theorem dX4_init_398 : decode cX4_init 398 = .ok (.putfield 154, 3) := dk_181 0 154 (dk_at dksX4_init_17 2 rfl rfl)
theorem dX4_init_401 : decode cX4_init 401 = .ok (.aload_n 0, 1) := dk_42 (dk_at dksX4_init_17 5 rfl rfl)
theorem dX4_init_402 : decode cX4_init 402 = .ok (.sipush 528, 3) := dk_17 2 16 (dk_at dksX4_init_17 6 rfl rfl)
theorem dX4_init_405 : decode cX4_init 405 = .ok (.newarray .int, 2) := dk_188_10 (dk_at dksX4_init_17 9 rfl rfl)
theorem dX4_init_407 : decode cX4_init 407 = .ok (.putfield 157, 3) := dk_181 0 157 (dk_at dksX4_init_17 11 rfl rfl)
theorem dX4_init_410 : decode cX4_init 410 = .ok (.aload_n 0, 1) := dk_42 (dk_at dksX4_init_17 14 rfl rfl)
theorem dX4_init_411 : decode cX4_init 411 = .ok (.sipush 528, 3) := dk_17 2 16 (dk_at dksX4_init_17 15 rfl rfl)
theorem dX4_init_414 : decode cX4_init 414 = .ok (.newarray .int, 2) := dk_188_10 (dk_at dksX4_init_17 18 rfl rfl)
theorem dX4_init_416 : decode cX4_init 416 = .ok (.putfield 160, 3) := dk_181 0 160 (dk_at dksX4_init_17 20 rfl rfl)
theorem dX4_init_419 : decode cX4_init 419 = .ok (.aload_n 0, 1) := dk_42 (dk_at dksX4_init_17 23 rfl rfl)
theorem dX4_init_420 : decode cX4_init 420 = .ok (.sipush 528, 3) := dk_17 2 16 (dk_at dksX4_init_18 0 rfl rfl)
theorem dX4_init_423 : decode cX4_init 423 = .ok (.newarray .int, 2) := dk_188_10 (dk_at dksX4_init_18 3 rfl rfl)
theorem dX4_init_425 : decode cX4_init 425 = .ok (.putfield 163, 3) := dk_181 0 163 (dk_at dksX4_init_18 5 rfl rfl)
theorem dX4_init_428 : decode cX4_init 428 = .ok (.aload_n 0, 1) := dk_42 (dk_at dksX4_init_18 8 rfl rfl)
theorem dX4_init_429 : decode cX4_init 429 = .ok (.bipush 66, 2) := dk_16 66 (dk_at dksX4_init_18 9 rfl rfl)
theorem dX4_init_431 : decode cX4_init 431 = .ok (.newarray .int, 2) := dk_188_10 (dk_at dksX4_init_18 11 rfl rfl)
theorem dX4_init_433 : decode cX4_init 433 = .ok (.putfield 166, 3) := dk_181 0 166 (dk_at dksX4_init_18 13 rfl rfl)
theorem dX4_init_436 : decode cX4_init 436 = .ok (.aload_n 0, 1) := dk_42 (dk_at dksX4_init_18 16 rfl rfl)
theorem dX4_init_437 : decode cX4_init 437 = .ok (.bipush 66, 2) := dk_16 66 (dk_at dksX4_init_18 17 rfl rfl)
theorem dX4_init_439 : decode cX4_init 439 = .ok (.newarray .int, 2) := dk_188_10 (dk_at dksX4_init_18 19 rfl rfl)
theorem dX4_init_441 : decode cX4_init 441 = .ok (.putfield 169, 3) := dk_181 0 169 (dk_at dksX4_init_18 21 rfl rfl)
theorem dX4_init_444 : decode cX4_init 444 = .ok (.aload_n 0, 1) := dk_42 (dk_at dksX4_init_19 0 rfl rfl)
theorem dX4_init_445 : decode cX4_init 445 = .ok (.bipush 66, 2) := dk_16 66 (dk_at dksX4_init_19 1 rfl rfl)
theorem dX4_init_447 : decode cX4_init 447 = .ok (.newarray .int, 2) := dk_188_10 (dk_at dksX4_init_19 3 rfl rfl)
theorem dX4_init_449 : decode cX4_init 449 = .ok (.putfield 172, 3) := dk_181 0 172 (dk_at dksX4_init_19 5 rfl rfl)
theorem dX4_init_452 : decode cX4_init 452 = .ok (.aload_n 0, 1) := dk_42 (dk_at dksX4_init_19 8 rfl rfl)
theorem dX4_init_453 : decode cX4_init 453 = .ok (.bipush 64, 2) := dk_16 64 (dk_at dksX4_init_19 9 rfl rfl)
theorem dX4_init_455 : decode cX4_init 455 = .ok (.newarray .boolean, 2) := dk_188_4 (dk_at dksX4_init_19 11 rfl rfl)
theorem dX4_init_457 : decode cX4_init 457 = .ok (.putfield 175, 3) := dk_181 0 175 (dk_at dksX4_init_19 13 rfl rfl)
theorem dX4_init_460 : decode cX4_init 460 = .ok (.aload_n 0, 1) := dk_42 (dk_at dksX4_init_19 16 rfl rfl)
theorem dX4_init_461 : decode cX4_init 461 = .ok (.sipush 625, 3) := dk_17 2 113 (dk_at dksX4_init_19 17 rfl rfl)
theorem dX4_init_464 : decode cX4_init 464 = .ok (.newarray .boolean, 2) := dk_188_4 (dk_at dksX4_init_19 20 rfl rfl)
theorem dX4_init_466 : decode cX4_init 466 = .ok (.putfield 178, 3) := dk_181 0 178 (dk_at dksX4_init_20 0 rfl rfl)
theorem dX4_init_469 : decode cX4_init 469 = .ok (.aload_n 0, 1) := dk_42 (dk_at dksX4_init_20 3 rfl rfl)
theorem dX4_init_470 : decode cX4_init 470 = .ok (.sipush 625, 3) := dk_17 2 113 (dk_at dksX4_init_20 4 rfl rfl)
theorem dX4_init_473 : decode cX4_init 473 = .ok (.newarray .boolean, 2) := dk_188_4 (dk_at dksX4_init_20 7 rfl rfl)
theorem dX4_init_475 : decode cX4_init 475 = .ok (.putfield 181, 3) := dk_181 0 181 (dk_at dksX4_init_20 9 rfl rfl)
theorem dX4_init_478 : decode cX4_init 478 = .ok (.aload_n 0, 1) := dk_42 (dk_at dksX4_init_20 12 rfl rfl)
theorem dX4_init_479 : decode cX4_init 479 = .ok (.sipush 721, 3) := dk_17 2 209 (dk_at dksX4_init_20 13 rfl rfl)
theorem dX4_init_482 : decode cX4_init 482 = .ok (.newarray .boolean, 2) := dk_188_4 (dk_at dksX4_init_20 16 rfl rfl)
theorem dX4_init_484 : decode cX4_init 484 = .ok (.putfield 184, 3) := dk_181 0 184 (dk_at dksX4_init_20 18 rfl rfl)
theorem dX4_init_487 : decode cX4_init 487 = .ok (.aload_n 0, 1) := dk_42 (dk_at dksX4_init_20 21 rfl rfl)
theorem dX4_init_488 : decode cX4_init 488 = .ok (.bipush 66, 2) := dk_16 66 (dk_at dksX4_init_20 22 rfl rfl)
theorem dX4_init_490 : decode cX4_init 490 = .ok (.newarray .boolean, 2) := dk_188_4 (dk_at dksX4_init_21 0 rfl rfl)
theorem dX4_init_492 : decode cX4_init 492 = .ok (.putfield 187, 3) := dk_181 0 187 (dk_at dksX4_init_21 2 rfl rfl)
theorem dX4_init_495 : decode cX4_init 495 = .ok (.aload_n 0, 1) := dk_42 (dk_at dksX4_init_21 5 rfl rfl)
theorem dX4_init_496 : decode cX4_init 496 = .ok (.sipush 5200, 3) := dk_17 20 80 (dk_at dksX4_init_21 6 rfl rfl)
theorem dX4_init_499 : decode cX4_init 499 = .ok (.newarray .int, 2) := dk_188_10 (dk_at dksX4_init_21 9 rfl rfl)
theorem dX4_init_501 : decode cX4_init 501 = .ok (.putfield 190, 3) := dk_181 0 190 (dk_at dksX4_init_21 11 rfl rfl)
theorem dX4_init_504 : decode cX4_init 504 = .ok (.aload_n 0, 1) := dk_42 (dk_at dksX4_init_21 14 rfl rfl)
theorem dX4_init_505 : decode cX4_init 505 = .ok (.sipush 5200, 3) := dk_17 20 80 (dk_at dksX4_init_21 15 rfl rfl)
theorem dX4_init_508 : decode cX4_init 508 = .ok (.newarray .int, 2) := dk_188_10 (dk_at dksX4_init_21 18 rfl rfl)
theorem dX4_init_510 : decode cX4_init 510 = .ok (.putfield 193, 3) := dk_181 0 193 (dk_at dksX4_init_21 20 rfl rfl)
theorem dX4_init_513 : decode cX4_init 513 = .ok (.aload_n 0, 1) := dk_42 (dk_at dksX4_init_21 23 rfl rfl)
theorem dX4_init_514 : decode cX4_init 514 = .ok (.sipush 5200, 3) := dk_17 20 80 (dk_at dksX4_init_22 0 rfl rfl)
theorem dX4_init_517 : decode cX4_init 517 = .ok (.newarray .int, 2) := dk_188_10 (dk_at dksX4_init_22 3 rfl rfl)
theorem dX4_init_519 : decode cX4_init 519 = .ok (.putfield 196, 3) := dk_181 0 196 (dk_at dksX4_init_22 5 rfl rfl)
theorem dX4_init_522 : decode cX4_init 522 = .ok (.aload_n 0, 1) := dk_42 (dk_at dksX4_init_22 8 rfl rfl)
theorem dX4_init_523 : decode cX4_init 523 = .ok (.sipush 9504, 3) := dk_17 37 32 (dk_at dksX4_init_22 9 rfl rfl)
theorem dX4_init_526 : decode cX4_init 526 = .ok (.newarray .boolean, 2) := dk_188_4 (dk_at dksX4_init_22 12 rfl rfl)
theorem dX4_init_528 : decode cX4_init 528 = .ok (.putfield 199, 3) := dk_181 0 199 (dk_at dksX4_init_22 14 rfl rfl)
theorem dX4_init_531 : decode cX4_init 531 = .ok (.aload_n 0, 1) := dk_42 (dk_at dksX4_init_22 17 rfl rfl)
theorem dX4_init_532 : decode cX4_init 532 = .ok (.sipush 5200, 3) := dk_17 20 80 (dk_at dksX4_init_22 18 rfl rfl)
theorem dX4_init_535 : decode cX4_init 535 = .ok (.newarray .int, 2) := dk_188_10 (dk_at dksX4_init_22 21 rfl rfl)
theorem dX4_init_537 : decode cX4_init 537 = .ok (.putfield 202, 3) := dk_181 0 202 (dk_at dksX4_init_23 0 rfl rfl)
theorem dX4_init_540 : decode cX4_init 540 = .ok (.aload_n 0, 1) := dk_42 (dk_at dksX4_init_23 3 rfl rfl)
theorem dX4_init_541 : decode cX4_init 541 = .ok (.sipush 5200, 3) := dk_17 20 80 (dk_at dksX4_init_23 4 rfl rfl)
theorem dX4_init_544 : decode cX4_init 544 = .ok (.newarray .int, 2) := dk_188_10 (dk_at dksX4_init_23 7 rfl rfl)
theorem dX4_init_546 : decode cX4_init 546 = .ok (.putfield 205, 3) := dk_181 0 205 (dk_at dksX4_init_23 9 rfl rfl)
theorem dX4_init_549 : decode cX4_init 549 = .ok (.aload_n 0, 1) := dk_42 (dk_at dksX4_init_23 12 rfl rfl)
theorem dX4_init_550 : decode cX4_init 550 = .ok (.sipush 5200, 3) := dk_17 20 80 (dk_at dksX4_init_23 13 rfl rfl)
theorem dX4_init_553 : decode cX4_init 553 = .ok (.newarray .int, 2) := dk_188_10 (dk_at dksX4_init_23 16 rfl rfl)
theorem dX4_init_555 : decode cX4_init 555 = .ok (.putfield 208, 3) := dk_181 0 208 (dk_at dksX4_init_23 18 rfl rfl)
theorem dX4_init_558 : decode cX4_init 558 = .ok (.aload_n 0, 1) := dk_42 (dk_at dksX4_init_23 21 rfl rfl)
theorem dX4_init_559 : decode cX4_init 559 = .ok (.bipush 6, 2) := dk_16 6 (dk_at dksX4_init_23 22 rfl rfl)
theorem dX4_init_561 : decode cX4_init 561 = .ok (.newarray .int, 2) := dk_188_10 (dk_at dksX4_init_24 0 rfl rfl)
theorem dX4_init_563 : decode cX4_init 563 = .ok (.putfield 211, 3) := dk_181 0 211 (dk_at dksX4_init_24 2 rfl rfl)
theorem dX4_init_566 : decode cX4_init 566 = .ok (.aload_n 0, 1) := dk_42 (dk_at dksX4_init_24 5 rfl rfl)
theorem dX4_init_567 : decode cX4_init 567 = .ok (.bipush 6, 2) := dk_16 6 (dk_at dksX4_init_24 6 rfl rfl)
theorem dX4_init_569 : decode cX4_init 569 = .ok (.newarray .int, 2) := dk_188_10 (dk_at dksX4_init_24 8 rfl rfl)
theorem dX4_init_571 : decode cX4_init 571 = .ok (.putfield 214, 3) := dk_181 0 214 (dk_at dksX4_init_24 10 rfl rfl)
theorem dX4_init_574 : decode cX4_init 574 = .ok (.aload_n 0, 1) := dk_42 (dk_at dksX4_init_24 13 rfl rfl)
theorem dX4_init_575 : decode cX4_init 575 = .ok (.bipush 6, 2) := dk_16 6 (dk_at dksX4_init_24 14 rfl rfl)
theorem dX4_init_577 : decode cX4_init 577 = .ok (.newarray .int, 2) := dk_188_10 (dk_at dksX4_init_24 16 rfl rfl)
theorem dX4_init_579 : decode cX4_init 579 = .ok (.putfield 217, 3) := dk_181 0 217 (dk_at dksX4_init_24 18 rfl rfl)
theorem dX4_init_582 : decode cX4_init 582 = .ok (.aload_n 0, 1) := dk_42 (dk_at dksX4_init_24 21 rfl rfl)
theorem dX4_init_583 : decode cX4_init 583 = .ok (.bipush 6, 2) := dk_16 6 (dk_at dksX4_init_24 22 rfl rfl)
theorem dX4_init_585 : decode cX4_init 585 = .ok (.newarray .int, 2) := dk_188_10 (dk_at dksX4_init_25 0 rfl rfl)
theorem dX4_init_587 : decode cX4_init 587 = .ok (.putfield 220, 3) := dk_181 0 220 (dk_at dksX4_init_25 2 rfl rfl)
theorem dX4_init_590 : decode cX4_init 590 = .ok (.aload_n 0, 1) := dk_42 (dk_at dksX4_init_25 5 rfl rfl)
theorem dX4_init_591 : decode cX4_init 591 = .ok (.iconst (-1), 1) := dk_2 (dk_at dksX4_init_25 6 rfl rfl)
theorem dX4_init_592 : decode cX4_init 592 = .ok (.putfield 223, 3) := dk_181 0 223 (dk_at dksX4_init_25 7 rfl rfl)
theorem dX4_init_595 : decode cX4_init 595 = .ok (.return_, 1) := dk_177 (dk_at dksX4_init_25 10 rfl rfl)
abbrev cX4_thrown : ByteArray := prog_18_method_2_code
def yX4_thrown : MethodName := ⟨RX4, "thrown", "()I"⟩
theorem dX4_thrown_0 : decode cX4_thrown 0 = .ok (.aload_n 0, 1) := by decide +kernel
theorem dX4_thrown_1 : decode cX4_thrown 1 = .ok (.getfield 226, 3) := by decide +kernel
theorem dX4_thrown_4 : decode cX4_thrown 4 = .ok (.ireturn, 1) := by decide +kernel
abbrev cX4_feed : ByteArray := prog_18_method_4_code
def yX4_feed : MethodName := ⟨RX4, "feed", "(IIIII)I"⟩
def dkwX4_feed_2 : List UInt8 := [182, 0, 232, 42, 180, 0, 229, 172]
abbrev dktX4_feed_2 : List UInt8 := dkwX4_feed_2 ++ []
def dkwX4_feed_1 : List UInt8 := [182, 0, 232, 42, 28, 182, 0, 232, 42, 29, 182, 0, 232, 42, 21, 4, 182, 0, 232, 42, 21, 5]
abbrev dktX4_feed_1 : List UInt8 := dkwX4_feed_1 ++ dktX4_feed_2
def dkwX4_feed_0 : List UInt8 := [42, 3, 181, 0, 226, 42, 180, 0, 229, 16, 20, 96, 17, 1, 84, 164, 0, 5, 2, 172, 42, 27]
abbrev dktX4_feed_0 : List UInt8 := dkwX4_feed_0 ++ dktX4_feed_1
theorem dksX4_feed_0 : cX4_feed.data.toList.drop 0 = dktX4_feed_0 := by decide +kernel
theorem dksX4_feed_1 : cX4_feed.data.toList.drop 22 = dktX4_feed_1 := dk_seg dksX4_feed_0 22 rfl rfl
theorem dksX4_feed_2 : cX4_feed.data.toList.drop 44 = dktX4_feed_2 := dk_seg dksX4_feed_1 22 rfl rfl
theorem dX4_feed_0 : decode cX4_feed 0 = .ok (.aload_n 0, 1) := dk_42 (dk_at dksX4_feed_0 0 rfl rfl)
theorem dX4_feed_1 : decode cX4_feed 1 = .ok (.iconst 0, 1) := dk_3 (dk_at dksX4_feed_0 1 rfl rfl)
theorem dX4_feed_2 : decode cX4_feed 2 = .ok (.putfield 226, 3) := dk_181 0 226 (dk_at dksX4_feed_0 2 rfl rfl)
theorem dX4_feed_5 : decode cX4_feed 5 = .ok (.aload_n 0, 1) := dk_42 (dk_at dksX4_feed_0 5 rfl rfl)
theorem dX4_feed_6 : decode cX4_feed 6 = .ok (.getfield 229, 3) := dk_180 0 229 (dk_at dksX4_feed_0 6 rfl rfl)
theorem dX4_feed_9 : decode cX4_feed 9 = .ok (.bipush 20, 2) := dk_16 20 (dk_at dksX4_feed_0 9 rfl rfl)
theorem dX4_feed_11 : decode cX4_feed 11 = .ok (.iadd, 1) := dk_96 (dk_at dksX4_feed_0 11 rfl rfl)
theorem dX4_feed_12 : decode cX4_feed 12 = .ok (.sipush 340, 3) := dk_17 1 84 (dk_at dksX4_feed_0 12 rfl rfl)
theorem dX4_feed_15 : decode cX4_feed 15 = .ok (.if_icmp .le 5, 3) := dk_164 0 5 (dk_at dksX4_feed_0 15 rfl rfl)
theorem dX4_feed_18 : decode cX4_feed 18 = .ok (.iconst (-1), 1) := dk_2 (dk_at dksX4_feed_0 18 rfl rfl)
theorem dX4_feed_19 : decode cX4_feed 19 = .ok (.ireturn, 1) := dk_172 (dk_at dksX4_feed_0 19 rfl rfl)
theorem dX4_feed_20 : decode cX4_feed 20 = .ok (.aload_n 0, 1) := dk_42 (dk_at dksX4_feed_0 20 rfl rfl)
theorem dX4_feed_21 : decode cX4_feed 21 = .ok (.iload_n 1, 1) := dk_27 (dk_at dksX4_feed_0 21 rfl rfl)
theorem dX4_feed_22 : decode cX4_feed 22 = .ok (.invokevirtual 232, 3) := dk_182 0 232 (dk_at dksX4_feed_1 0 rfl rfl)
theorem dX4_feed_25 : decode cX4_feed 25 = .ok (.aload_n 0, 1) := dk_42 (dk_at dksX4_feed_1 3 rfl rfl)
theorem dX4_feed_26 : decode cX4_feed 26 = .ok (.iload_n 2, 1) := dk_28 (dk_at dksX4_feed_1 4 rfl rfl)
theorem dX4_feed_27 : decode cX4_feed 27 = .ok (.invokevirtual 232, 3) := dk_182 0 232 (dk_at dksX4_feed_1 5 rfl rfl)
theorem dX4_feed_30 : decode cX4_feed 30 = .ok (.aload_n 0, 1) := dk_42 (dk_at dksX4_feed_1 8 rfl rfl)
theorem dX4_feed_31 : decode cX4_feed 31 = .ok (.iload_n 3, 1) := dk_29 (dk_at dksX4_feed_1 9 rfl rfl)
theorem dX4_feed_32 : decode cX4_feed 32 = .ok (.invokevirtual 232, 3) := dk_182 0 232 (dk_at dksX4_feed_1 10 rfl rfl)
theorem dX4_feed_35 : decode cX4_feed 35 = .ok (.aload_n 0, 1) := dk_42 (dk_at dksX4_feed_1 13 rfl rfl)
theorem dX4_feed_36 : decode cX4_feed 36 = .ok (.iload 4, 2) := dk_21 4 (dk_at dksX4_feed_1 14 rfl rfl)
theorem dX4_feed_38 : decode cX4_feed 38 = .ok (.invokevirtual 232, 3) := dk_182 0 232 (dk_at dksX4_feed_1 16 rfl rfl)
theorem dX4_feed_41 : decode cX4_feed 41 = .ok (.aload_n 0, 1) := dk_42 (dk_at dksX4_feed_1 19 rfl rfl)
theorem dX4_feed_42 : decode cX4_feed 42 = .ok (.iload 5, 2) := dk_21 5 (dk_at dksX4_feed_1 20 rfl rfl)
theorem dX4_feed_44 : decode cX4_feed 44 = .ok (.invokevirtual 232, 3) := dk_182 0 232 (dk_at dksX4_feed_2 0 rfl rfl)
theorem dX4_feed_47 : decode cX4_feed 47 = .ok (.aload_n 0, 1) := dk_42 (dk_at dksX4_feed_2 3 rfl rfl)
theorem dX4_feed_48 : decode cX4_feed 48 = .ok (.getfield 229, 3) := dk_180 0 229 (dk_at dksX4_feed_2 4 rfl rfl)
theorem dX4_feed_51 : decode cX4_feed 51 = .ok (.ireturn, 1) := dk_172 (dk_at dksX4_feed_2 7 rfl rfl)
abbrev cX4_four : ByteArray := prog_18_method_5_code
def yX4_four : MethodName := ⟨RX4, "four", "(I)V"⟩
def dkwX4_four_1 : List UInt8 := [180, 0, 229, 4, 96, 181, 0, 229, 132, 2, 248, 167, 255, 226, 177]
abbrev dktX4_four_1 : List UInt8 := dkwX4_four_1 ++ []
def dkwX4_four_0 : List UInt8 := [16, 24, 61, 28, 155, 0, 32, 42, 180, 0, 7, 42, 180, 0, 229, 27, 28, 122, 145, 84, 42, 89]
abbrev dktX4_four_0 : List UInt8 := dkwX4_four_0 ++ dktX4_four_1
theorem dksX4_four_0 : cX4_four.data.toList.drop 0 = dktX4_four_0 := by decide +kernel
theorem dksX4_four_1 : cX4_four.data.toList.drop 22 = dktX4_four_1 := dk_seg dksX4_four_0 22 rfl rfl
theorem dX4_four_0 : decode cX4_four 0 = .ok (.bipush 24, 2) := dk_16 24 (dk_at dksX4_four_0 0 rfl rfl)
theorem dX4_four_2 : decode cX4_four 2 = .ok (.istore_n 2, 1) := dk_61 (dk_at dksX4_four_0 2 rfl rfl)
theorem dX4_four_3 : decode cX4_four 3 = .ok (.iload_n 2, 1) := dk_28 (dk_at dksX4_four_0 3 rfl rfl)
theorem dX4_four_4 : decode cX4_four 4 = .ok (.ifCond .lt 32, 3) := dk_155 0 32 (dk_at dksX4_four_0 4 rfl rfl)
theorem dX4_four_7 : decode cX4_four 7 = .ok (.aload_n 0, 1) := dk_42 (dk_at dksX4_four_0 7 rfl rfl)
theorem dX4_four_8 : decode cX4_four 8 = .ok (.getfield 7, 3) := dk_180 0 7 (dk_at dksX4_four_0 8 rfl rfl)
theorem dX4_four_11 : decode cX4_four 11 = .ok (.aload_n 0, 1) := dk_42 (dk_at dksX4_four_0 11 rfl rfl)
theorem dX4_four_12 : decode cX4_four 12 = .ok (.getfield 229, 3) := dk_180 0 229 (dk_at dksX4_four_0 12 rfl rfl)
theorem dX4_four_15 : decode cX4_four 15 = .ok (.iload_n 1, 1) := dk_27 (dk_at dksX4_four_0 15 rfl rfl)
theorem dX4_four_16 : decode cX4_four 16 = .ok (.iload_n 2, 1) := dk_28 (dk_at dksX4_four_0 16 rfl rfl)
theorem dX4_four_17 : decode cX4_four 17 = .ok (.ishr, 1) := dk_122 (dk_at dksX4_four_0 17 rfl rfl)
theorem dX4_four_18 : decode cX4_four 18 = .ok (.i2b, 1) := dk_145 (dk_at dksX4_four_0 18 rfl rfl)
theorem dX4_four_19 : decode cX4_four 19 = .ok (.bastore, 1) := dk_84 (dk_at dksX4_four_0 19 rfl rfl)
theorem dX4_four_20 : decode cX4_four 20 = .ok (.aload_n 0, 1) := dk_42 (dk_at dksX4_four_0 20 rfl rfl)
theorem dX4_four_21 : decode cX4_four 21 = .ok (.dup, 1) := dk_89 (dk_at dksX4_four_0 21 rfl rfl)
theorem dX4_four_22 : decode cX4_four 22 = .ok (.getfield 229, 3) := dk_180 0 229 (dk_at dksX4_four_1 0 rfl rfl)
theorem dX4_four_25 : decode cX4_four 25 = .ok (.iconst 1, 1) := dk_4 (dk_at dksX4_four_1 3 rfl rfl)
theorem dX4_four_26 : decode cX4_four 26 = .ok (.iadd, 1) := dk_96 (dk_at dksX4_four_1 4 rfl rfl)
theorem dX4_four_27 : decode cX4_four 27 = .ok (.putfield 229, 3) := dk_181 0 229 (dk_at dksX4_four_1 5 rfl rfl)
theorem dX4_four_30 : decode cX4_four 30 = .ok (.iinc 2 (-8), 3) := dk_132 2 248 (dk_at dksX4_four_1 8 rfl rfl)
theorem dX4_four_33 : decode cX4_four 33 = .ok (.goto (-30), 3) := dk_167 255 226 (dk_at dksX4_four_1 11 rfl rfl)
theorem dX4_four_36 : decode cX4_four 36 = .ok (.return_, 1) := dk_177 (dk_at dksX4_four_1 14 rfl rfl)
abbrev cX4_end : ByteArray := prog_18_method_6_code
def yX4_end : MethodName := ⟨RX4, "end", "(I)Z"⟩
def dkwX4_end_1 : List UInt8 := [4, 172]
abbrev dktX4_end_1 : List UInt8 := dkwX4_end_1 ++ []
def dkwX4_end_0 : List UInt8 := [42, 3, 181, 0, 226, 27, 155, 0, 11, 27, 42, 180, 0, 229, 164, 0, 5, 3, 172, 42, 27, 181, 0, 229]
abbrev dktX4_end_0 : List UInt8 := dkwX4_end_0 ++ dktX4_end_1
theorem dksX4_end_0 : cX4_end.data.toList.drop 0 = dktX4_end_0 := by decide +kernel
theorem dksX4_end_1 : cX4_end.data.toList.drop 24 = dktX4_end_1 := dk_seg dksX4_end_0 24 rfl rfl
theorem dX4_end_0 : decode cX4_end 0 = .ok (.aload_n 0, 1) := dk_42 (dk_at dksX4_end_0 0 rfl rfl)
theorem dX4_end_1 : decode cX4_end 1 = .ok (.iconst 0, 1) := dk_3 (dk_at dksX4_end_0 1 rfl rfl)
theorem dX4_end_2 : decode cX4_end 2 = .ok (.putfield 226, 3) := dk_181 0 226 (dk_at dksX4_end_0 2 rfl rfl)
theorem dX4_end_5 : decode cX4_end 5 = .ok (.iload_n 1, 1) := dk_27 (dk_at dksX4_end_0 5 rfl rfl)
theorem dX4_end_6 : decode cX4_end 6 = .ok (.ifCond .lt 11, 3) := dk_155 0 11 (dk_at dksX4_end_0 6 rfl rfl)
theorem dX4_end_9 : decode cX4_end 9 = .ok (.iload_n 1, 1) := dk_27 (dk_at dksX4_end_0 9 rfl rfl)
theorem dX4_end_10 : decode cX4_end 10 = .ok (.aload_n 0, 1) := dk_42 (dk_at dksX4_end_0 10 rfl rfl)
theorem dX4_end_11 : decode cX4_end 11 = .ok (.getfield 229, 3) := dk_180 0 229 (dk_at dksX4_end_0 11 rfl rfl)
theorem dX4_end_14 : decode cX4_end 14 = .ok (.if_icmp .le 5, 3) := dk_164 0 5 (dk_at dksX4_end_0 14 rfl rfl)
theorem dX4_end_17 : decode cX4_end 17 = .ok (.iconst 0, 1) := dk_3 (dk_at dksX4_end_0 17 rfl rfl)
theorem dX4_end_18 : decode cX4_end 18 = .ok (.ireturn, 1) := dk_172 (dk_at dksX4_end_0 18 rfl rfl)
theorem dX4_end_19 : decode cX4_end 19 = .ok (.aload_n 0, 1) := dk_42 (dk_at dksX4_end_0 19 rfl rfl)
theorem dX4_end_20 : decode cX4_end 20 = .ok (.iload_n 1, 1) := dk_27 (dk_at dksX4_end_0 20 rfl rfl)
theorem dX4_end_21 : decode cX4_end 21 = .ok (.putfield 229, 3) := dk_181 0 229 (dk_at dksX4_end_0 21 rfl rfl)
theorem dX4_end_24 : decode cX4_end 24 = .ok (.iconst 1, 1) := dk_4 (dk_at dksX4_end_1 0 rfl rfl)
theorem dX4_end_25 : decode cX4_end 25 = .ok (.ireturn, 1) := dk_172 (dk_at dksX4_end_1 1 rfl rfl)
abbrev cX4_next : ByteArray := prog_18_method_9_code
def yX4_next : MethodName := ⟨RX4, "next", "(I)I"⟩
def dkwX4_next_2 : List UInt8 := [181, 0, 249, 42, 180, 0, 246, 172]
abbrev dktX4_next_2 : List UInt8 := dkwX4_next_2 ++ []
def dkwX4_next_1 : List UInt8 := [164, 0, 5, 2, 172, 42, 89, 180, 0, 246, 27, 96, 181, 0, 246, 42, 89, 180, 0, 249, 4, 96]
abbrev dktX4_next_1 : List UInt8 := dkwX4_next_1 ++ dktX4_next_2
def dkwX4_next_0 : List UInt8 := [42, 3, 181, 0, 226, 27, 3, 16, 29, 184, 0, 242, 153, 0, 14, 42, 180, 0, 246, 27, 96, 16, 29]
abbrev dktX4_next_0 : List UInt8 := dkwX4_next_0 ++ dktX4_next_1
theorem dksX4_next_0 : cX4_next.data.toList.drop 0 = dktX4_next_0 := by decide +kernel
theorem dksX4_next_1 : cX4_next.data.toList.drop 23 = dktX4_next_1 := dk_seg dksX4_next_0 23 rfl rfl
theorem dksX4_next_2 : cX4_next.data.toList.drop 45 = dktX4_next_2 := dk_seg dksX4_next_1 22 rfl rfl
theorem dX4_next_0 : decode cX4_next 0 = .ok (.aload_n 0, 1) := dk_42 (dk_at dksX4_next_0 0 rfl rfl)
theorem dX4_next_1 : decode cX4_next 1 = .ok (.iconst 0, 1) := dk_3 (dk_at dksX4_next_0 1 rfl rfl)
theorem dX4_next_2 : decode cX4_next 2 = .ok (.putfield 226, 3) := dk_181 0 226 (dk_at dksX4_next_0 2 rfl rfl)
theorem dX4_next_5 : decode cX4_next 5 = .ok (.iload_n 1, 1) := dk_27 (dk_at dksX4_next_0 5 rfl rfl)
theorem dX4_next_6 : decode cX4_next 6 = .ok (.iconst 0, 1) := dk_3 (dk_at dksX4_next_0 6 rfl rfl)
theorem dX4_next_7 : decode cX4_next 7 = .ok (.bipush 29, 2) := dk_16 29 (dk_at dksX4_next_0 7 rfl rfl)
theorem dX4_next_9 : decode cX4_next 9 = .ok (.invokestatic 242, 3) := dk_184 0 242 (dk_at dksX4_next_0 9 rfl rfl)
theorem dX4_next_12 : decode cX4_next 12 = .ok (.ifCond .eq 14, 3) := dk_153 0 14 (dk_at dksX4_next_0 12 rfl rfl)
theorem dX4_next_15 : decode cX4_next 15 = .ok (.aload_n 0, 1) := dk_42 (dk_at dksX4_next_0 15 rfl rfl)
theorem dX4_next_16 : decode cX4_next 16 = .ok (.getfield 246, 3) := dk_180 0 246 (dk_at dksX4_next_0 16 rfl rfl)
theorem dX4_next_19 : decode cX4_next 19 = .ok (.iload_n 1, 1) := dk_27 (dk_at dksX4_next_0 19 rfl rfl)
theorem dX4_next_20 : decode cX4_next 20 = .ok (.iadd, 1) := dk_96 (dk_at dksX4_next_0 20 rfl rfl)
theorem dX4_next_21 : decode cX4_next 21 = .ok (.bipush 29, 2) := dk_16 29 (dk_at dksX4_next_0 21 rfl rfl)
theorem dX4_next_23 : decode cX4_next 23 = .ok (.if_icmp .le 5, 3) := dk_164 0 5 (dk_at dksX4_next_1 0 rfl rfl)
theorem dX4_next_26 : decode cX4_next 26 = .ok (.iconst (-1), 1) := dk_2 (dk_at dksX4_next_1 3 rfl rfl)
theorem dX4_next_27 : decode cX4_next 27 = .ok (.ireturn, 1) := dk_172 (dk_at dksX4_next_1 4 rfl rfl)
theorem dX4_next_28 : decode cX4_next 28 = .ok (.aload_n 0, 1) := dk_42 (dk_at dksX4_next_1 5 rfl rfl)
theorem dX4_next_29 : decode cX4_next 29 = .ok (.dup, 1) := dk_89 (dk_at dksX4_next_1 6 rfl rfl)
theorem dX4_next_30 : decode cX4_next 30 = .ok (.getfield 246, 3) := dk_180 0 246 (dk_at dksX4_next_1 7 rfl rfl)
theorem dX4_next_33 : decode cX4_next 33 = .ok (.iload_n 1, 1) := dk_27 (dk_at dksX4_next_1 10 rfl rfl)
theorem dX4_next_34 : decode cX4_next 34 = .ok (.iadd, 1) := dk_96 (dk_at dksX4_next_1 11 rfl rfl)
theorem dX4_next_35 : decode cX4_next 35 = .ok (.putfield 246, 3) := dk_181 0 246 (dk_at dksX4_next_1 12 rfl rfl)
theorem dX4_next_38 : decode cX4_next 38 = .ok (.aload_n 0, 1) := dk_42 (dk_at dksX4_next_1 15 rfl rfl)
theorem dX4_next_39 : decode cX4_next 39 = .ok (.dup, 1) := dk_89 (dk_at dksX4_next_1 16 rfl rfl)
theorem dX4_next_40 : decode cX4_next 40 = .ok (.getfield 249, 3) := dk_180 0 249 (dk_at dksX4_next_1 17 rfl rfl)
theorem dX4_next_43 : decode cX4_next 43 = .ok (.iconst 1, 1) := dk_4 (dk_at dksX4_next_1 20 rfl rfl)
theorem dX4_next_44 : decode cX4_next 44 = .ok (.iadd, 1) := dk_96 (dk_at dksX4_next_1 21 rfl rfl)
theorem dX4_next_45 : decode cX4_next 45 = .ok (.putfield 249, 3) := dk_181 0 249 (dk_at dksX4_next_2 0 rfl rfl)
theorem dX4_next_48 : decode cX4_next 48 = .ok (.aload_n 0, 1) := dk_42 (dk_at dksX4_next_2 3 rfl rfl)
theorem dX4_next_49 : decode cX4_next 49 = .ok (.getfield 246, 3) := dk_180 0 246 (dk_at dksX4_next_2 4 rfl rfl)
theorem dX4_next_52 : decode cX4_next 52 = .ok (.ireturn, 1) := dk_172 (dk_at dksX4_next_2 7 rfl rfl)
abbrev cX4_isIn : ByteArray := prog_18_method_8_code
def yX4_isIn : MethodName := ⟨RX4, "isIn", "(III)Z"⟩
def dkwX4_isIn_0 : List UInt8 := [26, 27, 161, 0, 12, 26, 28, 163, 0, 7, 4, 167, 0, 4, 3, 172]
abbrev dktX4_isIn_0 : List UInt8 := dkwX4_isIn_0 ++ []
theorem dksX4_isIn_0 : cX4_isIn.data.toList.drop 0 = dktX4_isIn_0 := by decide +kernel
theorem dX4_isIn_0 : decode cX4_isIn 0 = .ok (.iload_n 0, 1) := dk_26 (dk_at dksX4_isIn_0 0 rfl rfl)
theorem dX4_isIn_1 : decode cX4_isIn 1 = .ok (.iload_n 1, 1) := dk_27 (dk_at dksX4_isIn_0 1 rfl rfl)
theorem dX4_isIn_2 : decode cX4_isIn 2 = .ok (.if_icmp .lt 12, 3) := dk_161 0 12 (dk_at dksX4_isIn_0 2 rfl rfl)
theorem dX4_isIn_5 : decode cX4_isIn 5 = .ok (.iload_n 0, 1) := dk_26 (dk_at dksX4_isIn_0 5 rfl rfl)
theorem dX4_isIn_6 : decode cX4_isIn 6 = .ok (.iload_n 2, 1) := dk_28 (dk_at dksX4_isIn_0 6 rfl rfl)
theorem dX4_isIn_7 : decode cX4_isIn 7 = .ok (.if_icmp .gt 7, 3) := dk_163 0 7 (dk_at dksX4_isIn_0 7 rfl rfl)
theorem dX4_isIn_10 : decode cX4_isIn 10 = .ok (.iconst 1, 1) := dk_4 (dk_at dksX4_isIn_0 10 rfl rfl)
theorem dX4_isIn_11 : decode cX4_isIn 11 = .ok (.goto 4, 3) := dk_167 0 4 (dk_at dksX4_isIn_0 11 rfl rfl)
theorem dX4_isIn_14 : decode cX4_isIn 14 = .ok (.iconst 0, 1) := dk_3 (dk_at dksX4_isIn_0 14 rfl rfl)
theorem dX4_isIn_15 : decode cX4_isIn 15 = .ok (.ireturn, 1) := dk_172 (dk_at dksX4_isIn_0 15 rfl rfl)
abbrev cX4_opera : ByteArray := prog_18_method_10_code
def yX4_opera : MethodName := ⟨RX4, "opera", "(IIZI)I"⟩
def dkwX4_opera_17 : List UInt8 := [180, 0, 255, 4, 96, 181, 0, 255, 42, 89, 180, 0, 249, 4, 96, 181, 0, 249, 21, 5, 172]
abbrev dktX4_opera_17 : List UInt8 := dkwX4_opera_17 ++ []
def dkwX4_opera_16 : List UInt8 := [96, 42, 180, 0, 7, 7, 21, 6, 104, 16, 7, 96, 51, 79, 132, 6, 1, 167, 255, 143, 42, 89]
abbrev dktX4_opera_16 : List UInt8 := dkwX4_opera_16 ++ dktX4_opera_17
def dkwX4_opera_15 : List UInt8 := [42, 180, 0, 7, 7, 21, 6, 104, 16, 6, 96, 51, 79, 42, 180, 0, 38, 16, 8, 21, 5, 104, 21, 6]
abbrev dktX4_opera_15 : List UInt8 := dkwX4_opera_15 ++ dktX4_opera_16
def dkwX4_opera_14 : List UInt8 := [42, 180, 0, 7, 7, 21, 6, 104, 8, 96, 51, 79, 42, 180, 0, 35, 16, 8, 21, 5, 104, 21, 6, 96]
abbrev dktX4_opera_14 : List UInt8 := dkwX4_opera_14 ++ dktX4_opera_15
def dkwX4_opera_13 : List UInt8 := [42, 180, 0, 7, 7, 21, 6, 104, 7, 96, 51, 79, 42, 180, 0, 32, 16, 8, 21, 5, 104, 21, 6, 96]
abbrev dktX4_opera_13 : List UInt8 := dkwX4_opera_13 ++ dktX4_opera_14
def dkwX4_opera_12 : List UInt8 := [21, 6, 42, 180, 0, 26, 21, 5, 46, 162, 0, 107, 42, 180, 0, 29, 16, 8, 21, 5, 104, 21, 6, 96]
abbrev dktX4_opera_12 : List UInt8 := dkwX4_opera_12 ++ dktX4_opera_13
def dkwX4_opera_11 : List UInt8 := [21, 5, 104, 21, 6, 96, 42, 180, 0, 7, 21, 6, 51, 79, 132, 6, 1, 167, 255, 228, 3, 54, 6]
abbrev dktX4_opera_11 : List UInt8 := dkwX4_opera_11 ++ dktX4_opera_12
def dkwX4_opera_10 : List UInt8 := [42, 180, 0, 236, 7, 108, 4, 100, 79, 3, 54, 6, 21, 6, 7, 162, 0, 28, 42, 180, 0, 23, 7]
abbrev dktX4_opera_10 : List UInt8 := dkwX4_opera_10 ++ dktX4_opera_11
def dkwX4_opera_9 : List UInt8 := [79, 42, 180, 0, 41, 21, 5, 29, 84, 42, 180, 0, 20, 21, 5, 21, 4, 79, 42, 180, 0, 26, 21, 5]
abbrev dktX4_opera_9 : List UInt8 := dkwX4_opera_9 ++ dktX4_opera_10
def dkwX4_opera_8 : List UInt8 := [167, 255, 146, 42, 180, 0, 255, 54, 5, 42, 180, 0, 13, 21, 5, 27, 79, 42, 180, 0, 17, 21, 5, 28]
abbrev dktX4_opera_8 : List UInt8 := dkwX4_opera_8 ++ dktX4_opera_9
def dkwX4_opera_7 : List UInt8 := [180, 0, 7, 21, 5, 51, 3, 16, 9, 184, 0, 242, 54, 7, 21, 7, 154, 0, 5, 2, 172, 132, 5, 1]
abbrev dktX4_opera_7 : List UInt8 := dkwX4_opera_7 ++ dktX4_opera_8
def dkwX4_opera_6 : List UInt8 := [21, 6, 4, 160, 0, 19, 42, 180, 0, 7, 21, 5, 51, 4, 16, 30, 184, 0, 242, 167, 0, 16, 42]
abbrev dktX4_opera_6 : List UInt8 := dkwX4_opera_6 ++ dktX4_opera_7
def dkwX4_opera_5 : List UInt8 := [153, 0, 9, 21, 6, 5, 160, 0, 18, 42, 180, 0, 7, 21, 5, 51, 3, 8, 184, 0, 242, 167, 0, 38]
abbrev dktX4_opera_5 : List UInt8 := dkwX4_opera_5 ++ dktX4_opera_6
def dkwX4_opera_4 : List UInt8 := [21, 5, 7, 162, 0, 19, 42, 180, 0, 7, 21, 5, 51, 3, 16, 40, 184, 0, 242, 167, 0, 64, 21, 6]
abbrev dktX4_opera_4 : List UInt8 := dkwX4_opera_4 ++ dktX4_opera_5
def dkwX4_opera_3 : List UInt8 := [154, 0, 5, 2, 172, 3, 54, 5, 21, 5, 42, 180, 0, 236, 162, 0, 107, 21, 5, 7, 112, 54, 6]
abbrev dktX4_opera_3 : List UInt8 := dkwX4_opera_3 ++ dktX4_opera_4
def dkwX4_opera_2 : List UInt8 := [153, 0, 26, 42, 180, 0, 236, 7, 112, 154, 0, 17, 42, 180, 0, 236, 16, 8, 16, 36, 184, 0, 242]
abbrev dktX4_opera_2 : List UInt8 := dkwX4_opera_2 ++ dktX4_opera_3
def dkwX4_opera_1 : List UInt8 := [184, 0, 242, 153, 0, 46, 28, 3, 6, 184, 0, 242, 153, 0, 37, 21, 4, 4, 16, 60, 184, 0, 242]
abbrev dktX4_opera_1 : List UInt8 := dkwX4_opera_1 ++ dktX4_opera_2
def dkwX4_opera_0 : List UInt8 := [42, 3, 181, 0, 226, 42, 182, 0, 252, 42, 180, 0, 255, 16, 9, 159, 0, 56, 27, 5, 16, 6]
abbrev dktX4_opera_0 : List UInt8 := dkwX4_opera_0 ++ dktX4_opera_1
theorem dksX4_opera_0 : cX4_opera.data.toList.drop 0 = dktX4_opera_0 := by decide +kernel
theorem dksX4_opera_1 : cX4_opera.data.toList.drop 22 = dktX4_opera_1 := dk_seg dksX4_opera_0 22 rfl rfl
theorem dksX4_opera_2 : cX4_opera.data.toList.drop 45 = dktX4_opera_2 := dk_seg dksX4_opera_1 23 rfl rfl
theorem dksX4_opera_3 : cX4_opera.data.toList.drop 68 = dktX4_opera_3 := dk_seg dksX4_opera_2 23 rfl rfl
theorem dksX4_opera_4 : cX4_opera.data.toList.drop 91 = dktX4_opera_4 := dk_seg dksX4_opera_3 23 rfl rfl
theorem dksX4_opera_5 : cX4_opera.data.toList.drop 115 = dktX4_opera_5 := dk_seg dksX4_opera_4 24 rfl rfl
theorem dksX4_opera_6 : cX4_opera.data.toList.drop 139 = dktX4_opera_6 := dk_seg dksX4_opera_5 24 rfl rfl
theorem dksX4_opera_7 : cX4_opera.data.toList.drop 162 = dktX4_opera_7 := dk_seg dksX4_opera_6 23 rfl rfl
theorem dksX4_opera_8 : cX4_opera.data.toList.drop 186 = dktX4_opera_8 := dk_seg dksX4_opera_7 24 rfl rfl
theorem dksX4_opera_9 : cX4_opera.data.toList.drop 210 = dktX4_opera_9 := dk_seg dksX4_opera_8 24 rfl rfl
theorem dksX4_opera_10 : cX4_opera.data.toList.drop 234 = dktX4_opera_10 := dk_seg dksX4_opera_9 24 rfl rfl
theorem dksX4_opera_11 : cX4_opera.data.toList.drop 257 = dktX4_opera_11 := dk_seg dksX4_opera_10 23 rfl rfl
theorem dksX4_opera_12 : cX4_opera.data.toList.drop 280 = dktX4_opera_12 := dk_seg dksX4_opera_11 23 rfl rfl
theorem dksX4_opera_13 : cX4_opera.data.toList.drop 304 = dktX4_opera_13 := dk_seg dksX4_opera_12 24 rfl rfl
theorem dksX4_opera_14 : cX4_opera.data.toList.drop 328 = dktX4_opera_14 := dk_seg dksX4_opera_13 24 rfl rfl
theorem dksX4_opera_15 : cX4_opera.data.toList.drop 352 = dktX4_opera_15 := dk_seg dksX4_opera_14 24 rfl rfl
theorem dksX4_opera_16 : cX4_opera.data.toList.drop 376 = dktX4_opera_16 := dk_seg dksX4_opera_15 24 rfl rfl
theorem dksX4_opera_17 : cX4_opera.data.toList.drop 398 = dktX4_opera_17 := dk_seg dksX4_opera_16 22 rfl rfl
theorem dX4_opera_0 : decode cX4_opera 0 = .ok (.aload_n 0, 1) := dk_42 (dk_at dksX4_opera_0 0 rfl rfl)
theorem dX4_opera_1 : decode cX4_opera 1 = .ok (.iconst 0, 1) := dk_3 (dk_at dksX4_opera_0 1 rfl rfl)
theorem dX4_opera_2 : decode cX4_opera 2 = .ok (.putfield 226, 3) := dk_181 0 226 (dk_at dksX4_opera_0 2 rfl rfl)
theorem dX4_opera_5 : decode cX4_opera 5 = .ok (.aload_n 0, 1) := dk_42 (dk_at dksX4_opera_0 5 rfl rfl)
theorem dX4_opera_6 : decode cX4_opera 6 = .ok (.invokevirtual 252, 3) := dk_182 0 252 (dk_at dksX4_opera_0 6 rfl rfl)
theorem dX4_opera_9 : decode cX4_opera 9 = .ok (.aload_n 0, 1) := dk_42 (dk_at dksX4_opera_0 9 rfl rfl)
theorem dX4_opera_10 : decode cX4_opera 10 = .ok (.getfield 255, 3) := dk_180 0 255 (dk_at dksX4_opera_0 10 rfl rfl)
theorem dX4_opera_13 : decode cX4_opera 13 = .ok (.bipush 9, 2) := dk_16 9 (dk_at dksX4_opera_0 13 rfl rfl)
theorem dX4_opera_15 : decode cX4_opera 15 = .ok (.if_icmp .eq 56, 3) := dk_159 0 56 (dk_at dksX4_opera_0 15 rfl rfl)
theorem dX4_opera_18 : decode cX4_opera 18 = .ok (.iload_n 1, 1) := dk_27 (dk_at dksX4_opera_0 18 rfl rfl)
theorem dX4_opera_19 : decode cX4_opera 19 = .ok (.iconst 2, 1) := dk_5 (dk_at dksX4_opera_0 19 rfl rfl)
theorem dX4_opera_20 : decode cX4_opera 20 = .ok (.bipush 6, 2) := dk_16 6 (dk_at dksX4_opera_0 20 rfl rfl)
theorem dX4_opera_22 : decode cX4_opera 22 = .ok (.invokestatic 242, 3) := dk_184 0 242 (dk_at dksX4_opera_1 0 rfl rfl)
theorem dX4_opera_25 : decode cX4_opera 25 = .ok (.ifCond .eq 46, 3) := dk_153 0 46 (dk_at dksX4_opera_1 3 rfl rfl)
theorem dX4_opera_28 : decode cX4_opera 28 = .ok (.iload_n 2, 1) := dk_28 (dk_at dksX4_opera_1 6 rfl rfl)
theorem dX4_opera_29 : decode cX4_opera 29 = .ok (.iconst 0, 1) := dk_3 (dk_at dksX4_opera_1 7 rfl rfl)
theorem dX4_opera_30 : decode cX4_opera 30 = .ok (.iconst 3, 1) := dk_6 (dk_at dksX4_opera_1 8 rfl rfl)
theorem dX4_opera_31 : decode cX4_opera 31 = .ok (.invokestatic 242, 3) := dk_184 0 242 (dk_at dksX4_opera_1 9 rfl rfl)
theorem dX4_opera_34 : decode cX4_opera 34 = .ok (.ifCond .eq 37, 3) := dk_153 0 37 (dk_at dksX4_opera_1 12 rfl rfl)
theorem dX4_opera_37 : decode cX4_opera 37 = .ok (.iload 4, 2) := dk_21 4 (dk_at dksX4_opera_1 15 rfl rfl)
theorem dX4_opera_39 : decode cX4_opera 39 = .ok (.iconst 1, 1) := dk_4 (dk_at dksX4_opera_1 17 rfl rfl)
theorem dX4_opera_40 : decode cX4_opera 40 = .ok (.bipush 60, 2) := dk_16 60 (dk_at dksX4_opera_1 18 rfl rfl)
theorem dX4_opera_42 : decode cX4_opera 42 = .ok (.invokestatic 242, 3) := dk_184 0 242 (dk_at dksX4_opera_1 20 rfl rfl)
theorem dX4_opera_45 : decode cX4_opera 45 = .ok (.ifCond .eq 26, 3) := dk_153 0 26 (dk_at dksX4_opera_2 0 rfl rfl)
theorem dX4_opera_48 : decode cX4_opera 48 = .ok (.aload_n 0, 1) := dk_42 (dk_at dksX4_opera_2 3 rfl rfl)
theorem dX4_opera_49 : decode cX4_opera 49 = .ok (.getfield 236, 3) := dk_180 0 236 (dk_at dksX4_opera_2 4 rfl rfl)
theorem dX4_opera_52 : decode cX4_opera 52 = .ok (.iconst 4, 1) := dk_7 (dk_at dksX4_opera_2 7 rfl rfl)
theorem dX4_opera_53 : decode cX4_opera 53 = .ok (.irem, 1) := dk_112 (dk_at dksX4_opera_2 8 rfl rfl)
theorem dX4_opera_54 : decode cX4_opera 54 = .ok (.ifCond .ne 17, 3) := dk_154 0 17 (dk_at dksX4_opera_2 9 rfl rfl)
theorem dX4_opera_57 : decode cX4_opera 57 = .ok (.aload_n 0, 1) := dk_42 (dk_at dksX4_opera_2 12 rfl rfl)
theorem dX4_opera_58 : decode cX4_opera 58 = .ok (.getfield 236, 3) := dk_180 0 236 (dk_at dksX4_opera_2 13 rfl rfl)
theorem dX4_opera_61 : decode cX4_opera 61 = .ok (.bipush 8, 2) := dk_16 8 (dk_at dksX4_opera_2 16 rfl rfl)
theorem dX4_opera_63 : decode cX4_opera 63 = .ok (.bipush 36, 2) := dk_16 36 (dk_at dksX4_opera_2 18 rfl rfl)
theorem dX4_opera_65 : decode cX4_opera 65 = .ok (.invokestatic 242, 3) := dk_184 0 242 (dk_at dksX4_opera_2 20 rfl rfl)
theorem dX4_opera_68 : decode cX4_opera 68 = .ok (.ifCond .ne 5, 3) := dk_154 0 5 (dk_at dksX4_opera_3 0 rfl rfl)
theorem dX4_opera_71 : decode cX4_opera 71 = .ok (.iconst (-1), 1) := dk_2 (dk_at dksX4_opera_3 3 rfl rfl)
theorem dX4_opera_72 : decode cX4_opera 72 = .ok (.ireturn, 1) := dk_172 (dk_at dksX4_opera_3 4 rfl rfl)
theorem dX4_opera_73 : decode cX4_opera 73 = .ok (.iconst 0, 1) := dk_3 (dk_at dksX4_opera_3 5 rfl rfl)
theorem dX4_opera_74 : decode cX4_opera 74 = .ok (.istore 5, 2) := dk_54 5 (dk_at dksX4_opera_3 6 rfl rfl)
theorem dX4_opera_76 : decode cX4_opera 76 = .ok (.iload 5, 2) := dk_21 5 (dk_at dksX4_opera_3 8 rfl rfl)
theorem dX4_opera_78 : decode cX4_opera 78 = .ok (.aload_n 0, 1) := dk_42 (dk_at dksX4_opera_3 10 rfl rfl)
theorem dX4_opera_79 : decode cX4_opera 79 = .ok (.getfield 236, 3) := dk_180 0 236 (dk_at dksX4_opera_3 11 rfl rfl)
theorem dX4_opera_82 : decode cX4_opera 82 = .ok (.if_icmp .ge 107, 3) := dk_162 0 107 (dk_at dksX4_opera_3 14 rfl rfl)
theorem dX4_opera_85 : decode cX4_opera 85 = .ok (.iload 5, 2) := dk_21 5 (dk_at dksX4_opera_3 17 rfl rfl)
theorem dX4_opera_87 : decode cX4_opera 87 = .ok (.iconst 4, 1) := dk_7 (dk_at dksX4_opera_3 19 rfl rfl)
theorem dX4_opera_88 : decode cX4_opera 88 = .ok (.irem, 1) := dk_112 (dk_at dksX4_opera_3 20 rfl rfl)
theorem dX4_opera_89 : decode cX4_opera 89 = .ok (.istore 6, 2) := dk_54 6 (dk_at dksX4_opera_3 21 rfl rfl)
theorem dX4_opera_91 : decode cX4_opera 91 = .ok (.iload 5, 2) := dk_21 5 (dk_at dksX4_opera_4 0 rfl rfl)
theorem dX4_opera_93 : decode cX4_opera 93 = .ok (.iconst 4, 1) := dk_7 (dk_at dksX4_opera_4 2 rfl rfl)
theorem dX4_opera_94 : decode cX4_opera 94 = .ok (.if_icmp .ge 19, 3) := dk_162 0 19 (dk_at dksX4_opera_4 3 rfl rfl)
theorem dX4_opera_97 : decode cX4_opera 97 = .ok (.aload_n 0, 1) := dk_42 (dk_at dksX4_opera_4 6 rfl rfl)
theorem dX4_opera_98 : decode cX4_opera 98 = .ok (.getfield 7, 3) := dk_180 0 7 (dk_at dksX4_opera_4 7 rfl rfl)
theorem dX4_opera_101 : decode cX4_opera 101 = .ok (.iload 5, 2) := dk_21 5 (dk_at dksX4_opera_4 10 rfl rfl)
theorem dX4_opera_103 : decode cX4_opera 103 = .ok (.baload, 1) := dk_51 (dk_at dksX4_opera_4 12 rfl rfl)
theorem dX4_opera_104 : decode cX4_opera 104 = .ok (.iconst 0, 1) := dk_3 (dk_at dksX4_opera_4 13 rfl rfl)
theorem dX4_opera_105 : decode cX4_opera 105 = .ok (.bipush 40, 2) := dk_16 40 (dk_at dksX4_opera_4 14 rfl rfl)
theorem dX4_opera_107 : decode cX4_opera 107 = .ok (.invokestatic 242, 3) := dk_184 0 242 (dk_at dksX4_opera_4 16 rfl rfl)
theorem dX4_opera_110 : decode cX4_opera 110 = .ok (.goto 64, 3) := dk_167 0 64 (dk_at dksX4_opera_4 19 rfl rfl)
theorem dX4_opera_113 : decode cX4_opera 113 = .ok (.iload 6, 2) := dk_21 6 (dk_at dksX4_opera_4 22 rfl rfl)
theorem dX4_opera_115 : decode cX4_opera 115 = .ok (.ifCond .eq 9, 3) := dk_153 0 9 (dk_at dksX4_opera_5 0 rfl rfl)
theorem dX4_opera_118 : decode cX4_opera 118 = .ok (.iload 6, 2) := dk_21 6 (dk_at dksX4_opera_5 3 rfl rfl)
theorem dX4_opera_120 : decode cX4_opera 120 = .ok (.iconst 2, 1) := dk_5 (dk_at dksX4_opera_5 5 rfl rfl)
theorem dX4_opera_121 : decode cX4_opera 121 = .ok (.if_icmp .ne 18, 3) := dk_160 0 18 (dk_at dksX4_opera_5 6 rfl rfl)
theorem dX4_opera_124 : decode cX4_opera 124 = .ok (.aload_n 0, 1) := dk_42 (dk_at dksX4_opera_5 9 rfl rfl)
theorem dX4_opera_125 : decode cX4_opera 125 = .ok (.getfield 7, 3) := dk_180 0 7 (dk_at dksX4_opera_5 10 rfl rfl)
theorem dX4_opera_128 : decode cX4_opera 128 = .ok (.iload 5, 2) := dk_21 5 (dk_at dksX4_opera_5 13 rfl rfl)
theorem dX4_opera_130 : decode cX4_opera 130 = .ok (.baload, 1) := dk_51 (dk_at dksX4_opera_5 15 rfl rfl)
theorem dX4_opera_131 : decode cX4_opera 131 = .ok (.iconst 0, 1) := dk_3 (dk_at dksX4_opera_5 16 rfl rfl)
theorem dX4_opera_132 : decode cX4_opera 132 = .ok (.iconst 5, 1) := dk_8 (dk_at dksX4_opera_5 17 rfl rfl)
theorem dX4_opera_133 : decode cX4_opera 133 = .ok (.invokestatic 242, 3) := dk_184 0 242 (dk_at dksX4_opera_5 18 rfl rfl)
theorem dX4_opera_136 : decode cX4_opera 136 = .ok (.goto 38, 3) := dk_167 0 38 (dk_at dksX4_opera_5 21 rfl rfl)
theorem dX4_opera_139 : decode cX4_opera 139 = .ok (.iload 6, 2) := dk_21 6 (dk_at dksX4_opera_6 0 rfl rfl)
theorem dX4_opera_141 : decode cX4_opera 141 = .ok (.iconst 1, 1) := dk_4 (dk_at dksX4_opera_6 2 rfl rfl)
theorem dX4_opera_142 : decode cX4_opera 142 = .ok (.if_icmp .ne 19, 3) := dk_160 0 19 (dk_at dksX4_opera_6 3 rfl rfl)
theorem dX4_opera_145 : decode cX4_opera 145 = .ok (.aload_n 0, 1) := dk_42 (dk_at dksX4_opera_6 6 rfl rfl)
theorem dX4_opera_146 : decode cX4_opera 146 = .ok (.getfield 7, 3) := dk_180 0 7 (dk_at dksX4_opera_6 7 rfl rfl)
theorem dX4_opera_149 : decode cX4_opera 149 = .ok (.iload 5, 2) := dk_21 5 (dk_at dksX4_opera_6 10 rfl rfl)
theorem dX4_opera_151 : decode cX4_opera 151 = .ok (.baload, 1) := dk_51 (dk_at dksX4_opera_6 12 rfl rfl)
theorem dX4_opera_152 : decode cX4_opera 152 = .ok (.iconst 1, 1) := dk_4 (dk_at dksX4_opera_6 13 rfl rfl)
theorem dX4_opera_153 : decode cX4_opera 153 = .ok (.bipush 30, 2) := dk_16 30 (dk_at dksX4_opera_6 14 rfl rfl)
theorem dX4_opera_155 : decode cX4_opera 155 = .ok (.invokestatic 242, 3) := dk_184 0 242 (dk_at dksX4_opera_6 16 rfl rfl)
theorem dX4_opera_158 : decode cX4_opera 158 = .ok (.goto 16, 3) := dk_167 0 16 (dk_at dksX4_opera_6 19 rfl rfl)
theorem dX4_opera_161 : decode cX4_opera 161 = .ok (.aload_n 0, 1) := dk_42 (dk_at dksX4_opera_6 22 rfl rfl)
theorem dX4_opera_162 : decode cX4_opera 162 = .ok (.getfield 7, 3) := dk_180 0 7 (dk_at dksX4_opera_7 0 rfl rfl)
theorem dX4_opera_165 : decode cX4_opera 165 = .ok (.iload 5, 2) := dk_21 5 (dk_at dksX4_opera_7 3 rfl rfl)
theorem dX4_opera_167 : decode cX4_opera 167 = .ok (.baload, 1) := dk_51 (dk_at dksX4_opera_7 5 rfl rfl)
theorem dX4_opera_168 : decode cX4_opera 168 = .ok (.iconst 0, 1) := dk_3 (dk_at dksX4_opera_7 6 rfl rfl)
theorem dX4_opera_169 : decode cX4_opera 169 = .ok (.bipush 9, 2) := dk_16 9 (dk_at dksX4_opera_7 7 rfl rfl)
theorem dX4_opera_171 : decode cX4_opera 171 = .ok (.invokestatic 242, 3) := dk_184 0 242 (dk_at dksX4_opera_7 9 rfl rfl)
theorem dX4_opera_174 : decode cX4_opera 174 = .ok (.istore 7, 2) := dk_54 7 (dk_at dksX4_opera_7 12 rfl rfl)
theorem dX4_opera_176 : decode cX4_opera 176 = .ok (.iload 7, 2) := dk_21 7 (dk_at dksX4_opera_7 14 rfl rfl)
theorem dX4_opera_178 : decode cX4_opera 178 = .ok (.ifCond .ne 5, 3) := dk_154 0 5 (dk_at dksX4_opera_7 16 rfl rfl)
theorem dX4_opera_181 : decode cX4_opera 181 = .ok (.iconst (-1), 1) := dk_2 (dk_at dksX4_opera_7 19 rfl rfl)
theorem dX4_opera_182 : decode cX4_opera 182 = .ok (.ireturn, 1) := dk_172 (dk_at dksX4_opera_7 20 rfl rfl)
theorem dX4_opera_183 : decode cX4_opera 183 = .ok (.iinc 5 1, 3) := dk_132 5 1 (dk_at dksX4_opera_7 21 rfl rfl)
theorem dX4_opera_186 : decode cX4_opera 186 = .ok (.goto (-110), 3) := dk_167 255 146 (dk_at dksX4_opera_8 0 rfl rfl)
theorem dX4_opera_189 : decode cX4_opera 189 = .ok (.aload_n 0, 1) := dk_42 (dk_at dksX4_opera_8 3 rfl rfl)
theorem dX4_opera_190 : decode cX4_opera 190 = .ok (.getfield 255, 3) := dk_180 0 255 (dk_at dksX4_opera_8 4 rfl rfl)
theorem dX4_opera_193 : decode cX4_opera 193 = .ok (.istore 5, 2) := dk_54 5 (dk_at dksX4_opera_8 7 rfl rfl)
theorem dX4_opera_195 : decode cX4_opera 195 = .ok (.aload_n 0, 1) := dk_42 (dk_at dksX4_opera_8 9 rfl rfl)
theorem dX4_opera_196 : decode cX4_opera 196 = .ok (.getfield 13, 3) := dk_180 0 13 (dk_at dksX4_opera_8 10 rfl rfl)
theorem dX4_opera_199 : decode cX4_opera 199 = .ok (.iload 5, 2) := dk_21 5 (dk_at dksX4_opera_8 13 rfl rfl)
theorem dX4_opera_201 : decode cX4_opera 201 = .ok (.iload_n 1, 1) := dk_27 (dk_at dksX4_opera_8 15 rfl rfl)
theorem dX4_opera_202 : decode cX4_opera 202 = .ok (.iastore, 1) := dk_79 (dk_at dksX4_opera_8 16 rfl rfl)
theorem dX4_opera_203 : decode cX4_opera 203 = .ok (.aload_n 0, 1) := dk_42 (dk_at dksX4_opera_8 17 rfl rfl)
theorem dX4_opera_204 : decode cX4_opera 204 = .ok (.getfield 17, 3) := dk_180 0 17 (dk_at dksX4_opera_8 18 rfl rfl)
theorem dX4_opera_207 : decode cX4_opera 207 = .ok (.iload 5, 2) := dk_21 5 (dk_at dksX4_opera_8 21 rfl rfl)
theorem dX4_opera_209 : decode cX4_opera 209 = .ok (.iload_n 2, 1) := dk_28 (dk_at dksX4_opera_8 23 rfl rfl)
theorem dX4_opera_210 : decode cX4_opera 210 = .ok (.iastore, 1) := dk_79 (dk_at dksX4_opera_9 0 rfl rfl)
theorem dX4_opera_211 : decode cX4_opera 211 = .ok (.aload_n 0, 1) := dk_42 (dk_at dksX4_opera_9 1 rfl rfl)
theorem dX4_opera_212 : decode cX4_opera 212 = .ok (.getfield 41, 3) := dk_180 0 41 (dk_at dksX4_opera_9 2 rfl rfl)
theorem dX4_opera_215 : decode cX4_opera 215 = .ok (.iload 5, 2) := dk_21 5 (dk_at dksX4_opera_9 5 rfl rfl)
theorem dX4_opera_217 : decode cX4_opera 217 = .ok (.iload_n 3, 1) := dk_29 (dk_at dksX4_opera_9 7 rfl rfl)
theorem dX4_opera_218 : decode cX4_opera 218 = .ok (.bastore, 1) := dk_84 (dk_at dksX4_opera_9 8 rfl rfl)
theorem dX4_opera_219 : decode cX4_opera 219 = .ok (.aload_n 0, 1) := dk_42 (dk_at dksX4_opera_9 9 rfl rfl)
theorem dX4_opera_220 : decode cX4_opera 220 = .ok (.getfield 20, 3) := dk_180 0 20 (dk_at dksX4_opera_9 10 rfl rfl)
theorem dX4_opera_223 : decode cX4_opera 223 = .ok (.iload 5, 2) := dk_21 5 (dk_at dksX4_opera_9 13 rfl rfl)
theorem dX4_opera_225 : decode cX4_opera 225 = .ok (.iload 4, 2) := dk_21 4 (dk_at dksX4_opera_9 15 rfl rfl)
theorem dX4_opera_227 : decode cX4_opera 227 = .ok (.iastore, 1) := dk_79 (dk_at dksX4_opera_9 17 rfl rfl)
theorem dX4_opera_228 : decode cX4_opera 228 = .ok (.aload_n 0, 1) := dk_42 (dk_at dksX4_opera_9 18 rfl rfl)
theorem dX4_opera_229 : decode cX4_opera 229 = .ok (.getfield 26, 3) := dk_180 0 26 (dk_at dksX4_opera_9 19 rfl rfl)
theorem dX4_opera_232 : decode cX4_opera 232 = .ok (.iload 5, 2) := dk_21 5 (dk_at dksX4_opera_9 22 rfl rfl)
theorem dX4_opera_234 : decode cX4_opera 234 = .ok (.aload_n 0, 1) := dk_42 (dk_at dksX4_opera_10 0 rfl rfl)
theorem dX4_opera_235 : decode cX4_opera 235 = .ok (.getfield 236, 3) := dk_180 0 236 (dk_at dksX4_opera_10 1 rfl rfl)
theorem dX4_opera_238 : decode cX4_opera 238 = .ok (.iconst 4, 1) := dk_7 (dk_at dksX4_opera_10 4 rfl rfl)
theorem dX4_opera_239 : decode cX4_opera 239 = .ok (.idiv, 1) := dk_108 (dk_at dksX4_opera_10 5 rfl rfl)
theorem dX4_opera_240 : decode cX4_opera 240 = .ok (.iconst 1, 1) := dk_4 (dk_at dksX4_opera_10 6 rfl rfl)
theorem dX4_opera_241 : decode cX4_opera 241 = .ok (.isub, 1) := dk_100 (dk_at dksX4_opera_10 7 rfl rfl)
theorem dX4_opera_242 : decode cX4_opera 242 = .ok (.iastore, 1) := dk_79 (dk_at dksX4_opera_10 8 rfl rfl)
theorem dX4_opera_243 : decode cX4_opera 243 = .ok (.iconst 0, 1) := dk_3 (dk_at dksX4_opera_10 9 rfl rfl)
theorem dX4_opera_244 : decode cX4_opera 244 = .ok (.istore 6, 2) := dk_54 6 (dk_at dksX4_opera_10 10 rfl rfl)
theorem dX4_opera_246 : decode cX4_opera 246 = .ok (.iload 6, 2) := dk_21 6 (dk_at dksX4_opera_10 12 rfl rfl)
theorem dX4_opera_248 : decode cX4_opera 248 = .ok (.iconst 4, 1) := dk_7 (dk_at dksX4_opera_10 14 rfl rfl)
theorem dX4_opera_249 : decode cX4_opera 249 = .ok (.if_icmp .ge 28, 3) := dk_162 0 28 (dk_at dksX4_opera_10 15 rfl rfl)
theorem dX4_opera_252 : decode cX4_opera 252 = .ok (.aload_n 0, 1) := dk_42 (dk_at dksX4_opera_10 18 rfl rfl)
theorem dX4_opera_253 : decode cX4_opera 253 = .ok (.getfield 23, 3) := dk_180 0 23 (dk_at dksX4_opera_10 19 rfl rfl)
theorem dX4_opera_256 : decode cX4_opera 256 = .ok (.iconst 4, 1) := dk_7 (dk_at dksX4_opera_10 22 rfl rfl)
theorem dX4_opera_257 : decode cX4_opera 257 = .ok (.iload 5, 2) := dk_21 5 (dk_at dksX4_opera_11 0 rfl rfl)
theorem dX4_opera_259 : decode cX4_opera 259 = .ok (.imul, 1) := dk_104 (dk_at dksX4_opera_11 2 rfl rfl)
theorem dX4_opera_260 : decode cX4_opera 260 = .ok (.iload 6, 2) := dk_21 6 (dk_at dksX4_opera_11 3 rfl rfl)
theorem dX4_opera_262 : decode cX4_opera 262 = .ok (.iadd, 1) := dk_96 (dk_at dksX4_opera_11 5 rfl rfl)
theorem dX4_opera_263 : decode cX4_opera 263 = .ok (.aload_n 0, 1) := dk_42 (dk_at dksX4_opera_11 6 rfl rfl)
theorem dX4_opera_264 : decode cX4_opera 264 = .ok (.getfield 7, 3) := dk_180 0 7 (dk_at dksX4_opera_11 7 rfl rfl)
theorem dX4_opera_267 : decode cX4_opera 267 = .ok (.iload 6, 2) := dk_21 6 (dk_at dksX4_opera_11 10 rfl rfl)
theorem dX4_opera_269 : decode cX4_opera 269 = .ok (.baload, 1) := dk_51 (dk_at dksX4_opera_11 12 rfl rfl)
theorem dX4_opera_270 : decode cX4_opera 270 = .ok (.iastore, 1) := dk_79 (dk_at dksX4_opera_11 13 rfl rfl)
theorem dX4_opera_271 : decode cX4_opera 271 = .ok (.iinc 6 1, 3) := dk_132 6 1 (dk_at dksX4_opera_11 14 rfl rfl)
theorem dX4_opera_274 : decode cX4_opera 274 = .ok (.goto (-28), 3) := dk_167 255 228 (dk_at dksX4_opera_11 17 rfl rfl)
theorem dX4_opera_277 : decode cX4_opera 277 = .ok (.iconst 0, 1) := dk_3 (dk_at dksX4_opera_11 20 rfl rfl)
theorem dX4_opera_278 : decode cX4_opera 278 = .ok (.istore 6, 2) := dk_54 6 (dk_at dksX4_opera_11 21 rfl rfl)
theorem dX4_opera_280 : decode cX4_opera 280 = .ok (.iload 6, 2) := dk_21 6 (dk_at dksX4_opera_12 0 rfl rfl)
theorem dX4_opera_282 : decode cX4_opera 282 = .ok (.aload_n 0, 1) := dk_42 (dk_at dksX4_opera_12 2 rfl rfl)
theorem dX4_opera_283 : decode cX4_opera 283 = .ok (.getfield 26, 3) := dk_180 0 26 (dk_at dksX4_opera_12 3 rfl rfl)
theorem dX4_opera_286 : decode cX4_opera 286 = .ok (.iload 5, 2) := dk_21 5 (dk_at dksX4_opera_12 6 rfl rfl)
theorem dX4_opera_288 : decode cX4_opera 288 = .ok (.iaload, 1) := dk_46 (dk_at dksX4_opera_12 8 rfl rfl)
theorem dX4_opera_289 : decode cX4_opera 289 = .ok (.if_icmp .ge 107, 3) := dk_162 0 107 (dk_at dksX4_opera_12 9 rfl rfl)
theorem dX4_opera_292 : decode cX4_opera 292 = .ok (.aload_n 0, 1) := dk_42 (dk_at dksX4_opera_12 12 rfl rfl)
theorem dX4_opera_293 : decode cX4_opera 293 = .ok (.getfield 29, 3) := dk_180 0 29 (dk_at dksX4_opera_12 13 rfl rfl)
theorem dX4_opera_296 : decode cX4_opera 296 = .ok (.bipush 8, 2) := dk_16 8 (dk_at dksX4_opera_12 16 rfl rfl)
theorem dX4_opera_298 : decode cX4_opera 298 = .ok (.iload 5, 2) := dk_21 5 (dk_at dksX4_opera_12 18 rfl rfl)
theorem dX4_opera_300 : decode cX4_opera 300 = .ok (.imul, 1) := dk_104 (dk_at dksX4_opera_12 20 rfl rfl)
theorem dX4_opera_301 : decode cX4_opera 301 = .ok (.iload 6, 2) := dk_21 6 (dk_at dksX4_opera_12 21 rfl rfl)
theorem dX4_opera_303 : decode cX4_opera 303 = .ok (.iadd, 1) := dk_96 (dk_at dksX4_opera_12 23 rfl rfl)
theorem dX4_opera_304 : decode cX4_opera 304 = .ok (.aload_n 0, 1) := dk_42 (dk_at dksX4_opera_13 0 rfl rfl)
theorem dX4_opera_305 : decode cX4_opera 305 = .ok (.getfield 7, 3) := dk_180 0 7 (dk_at dksX4_opera_13 1 rfl rfl)
theorem dX4_opera_308 : decode cX4_opera 308 = .ok (.iconst 4, 1) := dk_7 (dk_at dksX4_opera_13 4 rfl rfl)
theorem dX4_opera_309 : decode cX4_opera 309 = .ok (.iload 6, 2) := dk_21 6 (dk_at dksX4_opera_13 5 rfl rfl)
theorem dX4_opera_311 : decode cX4_opera 311 = .ok (.imul, 1) := dk_104 (dk_at dksX4_opera_13 7 rfl rfl)
theorem dX4_opera_312 : decode cX4_opera 312 = .ok (.iconst 4, 1) := dk_7 (dk_at dksX4_opera_13 8 rfl rfl)
theorem dX4_opera_313 : decode cX4_opera 313 = .ok (.iadd, 1) := dk_96 (dk_at dksX4_opera_13 9 rfl rfl)
theorem dX4_opera_314 : decode cX4_opera 314 = .ok (.baload, 1) := dk_51 (dk_at dksX4_opera_13 10 rfl rfl)
theorem dX4_opera_315 : decode cX4_opera 315 = .ok (.iastore, 1) := dk_79 (dk_at dksX4_opera_13 11 rfl rfl)
theorem dX4_opera_316 : decode cX4_opera 316 = .ok (.aload_n 0, 1) := dk_42 (dk_at dksX4_opera_13 12 rfl rfl)
theorem dX4_opera_317 : decode cX4_opera 317 = .ok (.getfield 32, 3) := dk_180 0 32 (dk_at dksX4_opera_13 13 rfl rfl)
theorem dX4_opera_320 : decode cX4_opera 320 = .ok (.bipush 8, 2) := dk_16 8 (dk_at dksX4_opera_13 16 rfl rfl)
theorem dX4_opera_322 : decode cX4_opera 322 = .ok (.iload 5, 2) := dk_21 5 (dk_at dksX4_opera_13 18 rfl rfl)
theorem dX4_opera_324 : decode cX4_opera 324 = .ok (.imul, 1) := dk_104 (dk_at dksX4_opera_13 20 rfl rfl)
theorem dX4_opera_325 : decode cX4_opera 325 = .ok (.iload 6, 2) := dk_21 6 (dk_at dksX4_opera_13 21 rfl rfl)
theorem dX4_opera_327 : decode cX4_opera 327 = .ok (.iadd, 1) := dk_96 (dk_at dksX4_opera_13 23 rfl rfl)
theorem dX4_opera_328 : decode cX4_opera 328 = .ok (.aload_n 0, 1) := dk_42 (dk_at dksX4_opera_14 0 rfl rfl)
theorem dX4_opera_329 : decode cX4_opera 329 = .ok (.getfield 7, 3) := dk_180 0 7 (dk_at dksX4_opera_14 1 rfl rfl)
theorem dX4_opera_332 : decode cX4_opera 332 = .ok (.iconst 4, 1) := dk_7 (dk_at dksX4_opera_14 4 rfl rfl)
theorem dX4_opera_333 : decode cX4_opera 333 = .ok (.iload 6, 2) := dk_21 6 (dk_at dksX4_opera_14 5 rfl rfl)
theorem dX4_opera_335 : decode cX4_opera 335 = .ok (.imul, 1) := dk_104 (dk_at dksX4_opera_14 7 rfl rfl)
theorem dX4_opera_336 : decode cX4_opera 336 = .ok (.iconst 5, 1) := dk_8 (dk_at dksX4_opera_14 8 rfl rfl)
theorem dX4_opera_337 : decode cX4_opera 337 = .ok (.iadd, 1) := dk_96 (dk_at dksX4_opera_14 9 rfl rfl)
theorem dX4_opera_338 : decode cX4_opera 338 = .ok (.baload, 1) := dk_51 (dk_at dksX4_opera_14 10 rfl rfl)
theorem dX4_opera_339 : decode cX4_opera 339 = .ok (.iastore, 1) := dk_79 (dk_at dksX4_opera_14 11 rfl rfl)
theorem dX4_opera_340 : decode cX4_opera 340 = .ok (.aload_n 0, 1) := dk_42 (dk_at dksX4_opera_14 12 rfl rfl)
theorem dX4_opera_341 : decode cX4_opera 341 = .ok (.getfield 35, 3) := dk_180 0 35 (dk_at dksX4_opera_14 13 rfl rfl)
theorem dX4_opera_344 : decode cX4_opera 344 = .ok (.bipush 8, 2) := dk_16 8 (dk_at dksX4_opera_14 16 rfl rfl)
theorem dX4_opera_346 : decode cX4_opera 346 = .ok (.iload 5, 2) := dk_21 5 (dk_at dksX4_opera_14 18 rfl rfl)
theorem dX4_opera_348 : decode cX4_opera 348 = .ok (.imul, 1) := dk_104 (dk_at dksX4_opera_14 20 rfl rfl)
theorem dX4_opera_349 : decode cX4_opera 349 = .ok (.iload 6, 2) := dk_21 6 (dk_at dksX4_opera_14 21 rfl rfl)
theorem dX4_opera_351 : decode cX4_opera 351 = .ok (.iadd, 1) := dk_96 (dk_at dksX4_opera_14 23 rfl rfl)
theorem dX4_opera_352 : decode cX4_opera 352 = .ok (.aload_n 0, 1) := dk_42 (dk_at dksX4_opera_15 0 rfl rfl)
theorem dX4_opera_353 : decode cX4_opera 353 = .ok (.getfield 7, 3) := dk_180 0 7 (dk_at dksX4_opera_15 1 rfl rfl)
theorem dX4_opera_356 : decode cX4_opera 356 = .ok (.iconst 4, 1) := dk_7 (dk_at dksX4_opera_15 4 rfl rfl)
theorem dX4_opera_357 : decode cX4_opera 357 = .ok (.iload 6, 2) := dk_21 6 (dk_at dksX4_opera_15 5 rfl rfl)
theorem dX4_opera_359 : decode cX4_opera 359 = .ok (.imul, 1) := dk_104 (dk_at dksX4_opera_15 7 rfl rfl)
theorem dX4_opera_360 : decode cX4_opera 360 = .ok (.bipush 6, 2) := dk_16 6 (dk_at dksX4_opera_15 8 rfl rfl)
theorem dX4_opera_362 : decode cX4_opera 362 = .ok (.iadd, 1) := dk_96 (dk_at dksX4_opera_15 10 rfl rfl)
theorem dX4_opera_363 : decode cX4_opera 363 = .ok (.baload, 1) := dk_51 (dk_at dksX4_opera_15 11 rfl rfl)
theorem dX4_opera_364 : decode cX4_opera 364 = .ok (.iastore, 1) := dk_79 (dk_at dksX4_opera_15 12 rfl rfl)
theorem dX4_opera_365 : decode cX4_opera 365 = .ok (.aload_n 0, 1) := dk_42 (dk_at dksX4_opera_15 13 rfl rfl)
theorem dX4_opera_366 : decode cX4_opera 366 = .ok (.getfield 38, 3) := dk_180 0 38 (dk_at dksX4_opera_15 14 rfl rfl)
theorem dX4_opera_369 : decode cX4_opera 369 = .ok (.bipush 8, 2) := dk_16 8 (dk_at dksX4_opera_15 17 rfl rfl)
theorem dX4_opera_371 : decode cX4_opera 371 = .ok (.iload 5, 2) := dk_21 5 (dk_at dksX4_opera_15 19 rfl rfl)
theorem dX4_opera_373 : decode cX4_opera 373 = .ok (.imul, 1) := dk_104 (dk_at dksX4_opera_15 21 rfl rfl)
theorem dX4_opera_374 : decode cX4_opera 374 = .ok (.iload 6, 2) := dk_21 6 (dk_at dksX4_opera_15 22 rfl rfl)
theorem dX4_opera_376 : decode cX4_opera 376 = .ok (.iadd, 1) := dk_96 (dk_at dksX4_opera_16 0 rfl rfl)
theorem dX4_opera_377 : decode cX4_opera 377 = .ok (.aload_n 0, 1) := dk_42 (dk_at dksX4_opera_16 1 rfl rfl)
theorem dX4_opera_378 : decode cX4_opera 378 = .ok (.getfield 7, 3) := dk_180 0 7 (dk_at dksX4_opera_16 2 rfl rfl)
theorem dX4_opera_381 : decode cX4_opera 381 = .ok (.iconst 4, 1) := dk_7 (dk_at dksX4_opera_16 5 rfl rfl)
theorem dX4_opera_382 : decode cX4_opera 382 = .ok (.iload 6, 2) := dk_21 6 (dk_at dksX4_opera_16 6 rfl rfl)
theorem dX4_opera_384 : decode cX4_opera 384 = .ok (.imul, 1) := dk_104 (dk_at dksX4_opera_16 8 rfl rfl)
theorem dX4_opera_385 : decode cX4_opera 385 = .ok (.bipush 7, 2) := dk_16 7 (dk_at dksX4_opera_16 9 rfl rfl)
theorem dX4_opera_387 : decode cX4_opera 387 = .ok (.iadd, 1) := dk_96 (dk_at dksX4_opera_16 11 rfl rfl)
theorem dX4_opera_388 : decode cX4_opera 388 = .ok (.baload, 1) := dk_51 (dk_at dksX4_opera_16 12 rfl rfl)
theorem dX4_opera_389 : decode cX4_opera 389 = .ok (.iastore, 1) := dk_79 (dk_at dksX4_opera_16 13 rfl rfl)
theorem dX4_opera_390 : decode cX4_opera 390 = .ok (.iinc 6 1, 3) := dk_132 6 1 (dk_at dksX4_opera_16 14 rfl rfl)
theorem dX4_opera_393 : decode cX4_opera 393 = .ok (.goto (-113), 3) := dk_167 255 143 (dk_at dksX4_opera_16 17 rfl rfl)
theorem dX4_opera_396 : decode cX4_opera 396 = .ok (.aload_n 0, 1) := dk_42 (dk_at dksX4_opera_16 20 rfl rfl)
theorem dX4_opera_397 : decode cX4_opera 397 = .ok (.dup, 1) := dk_89 (dk_at dksX4_opera_16 21 rfl rfl)
theorem dX4_opera_398 : decode cX4_opera 398 = .ok (.getfield 255, 3) := dk_180 0 255 (dk_at dksX4_opera_17 0 rfl rfl)
theorem dX4_opera_401 : decode cX4_opera 401 = .ok (.iconst 1, 1) := dk_4 (dk_at dksX4_opera_17 3 rfl rfl)
theorem dX4_opera_402 : decode cX4_opera 402 = .ok (.iadd, 1) := dk_96 (dk_at dksX4_opera_17 4 rfl rfl)
theorem dX4_opera_403 : decode cX4_opera 403 = .ok (.putfield 255, 3) := dk_181 0 255 (dk_at dksX4_opera_17 5 rfl rfl)
theorem dX4_opera_406 : decode cX4_opera 406 = .ok (.aload_n 0, 1) := dk_42 (dk_at dksX4_opera_17 8 rfl rfl)
theorem dX4_opera_407 : decode cX4_opera 407 = .ok (.dup, 1) := dk_89 (dk_at dksX4_opera_17 9 rfl rfl)
theorem dX4_opera_408 : decode cX4_opera 408 = .ok (.getfield 249, 3) := dk_180 0 249 (dk_at dksX4_opera_17 10 rfl rfl)
theorem dX4_opera_411 : decode cX4_opera 411 = .ok (.iconst 1, 1) := dk_4 (dk_at dksX4_opera_17 13 rfl rfl)
theorem dX4_opera_412 : decode cX4_opera 412 = .ok (.iadd, 1) := dk_96 (dk_at dksX4_opera_17 14 rfl rfl)
theorem dX4_opera_413 : decode cX4_opera 413 = .ok (.putfield 249, 3) := dk_181 0 249 (dk_at dksX4_opera_17 15 rfl rfl)
theorem dX4_opera_416 : decode cX4_opera 416 = .ok (.iload 5, 2) := dk_21 5 (dk_at dksX4_opera_17 18 rfl rfl)
theorem dX4_opera_418 : decode cX4_opera 418 = .ok (.ireturn, 1) := dk_172 (dk_at dksX4_opera_17 20 rfl rfl)
abbrev cX4_taken : ByteArray := prog_18_method_7_code
def yX4_taken : MethodName := ⟨RX4, "taken", "()V"⟩
def dkwX4_taken_0 : List UInt8 := [42, 42, 180, 0, 229, 181, 0, 236, 42, 3, 181, 0, 229, 42, 3, 181, 0, 239, 177]
abbrev dktX4_taken_0 : List UInt8 := dkwX4_taken_0 ++ []
theorem dksX4_taken_0 : cX4_taken.data.toList.drop 0 = dktX4_taken_0 := by decide +kernel
theorem dX4_taken_0 : decode cX4_taken 0 = .ok (.aload_n 0, 1) := dk_42 (dk_at dksX4_taken_0 0 rfl rfl)
theorem dX4_taken_1 : decode cX4_taken 1 = .ok (.aload_n 0, 1) := dk_42 (dk_at dksX4_taken_0 1 rfl rfl)
theorem dX4_taken_2 : decode cX4_taken 2 = .ok (.getfield 229, 3) := dk_180 0 229 (dk_at dksX4_taken_0 2 rfl rfl)
theorem dX4_taken_5 : decode cX4_taken 5 = .ok (.putfield 236, 3) := dk_181 0 236 (dk_at dksX4_taken_0 5 rfl rfl)
theorem dX4_taken_8 : decode cX4_taken 8 = .ok (.aload_n 0, 1) := dk_42 (dk_at dksX4_taken_0 8 rfl rfl)
theorem dX4_taken_9 : decode cX4_taken 9 = .ok (.iconst 0, 1) := dk_3 (dk_at dksX4_taken_0 9 rfl rfl)
theorem dX4_taken_10 : decode cX4_taken 10 = .ok (.putfield 229, 3) := dk_181 0 229 (dk_at dksX4_taken_0 10 rfl rfl)
theorem dX4_taken_13 : decode cX4_taken 13 = .ok (.aload_n 0, 1) := dk_42 (dk_at dksX4_taken_0 13 rfl rfl)
theorem dX4_taken_14 : decode cX4_taken 14 = .ok (.iconst 0, 1) := dk_3 (dk_at dksX4_taken_0 14 rfl rfl)
theorem dX4_taken_15 : decode cX4_taken 15 = .ok (.putfield 239, 3) := dk_181 0 239 (dk_at dksX4_taken_0 15 rfl rfl)
theorem dX4_taken_18 : decode cX4_taken 18 = .ok (.return_, 1) := dk_177 (dk_at dksX4_taken_0 18 rfl rfl)
abbrev cX4_singer : ByteArray := prog_18_method_13_code
def yX4_singer : MethodName := ⟨RX4, "singer", "(III)I"⟩
def dkwX4_singer_4 : List UInt8 := [89, 180, 0, 249, 4, 96, 181, 0, 249, 42, 180, 1, 2, 4, 100, 172]
abbrev dktX4_singer_4 : List UInt8 := dkwX4_singer_4 ++ []
def dkwX4_singer_3 : List UInt8 := [180, 1, 2, 29, 79, 42, 42, 180, 1, 2, 182, 1, 5, 42, 89, 180, 1, 2, 4, 96, 181, 1, 2, 42]
abbrev dktX4_singer_3 : List UInt8 := dkwX4_singer_3 ++ dktX4_singer_4
def dkwX4_singer_2 : List UInt8 := [180, 0, 45, 42, 180, 1, 2, 27, 79, 42, 180, 0, 48, 42, 180, 1, 2, 28, 79, 42, 180, 0, 51, 42]
abbrev dktX4_singer_2 : List UInt8 := dkwX4_singer_2 ++ dktX4_singer_3
def dkwX4_singer_1 : List UInt8 := [28, 3, 16, 63, 184, 0, 242, 153, 0, 13, 29, 3, 16, 9, 184, 0, 242, 154, 0, 5, 2, 172, 42]
abbrev dktX4_singer_1 : List UInt8 := dkwX4_singer_1 ++ dktX4_singer_2
def dkwX4_singer_0 : List UInt8 := [42, 3, 181, 0, 226, 42, 180, 1, 2, 16, 20, 159, 0, 33, 27, 3, 16, 63, 184, 0, 242, 153, 0, 23]
abbrev dktX4_singer_0 : List UInt8 := dkwX4_singer_0 ++ dktX4_singer_1
theorem dksX4_singer_0 : cX4_singer.data.toList.drop 0 = dktX4_singer_0 := by decide +kernel
theorem dksX4_singer_1 : cX4_singer.data.toList.drop 24 = dktX4_singer_1 := dk_seg dksX4_singer_0 24 rfl rfl
theorem dksX4_singer_2 : cX4_singer.data.toList.drop 47 = dktX4_singer_2 := dk_seg dksX4_singer_1 23 rfl rfl
theorem dksX4_singer_3 : cX4_singer.data.toList.drop 71 = dktX4_singer_3 := dk_seg dksX4_singer_2 24 rfl rfl
theorem dksX4_singer_4 : cX4_singer.data.toList.drop 95 = dktX4_singer_4 := dk_seg dksX4_singer_3 24 rfl rfl
theorem dX4_singer_0 : decode cX4_singer 0 = .ok (.aload_n 0, 1) := dk_42 (dk_at dksX4_singer_0 0 rfl rfl)
theorem dX4_singer_1 : decode cX4_singer 1 = .ok (.iconst 0, 1) := dk_3 (dk_at dksX4_singer_0 1 rfl rfl)
theorem dX4_singer_2 : decode cX4_singer 2 = .ok (.putfield 226, 3) := dk_181 0 226 (dk_at dksX4_singer_0 2 rfl rfl)
theorem dX4_singer_5 : decode cX4_singer 5 = .ok (.aload_n 0, 1) := dk_42 (dk_at dksX4_singer_0 5 rfl rfl)
theorem dX4_singer_6 : decode cX4_singer 6 = .ok (.getfield 258, 3) := dk_180 1 2 (dk_at dksX4_singer_0 6 rfl rfl)
theorem dX4_singer_9 : decode cX4_singer 9 = .ok (.bipush 20, 2) := dk_16 20 (dk_at dksX4_singer_0 9 rfl rfl)
theorem dX4_singer_11 : decode cX4_singer 11 = .ok (.if_icmp .eq 33, 3) := dk_159 0 33 (dk_at dksX4_singer_0 11 rfl rfl)
theorem dX4_singer_14 : decode cX4_singer 14 = .ok (.iload_n 1, 1) := dk_27 (dk_at dksX4_singer_0 14 rfl rfl)
theorem dX4_singer_15 : decode cX4_singer 15 = .ok (.iconst 0, 1) := dk_3 (dk_at dksX4_singer_0 15 rfl rfl)
theorem dX4_singer_16 : decode cX4_singer 16 = .ok (.bipush 63, 2) := dk_16 63 (dk_at dksX4_singer_0 16 rfl rfl)
theorem dX4_singer_18 : decode cX4_singer 18 = .ok (.invokestatic 242, 3) := dk_184 0 242 (dk_at dksX4_singer_0 18 rfl rfl)
theorem dX4_singer_21 : decode cX4_singer 21 = .ok (.ifCond .eq 23, 3) := dk_153 0 23 (dk_at dksX4_singer_0 21 rfl rfl)
theorem dX4_singer_24 : decode cX4_singer 24 = .ok (.iload_n 2, 1) := dk_28 (dk_at dksX4_singer_1 0 rfl rfl)
theorem dX4_singer_25 : decode cX4_singer 25 = .ok (.iconst 0, 1) := dk_3 (dk_at dksX4_singer_1 1 rfl rfl)
theorem dX4_singer_26 : decode cX4_singer 26 = .ok (.bipush 63, 2) := dk_16 63 (dk_at dksX4_singer_1 2 rfl rfl)
theorem dX4_singer_28 : decode cX4_singer 28 = .ok (.invokestatic 242, 3) := dk_184 0 242 (dk_at dksX4_singer_1 4 rfl rfl)
theorem dX4_singer_31 : decode cX4_singer 31 = .ok (.ifCond .eq 13, 3) := dk_153 0 13 (dk_at dksX4_singer_1 7 rfl rfl)
theorem dX4_singer_34 : decode cX4_singer 34 = .ok (.iload_n 3, 1) := dk_29 (dk_at dksX4_singer_1 10 rfl rfl)
theorem dX4_singer_35 : decode cX4_singer 35 = .ok (.iconst 0, 1) := dk_3 (dk_at dksX4_singer_1 11 rfl rfl)
theorem dX4_singer_36 : decode cX4_singer 36 = .ok (.bipush 9, 2) := dk_16 9 (dk_at dksX4_singer_1 12 rfl rfl)
theorem dX4_singer_38 : decode cX4_singer 38 = .ok (.invokestatic 242, 3) := dk_184 0 242 (dk_at dksX4_singer_1 14 rfl rfl)
theorem dX4_singer_41 : decode cX4_singer 41 = .ok (.ifCond .ne 5, 3) := dk_154 0 5 (dk_at dksX4_singer_1 17 rfl rfl)
theorem dX4_singer_44 : decode cX4_singer 44 = .ok (.iconst (-1), 1) := dk_2 (dk_at dksX4_singer_1 20 rfl rfl)
theorem dX4_singer_45 : decode cX4_singer 45 = .ok (.ireturn, 1) := dk_172 (dk_at dksX4_singer_1 21 rfl rfl)
theorem dX4_singer_46 : decode cX4_singer 46 = .ok (.aload_n 0, 1) := dk_42 (dk_at dksX4_singer_1 22 rfl rfl)
theorem dX4_singer_47 : decode cX4_singer 47 = .ok (.getfield 45, 3) := dk_180 0 45 (dk_at dksX4_singer_2 0 rfl rfl)
theorem dX4_singer_50 : decode cX4_singer 50 = .ok (.aload_n 0, 1) := dk_42 (dk_at dksX4_singer_2 3 rfl rfl)
theorem dX4_singer_51 : decode cX4_singer 51 = .ok (.getfield 258, 3) := dk_180 1 2 (dk_at dksX4_singer_2 4 rfl rfl)
theorem dX4_singer_54 : decode cX4_singer 54 = .ok (.iload_n 1, 1) := dk_27 (dk_at dksX4_singer_2 7 rfl rfl)
theorem dX4_singer_55 : decode cX4_singer 55 = .ok (.iastore, 1) := dk_79 (dk_at dksX4_singer_2 8 rfl rfl)
theorem dX4_singer_56 : decode cX4_singer 56 = .ok (.aload_n 0, 1) := dk_42 (dk_at dksX4_singer_2 9 rfl rfl)
theorem dX4_singer_57 : decode cX4_singer 57 = .ok (.getfield 48, 3) := dk_180 0 48 (dk_at dksX4_singer_2 10 rfl rfl)
theorem dX4_singer_60 : decode cX4_singer 60 = .ok (.aload_n 0, 1) := dk_42 (dk_at dksX4_singer_2 13 rfl rfl)
theorem dX4_singer_61 : decode cX4_singer 61 = .ok (.getfield 258, 3) := dk_180 1 2 (dk_at dksX4_singer_2 14 rfl rfl)
theorem dX4_singer_64 : decode cX4_singer 64 = .ok (.iload_n 2, 1) := dk_28 (dk_at dksX4_singer_2 17 rfl rfl)
theorem dX4_singer_65 : decode cX4_singer 65 = .ok (.iastore, 1) := dk_79 (dk_at dksX4_singer_2 18 rfl rfl)
theorem dX4_singer_66 : decode cX4_singer 66 = .ok (.aload_n 0, 1) := dk_42 (dk_at dksX4_singer_2 19 rfl rfl)
theorem dX4_singer_67 : decode cX4_singer 67 = .ok (.getfield 51, 3) := dk_180 0 51 (dk_at dksX4_singer_2 20 rfl rfl)
theorem dX4_singer_70 : decode cX4_singer 70 = .ok (.aload_n 0, 1) := dk_42 (dk_at dksX4_singer_2 23 rfl rfl)
theorem dX4_singer_71 : decode cX4_singer 71 = .ok (.getfield 258, 3) := dk_180 1 2 (dk_at dksX4_singer_3 0 rfl rfl)
theorem dX4_singer_74 : decode cX4_singer 74 = .ok (.iload_n 3, 1) := dk_29 (dk_at dksX4_singer_3 3 rfl rfl)
theorem dX4_singer_75 : decode cX4_singer 75 = .ok (.iastore, 1) := dk_79 (dk_at dksX4_singer_3 4 rfl rfl)
theorem dX4_singer_76 : decode cX4_singer 76 = .ok (.aload_n 0, 1) := dk_42 (dk_at dksX4_singer_3 5 rfl rfl)
theorem dX4_singer_77 : decode cX4_singer 77 = .ok (.aload_n 0, 1) := dk_42 (dk_at dksX4_singer_3 6 rfl rfl)
theorem dX4_singer_78 : decode cX4_singer 78 = .ok (.getfield 258, 3) := dk_180 1 2 (dk_at dksX4_singer_3 7 rfl rfl)
theorem dX4_singer_81 : decode cX4_singer 81 = .ok (.invokevirtual 261, 3) := dk_182 1 5 (dk_at dksX4_singer_3 10 rfl rfl)
theorem dX4_singer_84 : decode cX4_singer 84 = .ok (.aload_n 0, 1) := dk_42 (dk_at dksX4_singer_3 13 rfl rfl)
theorem dX4_singer_85 : decode cX4_singer 85 = .ok (.dup, 1) := dk_89 (dk_at dksX4_singer_3 14 rfl rfl)
theorem dX4_singer_86 : decode cX4_singer 86 = .ok (.getfield 258, 3) := dk_180 1 2 (dk_at dksX4_singer_3 15 rfl rfl)
theorem dX4_singer_89 : decode cX4_singer 89 = .ok (.iconst 1, 1) := dk_4 (dk_at dksX4_singer_3 18 rfl rfl)
theorem dX4_singer_90 : decode cX4_singer 90 = .ok (.iadd, 1) := dk_96 (dk_at dksX4_singer_3 19 rfl rfl)
theorem dX4_singer_91 : decode cX4_singer 91 = .ok (.putfield 258, 3) := dk_181 1 2 (dk_at dksX4_singer_3 20 rfl rfl)
theorem dX4_singer_94 : decode cX4_singer 94 = .ok (.aload_n 0, 1) := dk_42 (dk_at dksX4_singer_3 23 rfl rfl)
theorem dX4_singer_95 : decode cX4_singer 95 = .ok (.dup, 1) := dk_89 (dk_at dksX4_singer_4 0 rfl rfl)
theorem dX4_singer_96 : decode cX4_singer 96 = .ok (.getfield 249, 3) := dk_180 0 249 (dk_at dksX4_singer_4 1 rfl rfl)
theorem dX4_singer_99 : decode cX4_singer 99 = .ok (.iconst 1, 1) := dk_4 (dk_at dksX4_singer_4 4 rfl rfl)
theorem dX4_singer_100 : decode cX4_singer 100 = .ok (.iadd, 1) := dk_96 (dk_at dksX4_singer_4 5 rfl rfl)
theorem dX4_singer_101 : decode cX4_singer 101 = .ok (.putfield 249, 3) := dk_181 0 249 (dk_at dksX4_singer_4 6 rfl rfl)
theorem dX4_singer_104 : decode cX4_singer 104 = .ok (.aload_n 0, 1) := dk_42 (dk_at dksX4_singer_4 9 rfl rfl)
theorem dX4_singer_105 : decode cX4_singer 105 = .ok (.getfield 258, 3) := dk_180 1 2 (dk_at dksX4_singer_4 10 rfl rfl)
theorem dX4_singer_108 : decode cX4_singer 108 = .ok (.iconst 1, 1) := dk_4 (dk_at dksX4_singer_4 13 rfl rfl)
theorem dX4_singer_109 : decode cX4_singer 109 = .ok (.isub, 1) := dk_100 (dk_at dksX4_singer_4 14 rfl rfl)
theorem dX4_singer_110 : decode cX4_singer 110 = .ok (.ireturn, 1) := dk_172 (dk_at dksX4_singer_4 15 rfl rfl)
abbrev cX4_plain : ByteArray := prog_18_method_18_code
def yX4_plain : MethodName := ⟨RX4, "plain", "(I)V"⟩
def dkwX4_plain_2 : List UInt8 := [180, 0, 67, 27, 3, 79, 42, 180, 0, 76, 27, 3, 79, 177]
abbrev dktX4_plain_2 : List UInt8 := dkwX4_plain_2 ++ []
def dkwX4_plain_1 : List UInt8 := [180, 0, 64, 7, 27, 104, 5, 96, 7, 79, 42, 180, 0, 64, 7, 27, 104, 6, 96, 16, 100, 79, 42]
abbrev dktX4_plain_1 : List UInt8 := dkwX4_plain_1 ++ dktX4_plain_2
def dkwX4_plain_0 : List UInt8 := [42, 180, 0, 64, 7, 27, 104, 16, 12, 79, 42, 180, 0, 64, 7, 27, 104, 4, 96, 16, 8, 79, 42]
abbrev dktX4_plain_0 : List UInt8 := dkwX4_plain_0 ++ dktX4_plain_1
theorem dksX4_plain_0 : cX4_plain.data.toList.drop 0 = dktX4_plain_0 := by decide +kernel
theorem dksX4_plain_1 : cX4_plain.data.toList.drop 23 = dktX4_plain_1 := dk_seg dksX4_plain_0 23 rfl rfl
theorem dksX4_plain_2 : cX4_plain.data.toList.drop 46 = dktX4_plain_2 := dk_seg dksX4_plain_1 23 rfl rfl
theorem dX4_plain_0 : decode cX4_plain 0 = .ok (.aload_n 0, 1) := dk_42 (dk_at dksX4_plain_0 0 rfl rfl)
theorem dX4_plain_1 : decode cX4_plain 1 = .ok (.getfield 64, 3) := dk_180 0 64 (dk_at dksX4_plain_0 1 rfl rfl)
theorem dX4_plain_4 : decode cX4_plain 4 = .ok (.iconst 4, 1) := dk_7 (dk_at dksX4_plain_0 4 rfl rfl)
theorem dX4_plain_5 : decode cX4_plain 5 = .ok (.iload_n 1, 1) := dk_27 (dk_at dksX4_plain_0 5 rfl rfl)
theorem dX4_plain_6 : decode cX4_plain 6 = .ok (.imul, 1) := dk_104 (dk_at dksX4_plain_0 6 rfl rfl)
theorem dX4_plain_7 : decode cX4_plain 7 = .ok (.bipush 12, 2) := dk_16 12 (dk_at dksX4_plain_0 7 rfl rfl)
theorem dX4_plain_9 : decode cX4_plain 9 = .ok (.iastore, 1) := dk_79 (dk_at dksX4_plain_0 9 rfl rfl)
theorem dX4_plain_10 : decode cX4_plain 10 = .ok (.aload_n 0, 1) := dk_42 (dk_at dksX4_plain_0 10 rfl rfl)
theorem dX4_plain_11 : decode cX4_plain 11 = .ok (.getfield 64, 3) := dk_180 0 64 (dk_at dksX4_plain_0 11 rfl rfl)
theorem dX4_plain_14 : decode cX4_plain 14 = .ok (.iconst 4, 1) := dk_7 (dk_at dksX4_plain_0 14 rfl rfl)
theorem dX4_plain_15 : decode cX4_plain 15 = .ok (.iload_n 1, 1) := dk_27 (dk_at dksX4_plain_0 15 rfl rfl)
theorem dX4_plain_16 : decode cX4_plain 16 = .ok (.imul, 1) := dk_104 (dk_at dksX4_plain_0 16 rfl rfl)
theorem dX4_plain_17 : decode cX4_plain 17 = .ok (.iconst 1, 1) := dk_4 (dk_at dksX4_plain_0 17 rfl rfl)
theorem dX4_plain_18 : decode cX4_plain 18 = .ok (.iadd, 1) := dk_96 (dk_at dksX4_plain_0 18 rfl rfl)
theorem dX4_plain_19 : decode cX4_plain 19 = .ok (.bipush 8, 2) := dk_16 8 (dk_at dksX4_plain_0 19 rfl rfl)
theorem dX4_plain_21 : decode cX4_plain 21 = .ok (.iastore, 1) := dk_79 (dk_at dksX4_plain_0 21 rfl rfl)
theorem dX4_plain_22 : decode cX4_plain 22 = .ok (.aload_n 0, 1) := dk_42 (dk_at dksX4_plain_0 22 rfl rfl)
theorem dX4_plain_23 : decode cX4_plain 23 = .ok (.getfield 64, 3) := dk_180 0 64 (dk_at dksX4_plain_1 0 rfl rfl)
theorem dX4_plain_26 : decode cX4_plain 26 = .ok (.iconst 4, 1) := dk_7 (dk_at dksX4_plain_1 3 rfl rfl)
theorem dX4_plain_27 : decode cX4_plain 27 = .ok (.iload_n 1, 1) := dk_27 (dk_at dksX4_plain_1 4 rfl rfl)
theorem dX4_plain_28 : decode cX4_plain 28 = .ok (.imul, 1) := dk_104 (dk_at dksX4_plain_1 5 rfl rfl)
theorem dX4_plain_29 : decode cX4_plain 29 = .ok (.iconst 2, 1) := dk_5 (dk_at dksX4_plain_1 6 rfl rfl)
theorem dX4_plain_30 : decode cX4_plain 30 = .ok (.iadd, 1) := dk_96 (dk_at dksX4_plain_1 7 rfl rfl)
theorem dX4_plain_31 : decode cX4_plain 31 = .ok (.iconst 4, 1) := dk_7 (dk_at dksX4_plain_1 8 rfl rfl)
theorem dX4_plain_32 : decode cX4_plain 32 = .ok (.iastore, 1) := dk_79 (dk_at dksX4_plain_1 9 rfl rfl)
theorem dX4_plain_33 : decode cX4_plain 33 = .ok (.aload_n 0, 1) := dk_42 (dk_at dksX4_plain_1 10 rfl rfl)
theorem dX4_plain_34 : decode cX4_plain 34 = .ok (.getfield 64, 3) := dk_180 0 64 (dk_at dksX4_plain_1 11 rfl rfl)
theorem dX4_plain_37 : decode cX4_plain 37 = .ok (.iconst 4, 1) := dk_7 (dk_at dksX4_plain_1 14 rfl rfl)
theorem dX4_plain_38 : decode cX4_plain 38 = .ok (.iload_n 1, 1) := dk_27 (dk_at dksX4_plain_1 15 rfl rfl)
theorem dX4_plain_39 : decode cX4_plain 39 = .ok (.imul, 1) := dk_104 (dk_at dksX4_plain_1 16 rfl rfl)
theorem dX4_plain_40 : decode cX4_plain 40 = .ok (.iconst 3, 1) := dk_6 (dk_at dksX4_plain_1 17 rfl rfl)
theorem dX4_plain_41 : decode cX4_plain 41 = .ok (.iadd, 1) := dk_96 (dk_at dksX4_plain_1 18 rfl rfl)
theorem dX4_plain_42 : decode cX4_plain 42 = .ok (.bipush 100, 2) := dk_16 100 (dk_at dksX4_plain_1 19 rfl rfl)
theorem dX4_plain_44 : decode cX4_plain 44 = .ok (.iastore, 1) := dk_79 (dk_at dksX4_plain_1 21 rfl rfl)
theorem dX4_plain_45 : decode cX4_plain 45 = .ok (.aload_n 0, 1) := dk_42 (dk_at dksX4_plain_1 22 rfl rfl)
theorem dX4_plain_46 : decode cX4_plain 46 = .ok (.getfield 67, 3) := dk_180 0 67 (dk_at dksX4_plain_2 0 rfl rfl)
theorem dX4_plain_49 : decode cX4_plain 49 = .ok (.iload_n 1, 1) := dk_27 (dk_at dksX4_plain_2 3 rfl rfl)
theorem dX4_plain_50 : decode cX4_plain 50 = .ok (.iconst 0, 1) := dk_3 (dk_at dksX4_plain_2 4 rfl rfl)
theorem dX4_plain_51 : decode cX4_plain 51 = .ok (.iastore, 1) := dk_79 (dk_at dksX4_plain_2 5 rfl rfl)
theorem dX4_plain_52 : decode cX4_plain 52 = .ok (.aload_n 0, 1) := dk_42 (dk_at dksX4_plain_2 6 rfl rfl)
theorem dX4_plain_53 : decode cX4_plain 53 = .ok (.getfield 76, 3) := dk_180 0 76 (dk_at dksX4_plain_2 7 rfl rfl)
theorem dX4_plain_56 : decode cX4_plain 56 = .ok (.iload_n 1, 1) := dk_27 (dk_at dksX4_plain_2 10 rfl rfl)
theorem dX4_plain_57 : decode cX4_plain 57 = .ok (.iconst 0, 1) := dk_3 (dk_at dksX4_plain_2 11 rfl rfl)
theorem dX4_plain_58 : decode cX4_plain 58 = .ok (.iastore, 1) := dk_79 (dk_at dksX4_plain_2 12 rfl rfl)
theorem dX4_plain_59 : decode cX4_plain 59 = .ok (.return_, 1) := dk_177 (dk_at dksX4_plain_2 13 rfl rfl)
abbrev cX4_players : ByteArray := prog_18_method_14_code
def yX4_players : MethodName := ⟨RX4, "players", "(III)Z"⟩
def dkwX4_players_2 : List UInt8 := [27, 96, 29, 79, 42, 89, 180, 0, 249, 4, 96, 181, 0, 249, 4, 172]
abbrev dktX4_players_2 : List UInt8 := dkwX4_players_2 ++ []
def dkwX4_players_1 : List UInt8 := [29, 3, 16, 60, 184, 0, 242, 154, 0, 5, 3, 172, 42, 180, 0, 54, 27, 28, 79, 42, 180, 0, 54, 7]
abbrev dktX4_players_1 : List UInt8 := dkwX4_players_1 ++ dktX4_players_2
def dkwX4_players_0 : List UInt8 := [42, 3, 181, 0, 226, 27, 3, 6, 184, 0, 242, 153, 0, 23, 28, 3, 16, 60, 184, 0, 242, 153, 0, 13]
abbrev dktX4_players_0 : List UInt8 := dkwX4_players_0 ++ dktX4_players_1
theorem dksX4_players_0 : cX4_players.data.toList.drop 0 = dktX4_players_0 := by decide +kernel
theorem dksX4_players_1 : cX4_players.data.toList.drop 24 = dktX4_players_1 := dk_seg dksX4_players_0 24 rfl rfl
theorem dksX4_players_2 : cX4_players.data.toList.drop 48 = dktX4_players_2 := dk_seg dksX4_players_1 24 rfl rfl
theorem dX4_players_0 : decode cX4_players 0 = .ok (.aload_n 0, 1) := dk_42 (dk_at dksX4_players_0 0 rfl rfl)
theorem dX4_players_1 : decode cX4_players 1 = .ok (.iconst 0, 1) := dk_3 (dk_at dksX4_players_0 1 rfl rfl)
theorem dX4_players_2 : decode cX4_players 2 = .ok (.putfield 226, 3) := dk_181 0 226 (dk_at dksX4_players_0 2 rfl rfl)
theorem dX4_players_5 : decode cX4_players 5 = .ok (.iload_n 1, 1) := dk_27 (dk_at dksX4_players_0 5 rfl rfl)
theorem dX4_players_6 : decode cX4_players 6 = .ok (.iconst 0, 1) := dk_3 (dk_at dksX4_players_0 6 rfl rfl)
theorem dX4_players_7 : decode cX4_players 7 = .ok (.iconst 3, 1) := dk_6 (dk_at dksX4_players_0 7 rfl rfl)
theorem dX4_players_8 : decode cX4_players 8 = .ok (.invokestatic 242, 3) := dk_184 0 242 (dk_at dksX4_players_0 8 rfl rfl)
theorem dX4_players_11 : decode cX4_players 11 = .ok (.ifCond .eq 23, 3) := dk_153 0 23 (dk_at dksX4_players_0 11 rfl rfl)
theorem dX4_players_14 : decode cX4_players 14 = .ok (.iload_n 2, 1) := dk_28 (dk_at dksX4_players_0 14 rfl rfl)
theorem dX4_players_15 : decode cX4_players 15 = .ok (.iconst 0, 1) := dk_3 (dk_at dksX4_players_0 15 rfl rfl)
theorem dX4_players_16 : decode cX4_players 16 = .ok (.bipush 60, 2) := dk_16 60 (dk_at dksX4_players_0 16 rfl rfl)
theorem dX4_players_18 : decode cX4_players 18 = .ok (.invokestatic 242, 3) := dk_184 0 242 (dk_at dksX4_players_0 18 rfl rfl)
theorem dX4_players_21 : decode cX4_players 21 = .ok (.ifCond .eq 13, 3) := dk_153 0 13 (dk_at dksX4_players_0 21 rfl rfl)
theorem dX4_players_24 : decode cX4_players 24 = .ok (.iload_n 3, 1) := dk_29 (dk_at dksX4_players_1 0 rfl rfl)
theorem dX4_players_25 : decode cX4_players 25 = .ok (.iconst 0, 1) := dk_3 (dk_at dksX4_players_1 1 rfl rfl)
theorem dX4_players_26 : decode cX4_players 26 = .ok (.bipush 60, 2) := dk_16 60 (dk_at dksX4_players_1 2 rfl rfl)
theorem dX4_players_28 : decode cX4_players 28 = .ok (.invokestatic 242, 3) := dk_184 0 242 (dk_at dksX4_players_1 4 rfl rfl)
theorem dX4_players_31 : decode cX4_players 31 = .ok (.ifCond .ne 5, 3) := dk_154 0 5 (dk_at dksX4_players_1 7 rfl rfl)
theorem dX4_players_34 : decode cX4_players 34 = .ok (.iconst 0, 1) := dk_3 (dk_at dksX4_players_1 10 rfl rfl)
theorem dX4_players_35 : decode cX4_players 35 = .ok (.ireturn, 1) := dk_172 (dk_at dksX4_players_1 11 rfl rfl)
theorem dX4_players_36 : decode cX4_players 36 = .ok (.aload_n 0, 1) := dk_42 (dk_at dksX4_players_1 12 rfl rfl)
theorem dX4_players_37 : decode cX4_players 37 = .ok (.getfield 54, 3) := dk_180 0 54 (dk_at dksX4_players_1 13 rfl rfl)
theorem dX4_players_40 : decode cX4_players 40 = .ok (.iload_n 1, 1) := dk_27 (dk_at dksX4_players_1 16 rfl rfl)
theorem dX4_players_41 : decode cX4_players 41 = .ok (.iload_n 2, 1) := dk_28 (dk_at dksX4_players_1 17 rfl rfl)
theorem dX4_players_42 : decode cX4_players 42 = .ok (.iastore, 1) := dk_79 (dk_at dksX4_players_1 18 rfl rfl)
theorem dX4_players_43 : decode cX4_players 43 = .ok (.aload_n 0, 1) := dk_42 (dk_at dksX4_players_1 19 rfl rfl)
theorem dX4_players_44 : decode cX4_players 44 = .ok (.getfield 54, 3) := dk_180 0 54 (dk_at dksX4_players_1 20 rfl rfl)
theorem dX4_players_47 : decode cX4_players 47 = .ok (.iconst 4, 1) := dk_7 (dk_at dksX4_players_1 23 rfl rfl)
theorem dX4_players_48 : decode cX4_players 48 = .ok (.iload_n 1, 1) := dk_27 (dk_at dksX4_players_2 0 rfl rfl)
theorem dX4_players_49 : decode cX4_players 49 = .ok (.iadd, 1) := dk_96 (dk_at dksX4_players_2 1 rfl rfl)
theorem dX4_players_50 : decode cX4_players 50 = .ok (.iload_n 3, 1) := dk_29 (dk_at dksX4_players_2 2 rfl rfl)
theorem dX4_players_51 : decode cX4_players 51 = .ok (.iastore, 1) := dk_79 (dk_at dksX4_players_2 3 rfl rfl)
theorem dX4_players_52 : decode cX4_players 52 = .ok (.aload_n 0, 1) := dk_42 (dk_at dksX4_players_2 4 rfl rfl)
theorem dX4_players_53 : decode cX4_players 53 = .ok (.dup, 1) := dk_89 (dk_at dksX4_players_2 5 rfl rfl)
theorem dX4_players_54 : decode cX4_players 54 = .ok (.getfield 249, 3) := dk_180 0 249 (dk_at dksX4_players_2 6 rfl rfl)
theorem dX4_players_57 : decode cX4_players 57 = .ok (.iconst 1, 1) := dk_4 (dk_at dksX4_players_2 9 rfl rfl)
theorem dX4_players_58 : decode cX4_players 58 = .ok (.iadd, 1) := dk_96 (dk_at dksX4_players_2 10 rfl rfl)
theorem dX4_players_59 : decode cX4_players 59 = .ok (.putfield 249, 3) := dk_181 0 249 (dk_at dksX4_players_2 11 rfl rfl)
theorem dX4_players_62 : decode cX4_players 62 = .ok (.iconst 1, 1) := dk_4 (dk_at dksX4_players_2 14 rfl rfl)
theorem dX4_players_63 : decode cX4_players 63 = .ok (.ireturn, 1) := dk_172 (dk_at dksX4_players_2 15 rfl rfl)
abbrev cX4_chorus : ByteArray := prog_18_method_15_code
def yX4_chorus : MethodName := ⟨RX4, "chorus", "(II)Z"⟩
def dkwX4_chorus_2 : List UInt8 := [181, 0, 249, 4, 172]
abbrev dktX4_chorus_2 : List UInt8 := dkwX4_chorus_2 ++ []
def dkwX4_chorus_1 : List UInt8 := [154, 0, 5, 3, 172, 42, 27, 181, 0, 57, 42, 28, 181, 0, 61, 42, 89, 180, 0, 249, 4, 96]
abbrev dktX4_chorus_1 : List UInt8 := dkwX4_chorus_1 ++ dktX4_chorus_2
def dkwX4_chorus_0 : List UInt8 := [42, 3, 181, 0, 226, 27, 3, 16, 24, 184, 0, 242, 153, 0, 14, 28, 3, 17, 0, 168, 184, 0, 242]
abbrev dktX4_chorus_0 : List UInt8 := dkwX4_chorus_0 ++ dktX4_chorus_1
theorem dksX4_chorus_0 : cX4_chorus.data.toList.drop 0 = dktX4_chorus_0 := by decide +kernel
theorem dksX4_chorus_1 : cX4_chorus.data.toList.drop 23 = dktX4_chorus_1 := dk_seg dksX4_chorus_0 23 rfl rfl
theorem dksX4_chorus_2 : cX4_chorus.data.toList.drop 45 = dktX4_chorus_2 := dk_seg dksX4_chorus_1 22 rfl rfl
theorem dX4_chorus_0 : decode cX4_chorus 0 = .ok (.aload_n 0, 1) := dk_42 (dk_at dksX4_chorus_0 0 rfl rfl)
theorem dX4_chorus_1 : decode cX4_chorus 1 = .ok (.iconst 0, 1) := dk_3 (dk_at dksX4_chorus_0 1 rfl rfl)
theorem dX4_chorus_2 : decode cX4_chorus 2 = .ok (.putfield 226, 3) := dk_181 0 226 (dk_at dksX4_chorus_0 2 rfl rfl)
theorem dX4_chorus_5 : decode cX4_chorus 5 = .ok (.iload_n 1, 1) := dk_27 (dk_at dksX4_chorus_0 5 rfl rfl)
theorem dX4_chorus_6 : decode cX4_chorus 6 = .ok (.iconst 0, 1) := dk_3 (dk_at dksX4_chorus_0 6 rfl rfl)
theorem dX4_chorus_7 : decode cX4_chorus 7 = .ok (.bipush 24, 2) := dk_16 24 (dk_at dksX4_chorus_0 7 rfl rfl)
theorem dX4_chorus_9 : decode cX4_chorus 9 = .ok (.invokestatic 242, 3) := dk_184 0 242 (dk_at dksX4_chorus_0 9 rfl rfl)
theorem dX4_chorus_12 : decode cX4_chorus 12 = .ok (.ifCond .eq 14, 3) := dk_153 0 14 (dk_at dksX4_chorus_0 12 rfl rfl)
theorem dX4_chorus_15 : decode cX4_chorus 15 = .ok (.iload_n 2, 1) := dk_28 (dk_at dksX4_chorus_0 15 rfl rfl)
theorem dX4_chorus_16 : decode cX4_chorus 16 = .ok (.iconst 0, 1) := dk_3 (dk_at dksX4_chorus_0 16 rfl rfl)
theorem dX4_chorus_17 : decode cX4_chorus 17 = .ok (.sipush 168, 3) := dk_17 0 168 (dk_at dksX4_chorus_0 17 rfl rfl)
theorem dX4_chorus_20 : decode cX4_chorus 20 = .ok (.invokestatic 242, 3) := dk_184 0 242 (dk_at dksX4_chorus_0 20 rfl rfl)
theorem dX4_chorus_23 : decode cX4_chorus 23 = .ok (.ifCond .ne 5, 3) := dk_154 0 5 (dk_at dksX4_chorus_1 0 rfl rfl)
theorem dX4_chorus_26 : decode cX4_chorus 26 = .ok (.iconst 0, 1) := dk_3 (dk_at dksX4_chorus_1 3 rfl rfl)
theorem dX4_chorus_27 : decode cX4_chorus 27 = .ok (.ireturn, 1) := dk_172 (dk_at dksX4_chorus_1 4 rfl rfl)
theorem dX4_chorus_28 : decode cX4_chorus 28 = .ok (.aload_n 0, 1) := dk_42 (dk_at dksX4_chorus_1 5 rfl rfl)
theorem dX4_chorus_29 : decode cX4_chorus 29 = .ok (.iload_n 1, 1) := dk_27 (dk_at dksX4_chorus_1 6 rfl rfl)
theorem dX4_chorus_30 : decode cX4_chorus 30 = .ok (.putfield 57, 3) := dk_181 0 57 (dk_at dksX4_chorus_1 7 rfl rfl)
theorem dX4_chorus_33 : decode cX4_chorus 33 = .ok (.aload_n 0, 1) := dk_42 (dk_at dksX4_chorus_1 10 rfl rfl)
theorem dX4_chorus_34 : decode cX4_chorus 34 = .ok (.iload_n 2, 1) := dk_28 (dk_at dksX4_chorus_1 11 rfl rfl)
theorem dX4_chorus_35 : decode cX4_chorus 35 = .ok (.putfield 61, 3) := dk_181 0 61 (dk_at dksX4_chorus_1 12 rfl rfl)
theorem dX4_chorus_38 : decode cX4_chorus 38 = .ok (.aload_n 0, 1) := dk_42 (dk_at dksX4_chorus_1 15 rfl rfl)
theorem dX4_chorus_39 : decode cX4_chorus 39 = .ok (.dup, 1) := dk_89 (dk_at dksX4_chorus_1 16 rfl rfl)
theorem dX4_chorus_40 : decode cX4_chorus 40 = .ok (.getfield 249, 3) := dk_180 0 249 (dk_at dksX4_chorus_1 17 rfl rfl)
theorem dX4_chorus_43 : decode cX4_chorus 43 = .ok (.iconst 1, 1) := dk_4 (dk_at dksX4_chorus_1 20 rfl rfl)
theorem dX4_chorus_44 : decode cX4_chorus 44 = .ok (.iadd, 1) := dk_96 (dk_at dksX4_chorus_1 21 rfl rfl)
theorem dX4_chorus_45 : decode cX4_chorus 45 = .ok (.putfield 249, 3) := dk_181 0 249 (dk_at dksX4_chorus_2 0 rfl rfl)
theorem dX4_chorus_48 : decode cX4_chorus 48 = .ok (.iconst 1, 1) := dk_4 (dk_at dksX4_chorus_2 3 rfl rfl)
theorem dX4_chorus_49 : decode cX4_chorus 49 = .ok (.ireturn, 1) := dk_172 (dk_at dksX4_chorus_2 4 rfl rfl)
abbrev cX4_contract : ByteArray := prog_18_method_27_code
def yX4_contract : MethodName := ⟨RX4, "contract", "(I)I"⟩
def dkwX4_contract_15 : List UInt8 := [79, 132, 3, 1, 167, 255, 182, 42, 89, 180, 0, 249, 4, 96, 181, 0, 249, 28, 172]
abbrev dktX4_contract_15 : List UInt8 := dkwX4_contract_15 ++ []
def dkwX4_contract_14 : List UInt8 := [29, 96, 46, 79, 42, 180, 0, 94, 16, 100, 27, 104, 29, 96, 42, 180, 0, 94, 17, 7, 208, 29, 96, 46]
abbrev dktX4_contract_14 : List UInt8 := dkwX4_contract_14 ++ dktX4_contract_15
def dkwX4_contract_13 : List UInt8 := [17, 7, 208, 29, 96, 46, 79, 42, 180, 0, 91, 16, 100, 27, 104, 29, 96, 42, 180, 0, 91, 17, 7, 208]
abbrev dktX4_contract_13 : List UInt8 := dkwX4_contract_13 ++ dktX4_contract_14
def dkwX4_contract_12 : List UInt8 := [62, 29, 42, 180, 1, 60, 162, 0, 72, 42, 180, 0, 88, 16, 100, 27, 104, 29, 96, 42, 180, 0, 88]
abbrev dktX4_contract_12 : List UInt8 := dkwX4_contract_12 ++ dktX4_contract_13
def dkwX4_contract_11 : List UInt8 := [16, 8, 27, 104, 29, 96, 42, 180, 0, 85, 17, 0, 160, 29, 96, 46, 79, 132, 3, 1, 167, 255, 184, 3]
abbrev dktX4_contract_11 : List UInt8 := dkwX4_contract_11 ++ dktX4_contract_12
def dkwX4_contract_10 : List UInt8 := [180, 0, 82, 16, 8, 27, 104, 29, 96, 42, 180, 0, 82, 17, 0, 160, 29, 96, 46, 79, 42, 180, 0, 85]
abbrev dktX4_contract_10 : List UInt8 := dkwX4_contract_10 ++ dktX4_contract_11
def dkwX4_contract_9 : List UInt8 := [42, 180, 0, 79, 16, 8, 27, 104, 29, 96, 42, 180, 0, 79, 17, 0, 160, 29, 96, 46, 79, 42]
abbrev dktX4_contract_9 : List UInt8 := dkwX4_contract_9 ++ dktX4_contract_10
def dkwX4_contract_8 : List UInt8 := [167, 255, 207, 42, 180, 0, 76, 27, 42, 180, 0, 76, 16, 20, 46, 79, 3, 62, 29, 16, 8, 162, 0, 72]
abbrev dktX4_contract_8 : List UInt8 := dkwX4_contract_8 ++ dktX4_contract_9
def dkwX4_contract_7 : List UInt8 := [180, 0, 73, 16, 6, 27, 104, 29, 96, 42, 180, 0, 73, 16, 120, 29, 96, 46, 79, 132, 3, 1]
abbrev dktX4_contract_7 : List UInt8 := dkwX4_contract_7 ++ dktX4_contract_8
def dkwX4_contract_6 : List UInt8 := [162, 0, 49, 42, 180, 0, 70, 16, 6, 27, 104, 29, 96, 42, 180, 0, 70, 16, 120, 29, 96, 46, 79, 42]
abbrev dktX4_contract_6 : List UInt8 := dkwX4_contract_6 ++ dktX4_contract_7
def dkwX4_contract_5 : List UInt8 := [132, 3, 1, 167, 255, 229, 42, 180, 0, 67, 27, 42, 180, 0, 67, 16, 20, 46, 79, 3, 62, 29, 16, 6]
abbrev dktX4_contract_5 : List UInt8 := dkwX4_contract_5 ++ dktX4_contract_6
def dkwX4_contract_4 : List UInt8 := [162, 0, 28, 42, 180, 0, 64, 7, 27, 104, 29, 96, 42, 180, 0, 64, 16, 80, 29, 96, 46, 79]
abbrev dktX4_contract_4 : List UInt8 := dkwX4_contract_4 ++ dktX4_contract_5
def dkwX4_contract_3 : List UInt8 := [182, 1, 70, 154, 0, 10, 2, 42, 180, 1, 42, 100, 172, 132, 2, 1, 167, 255, 223, 3, 62, 29, 7]
abbrev dktX4_contract_3 : List UInt8 := dkwX4_contract_3 ++ dktX4_contract_4
def dkwX4_contract_2 : List UInt8 := [3, 61, 42, 182, 1, 51, 42, 180, 1, 22, 153, 0, 32, 42, 182, 1, 66, 153, 0, 12, 42, 16, 59]
abbrev dktX4_contract_2 : List UInt8 := dkwX4_contract_2 ++ dktX4_contract_3
def dkwX4_contract_1 : List UInt8 := [181, 1, 39, 42, 3, 181, 1, 57, 42, 3, 181, 1, 60, 42, 3, 181, 1, 63, 42, 16, 20, 182, 1, 5]
abbrev dktX4_contract_1 : List UInt8 := dkwX4_contract_1 ++ dktX4_contract_2
def dkwX4_contract_0 : List UInt8 := [42, 3, 181, 0, 226, 42, 182, 0, 252, 42, 27, 182, 1, 54, 154, 0, 7, 17, 252, 24, 172, 42, 3]
abbrev dktX4_contract_0 : List UInt8 := dkwX4_contract_0 ++ dktX4_contract_1
theorem dksX4_contract_0 : cX4_contract.data.toList.drop 0 = dktX4_contract_0 := by decide +kernel
theorem dksX4_contract_1 : cX4_contract.data.toList.drop 23 = dktX4_contract_1 := dk_seg dksX4_contract_0 23 rfl rfl
theorem dksX4_contract_2 : cX4_contract.data.toList.drop 47 = dktX4_contract_2 := dk_seg dksX4_contract_1 24 rfl rfl
theorem dksX4_contract_3 : cX4_contract.data.toList.drop 70 = dktX4_contract_3 := dk_seg dksX4_contract_2 23 rfl rfl
theorem dksX4_contract_4 : cX4_contract.data.toList.drop 93 = dktX4_contract_4 := dk_seg dksX4_contract_3 23 rfl rfl
theorem dksX4_contract_5 : cX4_contract.data.toList.drop 115 = dktX4_contract_5 := dk_seg dksX4_contract_4 22 rfl rfl
theorem dksX4_contract_6 : cX4_contract.data.toList.drop 139 = dktX4_contract_6 := dk_seg dksX4_contract_5 24 rfl rfl
theorem dksX4_contract_7 : cX4_contract.data.toList.drop 163 = dktX4_contract_7 := dk_seg dksX4_contract_6 24 rfl rfl
theorem dksX4_contract_8 : cX4_contract.data.toList.drop 185 = dktX4_contract_8 := dk_seg dksX4_contract_7 22 rfl rfl
theorem dksX4_contract_9 : cX4_contract.data.toList.drop 209 = dktX4_contract_9 := dk_seg dksX4_contract_8 24 rfl rfl
theorem dksX4_contract_10 : cX4_contract.data.toList.drop 231 = dktX4_contract_10 := dk_seg dksX4_contract_9 22 rfl rfl
theorem dksX4_contract_11 : cX4_contract.data.toList.drop 255 = dktX4_contract_11 := dk_seg dksX4_contract_10 24 rfl rfl
theorem dksX4_contract_12 : cX4_contract.data.toList.drop 279 = dktX4_contract_12 := dk_seg dksX4_contract_11 24 rfl rfl
theorem dksX4_contract_13 : cX4_contract.data.toList.drop 302 = dktX4_contract_13 := dk_seg dksX4_contract_12 23 rfl rfl
theorem dksX4_contract_14 : cX4_contract.data.toList.drop 326 = dktX4_contract_14 := dk_seg dksX4_contract_13 24 rfl rfl
theorem dksX4_contract_15 : cX4_contract.data.toList.drop 350 = dktX4_contract_15 := dk_seg dksX4_contract_14 24 rfl rfl
theorem dX4_contract_0 : decode cX4_contract 0 = .ok (.aload_n 0, 1) := dk_42 (dk_at dksX4_contract_0 0 rfl rfl)
theorem dX4_contract_1 : decode cX4_contract 1 = .ok (.iconst 0, 1) := dk_3 (dk_at dksX4_contract_0 1 rfl rfl)
theorem dX4_contract_2 : decode cX4_contract 2 = .ok (.putfield 226, 3) := dk_181 0 226 (dk_at dksX4_contract_0 2 rfl rfl)
theorem dX4_contract_5 : decode cX4_contract 5 = .ok (.aload_n 0, 1) := dk_42 (dk_at dksX4_contract_0 5 rfl rfl)
theorem dX4_contract_6 : decode cX4_contract 6 = .ok (.invokevirtual 252, 3) := dk_182 0 252 (dk_at dksX4_contract_0 6 rfl rfl)
theorem dX4_contract_9 : decode cX4_contract 9 = .ok (.aload_n 0, 1) := dk_42 (dk_at dksX4_contract_0 9 rfl rfl)
theorem dX4_contract_10 : decode cX4_contract 10 = .ok (.iload_n 1, 1) := dk_27 (dk_at dksX4_contract_0 10 rfl rfl)
theorem dX4_contract_11 : decode cX4_contract 11 = .ok (.invokevirtual 310, 3) := dk_182 1 54 (dk_at dksX4_contract_0 11 rfl rfl)
theorem dX4_contract_14 : decode cX4_contract 14 = .ok (.ifCond .ne 7, 3) := dk_154 0 7 (dk_at dksX4_contract_0 14 rfl rfl)
theorem dX4_contract_17 : decode cX4_contract 17 = .ok (.sipush (-1000), 3) := dk_17 252 24 (dk_at dksX4_contract_0 17 rfl rfl)
theorem dX4_contract_20 : decode cX4_contract 20 = .ok (.ireturn, 1) := dk_172 (dk_at dksX4_contract_0 20 rfl rfl)
theorem dX4_contract_21 : decode cX4_contract 21 = .ok (.aload_n 0, 1) := dk_42 (dk_at dksX4_contract_0 21 rfl rfl)
theorem dX4_contract_22 : decode cX4_contract 22 = .ok (.iconst 0, 1) := dk_3 (dk_at dksX4_contract_0 22 rfl rfl)
theorem dX4_contract_23 : decode cX4_contract 23 = .ok (.putfield 295, 3) := dk_181 1 39 (dk_at dksX4_contract_1 0 rfl rfl)
theorem dX4_contract_26 : decode cX4_contract 26 = .ok (.aload_n 0, 1) := dk_42 (dk_at dksX4_contract_1 3 rfl rfl)
theorem dX4_contract_27 : decode cX4_contract 27 = .ok (.iconst 0, 1) := dk_3 (dk_at dksX4_contract_1 4 rfl rfl)
theorem dX4_contract_28 : decode cX4_contract 28 = .ok (.putfield 313, 3) := dk_181 1 57 (dk_at dksX4_contract_1 5 rfl rfl)
theorem dX4_contract_31 : decode cX4_contract 31 = .ok (.aload_n 0, 1) := dk_42 (dk_at dksX4_contract_1 8 rfl rfl)
theorem dX4_contract_32 : decode cX4_contract 32 = .ok (.iconst 0, 1) := dk_3 (dk_at dksX4_contract_1 9 rfl rfl)
theorem dX4_contract_33 : decode cX4_contract 33 = .ok (.putfield 316, 3) := dk_181 1 60 (dk_at dksX4_contract_1 10 rfl rfl)
theorem dX4_contract_36 : decode cX4_contract 36 = .ok (.aload_n 0, 1) := dk_42 (dk_at dksX4_contract_1 13 rfl rfl)
theorem dX4_contract_37 : decode cX4_contract 37 = .ok (.iconst 0, 1) := dk_3 (dk_at dksX4_contract_1 14 rfl rfl)
theorem dX4_contract_38 : decode cX4_contract 38 = .ok (.putfield 319, 3) := dk_181 1 63 (dk_at dksX4_contract_1 15 rfl rfl)
theorem dX4_contract_41 : decode cX4_contract 41 = .ok (.aload_n 0, 1) := dk_42 (dk_at dksX4_contract_1 18 rfl rfl)
theorem dX4_contract_42 : decode cX4_contract 42 = .ok (.bipush 20, 2) := dk_16 20 (dk_at dksX4_contract_1 19 rfl rfl)
theorem dX4_contract_44 : decode cX4_contract 44 = .ok (.invokevirtual 261, 3) := dk_182 1 5 (dk_at dksX4_contract_1 21 rfl rfl)
theorem dX4_contract_47 : decode cX4_contract 47 = .ok (.iconst 0, 1) := dk_3 (dk_at dksX4_contract_2 0 rfl rfl)
theorem dX4_contract_48 : decode cX4_contract 48 = .ok (.istore_n 2, 1) := dk_61 (dk_at dksX4_contract_2 1 rfl rfl)
theorem dX4_contract_49 : decode cX4_contract 49 = .ok (.aload_n 0, 1) := dk_42 (dk_at dksX4_contract_2 2 rfl rfl)
theorem dX4_contract_50 : decode cX4_contract 50 = .ok (.invokevirtual 307, 3) := dk_182 1 51 (dk_at dksX4_contract_2 3 rfl rfl)
theorem dX4_contract_53 : decode cX4_contract 53 = .ok (.aload_n 0, 1) := dk_42 (dk_at dksX4_contract_2 6 rfl rfl)
theorem dX4_contract_54 : decode cX4_contract 54 = .ok (.getfield 278, 3) := dk_180 1 22 (dk_at dksX4_contract_2 7 rfl rfl)
theorem dX4_contract_57 : decode cX4_contract 57 = .ok (.ifCond .eq 32, 3) := dk_153 0 32 (dk_at dksX4_contract_2 10 rfl rfl)
theorem dX4_contract_60 : decode cX4_contract 60 = .ok (.aload_n 0, 1) := dk_42 (dk_at dksX4_contract_2 13 rfl rfl)
theorem dX4_contract_61 : decode cX4_contract 61 = .ok (.invokevirtual 322, 3) := dk_182 1 66 (dk_at dksX4_contract_2 14 rfl rfl)
theorem dX4_contract_64 : decode cX4_contract 64 = .ok (.ifCond .eq 12, 3) := dk_153 0 12 (dk_at dksX4_contract_2 17 rfl rfl)
theorem dX4_contract_67 : decode cX4_contract 67 = .ok (.aload_n 0, 1) := dk_42 (dk_at dksX4_contract_2 20 rfl rfl)
theorem dX4_contract_68 : decode cX4_contract 68 = .ok (.bipush 59, 2) := dk_16 59 (dk_at dksX4_contract_2 21 rfl rfl)
theorem dX4_contract_70 : decode cX4_contract 70 = .ok (.invokevirtual 326, 3) := dk_182 1 70 (dk_at dksX4_contract_3 0 rfl rfl)
theorem dX4_contract_73 : decode cX4_contract 73 = .ok (.ifCond .ne 10, 3) := dk_154 0 10 (dk_at dksX4_contract_3 3 rfl rfl)
theorem dX4_contract_76 : decode cX4_contract 76 = .ok (.iconst (-1), 1) := dk_2 (dk_at dksX4_contract_3 6 rfl rfl)
theorem dX4_contract_77 : decode cX4_contract 77 = .ok (.aload_n 0, 1) := dk_42 (dk_at dksX4_contract_3 7 rfl rfl)
theorem dX4_contract_78 : decode cX4_contract 78 = .ok (.getfield 298, 3) := dk_180 1 42 (dk_at dksX4_contract_3 8 rfl rfl)
theorem dX4_contract_81 : decode cX4_contract 81 = .ok (.isub, 1) := dk_100 (dk_at dksX4_contract_3 11 rfl rfl)
theorem dX4_contract_82 : decode cX4_contract 82 = .ok (.ireturn, 1) := dk_172 (dk_at dksX4_contract_3 12 rfl rfl)
theorem dX4_contract_83 : decode cX4_contract 83 = .ok (.iinc 2 1, 3) := dk_132 2 1 (dk_at dksX4_contract_3 13 rfl rfl)
theorem dX4_contract_86 : decode cX4_contract 86 = .ok (.goto (-33), 3) := dk_167 255 223 (dk_at dksX4_contract_3 16 rfl rfl)
theorem dX4_contract_89 : decode cX4_contract 89 = .ok (.iconst 0, 1) := dk_3 (dk_at dksX4_contract_3 19 rfl rfl)
theorem dX4_contract_90 : decode cX4_contract 90 = .ok (.istore_n 3, 1) := dk_62 (dk_at dksX4_contract_3 20 rfl rfl)
theorem dX4_contract_91 : decode cX4_contract 91 = .ok (.iload_n 3, 1) := dk_29 (dk_at dksX4_contract_3 21 rfl rfl)
theorem dX4_contract_92 : decode cX4_contract 92 = .ok (.iconst 4, 1) := dk_7 (dk_at dksX4_contract_3 22 rfl rfl)
theorem dX4_contract_93 : decode cX4_contract 93 = .ok (.if_icmp .ge 28, 3) := dk_162 0 28 (dk_at dksX4_contract_4 0 rfl rfl)
theorem dX4_contract_96 : decode cX4_contract 96 = .ok (.aload_n 0, 1) := dk_42 (dk_at dksX4_contract_4 3 rfl rfl)
theorem dX4_contract_97 : decode cX4_contract 97 = .ok (.getfield 64, 3) := dk_180 0 64 (dk_at dksX4_contract_4 4 rfl rfl)
theorem dX4_contract_100 : decode cX4_contract 100 = .ok (.iconst 4, 1) := dk_7 (dk_at dksX4_contract_4 7 rfl rfl)
theorem dX4_contract_101 : decode cX4_contract 101 = .ok (.iload_n 1, 1) := dk_27 (dk_at dksX4_contract_4 8 rfl rfl)
theorem dX4_contract_102 : decode cX4_contract 102 = .ok (.imul, 1) := dk_104 (dk_at dksX4_contract_4 9 rfl rfl)
theorem dX4_contract_103 : decode cX4_contract 103 = .ok (.iload_n 3, 1) := dk_29 (dk_at dksX4_contract_4 10 rfl rfl)
theorem dX4_contract_104 : decode cX4_contract 104 = .ok (.iadd, 1) := dk_96 (dk_at dksX4_contract_4 11 rfl rfl)
theorem dX4_contract_105 : decode cX4_contract 105 = .ok (.aload_n 0, 1) := dk_42 (dk_at dksX4_contract_4 12 rfl rfl)
theorem dX4_contract_106 : decode cX4_contract 106 = .ok (.getfield 64, 3) := dk_180 0 64 (dk_at dksX4_contract_4 13 rfl rfl)
theorem dX4_contract_109 : decode cX4_contract 109 = .ok (.bipush 80, 2) := dk_16 80 (dk_at dksX4_contract_4 16 rfl rfl)
theorem dX4_contract_111 : decode cX4_contract 111 = .ok (.iload_n 3, 1) := dk_29 (dk_at dksX4_contract_4 18 rfl rfl)
theorem dX4_contract_112 : decode cX4_contract 112 = .ok (.iadd, 1) := dk_96 (dk_at dksX4_contract_4 19 rfl rfl)
theorem dX4_contract_113 : decode cX4_contract 113 = .ok (.iaload, 1) := dk_46 (dk_at dksX4_contract_4 20 rfl rfl)
theorem dX4_contract_114 : decode cX4_contract 114 = .ok (.iastore, 1) := dk_79 (dk_at dksX4_contract_4 21 rfl rfl)
theorem dX4_contract_115 : decode cX4_contract 115 = .ok (.iinc 3 1, 3) := dk_132 3 1 (dk_at dksX4_contract_5 0 rfl rfl)
theorem dX4_contract_118 : decode cX4_contract 118 = .ok (.goto (-27), 3) := dk_167 255 229 (dk_at dksX4_contract_5 3 rfl rfl)
theorem dX4_contract_121 : decode cX4_contract 121 = .ok (.aload_n 0, 1) := dk_42 (dk_at dksX4_contract_5 6 rfl rfl)
theorem dX4_contract_122 : decode cX4_contract 122 = .ok (.getfield 67, 3) := dk_180 0 67 (dk_at dksX4_contract_5 7 rfl rfl)
theorem dX4_contract_125 : decode cX4_contract 125 = .ok (.iload_n 1, 1) := dk_27 (dk_at dksX4_contract_5 10 rfl rfl)
theorem dX4_contract_126 : decode cX4_contract 126 = .ok (.aload_n 0, 1) := dk_42 (dk_at dksX4_contract_5 11 rfl rfl)
theorem dX4_contract_127 : decode cX4_contract 127 = .ok (.getfield 67, 3) := dk_180 0 67 (dk_at dksX4_contract_5 12 rfl rfl)
theorem dX4_contract_130 : decode cX4_contract 130 = .ok (.bipush 20, 2) := dk_16 20 (dk_at dksX4_contract_5 15 rfl rfl)
theorem dX4_contract_132 : decode cX4_contract 132 = .ok (.iaload, 1) := dk_46 (dk_at dksX4_contract_5 17 rfl rfl)
theorem dX4_contract_133 : decode cX4_contract 133 = .ok (.iastore, 1) := dk_79 (dk_at dksX4_contract_5 18 rfl rfl)
theorem dX4_contract_134 : decode cX4_contract 134 = .ok (.iconst 0, 1) := dk_3 (dk_at dksX4_contract_5 19 rfl rfl)
theorem dX4_contract_135 : decode cX4_contract 135 = .ok (.istore_n 3, 1) := dk_62 (dk_at dksX4_contract_5 20 rfl rfl)
theorem dX4_contract_136 : decode cX4_contract 136 = .ok (.iload_n 3, 1) := dk_29 (dk_at dksX4_contract_5 21 rfl rfl)
theorem dX4_contract_137 : decode cX4_contract 137 = .ok (.bipush 6, 2) := dk_16 6 (dk_at dksX4_contract_5 22 rfl rfl)
theorem dX4_contract_139 : decode cX4_contract 139 = .ok (.if_icmp .ge 49, 3) := dk_162 0 49 (dk_at dksX4_contract_6 0 rfl rfl)
theorem dX4_contract_142 : decode cX4_contract 142 = .ok (.aload_n 0, 1) := dk_42 (dk_at dksX4_contract_6 3 rfl rfl)
theorem dX4_contract_143 : decode cX4_contract 143 = .ok (.getfield 70, 3) := dk_180 0 70 (dk_at dksX4_contract_6 4 rfl rfl)
theorem dX4_contract_146 : decode cX4_contract 146 = .ok (.bipush 6, 2) := dk_16 6 (dk_at dksX4_contract_6 7 rfl rfl)
theorem dX4_contract_148 : decode cX4_contract 148 = .ok (.iload_n 1, 1) := dk_27 (dk_at dksX4_contract_6 9 rfl rfl)
theorem dX4_contract_149 : decode cX4_contract 149 = .ok (.imul, 1) := dk_104 (dk_at dksX4_contract_6 10 rfl rfl)
theorem dX4_contract_150 : decode cX4_contract 150 = .ok (.iload_n 3, 1) := dk_29 (dk_at dksX4_contract_6 11 rfl rfl)
theorem dX4_contract_151 : decode cX4_contract 151 = .ok (.iadd, 1) := dk_96 (dk_at dksX4_contract_6 12 rfl rfl)
theorem dX4_contract_152 : decode cX4_contract 152 = .ok (.aload_n 0, 1) := dk_42 (dk_at dksX4_contract_6 13 rfl rfl)
theorem dX4_contract_153 : decode cX4_contract 153 = .ok (.getfield 70, 3) := dk_180 0 70 (dk_at dksX4_contract_6 14 rfl rfl)
theorem dX4_contract_156 : decode cX4_contract 156 = .ok (.bipush 120, 2) := dk_16 120 (dk_at dksX4_contract_6 17 rfl rfl)
theorem dX4_contract_158 : decode cX4_contract 158 = .ok (.iload_n 3, 1) := dk_29 (dk_at dksX4_contract_6 19 rfl rfl)
theorem dX4_contract_159 : decode cX4_contract 159 = .ok (.iadd, 1) := dk_96 (dk_at dksX4_contract_6 20 rfl rfl)
theorem dX4_contract_160 : decode cX4_contract 160 = .ok (.iaload, 1) := dk_46 (dk_at dksX4_contract_6 21 rfl rfl)
theorem dX4_contract_161 : decode cX4_contract 161 = .ok (.iastore, 1) := dk_79 (dk_at dksX4_contract_6 22 rfl rfl)
theorem dX4_contract_162 : decode cX4_contract 162 = .ok (.aload_n 0, 1) := dk_42 (dk_at dksX4_contract_6 23 rfl rfl)
theorem dX4_contract_163 : decode cX4_contract 163 = .ok (.getfield 73, 3) := dk_180 0 73 (dk_at dksX4_contract_7 0 rfl rfl)
theorem dX4_contract_166 : decode cX4_contract 166 = .ok (.bipush 6, 2) := dk_16 6 (dk_at dksX4_contract_7 3 rfl rfl)
theorem dX4_contract_168 : decode cX4_contract 168 = .ok (.iload_n 1, 1) := dk_27 (dk_at dksX4_contract_7 5 rfl rfl)
theorem dX4_contract_169 : decode cX4_contract 169 = .ok (.imul, 1) := dk_104 (dk_at dksX4_contract_7 6 rfl rfl)
theorem dX4_contract_170 : decode cX4_contract 170 = .ok (.iload_n 3, 1) := dk_29 (dk_at dksX4_contract_7 7 rfl rfl)
theorem dX4_contract_171 : decode cX4_contract 171 = .ok (.iadd, 1) := dk_96 (dk_at dksX4_contract_7 8 rfl rfl)
theorem dX4_contract_172 : decode cX4_contract 172 = .ok (.aload_n 0, 1) := dk_42 (dk_at dksX4_contract_7 9 rfl rfl)
theorem dX4_contract_173 : decode cX4_contract 173 = .ok (.getfield 73, 3) := dk_180 0 73 (dk_at dksX4_contract_7 10 rfl rfl)
theorem dX4_contract_176 : decode cX4_contract 176 = .ok (.bipush 120, 2) := dk_16 120 (dk_at dksX4_contract_7 13 rfl rfl)
theorem dX4_contract_178 : decode cX4_contract 178 = .ok (.iload_n 3, 1) := dk_29 (dk_at dksX4_contract_7 15 rfl rfl)
theorem dX4_contract_179 : decode cX4_contract 179 = .ok (.iadd, 1) := dk_96 (dk_at dksX4_contract_7 16 rfl rfl)
theorem dX4_contract_180 : decode cX4_contract 180 = .ok (.iaload, 1) := dk_46 (dk_at dksX4_contract_7 17 rfl rfl)
theorem dX4_contract_181 : decode cX4_contract 181 = .ok (.iastore, 1) := dk_79 (dk_at dksX4_contract_7 18 rfl rfl)
theorem dX4_contract_182 : decode cX4_contract 182 = .ok (.iinc 3 1, 3) := dk_132 3 1 (dk_at dksX4_contract_7 19 rfl rfl)
theorem dX4_contract_185 : decode cX4_contract 185 = .ok (.goto (-49), 3) := dk_167 255 207 (dk_at dksX4_contract_8 0 rfl rfl)
theorem dX4_contract_188 : decode cX4_contract 188 = .ok (.aload_n 0, 1) := dk_42 (dk_at dksX4_contract_8 3 rfl rfl)
theorem dX4_contract_189 : decode cX4_contract 189 = .ok (.getfield 76, 3) := dk_180 0 76 (dk_at dksX4_contract_8 4 rfl rfl)
theorem dX4_contract_192 : decode cX4_contract 192 = .ok (.iload_n 1, 1) := dk_27 (dk_at dksX4_contract_8 7 rfl rfl)
theorem dX4_contract_193 : decode cX4_contract 193 = .ok (.aload_n 0, 1) := dk_42 (dk_at dksX4_contract_8 8 rfl rfl)
theorem dX4_contract_194 : decode cX4_contract 194 = .ok (.getfield 76, 3) := dk_180 0 76 (dk_at dksX4_contract_8 9 rfl rfl)
theorem dX4_contract_197 : decode cX4_contract 197 = .ok (.bipush 20, 2) := dk_16 20 (dk_at dksX4_contract_8 12 rfl rfl)
theorem dX4_contract_199 : decode cX4_contract 199 = .ok (.iaload, 1) := dk_46 (dk_at dksX4_contract_8 14 rfl rfl)
theorem dX4_contract_200 : decode cX4_contract 200 = .ok (.iastore, 1) := dk_79 (dk_at dksX4_contract_8 15 rfl rfl)
theorem dX4_contract_201 : decode cX4_contract 201 = .ok (.iconst 0, 1) := dk_3 (dk_at dksX4_contract_8 16 rfl rfl)
theorem dX4_contract_202 : decode cX4_contract 202 = .ok (.istore_n 3, 1) := dk_62 (dk_at dksX4_contract_8 17 rfl rfl)
theorem dX4_contract_203 : decode cX4_contract 203 = .ok (.iload_n 3, 1) := dk_29 (dk_at dksX4_contract_8 18 rfl rfl)
theorem dX4_contract_204 : decode cX4_contract 204 = .ok (.bipush 8, 2) := dk_16 8 (dk_at dksX4_contract_8 19 rfl rfl)
theorem dX4_contract_206 : decode cX4_contract 206 = .ok (.if_icmp .ge 72, 3) := dk_162 0 72 (dk_at dksX4_contract_8 21 rfl rfl)
theorem dX4_contract_209 : decode cX4_contract 209 = .ok (.aload_n 0, 1) := dk_42 (dk_at dksX4_contract_9 0 rfl rfl)
theorem dX4_contract_210 : decode cX4_contract 210 = .ok (.getfield 79, 3) := dk_180 0 79 (dk_at dksX4_contract_9 1 rfl rfl)
theorem dX4_contract_213 : decode cX4_contract 213 = .ok (.bipush 8, 2) := dk_16 8 (dk_at dksX4_contract_9 4 rfl rfl)
theorem dX4_contract_215 : decode cX4_contract 215 = .ok (.iload_n 1, 1) := dk_27 (dk_at dksX4_contract_9 6 rfl rfl)
theorem dX4_contract_216 : decode cX4_contract 216 = .ok (.imul, 1) := dk_104 (dk_at dksX4_contract_9 7 rfl rfl)
theorem dX4_contract_217 : decode cX4_contract 217 = .ok (.iload_n 3, 1) := dk_29 (dk_at dksX4_contract_9 8 rfl rfl)
theorem dX4_contract_218 : decode cX4_contract 218 = .ok (.iadd, 1) := dk_96 (dk_at dksX4_contract_9 9 rfl rfl)
theorem dX4_contract_219 : decode cX4_contract 219 = .ok (.aload_n 0, 1) := dk_42 (dk_at dksX4_contract_9 10 rfl rfl)
theorem dX4_contract_220 : decode cX4_contract 220 = .ok (.getfield 79, 3) := dk_180 0 79 (dk_at dksX4_contract_9 11 rfl rfl)
theorem dX4_contract_223 : decode cX4_contract 223 = .ok (.sipush 160, 3) := dk_17 0 160 (dk_at dksX4_contract_9 14 rfl rfl)
theorem dX4_contract_226 : decode cX4_contract 226 = .ok (.iload_n 3, 1) := dk_29 (dk_at dksX4_contract_9 17 rfl rfl)
theorem dX4_contract_227 : decode cX4_contract 227 = .ok (.iadd, 1) := dk_96 (dk_at dksX4_contract_9 18 rfl rfl)
theorem dX4_contract_228 : decode cX4_contract 228 = .ok (.iaload, 1) := dk_46 (dk_at dksX4_contract_9 19 rfl rfl)
theorem dX4_contract_229 : decode cX4_contract 229 = .ok (.iastore, 1) := dk_79 (dk_at dksX4_contract_9 20 rfl rfl)
theorem dX4_contract_230 : decode cX4_contract 230 = .ok (.aload_n 0, 1) := dk_42 (dk_at dksX4_contract_9 21 rfl rfl)
theorem dX4_contract_231 : decode cX4_contract 231 = .ok (.getfield 82, 3) := dk_180 0 82 (dk_at dksX4_contract_10 0 rfl rfl)
theorem dX4_contract_234 : decode cX4_contract 234 = .ok (.bipush 8, 2) := dk_16 8 (dk_at dksX4_contract_10 3 rfl rfl)
theorem dX4_contract_236 : decode cX4_contract 236 = .ok (.iload_n 1, 1) := dk_27 (dk_at dksX4_contract_10 5 rfl rfl)
theorem dX4_contract_237 : decode cX4_contract 237 = .ok (.imul, 1) := dk_104 (dk_at dksX4_contract_10 6 rfl rfl)
theorem dX4_contract_238 : decode cX4_contract 238 = .ok (.iload_n 3, 1) := dk_29 (dk_at dksX4_contract_10 7 rfl rfl)
theorem dX4_contract_239 : decode cX4_contract 239 = .ok (.iadd, 1) := dk_96 (dk_at dksX4_contract_10 8 rfl rfl)
theorem dX4_contract_240 : decode cX4_contract 240 = .ok (.aload_n 0, 1) := dk_42 (dk_at dksX4_contract_10 9 rfl rfl)
theorem dX4_contract_241 : decode cX4_contract 241 = .ok (.getfield 82, 3) := dk_180 0 82 (dk_at dksX4_contract_10 10 rfl rfl)
theorem dX4_contract_244 : decode cX4_contract 244 = .ok (.sipush 160, 3) := dk_17 0 160 (dk_at dksX4_contract_10 13 rfl rfl)
theorem dX4_contract_247 : decode cX4_contract 247 = .ok (.iload_n 3, 1) := dk_29 (dk_at dksX4_contract_10 16 rfl rfl)
theorem dX4_contract_248 : decode cX4_contract 248 = .ok (.iadd, 1) := dk_96 (dk_at dksX4_contract_10 17 rfl rfl)
theorem dX4_contract_249 : decode cX4_contract 249 = .ok (.iaload, 1) := dk_46 (dk_at dksX4_contract_10 18 rfl rfl)
theorem dX4_contract_250 : decode cX4_contract 250 = .ok (.iastore, 1) := dk_79 (dk_at dksX4_contract_10 19 rfl rfl)
theorem dX4_contract_251 : decode cX4_contract 251 = .ok (.aload_n 0, 1) := dk_42 (dk_at dksX4_contract_10 20 rfl rfl)
theorem dX4_contract_252 : decode cX4_contract 252 = .ok (.getfield 85, 3) := dk_180 0 85 (dk_at dksX4_contract_10 21 rfl rfl)
theorem dX4_contract_255 : decode cX4_contract 255 = .ok (.bipush 8, 2) := dk_16 8 (dk_at dksX4_contract_11 0 rfl rfl)
theorem dX4_contract_257 : decode cX4_contract 257 = .ok (.iload_n 1, 1) := dk_27 (dk_at dksX4_contract_11 2 rfl rfl)
theorem dX4_contract_258 : decode cX4_contract 258 = .ok (.imul, 1) := dk_104 (dk_at dksX4_contract_11 3 rfl rfl)
theorem dX4_contract_259 : decode cX4_contract 259 = .ok (.iload_n 3, 1) := dk_29 (dk_at dksX4_contract_11 4 rfl rfl)
theorem dX4_contract_260 : decode cX4_contract 260 = .ok (.iadd, 1) := dk_96 (dk_at dksX4_contract_11 5 rfl rfl)
theorem dX4_contract_261 : decode cX4_contract 261 = .ok (.aload_n 0, 1) := dk_42 (dk_at dksX4_contract_11 6 rfl rfl)
theorem dX4_contract_262 : decode cX4_contract 262 = .ok (.getfield 85, 3) := dk_180 0 85 (dk_at dksX4_contract_11 7 rfl rfl)
theorem dX4_contract_265 : decode cX4_contract 265 = .ok (.sipush 160, 3) := dk_17 0 160 (dk_at dksX4_contract_11 10 rfl rfl)
theorem dX4_contract_268 : decode cX4_contract 268 = .ok (.iload_n 3, 1) := dk_29 (dk_at dksX4_contract_11 13 rfl rfl)
theorem dX4_contract_269 : decode cX4_contract 269 = .ok (.iadd, 1) := dk_96 (dk_at dksX4_contract_11 14 rfl rfl)
theorem dX4_contract_270 : decode cX4_contract 270 = .ok (.iaload, 1) := dk_46 (dk_at dksX4_contract_11 15 rfl rfl)
theorem dX4_contract_271 : decode cX4_contract 271 = .ok (.iastore, 1) := dk_79 (dk_at dksX4_contract_11 16 rfl rfl)
theorem dX4_contract_272 : decode cX4_contract 272 = .ok (.iinc 3 1, 3) := dk_132 3 1 (dk_at dksX4_contract_11 17 rfl rfl)
theorem dX4_contract_275 : decode cX4_contract 275 = .ok (.goto (-72), 3) := dk_167 255 184 (dk_at dksX4_contract_11 20 rfl rfl)
theorem dX4_contract_278 : decode cX4_contract 278 = .ok (.iconst 0, 1) := dk_3 (dk_at dksX4_contract_11 23 rfl rfl)
theorem dX4_contract_279 : decode cX4_contract 279 = .ok (.istore_n 3, 1) := dk_62 (dk_at dksX4_contract_12 0 rfl rfl)
theorem dX4_contract_280 : decode cX4_contract 280 = .ok (.iload_n 3, 1) := dk_29 (dk_at dksX4_contract_12 1 rfl rfl)
theorem dX4_contract_281 : decode cX4_contract 281 = .ok (.aload_n 0, 1) := dk_42 (dk_at dksX4_contract_12 2 rfl rfl)
theorem dX4_contract_282 : decode cX4_contract 282 = .ok (.getfield 316, 3) := dk_180 1 60 (dk_at dksX4_contract_12 3 rfl rfl)
theorem dX4_contract_285 : decode cX4_contract 285 = .ok (.if_icmp .ge 72, 3) := dk_162 0 72 (dk_at dksX4_contract_12 6 rfl rfl)
theorem dX4_contract_288 : decode cX4_contract 288 = .ok (.aload_n 0, 1) := dk_42 (dk_at dksX4_contract_12 9 rfl rfl)
theorem dX4_contract_289 : decode cX4_contract 289 = .ok (.getfield 88, 3) := dk_180 0 88 (dk_at dksX4_contract_12 10 rfl rfl)
theorem dX4_contract_292 : decode cX4_contract 292 = .ok (.bipush 100, 2) := dk_16 100 (dk_at dksX4_contract_12 13 rfl rfl)
theorem dX4_contract_294 : decode cX4_contract 294 = .ok (.iload_n 1, 1) := dk_27 (dk_at dksX4_contract_12 15 rfl rfl)
theorem dX4_contract_295 : decode cX4_contract 295 = .ok (.imul, 1) := dk_104 (dk_at dksX4_contract_12 16 rfl rfl)
theorem dX4_contract_296 : decode cX4_contract 296 = .ok (.iload_n 3, 1) := dk_29 (dk_at dksX4_contract_12 17 rfl rfl)
theorem dX4_contract_297 : decode cX4_contract 297 = .ok (.iadd, 1) := dk_96 (dk_at dksX4_contract_12 18 rfl rfl)
theorem dX4_contract_298 : decode cX4_contract 298 = .ok (.aload_n 0, 1) := dk_42 (dk_at dksX4_contract_12 19 rfl rfl)
theorem dX4_contract_299 : decode cX4_contract 299 = .ok (.getfield 88, 3) := dk_180 0 88 (dk_at dksX4_contract_12 20 rfl rfl)
theorem dX4_contract_302 : decode cX4_contract 302 = .ok (.sipush 2000, 3) := dk_17 7 208 (dk_at dksX4_contract_13 0 rfl rfl)
theorem dX4_contract_305 : decode cX4_contract 305 = .ok (.iload_n 3, 1) := dk_29 (dk_at dksX4_contract_13 3 rfl rfl)
theorem dX4_contract_306 : decode cX4_contract 306 = .ok (.iadd, 1) := dk_96 (dk_at dksX4_contract_13 4 rfl rfl)
theorem dX4_contract_307 : decode cX4_contract 307 = .ok (.iaload, 1) := dk_46 (dk_at dksX4_contract_13 5 rfl rfl)
theorem dX4_contract_308 : decode cX4_contract 308 = .ok (.iastore, 1) := dk_79 (dk_at dksX4_contract_13 6 rfl rfl)
theorem dX4_contract_309 : decode cX4_contract 309 = .ok (.aload_n 0, 1) := dk_42 (dk_at dksX4_contract_13 7 rfl rfl)
theorem dX4_contract_310 : decode cX4_contract 310 = .ok (.getfield 91, 3) := dk_180 0 91 (dk_at dksX4_contract_13 8 rfl rfl)
theorem dX4_contract_313 : decode cX4_contract 313 = .ok (.bipush 100, 2) := dk_16 100 (dk_at dksX4_contract_13 11 rfl rfl)
theorem dX4_contract_315 : decode cX4_contract 315 = .ok (.iload_n 1, 1) := dk_27 (dk_at dksX4_contract_13 13 rfl rfl)
theorem dX4_contract_316 : decode cX4_contract 316 = .ok (.imul, 1) := dk_104 (dk_at dksX4_contract_13 14 rfl rfl)
theorem dX4_contract_317 : decode cX4_contract 317 = .ok (.iload_n 3, 1) := dk_29 (dk_at dksX4_contract_13 15 rfl rfl)
theorem dX4_contract_318 : decode cX4_contract 318 = .ok (.iadd, 1) := dk_96 (dk_at dksX4_contract_13 16 rfl rfl)
theorem dX4_contract_319 : decode cX4_contract 319 = .ok (.aload_n 0, 1) := dk_42 (dk_at dksX4_contract_13 17 rfl rfl)
theorem dX4_contract_320 : decode cX4_contract 320 = .ok (.getfield 91, 3) := dk_180 0 91 (dk_at dksX4_contract_13 18 rfl rfl)
theorem dX4_contract_323 : decode cX4_contract 323 = .ok (.sipush 2000, 3) := dk_17 7 208 (dk_at dksX4_contract_13 21 rfl rfl)
theorem dX4_contract_326 : decode cX4_contract 326 = .ok (.iload_n 3, 1) := dk_29 (dk_at dksX4_contract_14 0 rfl rfl)
theorem dX4_contract_327 : decode cX4_contract 327 = .ok (.iadd, 1) := dk_96 (dk_at dksX4_contract_14 1 rfl rfl)
theorem dX4_contract_328 : decode cX4_contract 328 = .ok (.iaload, 1) := dk_46 (dk_at dksX4_contract_14 2 rfl rfl)
theorem dX4_contract_329 : decode cX4_contract 329 = .ok (.iastore, 1) := dk_79 (dk_at dksX4_contract_14 3 rfl rfl)
theorem dX4_contract_330 : decode cX4_contract 330 = .ok (.aload_n 0, 1) := dk_42 (dk_at dksX4_contract_14 4 rfl rfl)
theorem dX4_contract_331 : decode cX4_contract 331 = .ok (.getfield 94, 3) := dk_180 0 94 (dk_at dksX4_contract_14 5 rfl rfl)
theorem dX4_contract_334 : decode cX4_contract 334 = .ok (.bipush 100, 2) := dk_16 100 (dk_at dksX4_contract_14 8 rfl rfl)
theorem dX4_contract_336 : decode cX4_contract 336 = .ok (.iload_n 1, 1) := dk_27 (dk_at dksX4_contract_14 10 rfl rfl)
theorem dX4_contract_337 : decode cX4_contract 337 = .ok (.imul, 1) := dk_104 (dk_at dksX4_contract_14 11 rfl rfl)
theorem dX4_contract_338 : decode cX4_contract 338 = .ok (.iload_n 3, 1) := dk_29 (dk_at dksX4_contract_14 12 rfl rfl)
theorem dX4_contract_339 : decode cX4_contract 339 = .ok (.iadd, 1) := dk_96 (dk_at dksX4_contract_14 13 rfl rfl)
theorem dX4_contract_340 : decode cX4_contract 340 = .ok (.aload_n 0, 1) := dk_42 (dk_at dksX4_contract_14 14 rfl rfl)
theorem dX4_contract_341 : decode cX4_contract 341 = .ok (.getfield 94, 3) := dk_180 0 94 (dk_at dksX4_contract_14 15 rfl rfl)
theorem dX4_contract_344 : decode cX4_contract 344 = .ok (.sipush 2000, 3) := dk_17 7 208 (dk_at dksX4_contract_14 18 rfl rfl)
theorem dX4_contract_347 : decode cX4_contract 347 = .ok (.iload_n 3, 1) := dk_29 (dk_at dksX4_contract_14 21 rfl rfl)
theorem dX4_contract_348 : decode cX4_contract 348 = .ok (.iadd, 1) := dk_96 (dk_at dksX4_contract_14 22 rfl rfl)
theorem dX4_contract_349 : decode cX4_contract 349 = .ok (.iaload, 1) := dk_46 (dk_at dksX4_contract_14 23 rfl rfl)
theorem dX4_contract_350 : decode cX4_contract 350 = .ok (.iastore, 1) := dk_79 (dk_at dksX4_contract_15 0 rfl rfl)
theorem dX4_contract_351 : decode cX4_contract 351 = .ok (.iinc 3 1, 3) := dk_132 3 1 (dk_at dksX4_contract_15 1 rfl rfl)
theorem dX4_contract_354 : decode cX4_contract 354 = .ok (.goto (-74), 3) := dk_167 255 182 (dk_at dksX4_contract_15 4 rfl rfl)
theorem dX4_contract_357 : decode cX4_contract 357 = .ok (.aload_n 0, 1) := dk_42 (dk_at dksX4_contract_15 7 rfl rfl)
theorem dX4_contract_358 : decode cX4_contract 358 = .ok (.dup, 1) := dk_89 (dk_at dksX4_contract_15 8 rfl rfl)
theorem dX4_contract_359 : decode cX4_contract 359 = .ok (.getfield 249, 3) := dk_180 0 249 (dk_at dksX4_contract_15 9 rfl rfl)
theorem dX4_contract_362 : decode cX4_contract 362 = .ok (.iconst 1, 1) := dk_4 (dk_at dksX4_contract_15 12 rfl rfl)
theorem dX4_contract_363 : decode cX4_contract 363 = .ok (.iadd, 1) := dk_96 (dk_at dksX4_contract_15 13 rfl rfl)
theorem dX4_contract_364 : decode cX4_contract 364 = .ok (.putfield 249, 3) := dk_181 0 249 (dk_at dksX4_contract_15 14 rfl rfl)
theorem dX4_contract_367 : decode cX4_contract 367 = .ok (.iload_n 2, 1) := dk_28 (dk_at dksX4_contract_15 17 rfl rfl)
theorem dX4_contract_368 : decode cX4_contract 368 = .ok (.ireturn, 1) := dk_172 (dk_at dksX4_contract_15 18 rfl rfl)
abbrev cX4_isSinger : ByteArray := prog_18_method_12_code
def yX4_isSinger : MethodName := ⟨RX4, "isSinger", "(I)Z"⟩
def dkwX4_isSinger_0 : List UInt8 := [27, 3, 42, 180, 1, 2, 4, 100, 184, 0, 242, 172]
abbrev dktX4_isSinger_0 : List UInt8 := dkwX4_isSinger_0 ++ []
theorem dksX4_isSinger_0 : cX4_isSinger.data.toList.drop 0 = dktX4_isSinger_0 := by decide +kernel
theorem dX4_isSinger_0 : decode cX4_isSinger 0 = .ok (.iload_n 1, 1) := dk_27 (dk_at dksX4_isSinger_0 0 rfl rfl)
theorem dX4_isSinger_1 : decode cX4_isSinger 1 = .ok (.iconst 0, 1) := dk_3 (dk_at dksX4_isSinger_0 1 rfl rfl)
theorem dX4_isSinger_2 : decode cX4_isSinger 2 = .ok (.aload_n 0, 1) := dk_42 (dk_at dksX4_isSinger_0 2 rfl rfl)
theorem dX4_isSinger_3 : decode cX4_isSinger 3 = .ok (.getfield 258, 3) := dk_180 1 2 (dk_at dksX4_isSinger_0 3 rfl rfl)
theorem dX4_isSinger_6 : decode cX4_isSinger 6 = .ok (.iconst 1, 1) := dk_4 (dk_at dksX4_isSinger_0 6 rfl rfl)
theorem dX4_isSinger_7 : decode cX4_isSinger 7 = .ok (.isub, 1) := dk_100 (dk_at dksX4_isSinger_0 7 rfl rfl)
theorem dX4_isSinger_8 : decode cX4_isSinger 8 = .ok (.invokestatic 242, 3) := dk_184 0 242 (dk_at dksX4_isSinger_0 8 rfl rfl)
theorem dX4_isSinger_11 : decode cX4_isSinger 11 = .ok (.ireturn, 1) := dk_172 (dk_at dksX4_isSinger_0 11 rfl rfl)
abbrev cX4_next_2 : ByteArray := prog_18_method_22_code
def yX4_next_2 : MethodName := ⟨RX4, "next", "()V"⟩
def dkwX4_next_2_14 : List UInt8 := [181, 1, 22, 177]
abbrev dktX4_next_2_14 : List UInt8 := dkwX4_next_2_14 ++ []
def dkwX4_next_2_13 : List UInt8 := [16, 8, 167, 0, 4, 8, 164, 0, 7, 7, 167, 0, 12, 28, 153, 0, 7, 4, 167, 0, 4, 5]
abbrev dktX4_next_2_13 : List UInt8 := dkwX4_next_2_13 ++ dktX4_next_2_14
def dkwX4_next_2_12 : List UInt8 := [180, 0, 239, 4, 96, 181, 0, 239, 167, 255, 142, 42, 29, 153, 0, 20, 42, 180, 1, 19, 28, 153, 0, 8]
abbrev dktX4_next_2_12 : List UInt8 := dkwX4_next_2_12 ++ dktX4_next_2_13
def dkwX4_next_2_11 : List UInt8 := [42, 182, 1, 12, 96, 16, 48, 100, 181, 1, 32, 42, 89, 180, 1, 19, 4, 96, 181, 1, 19, 42, 89]
abbrev dktX4_next_2_11 : List UInt8 := dkwX4_next_2_11 ++ dktX4_next_2_12
def dkwX4_next_2_10 : List UInt8 := [182, 1, 12, 133, 129, 181, 1, 35, 42, 180, 1, 19, 8, 162, 0, 22, 42, 16, 10, 42, 180, 1, 32, 104]
abbrev dktX4_next_2_10 : List UInt8 := dkwX4_next_2_10 ++ dktX4_next_2_11
def dkwX4_next_2_9 : List UInt8 := [4, 167, 0, 4, 3, 62, 42, 180, 1, 19, 16, 8, 162, 0, 20, 42, 42, 180, 1, 35, 16, 8, 121, 42]
abbrev dktX4_next_2_9 : List UInt8 := dkwX4_next_2_9 ++ dktX4_next_2_10
def dkwX4_next_2_8 : List UInt8 := [182, 1, 12, 184, 1, 29, 153, 0, 100, 29, 153, 0, 18, 42, 182, 1, 12, 184, 1, 25, 28, 160, 0, 7]
abbrev dktX4_next_2_8 : List UInt8 := dkwX4_next_2_8 ++ dktX4_next_2_9
def dkwX4_next_2_7 : List UInt8 := [4, 62, 42, 9, 181, 1, 35, 42, 3, 181, 1, 32, 42, 182, 1, 12, 184, 1, 25, 154, 0, 13, 42]
abbrev dktX4_next_2_7 : List UInt8 := dkwX4_next_2_7 ++ dktX4_next_2_8
def dkwX4_next_2_6 : List UInt8 := [181, 1, 22, 42, 27, 181, 1, 32, 42, 89, 180, 0, 239, 4, 96, 181, 0, 239, 177, 27, 184, 1, 25, 61]
abbrev dktX4_next_2_6 : List UInt8 := dkwX4_next_2_6 ++ dktX4_next_2_7
def dkwX4_next_2_5 : List UInt8 := [16, 41, 159, 0, 15, 27, 16, 60, 161, 0, 13, 27, 16, 62, 163, 0, 7, 6, 167, 0, 4, 7]
abbrev dktX4_next_2_5 : List UInt8 := dkwX4_next_2_5 ++ dktX4_next_2_6
def dkwX4_next_2_4 : List UInt8 := [154, 0, 65, 27, 184, 1, 29, 154, 0, 58, 42, 27, 16, 59, 159, 0, 27, 27, 16, 40, 159, 0, 21, 27]
abbrev dktX4_next_2_4 : List UInt8 := dkwX4_next_2_4 ++ dktX4_next_2_5
def dkwX4_next_2_3 : List UInt8 := [7, 181, 1, 22, 177, 42, 182, 1, 12, 60, 27, 156, 0, 9, 42, 3, 181, 1, 22, 177, 27, 184, 1, 25]
abbrev dktX4_next_2_3 : List UInt8 := dkwX4_next_2_3 ++ dktX4_next_2_4
def dkwX4_next_2_2 : List UInt8 := [17, 1, 44, 164, 0, 26, 42, 180, 0, 239, 17, 1, 44, 161, 0, 16, 42, 17, 1, 44, 181, 1, 16, 42]
abbrev dktX4_next_2_2 : List UInt8 := dkwX4_next_2_2 ++ dktX4_next_2_3
def dkwX4_next_2_1 : List UInt8 := [96, 181, 0, 239, 167, 255, 228, 42, 42, 180, 0, 239, 181, 1, 16, 42, 3, 181, 1, 19, 42, 180, 0, 236]
abbrev dktX4_next_2_1 : List UInt8 := dkwX4_next_2_1 ++ dktX4_next_2_2
def dkwX4_next_2_0 : List UInt8 := [42, 182, 1, 12, 16, 32, 159, 0, 12, 42, 182, 1, 12, 16, 10, 160, 0, 16, 42, 89, 180, 0, 239, 4]
abbrev dktX4_next_2_0 : List UInt8 := dkwX4_next_2_0 ++ dktX4_next_2_1
theorem dksX4_next_2_0 : cX4_next_2.data.toList.drop 0 = dktX4_next_2_0 := by decide +kernel
theorem dksX4_next_2_1 : cX4_next_2.data.toList.drop 24 = dktX4_next_2_1 := dk_seg dksX4_next_2_0 24 rfl rfl
theorem dksX4_next_2_2 : cX4_next_2.data.toList.drop 48 = dktX4_next_2_2 := dk_seg dksX4_next_2_1 24 rfl rfl
theorem dksX4_next_2_3 : cX4_next_2.data.toList.drop 72 = dktX4_next_2_3 := dk_seg dksX4_next_2_2 24 rfl rfl
theorem dksX4_next_2_4 : cX4_next_2.data.toList.drop 96 = dktX4_next_2_4 := dk_seg dksX4_next_2_3 24 rfl rfl
theorem dksX4_next_2_5 : cX4_next_2.data.toList.drop 120 = dktX4_next_2_5 := dk_seg dksX4_next_2_4 24 rfl rfl
theorem dksX4_next_2_6 : cX4_next_2.data.toList.drop 142 = dktX4_next_2_6 := dk_seg dksX4_next_2_5 22 rfl rfl
theorem dksX4_next_2_7 : cX4_next_2.data.toList.drop 166 = dktX4_next_2_7 := dk_seg dksX4_next_2_6 24 rfl rfl
theorem dksX4_next_2_8 : cX4_next_2.data.toList.drop 189 = dktX4_next_2_8 := dk_seg dksX4_next_2_7 23 rfl rfl
theorem dksX4_next_2_9 : cX4_next_2.data.toList.drop 213 = dktX4_next_2_9 := dk_seg dksX4_next_2_8 24 rfl rfl
theorem dksX4_next_2_10 : cX4_next_2.data.toList.drop 237 = dktX4_next_2_10 := dk_seg dksX4_next_2_9 24 rfl rfl
theorem dksX4_next_2_11 : cX4_next_2.data.toList.drop 261 = dktX4_next_2_11 := dk_seg dksX4_next_2_10 24 rfl rfl
theorem dksX4_next_2_12 : cX4_next_2.data.toList.drop 284 = dktX4_next_2_12 := dk_seg dksX4_next_2_11 23 rfl rfl
theorem dksX4_next_2_13 : cX4_next_2.data.toList.drop 308 = dktX4_next_2_13 := dk_seg dksX4_next_2_12 24 rfl rfl
theorem dksX4_next_2_14 : cX4_next_2.data.toList.drop 330 = dktX4_next_2_14 := dk_seg dksX4_next_2_13 22 rfl rfl
theorem dX4_next_2_0 : decode cX4_next_2 0 = .ok (.aload_n 0, 1) := dk_42 (dk_at dksX4_next_2_0 0 rfl rfl)
theorem dX4_next_2_1 : decode cX4_next_2 1 = .ok (.invokevirtual 268, 3) := dk_182 1 12 (dk_at dksX4_next_2_0 1 rfl rfl)
theorem dX4_next_2_4 : decode cX4_next_2 4 = .ok (.bipush 32, 2) := dk_16 32 (dk_at dksX4_next_2_0 4 rfl rfl)
theorem dX4_next_2_6 : decode cX4_next_2 6 = .ok (.if_icmp .eq 12, 3) := dk_159 0 12 (dk_at dksX4_next_2_0 6 rfl rfl)
theorem dX4_next_2_9 : decode cX4_next_2 9 = .ok (.aload_n 0, 1) := dk_42 (dk_at dksX4_next_2_0 9 rfl rfl)
theorem dX4_next_2_10 : decode cX4_next_2 10 = .ok (.invokevirtual 268, 3) := dk_182 1 12 (dk_at dksX4_next_2_0 10 rfl rfl)
theorem dX4_next_2_13 : decode cX4_next_2 13 = .ok (.bipush 10, 2) := dk_16 10 (dk_at dksX4_next_2_0 13 rfl rfl)
theorem dX4_next_2_15 : decode cX4_next_2 15 = .ok (.if_icmp .ne 16, 3) := dk_160 0 16 (dk_at dksX4_next_2_0 15 rfl rfl)
theorem dX4_next_2_18 : decode cX4_next_2 18 = .ok (.aload_n 0, 1) := dk_42 (dk_at dksX4_next_2_0 18 rfl rfl)
theorem dX4_next_2_19 : decode cX4_next_2 19 = .ok (.dup, 1) := dk_89 (dk_at dksX4_next_2_0 19 rfl rfl)
theorem dX4_next_2_20 : decode cX4_next_2 20 = .ok (.getfield 239, 3) := dk_180 0 239 (dk_at dksX4_next_2_0 20 rfl rfl)
theorem dX4_next_2_23 : decode cX4_next_2 23 = .ok (.iconst 1, 1) := dk_4 (dk_at dksX4_next_2_0 23 rfl rfl)
theorem dX4_next_2_24 : decode cX4_next_2 24 = .ok (.iadd, 1) := dk_96 (dk_at dksX4_next_2_1 0 rfl rfl)
theorem dX4_next_2_25 : decode cX4_next_2 25 = .ok (.putfield 239, 3) := dk_181 0 239 (dk_at dksX4_next_2_1 1 rfl rfl)
theorem dX4_next_2_28 : decode cX4_next_2 28 = .ok (.goto (-28), 3) := dk_167 255 228 (dk_at dksX4_next_2_1 4 rfl rfl)
theorem dX4_next_2_31 : decode cX4_next_2 31 = .ok (.aload_n 0, 1) := dk_42 (dk_at dksX4_next_2_1 7 rfl rfl)
theorem dX4_next_2_32 : decode cX4_next_2 32 = .ok (.aload_n 0, 1) := dk_42 (dk_at dksX4_next_2_1 8 rfl rfl)
theorem dX4_next_2_33 : decode cX4_next_2 33 = .ok (.getfield 239, 3) := dk_180 0 239 (dk_at dksX4_next_2_1 9 rfl rfl)
theorem dX4_next_2_36 : decode cX4_next_2 36 = .ok (.putfield 272, 3) := dk_181 1 16 (dk_at dksX4_next_2_1 12 rfl rfl)
theorem dX4_next_2_39 : decode cX4_next_2 39 = .ok (.aload_n 0, 1) := dk_42 (dk_at dksX4_next_2_1 15 rfl rfl)
theorem dX4_next_2_40 : decode cX4_next_2 40 = .ok (.iconst 0, 1) := dk_3 (dk_at dksX4_next_2_1 16 rfl rfl)
theorem dX4_next_2_41 : decode cX4_next_2 41 = .ok (.putfield 275, 3) := dk_181 1 19 (dk_at dksX4_next_2_1 17 rfl rfl)
theorem dX4_next_2_44 : decode cX4_next_2 44 = .ok (.aload_n 0, 1) := dk_42 (dk_at dksX4_next_2_1 20 rfl rfl)
theorem dX4_next_2_45 : decode cX4_next_2 45 = .ok (.getfield 236, 3) := dk_180 0 236 (dk_at dksX4_next_2_1 21 rfl rfl)
theorem dX4_next_2_48 : decode cX4_next_2 48 = .ok (.sipush 300, 3) := dk_17 1 44 (dk_at dksX4_next_2_2 0 rfl rfl)
theorem dX4_next_2_51 : decode cX4_next_2 51 = .ok (.if_icmp .le 26, 3) := dk_164 0 26 (dk_at dksX4_next_2_2 3 rfl rfl)
theorem dX4_next_2_54 : decode cX4_next_2 54 = .ok (.aload_n 0, 1) := dk_42 (dk_at dksX4_next_2_2 6 rfl rfl)
theorem dX4_next_2_55 : decode cX4_next_2 55 = .ok (.getfield 239, 3) := dk_180 0 239 (dk_at dksX4_next_2_2 7 rfl rfl)
theorem dX4_next_2_58 : decode cX4_next_2 58 = .ok (.sipush 300, 3) := dk_17 1 44 (dk_at dksX4_next_2_2 10 rfl rfl)
theorem dX4_next_2_61 : decode cX4_next_2 61 = .ok (.if_icmp .lt 16, 3) := dk_161 0 16 (dk_at dksX4_next_2_2 13 rfl rfl)
theorem dX4_next_2_64 : decode cX4_next_2 64 = .ok (.aload_n 0, 1) := dk_42 (dk_at dksX4_next_2_2 16 rfl rfl)
theorem dX4_next_2_65 : decode cX4_next_2 65 = .ok (.sipush 300, 3) := dk_17 1 44 (dk_at dksX4_next_2_2 17 rfl rfl)
theorem dX4_next_2_68 : decode cX4_next_2 68 = .ok (.putfield 272, 3) := dk_181 1 16 (dk_at dksX4_next_2_2 20 rfl rfl)
theorem dX4_next_2_71 : decode cX4_next_2 71 = .ok (.aload_n 0, 1) := dk_42 (dk_at dksX4_next_2_2 23 rfl rfl)
theorem dX4_next_2_72 : decode cX4_next_2 72 = .ok (.iconst 4, 1) := dk_7 (dk_at dksX4_next_2_3 0 rfl rfl)
theorem dX4_next_2_73 : decode cX4_next_2 73 = .ok (.putfield 278, 3) := dk_181 1 22 (dk_at dksX4_next_2_3 1 rfl rfl)
theorem dX4_next_2_76 : decode cX4_next_2 76 = .ok (.return_, 1) := dk_177 (dk_at dksX4_next_2_3 4 rfl rfl)
theorem dX4_next_2_77 : decode cX4_next_2 77 = .ok (.aload_n 0, 1) := dk_42 (dk_at dksX4_next_2_3 5 rfl rfl)
theorem dX4_next_2_78 : decode cX4_next_2 78 = .ok (.invokevirtual 268, 3) := dk_182 1 12 (dk_at dksX4_next_2_3 6 rfl rfl)
theorem dX4_next_2_81 : decode cX4_next_2 81 = .ok (.istore_n 1, 1) := dk_60 (dk_at dksX4_next_2_3 9 rfl rfl)
theorem dX4_next_2_82 : decode cX4_next_2 82 = .ok (.iload_n 1, 1) := dk_27 (dk_at dksX4_next_2_3 10 rfl rfl)
theorem dX4_next_2_83 : decode cX4_next_2 83 = .ok (.ifCond .ge 9, 3) := dk_156 0 9 (dk_at dksX4_next_2_3 11 rfl rfl)
theorem dX4_next_2_86 : decode cX4_next_2 86 = .ok (.aload_n 0, 1) := dk_42 (dk_at dksX4_next_2_3 14 rfl rfl)
theorem dX4_next_2_87 : decode cX4_next_2 87 = .ok (.iconst 0, 1) := dk_3 (dk_at dksX4_next_2_3 15 rfl rfl)
theorem dX4_next_2_88 : decode cX4_next_2 88 = .ok (.putfield 278, 3) := dk_181 1 22 (dk_at dksX4_next_2_3 16 rfl rfl)
theorem dX4_next_2_91 : decode cX4_next_2 91 = .ok (.return_, 1) := dk_177 (dk_at dksX4_next_2_3 19 rfl rfl)
theorem dX4_next_2_92 : decode cX4_next_2 92 = .ok (.iload_n 1, 1) := dk_27 (dk_at dksX4_next_2_3 20 rfl rfl)
theorem dX4_next_2_93 : decode cX4_next_2 93 = .ok (.invokestatic 281, 3) := dk_184 1 25 (dk_at dksX4_next_2_3 21 rfl rfl)
theorem dX4_next_2_96 : decode cX4_next_2 96 = .ok (.ifCond .ne 65, 3) := dk_154 0 65 (dk_at dksX4_next_2_4 0 rfl rfl)
theorem dX4_next_2_99 : decode cX4_next_2 99 = .ok (.iload_n 1, 1) := dk_27 (dk_at dksX4_next_2_4 3 rfl rfl)
theorem dX4_next_2_100 : decode cX4_next_2 100 = .ok (.invokestatic 285, 3) := dk_184 1 29 (dk_at dksX4_next_2_4 4 rfl rfl)
theorem dX4_next_2_103 : decode cX4_next_2 103 = .ok (.ifCond .ne 58, 3) := dk_154 0 58 (dk_at dksX4_next_2_4 7 rfl rfl)
theorem dX4_next_2_106 : decode cX4_next_2 106 = .ok (.aload_n 0, 1) := dk_42 (dk_at dksX4_next_2_4 10 rfl rfl)
theorem dX4_next_2_107 : decode cX4_next_2 107 = .ok (.iload_n 1, 1) := dk_27 (dk_at dksX4_next_2_4 11 rfl rfl)
theorem dX4_next_2_108 : decode cX4_next_2 108 = .ok (.bipush 59, 2) := dk_16 59 (dk_at dksX4_next_2_4 12 rfl rfl)
theorem dX4_next_2_110 : decode cX4_next_2 110 = .ok (.if_icmp .eq 27, 3) := dk_159 0 27 (dk_at dksX4_next_2_4 14 rfl rfl)
theorem dX4_next_2_113 : decode cX4_next_2 113 = .ok (.iload_n 1, 1) := dk_27 (dk_at dksX4_next_2_4 17 rfl rfl)
theorem dX4_next_2_114 : decode cX4_next_2 114 = .ok (.bipush 40, 2) := dk_16 40 (dk_at dksX4_next_2_4 18 rfl rfl)
theorem dX4_next_2_116 : decode cX4_next_2 116 = .ok (.if_icmp .eq 21, 3) := dk_159 0 21 (dk_at dksX4_next_2_4 20 rfl rfl)
theorem dX4_next_2_119 : decode cX4_next_2 119 = .ok (.iload_n 1, 1) := dk_27 (dk_at dksX4_next_2_4 23 rfl rfl)
theorem dX4_next_2_120 : decode cX4_next_2 120 = .ok (.bipush 41, 2) := dk_16 41 (dk_at dksX4_next_2_5 0 rfl rfl)
theorem dX4_next_2_122 : decode cX4_next_2 122 = .ok (.if_icmp .eq 15, 3) := dk_159 0 15 (dk_at dksX4_next_2_5 2 rfl rfl)
theorem dX4_next_2_125 : decode cX4_next_2 125 = .ok (.iload_n 1, 1) := dk_27 (dk_at dksX4_next_2_5 5 rfl rfl)
theorem dX4_next_2_126 : decode cX4_next_2 126 = .ok (.bipush 60, 2) := dk_16 60 (dk_at dksX4_next_2_5 6 rfl rfl)
theorem dX4_next_2_128 : decode cX4_next_2 128 = .ok (.if_icmp .lt 13, 3) := dk_161 0 13 (dk_at dksX4_next_2_5 8 rfl rfl)
theorem dX4_next_2_131 : decode cX4_next_2 131 = .ok (.iload_n 1, 1) := dk_27 (dk_at dksX4_next_2_5 11 rfl rfl)
theorem dX4_next_2_132 : decode cX4_next_2 132 = .ok (.bipush 62, 2) := dk_16 62 (dk_at dksX4_next_2_5 12 rfl rfl)
theorem dX4_next_2_134 : decode cX4_next_2 134 = .ok (.if_icmp .gt 7, 3) := dk_163 0 7 (dk_at dksX4_next_2_5 14 rfl rfl)
theorem dX4_next_2_137 : decode cX4_next_2 137 = .ok (.iconst 3, 1) := dk_6 (dk_at dksX4_next_2_5 17 rfl rfl)
theorem dX4_next_2_138 : decode cX4_next_2 138 = .ok (.goto 4, 3) := dk_167 0 4 (dk_at dksX4_next_2_5 18 rfl rfl)
theorem dX4_next_2_141 : decode cX4_next_2 141 = .ok (.iconst 4, 1) := dk_7 (dk_at dksX4_next_2_5 21 rfl rfl)
theorem dX4_next_2_142 : decode cX4_next_2 142 = .ok (.putfield 278, 3) := dk_181 1 22 (dk_at dksX4_next_2_6 0 rfl rfl)
theorem dX4_next_2_145 : decode cX4_next_2 145 = .ok (.aload_n 0, 1) := dk_42 (dk_at dksX4_next_2_6 3 rfl rfl)
theorem dX4_next_2_146 : decode cX4_next_2 146 = .ok (.iload_n 1, 1) := dk_27 (dk_at dksX4_next_2_6 4 rfl rfl)
theorem dX4_next_2_147 : decode cX4_next_2 147 = .ok (.putfield 288, 3) := dk_181 1 32 (dk_at dksX4_next_2_6 5 rfl rfl)
theorem dX4_next_2_150 : decode cX4_next_2 150 = .ok (.aload_n 0, 1) := dk_42 (dk_at dksX4_next_2_6 8 rfl rfl)
theorem dX4_next_2_151 : decode cX4_next_2 151 = .ok (.dup, 1) := dk_89 (dk_at dksX4_next_2_6 9 rfl rfl)
theorem dX4_next_2_152 : decode cX4_next_2 152 = .ok (.getfield 239, 3) := dk_180 0 239 (dk_at dksX4_next_2_6 10 rfl rfl)
theorem dX4_next_2_155 : decode cX4_next_2 155 = .ok (.iconst 1, 1) := dk_4 (dk_at dksX4_next_2_6 13 rfl rfl)
theorem dX4_next_2_156 : decode cX4_next_2 156 = .ok (.iadd, 1) := dk_96 (dk_at dksX4_next_2_6 14 rfl rfl)
theorem dX4_next_2_157 : decode cX4_next_2 157 = .ok (.putfield 239, 3) := dk_181 0 239 (dk_at dksX4_next_2_6 15 rfl rfl)
theorem dX4_next_2_160 : decode cX4_next_2 160 = .ok (.return_, 1) := dk_177 (dk_at dksX4_next_2_6 18 rfl rfl)
theorem dX4_next_2_161 : decode cX4_next_2 161 = .ok (.iload_n 1, 1) := dk_27 (dk_at dksX4_next_2_6 19 rfl rfl)
theorem dX4_next_2_162 : decode cX4_next_2 162 = .ok (.invokestatic 281, 3) := dk_184 1 25 (dk_at dksX4_next_2_6 20 rfl rfl)
theorem dX4_next_2_165 : decode cX4_next_2 165 = .ok (.istore_n 2, 1) := dk_61 (dk_at dksX4_next_2_6 23 rfl rfl)
theorem dX4_next_2_166 : decode cX4_next_2 166 = .ok (.iconst 1, 1) := dk_4 (dk_at dksX4_next_2_7 0 rfl rfl)
theorem dX4_next_2_167 : decode cX4_next_2 167 = .ok (.istore_n 3, 1) := dk_62 (dk_at dksX4_next_2_7 1 rfl rfl)
theorem dX4_next_2_168 : decode cX4_next_2 168 = .ok (.aload_n 0, 1) := dk_42 (dk_at dksX4_next_2_7 2 rfl rfl)
theorem dX4_next_2_169 : decode cX4_next_2 169 = .ok (.lconst 0, 1) := dk_9 (dk_at dksX4_next_2_7 3 rfl rfl)
theorem dX4_next_2_170 : decode cX4_next_2 170 = .ok (.putfield 291, 3) := dk_181 1 35 (dk_at dksX4_next_2_7 4 rfl rfl)
theorem dX4_next_2_173 : decode cX4_next_2 173 = .ok (.aload_n 0, 1) := dk_42 (dk_at dksX4_next_2_7 7 rfl rfl)
theorem dX4_next_2_174 : decode cX4_next_2 174 = .ok (.iconst 0, 1) := dk_3 (dk_at dksX4_next_2_7 8 rfl rfl)
theorem dX4_next_2_175 : decode cX4_next_2 175 = .ok (.putfield 288, 3) := dk_181 1 32 (dk_at dksX4_next_2_7 9 rfl rfl)
theorem dX4_next_2_178 : decode cX4_next_2 178 = .ok (.aload_n 0, 1) := dk_42 (dk_at dksX4_next_2_7 12 rfl rfl)
theorem dX4_next_2_179 : decode cX4_next_2 179 = .ok (.invokevirtual 268, 3) := dk_182 1 12 (dk_at dksX4_next_2_7 13 rfl rfl)
theorem dX4_next_2_182 : decode cX4_next_2 182 = .ok (.invokestatic 281, 3) := dk_184 1 25 (dk_at dksX4_next_2_7 16 rfl rfl)
theorem dX4_next_2_185 : decode cX4_next_2 185 = .ok (.ifCond .ne 13, 3) := dk_154 0 13 (dk_at dksX4_next_2_7 19 rfl rfl)
theorem dX4_next_2_188 : decode cX4_next_2 188 = .ok (.aload_n 0, 1) := dk_42 (dk_at dksX4_next_2_7 22 rfl rfl)
theorem dX4_next_2_189 : decode cX4_next_2 189 = .ok (.invokevirtual 268, 3) := dk_182 1 12 (dk_at dksX4_next_2_8 0 rfl rfl)
theorem dX4_next_2_192 : decode cX4_next_2 192 = .ok (.invokestatic 285, 3) := dk_184 1 29 (dk_at dksX4_next_2_8 3 rfl rfl)
theorem dX4_next_2_195 : decode cX4_next_2 195 = .ok (.ifCond .eq 100, 3) := dk_153 0 100 (dk_at dksX4_next_2_8 6 rfl rfl)
theorem dX4_next_2_198 : decode cX4_next_2 198 = .ok (.iload_n 3, 1) := dk_29 (dk_at dksX4_next_2_8 9 rfl rfl)
theorem dX4_next_2_199 : decode cX4_next_2 199 = .ok (.ifCond .eq 18, 3) := dk_153 0 18 (dk_at dksX4_next_2_8 10 rfl rfl)
theorem dX4_next_2_202 : decode cX4_next_2 202 = .ok (.aload_n 0, 1) := dk_42 (dk_at dksX4_next_2_8 13 rfl rfl)
theorem dX4_next_2_203 : decode cX4_next_2 203 = .ok (.invokevirtual 268, 3) := dk_182 1 12 (dk_at dksX4_next_2_8 14 rfl rfl)
theorem dX4_next_2_206 : decode cX4_next_2 206 = .ok (.invokestatic 281, 3) := dk_184 1 25 (dk_at dksX4_next_2_8 17 rfl rfl)
theorem dX4_next_2_209 : decode cX4_next_2 209 = .ok (.iload_n 2, 1) := dk_28 (dk_at dksX4_next_2_8 20 rfl rfl)
theorem dX4_next_2_210 : decode cX4_next_2 210 = .ok (.if_icmp .ne 7, 3) := dk_160 0 7 (dk_at dksX4_next_2_8 21 rfl rfl)
theorem dX4_next_2_213 : decode cX4_next_2 213 = .ok (.iconst 1, 1) := dk_4 (dk_at dksX4_next_2_9 0 rfl rfl)
theorem dX4_next_2_214 : decode cX4_next_2 214 = .ok (.goto 4, 3) := dk_167 0 4 (dk_at dksX4_next_2_9 1 rfl rfl)
theorem dX4_next_2_217 : decode cX4_next_2 217 = .ok (.iconst 0, 1) := dk_3 (dk_at dksX4_next_2_9 4 rfl rfl)
theorem dX4_next_2_218 : decode cX4_next_2 218 = .ok (.istore_n 3, 1) := dk_62 (dk_at dksX4_next_2_9 5 rfl rfl)
theorem dX4_next_2_219 : decode cX4_next_2 219 = .ok (.aload_n 0, 1) := dk_42 (dk_at dksX4_next_2_9 6 rfl rfl)
theorem dX4_next_2_220 : decode cX4_next_2 220 = .ok (.getfield 275, 3) := dk_180 1 19 (dk_at dksX4_next_2_9 7 rfl rfl)
theorem dX4_next_2_223 : decode cX4_next_2 223 = .ok (.bipush 8, 2) := dk_16 8 (dk_at dksX4_next_2_9 10 rfl rfl)
theorem dX4_next_2_225 : decode cX4_next_2 225 = .ok (.if_icmp .ge 20, 3) := dk_162 0 20 (dk_at dksX4_next_2_9 12 rfl rfl)
theorem dX4_next_2_228 : decode cX4_next_2 228 = .ok (.aload_n 0, 1) := dk_42 (dk_at dksX4_next_2_9 15 rfl rfl)
theorem dX4_next_2_229 : decode cX4_next_2 229 = .ok (.aload_n 0, 1) := dk_42 (dk_at dksX4_next_2_9 16 rfl rfl)
theorem dX4_next_2_230 : decode cX4_next_2 230 = .ok (.getfield 291, 3) := dk_180 1 35 (dk_at dksX4_next_2_9 17 rfl rfl)
theorem dX4_next_2_233 : decode cX4_next_2 233 = .ok (.bipush 8, 2) := dk_16 8 (dk_at dksX4_next_2_9 20 rfl rfl)
theorem dX4_next_2_235 : decode cX4_next_2 235 = .ok (.lshl, 1) := dk_121 (dk_at dksX4_next_2_9 22 rfl rfl)
theorem dX4_next_2_236 : decode cX4_next_2 236 = .ok (.aload_n 0, 1) := dk_42 (dk_at dksX4_next_2_9 23 rfl rfl)
theorem dX4_next_2_237 : decode cX4_next_2 237 = .ok (.invokevirtual 268, 3) := dk_182 1 12 (dk_at dksX4_next_2_10 0 rfl rfl)
theorem dX4_next_2_240 : decode cX4_next_2 240 = .ok (.i2l, 1) := dk_133 (dk_at dksX4_next_2_10 3 rfl rfl)
theorem dX4_next_2_241 : decode cX4_next_2 241 = .ok (.lor, 1) := dk_129 (dk_at dksX4_next_2_10 4 rfl rfl)
theorem dX4_next_2_242 : decode cX4_next_2 242 = .ok (.putfield 291, 3) := dk_181 1 35 (dk_at dksX4_next_2_10 5 rfl rfl)
theorem dX4_next_2_245 : decode cX4_next_2 245 = .ok (.aload_n 0, 1) := dk_42 (dk_at dksX4_next_2_10 8 rfl rfl)
theorem dX4_next_2_246 : decode cX4_next_2 246 = .ok (.getfield 275, 3) := dk_180 1 19 (dk_at dksX4_next_2_10 9 rfl rfl)
theorem dX4_next_2_249 : decode cX4_next_2 249 = .ok (.iconst 5, 1) := dk_8 (dk_at dksX4_next_2_10 12 rfl rfl)
theorem dX4_next_2_250 : decode cX4_next_2 250 = .ok (.if_icmp .ge 22, 3) := dk_162 0 22 (dk_at dksX4_next_2_10 13 rfl rfl)
theorem dX4_next_2_253 : decode cX4_next_2 253 = .ok (.aload_n 0, 1) := dk_42 (dk_at dksX4_next_2_10 16 rfl rfl)
theorem dX4_next_2_254 : decode cX4_next_2 254 = .ok (.bipush 10, 2) := dk_16 10 (dk_at dksX4_next_2_10 17 rfl rfl)
theorem dX4_next_2_256 : decode cX4_next_2 256 = .ok (.aload_n 0, 1) := dk_42 (dk_at dksX4_next_2_10 19 rfl rfl)
theorem dX4_next_2_257 : decode cX4_next_2 257 = .ok (.getfield 288, 3) := dk_180 1 32 (dk_at dksX4_next_2_10 20 rfl rfl)
theorem dX4_next_2_260 : decode cX4_next_2 260 = .ok (.imul, 1) := dk_104 (dk_at dksX4_next_2_10 23 rfl rfl)
theorem dX4_next_2_261 : decode cX4_next_2 261 = .ok (.aload_n 0, 1) := dk_42 (dk_at dksX4_next_2_11 0 rfl rfl)
theorem dX4_next_2_262 : decode cX4_next_2 262 = .ok (.invokevirtual 268, 3) := dk_182 1 12 (dk_at dksX4_next_2_11 1 rfl rfl)
theorem dX4_next_2_265 : decode cX4_next_2 265 = .ok (.iadd, 1) := dk_96 (dk_at dksX4_next_2_11 4 rfl rfl)
theorem dX4_next_2_266 : decode cX4_next_2 266 = .ok (.bipush 48, 2) := dk_16 48 (dk_at dksX4_next_2_11 5 rfl rfl)
theorem dX4_next_2_268 : decode cX4_next_2 268 = .ok (.isub, 1) := dk_100 (dk_at dksX4_next_2_11 7 rfl rfl)
theorem dX4_next_2_269 : decode cX4_next_2 269 = .ok (.putfield 288, 3) := dk_181 1 32 (dk_at dksX4_next_2_11 8 rfl rfl)
theorem dX4_next_2_272 : decode cX4_next_2 272 = .ok (.aload_n 0, 1) := dk_42 (dk_at dksX4_next_2_11 11 rfl rfl)
theorem dX4_next_2_273 : decode cX4_next_2 273 = .ok (.dup, 1) := dk_89 (dk_at dksX4_next_2_11 12 rfl rfl)
theorem dX4_next_2_274 : decode cX4_next_2 274 = .ok (.getfield 275, 3) := dk_180 1 19 (dk_at dksX4_next_2_11 13 rfl rfl)
theorem dX4_next_2_277 : decode cX4_next_2 277 = .ok (.iconst 1, 1) := dk_4 (dk_at dksX4_next_2_11 16 rfl rfl)
theorem dX4_next_2_278 : decode cX4_next_2 278 = .ok (.iadd, 1) := dk_96 (dk_at dksX4_next_2_11 17 rfl rfl)
theorem dX4_next_2_279 : decode cX4_next_2 279 = .ok (.putfield 275, 3) := dk_181 1 19 (dk_at dksX4_next_2_11 18 rfl rfl)
theorem dX4_next_2_282 : decode cX4_next_2 282 = .ok (.aload_n 0, 1) := dk_42 (dk_at dksX4_next_2_11 21 rfl rfl)
theorem dX4_next_2_283 : decode cX4_next_2 283 = .ok (.dup, 1) := dk_89 (dk_at dksX4_next_2_11 22 rfl rfl)
theorem dX4_next_2_284 : decode cX4_next_2 284 = .ok (.getfield 239, 3) := dk_180 0 239 (dk_at dksX4_next_2_12 0 rfl rfl)
theorem dX4_next_2_287 : decode cX4_next_2 287 = .ok (.iconst 1, 1) := dk_4 (dk_at dksX4_next_2_12 3 rfl rfl)
theorem dX4_next_2_288 : decode cX4_next_2 288 = .ok (.iadd, 1) := dk_96 (dk_at dksX4_next_2_12 4 rfl rfl)
theorem dX4_next_2_289 : decode cX4_next_2 289 = .ok (.putfield 239, 3) := dk_181 0 239 (dk_at dksX4_next_2_12 5 rfl rfl)
theorem dX4_next_2_292 : decode cX4_next_2 292 = .ok (.goto (-114), 3) := dk_167 255 142 (dk_at dksX4_next_2_12 8 rfl rfl)
theorem dX4_next_2_295 : decode cX4_next_2 295 = .ok (.aload_n 0, 1) := dk_42 (dk_at dksX4_next_2_12 11 rfl rfl)
theorem dX4_next_2_296 : decode cX4_next_2 296 = .ok (.iload_n 3, 1) := dk_29 (dk_at dksX4_next_2_12 12 rfl rfl)
theorem dX4_next_2_297 : decode cX4_next_2 297 = .ok (.ifCond .eq 20, 3) := dk_153 0 20 (dk_at dksX4_next_2_12 13 rfl rfl)
theorem dX4_next_2_300 : decode cX4_next_2 300 = .ok (.aload_n 0, 1) := dk_42 (dk_at dksX4_next_2_12 16 rfl rfl)
theorem dX4_next_2_301 : decode cX4_next_2 301 = .ok (.getfield 275, 3) := dk_180 1 19 (dk_at dksX4_next_2_12 17 rfl rfl)
theorem dX4_next_2_304 : decode cX4_next_2 304 = .ok (.iload_n 2, 1) := dk_28 (dk_at dksX4_next_2_12 20 rfl rfl)
theorem dX4_next_2_305 : decode cX4_next_2 305 = .ok (.ifCond .eq 8, 3) := dk_153 0 8 (dk_at dksX4_next_2_12 21 rfl rfl)
theorem dX4_next_2_308 : decode cX4_next_2 308 = .ok (.bipush 8, 2) := dk_16 8 (dk_at dksX4_next_2_13 0 rfl rfl)
theorem dX4_next_2_310 : decode cX4_next_2 310 = .ok (.goto 4, 3) := dk_167 0 4 (dk_at dksX4_next_2_13 2 rfl rfl)
theorem dX4_next_2_313 : decode cX4_next_2 313 = .ok (.iconst 5, 1) := dk_8 (dk_at dksX4_next_2_13 5 rfl rfl)
theorem dX4_next_2_314 : decode cX4_next_2 314 = .ok (.if_icmp .le 7, 3) := dk_164 0 7 (dk_at dksX4_next_2_13 6 rfl rfl)
theorem dX4_next_2_317 : decode cX4_next_2 317 = .ok (.iconst 4, 1) := dk_7 (dk_at dksX4_next_2_13 9 rfl rfl)
theorem dX4_next_2_318 : decode cX4_next_2 318 = .ok (.goto 12, 3) := dk_167 0 12 (dk_at dksX4_next_2_13 10 rfl rfl)
theorem dX4_next_2_321 : decode cX4_next_2 321 = .ok (.iload_n 2, 1) := dk_28 (dk_at dksX4_next_2_13 13 rfl rfl)
theorem dX4_next_2_322 : decode cX4_next_2 322 = .ok (.ifCond .eq 7, 3) := dk_153 0 7 (dk_at dksX4_next_2_13 14 rfl rfl)
theorem dX4_next_2_325 : decode cX4_next_2 325 = .ok (.iconst 1, 1) := dk_4 (dk_at dksX4_next_2_13 17 rfl rfl)
theorem dX4_next_2_326 : decode cX4_next_2 326 = .ok (.goto 4, 3) := dk_167 0 4 (dk_at dksX4_next_2_13 18 rfl rfl)
theorem dX4_next_2_329 : decode cX4_next_2 329 = .ok (.iconst 2, 1) := dk_5 (dk_at dksX4_next_2_13 21 rfl rfl)
theorem dX4_next_2_330 : decode cX4_next_2 330 = .ok (.putfield 278, 3) := dk_181 1 22 (dk_at dksX4_next_2_14 0 rfl rfl)
theorem dX4_next_2_333 : decode cX4_next_2 333 = .ok (.return_, 1) := dk_177 (dk_at dksX4_next_2_14 3 rfl rfl)
abbrev cX4_peek : ByteArray := prog_18_method_19_code
def yX4_peek : MethodName := ⟨RX4, "peek", "()I"⟩
def dkwX4_peek_1 : List UInt8 := [167, 0, 4, 2, 172]
abbrev dktX4_peek_1 : List UInt8 := dkwX4_peek_1 ++ []
def dkwX4_peek_0 : List UInt8 := [42, 180, 0, 239, 42, 180, 0, 236, 162, 0, 19, 42, 180, 0, 7, 42, 180, 0, 239, 51, 17, 0, 255, 126]
abbrev dktX4_peek_0 : List UInt8 := dkwX4_peek_0 ++ dktX4_peek_1
theorem dksX4_peek_0 : cX4_peek.data.toList.drop 0 = dktX4_peek_0 := by decide +kernel
theorem dksX4_peek_1 : cX4_peek.data.toList.drop 24 = dktX4_peek_1 := dk_seg dksX4_peek_0 24 rfl rfl
theorem dX4_peek_0 : decode cX4_peek 0 = .ok (.aload_n 0, 1) := dk_42 (dk_at dksX4_peek_0 0 rfl rfl)
theorem dX4_peek_1 : decode cX4_peek 1 = .ok (.getfield 239, 3) := dk_180 0 239 (dk_at dksX4_peek_0 1 rfl rfl)
theorem dX4_peek_4 : decode cX4_peek 4 = .ok (.aload_n 0, 1) := dk_42 (dk_at dksX4_peek_0 4 rfl rfl)
theorem dX4_peek_5 : decode cX4_peek 5 = .ok (.getfield 236, 3) := dk_180 0 236 (dk_at dksX4_peek_0 5 rfl rfl)
theorem dX4_peek_8 : decode cX4_peek 8 = .ok (.if_icmp .ge 19, 3) := dk_162 0 19 (dk_at dksX4_peek_0 8 rfl rfl)
theorem dX4_peek_11 : decode cX4_peek 11 = .ok (.aload_n 0, 1) := dk_42 (dk_at dksX4_peek_0 11 rfl rfl)
theorem dX4_peek_12 : decode cX4_peek 12 = .ok (.getfield 7, 3) := dk_180 0 7 (dk_at dksX4_peek_0 12 rfl rfl)
theorem dX4_peek_15 : decode cX4_peek 15 = .ok (.aload_n 0, 1) := dk_42 (dk_at dksX4_peek_0 15 rfl rfl)
theorem dX4_peek_16 : decode cX4_peek 16 = .ok (.getfield 239, 3) := dk_180 0 239 (dk_at dksX4_peek_0 16 rfl rfl)
theorem dX4_peek_19 : decode cX4_peek 19 = .ok (.baload, 1) := dk_51 (dk_at dksX4_peek_0 19 rfl rfl)
theorem dX4_peek_20 : decode cX4_peek 20 = .ok (.sipush 255, 3) := dk_17 0 255 (dk_at dksX4_peek_0 20 rfl rfl)
theorem dX4_peek_23 : decode cX4_peek 23 = .ok (.iand, 1) := dk_126 (dk_at dksX4_peek_0 23 rfl rfl)
theorem dX4_peek_24 : decode cX4_peek 24 = .ok (.goto 4, 3) := dk_167 0 4 (dk_at dksX4_peek_1 0 rfl rfl)
theorem dX4_peek_27 : decode cX4_peek 27 = .ok (.iconst (-1), 1) := dk_2 (dk_at dksX4_peek_1 3 rfl rfl)
theorem dX4_peek_28 : decode cX4_peek 28 = .ok (.ireturn, 1) := dk_172 (dk_at dksX4_peek_1 4 rfl rfl)
abbrev cX4_isSmall : ByteArray := prog_18_method_20_code
def yX4_isSmall : MethodName := ⟨RX4, "isSmall", "(I)Z"⟩
def dkwX4_isSmall_0 : List UInt8 := [26, 16, 97, 161, 0, 13, 26, 16, 122, 163, 0, 7, 4, 167, 0, 4, 3, 172]
abbrev dktX4_isSmall_0 : List UInt8 := dkwX4_isSmall_0 ++ []
theorem dksX4_isSmall_0 : cX4_isSmall.data.toList.drop 0 = dktX4_isSmall_0 := by decide +kernel
theorem dX4_isSmall_0 : decode cX4_isSmall 0 = .ok (.iload_n 0, 1) := dk_26 (dk_at dksX4_isSmall_0 0 rfl rfl)
theorem dX4_isSmall_1 : decode cX4_isSmall 1 = .ok (.bipush 97, 2) := dk_16 97 (dk_at dksX4_isSmall_0 1 rfl rfl)
theorem dX4_isSmall_3 : decode cX4_isSmall 3 = .ok (.if_icmp .lt 13, 3) := dk_161 0 13 (dk_at dksX4_isSmall_0 3 rfl rfl)
theorem dX4_isSmall_6 : decode cX4_isSmall 6 = .ok (.iload_n 0, 1) := dk_26 (dk_at dksX4_isSmall_0 6 rfl rfl)
theorem dX4_isSmall_7 : decode cX4_isSmall 7 = .ok (.bipush 122, 2) := dk_16 122 (dk_at dksX4_isSmall_0 7 rfl rfl)
theorem dX4_isSmall_9 : decode cX4_isSmall 9 = .ok (.if_icmp .gt 7, 3) := dk_163 0 7 (dk_at dksX4_isSmall_0 9 rfl rfl)
theorem dX4_isSmall_12 : decode cX4_isSmall 12 = .ok (.iconst 1, 1) := dk_4 (dk_at dksX4_isSmall_0 12 rfl rfl)
theorem dX4_isSmall_13 : decode cX4_isSmall 13 = .ok (.goto 4, 3) := dk_167 0 4 (dk_at dksX4_isSmall_0 13 rfl rfl)
theorem dX4_isSmall_16 : decode cX4_isSmall 16 = .ok (.iconst 0, 1) := dk_3 (dk_at dksX4_isSmall_0 16 rfl rfl)
theorem dX4_isSmall_17 : decode cX4_isSmall 17 = .ok (.ireturn, 1) := dk_172 (dk_at dksX4_isSmall_0 17 rfl rfl)
abbrev cX4_isDigit : ByteArray := prog_18_method_21_code
def yX4_isDigit : MethodName := ⟨RX4, "isDigit", "(I)Z"⟩
def dkwX4_isDigit_0 : List UInt8 := [26, 16, 48, 161, 0, 13, 26, 16, 57, 163, 0, 7, 4, 167, 0, 4, 3, 172]
abbrev dktX4_isDigit_0 : List UInt8 := dkwX4_isDigit_0 ++ []
theorem dksX4_isDigit_0 : cX4_isDigit.data.toList.drop 0 = dktX4_isDigit_0 := by decide +kernel
theorem dX4_isDigit_0 : decode cX4_isDigit 0 = .ok (.iload_n 0, 1) := dk_26 (dk_at dksX4_isDigit_0 0 rfl rfl)
theorem dX4_isDigit_1 : decode cX4_isDigit 1 = .ok (.bipush 48, 2) := dk_16 48 (dk_at dksX4_isDigit_0 1 rfl rfl)
theorem dX4_isDigit_3 : decode cX4_isDigit 3 = .ok (.if_icmp .lt 13, 3) := dk_161 0 13 (dk_at dksX4_isDigit_0 3 rfl rfl)
theorem dX4_isDigit_6 : decode cX4_isDigit 6 = .ok (.iload_n 0, 1) := dk_26 (dk_at dksX4_isDigit_0 6 rfl rfl)
theorem dX4_isDigit_7 : decode cX4_isDigit 7 = .ok (.bipush 57, 2) := dk_16 57 (dk_at dksX4_isDigit_0 7 rfl rfl)
theorem dX4_isDigit_9 : decode cX4_isDigit 9 = .ok (.if_icmp .gt 7, 3) := dk_163 0 7 (dk_at dksX4_isDigit_0 9 rfl rfl)
theorem dX4_isDigit_12 : decode cX4_isDigit 12 = .ok (.iconst 1, 1) := dk_4 (dk_at dksX4_isDigit_0 12 rfl rfl)
theorem dX4_isDigit_13 : decode cX4_isDigit 13 = .ok (.goto 4, 3) := dk_167 0 4 (dk_at dksX4_isDigit_0 13 rfl rfl)
theorem dX4_isDigit_16 : decode cX4_isDigit 16 = .ok (.iconst 0, 1) := dk_3 (dk_at dksX4_isDigit_0 16 rfl rfl)
theorem dX4_isDigit_17 : decode cX4_isDigit 17 = .ok (.ireturn, 1) := dk_172 (dk_at dksX4_isDigit_0 17 rfl rfl)
abbrev cX4_rule : ByteArray := prog_18_method_30_code
def yX4_rule : MethodName := ⟨RX4, "rule", "()Z"⟩
def dkwX4_rule_4 : List UInt8 := [20, 1, 93, 182, 1, 75, 153, 0, 10, 42, 182, 1, 95, 167, 0, 8, 42, 4, 182, 1, 48, 172]
abbrev dktX4_rule_4 : List UInt8 := dkwX4_rule_4 ++ []
def dkwX4_rule_3 : List UInt8 := [4, 17, 3, 231, 182, 1, 79, 172, 42, 20, 1, 88, 182, 1, 75, 153, 0, 8, 42, 182, 1, 90, 172, 42]
abbrev dktX4_rule_3 : List UInt8 := dkwX4_rule_3 ++ dktX4_rule_4
def dkwX4_rule_2 : List UInt8 := [153, 0, 12, 42, 5, 3, 16, 7, 182, 1, 79, 172, 42, 20, 1, 86, 182, 1, 75, 153, 0, 13, 42, 6]
abbrev dktX4_rule_2 : List UInt8 := dkwX4_rule_2 ++ dktX4_rule_3
def dkwX4_rule_1 : List UInt8 := [182, 1, 75, 153, 0, 12, 42, 4, 4, 16, 24, 182, 1, 79, 172, 42, 20, 1, 84, 182, 1, 75]
abbrev dktX4_rule_1 : List UInt8 := dkwX4_rule_1 ++ dktX4_rule_2
def dkwX4_rule_0 : List UInt8 := [42, 20, 1, 73, 182, 1, 75, 153, 0, 12, 42, 3, 3, 16, 72, 182, 1, 79, 172, 42, 20, 1, 82]
abbrev dktX4_rule_0 : List UInt8 := dkwX4_rule_0 ++ dktX4_rule_1
theorem dksX4_rule_0 : cX4_rule.data.toList.drop 0 = dktX4_rule_0 := by decide +kernel
theorem dksX4_rule_1 : cX4_rule.data.toList.drop 23 = dktX4_rule_1 := dk_seg dksX4_rule_0 23 rfl rfl
theorem dksX4_rule_2 : cX4_rule.data.toList.drop 45 = dktX4_rule_2 := dk_seg dksX4_rule_1 22 rfl rfl
theorem dksX4_rule_3 : cX4_rule.data.toList.drop 69 = dktX4_rule_3 := dk_seg dksX4_rule_2 24 rfl rfl
theorem dksX4_rule_4 : cX4_rule.data.toList.drop 93 = dktX4_rule_4 := dk_seg dksX4_rule_3 24 rfl rfl
theorem dX4_rule_0 : decode cX4_rule 0 = .ok (.aload_n 0, 1) := dk_42 (dk_at dksX4_rule_0 0 rfl rfl)
theorem dX4_rule_1 : decode cX4_rule 1 = .ok (.ldc2_w 329, 3) := dk_20 1 73 (dk_at dksX4_rule_0 1 rfl rfl)
theorem dX4_rule_4 : decode cX4_rule 4 = .ok (.invokevirtual 331, 3) := dk_182 1 75 (dk_at dksX4_rule_0 4 rfl rfl)
theorem dX4_rule_7 : decode cX4_rule 7 = .ok (.ifCond .eq 12, 3) := dk_153 0 12 (dk_at dksX4_rule_0 7 rfl rfl)
theorem dX4_rule_10 : decode cX4_rule 10 = .ok (.aload_n 0, 1) := dk_42 (dk_at dksX4_rule_0 10 rfl rfl)
theorem dX4_rule_11 : decode cX4_rule 11 = .ok (.iconst 0, 1) := dk_3 (dk_at dksX4_rule_0 11 rfl rfl)
theorem dX4_rule_12 : decode cX4_rule 12 = .ok (.iconst 0, 1) := dk_3 (dk_at dksX4_rule_0 12 rfl rfl)
theorem dX4_rule_13 : decode cX4_rule 13 = .ok (.bipush 72, 2) := dk_16 72 (dk_at dksX4_rule_0 13 rfl rfl)
theorem dX4_rule_15 : decode cX4_rule 15 = .ok (.invokevirtual 335, 3) := dk_182 1 79 (dk_at dksX4_rule_0 15 rfl rfl)
theorem dX4_rule_18 : decode cX4_rule 18 = .ok (.ireturn, 1) := dk_172 (dk_at dksX4_rule_0 18 rfl rfl)
theorem dX4_rule_19 : decode cX4_rule 19 = .ok (.aload_n 0, 1) := dk_42 (dk_at dksX4_rule_0 19 rfl rfl)
theorem dX4_rule_20 : decode cX4_rule 20 = .ok (.ldc2_w 338, 3) := dk_20 1 82 (dk_at dksX4_rule_0 20 rfl rfl)
theorem dX4_rule_23 : decode cX4_rule 23 = .ok (.invokevirtual 331, 3) := dk_182 1 75 (dk_at dksX4_rule_1 0 rfl rfl)
theorem dX4_rule_26 : decode cX4_rule 26 = .ok (.ifCond .eq 12, 3) := dk_153 0 12 (dk_at dksX4_rule_1 3 rfl rfl)
theorem dX4_rule_29 : decode cX4_rule 29 = .ok (.aload_n 0, 1) := dk_42 (dk_at dksX4_rule_1 6 rfl rfl)
theorem dX4_rule_30 : decode cX4_rule 30 = .ok (.iconst 1, 1) := dk_4 (dk_at dksX4_rule_1 7 rfl rfl)
theorem dX4_rule_31 : decode cX4_rule 31 = .ok (.iconst 1, 1) := dk_4 (dk_at dksX4_rule_1 8 rfl rfl)
theorem dX4_rule_32 : decode cX4_rule 32 = .ok (.bipush 24, 2) := dk_16 24 (dk_at dksX4_rule_1 9 rfl rfl)
theorem dX4_rule_34 : decode cX4_rule 34 = .ok (.invokevirtual 335, 3) := dk_182 1 79 (dk_at dksX4_rule_1 11 rfl rfl)
theorem dX4_rule_37 : decode cX4_rule 37 = .ok (.ireturn, 1) := dk_172 (dk_at dksX4_rule_1 14 rfl rfl)
theorem dX4_rule_38 : decode cX4_rule 38 = .ok (.aload_n 0, 1) := dk_42 (dk_at dksX4_rule_1 15 rfl rfl)
theorem dX4_rule_39 : decode cX4_rule 39 = .ok (.ldc2_w 340, 3) := dk_20 1 84 (dk_at dksX4_rule_1 16 rfl rfl)
theorem dX4_rule_42 : decode cX4_rule 42 = .ok (.invokevirtual 331, 3) := dk_182 1 75 (dk_at dksX4_rule_1 19 rfl rfl)
theorem dX4_rule_45 : decode cX4_rule 45 = .ok (.ifCond .eq 12, 3) := dk_153 0 12 (dk_at dksX4_rule_2 0 rfl rfl)
theorem dX4_rule_48 : decode cX4_rule 48 = .ok (.aload_n 0, 1) := dk_42 (dk_at dksX4_rule_2 3 rfl rfl)
theorem dX4_rule_49 : decode cX4_rule 49 = .ok (.iconst 2, 1) := dk_5 (dk_at dksX4_rule_2 4 rfl rfl)
theorem dX4_rule_50 : decode cX4_rule 50 = .ok (.iconst 0, 1) := dk_3 (dk_at dksX4_rule_2 5 rfl rfl)
theorem dX4_rule_51 : decode cX4_rule 51 = .ok (.bipush 7, 2) := dk_16 7 (dk_at dksX4_rule_2 6 rfl rfl)
theorem dX4_rule_53 : decode cX4_rule 53 = .ok (.invokevirtual 335, 3) := dk_182 1 79 (dk_at dksX4_rule_2 8 rfl rfl)
theorem dX4_rule_56 : decode cX4_rule 56 = .ok (.ireturn, 1) := dk_172 (dk_at dksX4_rule_2 11 rfl rfl)
theorem dX4_rule_57 : decode cX4_rule 57 = .ok (.aload_n 0, 1) := dk_42 (dk_at dksX4_rule_2 12 rfl rfl)
theorem dX4_rule_58 : decode cX4_rule 58 = .ok (.ldc2_w 342, 3) := dk_20 1 86 (dk_at dksX4_rule_2 13 rfl rfl)
theorem dX4_rule_61 : decode cX4_rule 61 = .ok (.invokevirtual 331, 3) := dk_182 1 75 (dk_at dksX4_rule_2 16 rfl rfl)
theorem dX4_rule_64 : decode cX4_rule 64 = .ok (.ifCond .eq 13, 3) := dk_153 0 13 (dk_at dksX4_rule_2 19 rfl rfl)
theorem dX4_rule_67 : decode cX4_rule 67 = .ok (.aload_n 0, 1) := dk_42 (dk_at dksX4_rule_2 22 rfl rfl)
theorem dX4_rule_68 : decode cX4_rule 68 = .ok (.iconst 3, 1) := dk_6 (dk_at dksX4_rule_2 23 rfl rfl)
theorem dX4_rule_69 : decode cX4_rule 69 = .ok (.iconst 1, 1) := dk_4 (dk_at dksX4_rule_3 0 rfl rfl)
theorem dX4_rule_70 : decode cX4_rule 70 = .ok (.sipush 999, 3) := dk_17 3 231 (dk_at dksX4_rule_3 1 rfl rfl)
theorem dX4_rule_73 : decode cX4_rule 73 = .ok (.invokevirtual 335, 3) := dk_182 1 79 (dk_at dksX4_rule_3 4 rfl rfl)
theorem dX4_rule_76 : decode cX4_rule 76 = .ok (.ireturn, 1) := dk_172 (dk_at dksX4_rule_3 7 rfl rfl)
theorem dX4_rule_77 : decode cX4_rule 77 = .ok (.aload_n 0, 1) := dk_42 (dk_at dksX4_rule_3 8 rfl rfl)
theorem dX4_rule_78 : decode cX4_rule 78 = .ok (.ldc2_w 344, 3) := dk_20 1 88 (dk_at dksX4_rule_3 9 rfl rfl)
theorem dX4_rule_81 : decode cX4_rule 81 = .ok (.invokevirtual 331, 3) := dk_182 1 75 (dk_at dksX4_rule_3 12 rfl rfl)
theorem dX4_rule_84 : decode cX4_rule 84 = .ok (.ifCond .eq 8, 3) := dk_153 0 8 (dk_at dksX4_rule_3 15 rfl rfl)
theorem dX4_rule_87 : decode cX4_rule 87 = .ok (.aload_n 0, 1) := dk_42 (dk_at dksX4_rule_3 18 rfl rfl)
theorem dX4_rule_88 : decode cX4_rule 88 = .ok (.invokevirtual 346, 3) := dk_182 1 90 (dk_at dksX4_rule_3 19 rfl rfl)
theorem dX4_rule_91 : decode cX4_rule 91 = .ok (.ireturn, 1) := dk_172 (dk_at dksX4_rule_3 22 rfl rfl)
theorem dX4_rule_92 : decode cX4_rule 92 = .ok (.aload_n 0, 1) := dk_42 (dk_at dksX4_rule_3 23 rfl rfl)
theorem dX4_rule_93 : decode cX4_rule 93 = .ok (.ldc2_w 349, 3) := dk_20 1 93 (dk_at dksX4_rule_4 0 rfl rfl)
theorem dX4_rule_96 : decode cX4_rule 96 = .ok (.invokevirtual 331, 3) := dk_182 1 75 (dk_at dksX4_rule_4 3 rfl rfl)
theorem dX4_rule_99 : decode cX4_rule 99 = .ok (.ifCond .eq 10, 3) := dk_153 0 10 (dk_at dksX4_rule_4 6 rfl rfl)
theorem dX4_rule_102 : decode cX4_rule 102 = .ok (.aload_n 0, 1) := dk_42 (dk_at dksX4_rule_4 9 rfl rfl)
theorem dX4_rule_103 : decode cX4_rule 103 = .ok (.invokevirtual 351, 3) := dk_182 1 95 (dk_at dksX4_rule_4 10 rfl rfl)
theorem dX4_rule_106 : decode cX4_rule 106 = .ok (.goto 8, 3) := dk_167 0 8 (dk_at dksX4_rule_4 13 rfl rfl)
theorem dX4_rule_109 : decode cX4_rule 109 = .ok (.aload_n 0, 1) := dk_42 (dk_at dksX4_rule_4 16 rfl rfl)
theorem dX4_rule_110 : decode cX4_rule 110 = .ok (.iconst 1, 1) := dk_4 (dk_at dksX4_rule_4 17 rfl rfl)
theorem dX4_rule_111 : decode cX4_rule 111 = .ok (.invokevirtual 304, 3) := dk_182 1 48 (dk_at dksX4_rule_4 18 rfl rfl)
theorem dX4_rule_114 : decode cX4_rule 114 = .ok (.ireturn, 1) := dk_172 (dk_at dksX4_rule_4 21 rfl rfl)
abbrev cX4_isWord : ByteArray := prog_18_method_24_code
def yX4_isWord : MethodName := ⟨RX4, "isWord", "(J)Z"⟩
def dkwX4_isWord_0 : List UInt8 := [42, 180, 1, 22, 4, 160, 0, 16, 42, 180, 1, 35, 31, 148, 154, 0, 7, 4, 167, 0, 4, 3, 172]
abbrev dktX4_isWord_0 : List UInt8 := dkwX4_isWord_0 ++ []
theorem dksX4_isWord_0 : cX4_isWord.data.toList.drop 0 = dktX4_isWord_0 := by decide +kernel
theorem dX4_isWord_0 : decode cX4_isWord 0 = .ok (.aload_n 0, 1) := dk_42 (dk_at dksX4_isWord_0 0 rfl rfl)
theorem dX4_isWord_1 : decode cX4_isWord 1 = .ok (.getfield 278, 3) := dk_180 1 22 (dk_at dksX4_isWord_0 1 rfl rfl)
theorem dX4_isWord_4 : decode cX4_isWord 4 = .ok (.iconst 1, 1) := dk_4 (dk_at dksX4_isWord_0 4 rfl rfl)
theorem dX4_isWord_5 : decode cX4_isWord 5 = .ok (.if_icmp .ne 16, 3) := dk_160 0 16 (dk_at dksX4_isWord_0 5 rfl rfl)
theorem dX4_isWord_8 : decode cX4_isWord 8 = .ok (.aload_n 0, 1) := dk_42 (dk_at dksX4_isWord_0 8 rfl rfl)
theorem dX4_isWord_9 : decode cX4_isWord 9 = .ok (.getfield 291, 3) := dk_180 1 35 (dk_at dksX4_isWord_0 9 rfl rfl)
theorem dX4_isWord_12 : decode cX4_isWord 12 = .ok (.lload_n 1, 1) := dk_31 (dk_at dksX4_isWord_0 12 rfl rfl)
theorem dX4_isWord_13 : decode cX4_isWord 13 = .ok (.lcmp, 1) := dk_148 (dk_at dksX4_isWord_0 13 rfl rfl)
theorem dX4_isWord_14 : decode cX4_isWord 14 = .ok (.ifCond .ne 7, 3) := dk_154 0 7 (dk_at dksX4_isWord_0 14 rfl rfl)
theorem dX4_isWord_17 : decode cX4_isWord 17 = .ok (.iconst 1, 1) := dk_4 (dk_at dksX4_isWord_0 17 rfl rfl)
theorem dX4_isWord_18 : decode cX4_isWord 18 = .ok (.goto 4, 3) := dk_167 0 4 (dk_at dksX4_isWord_0 18 rfl rfl)
theorem dX4_isWord_21 : decode cX4_isWord 21 = .ok (.iconst 0, 1) := dk_3 (dk_at dksX4_isWord_0 21 rfl rfl)
theorem dX4_isWord_22 : decode cX4_isWord 22 = .ok (.ireturn, 1) := dk_172 (dk_at dksX4_isWord_0 22 rfl rfl)
abbrev cX4_once : ByteArray := prog_18_method_29_code
def yX4_once : MethodName := ⟨RX4, "once", "(III)Z"⟩
def dkwX4_once_3 : List UInt8 := [27, 96, 42, 180, 1, 32, 79, 42, 182, 1, 51, 4, 172]
abbrev dktX4_once_3 : List UInt8 := dkwX4_once_3 ++ []
def dkwX4_once_2 : List UInt8 := [42, 180, 1, 32, 28, 29, 184, 0, 242, 154, 0, 9, 42, 5, 182, 1, 48, 172, 42, 180, 0, 64, 16, 80]
abbrev dktX4_once_2 : List UInt8 := dkwX4_once_2 ++ dktX4_once_3
def dkwX4_once_1 : List UInt8 := [27, 120, 128, 181, 1, 57, 42, 182, 1, 51, 42, 180, 1, 22, 5, 159, 0, 9, 42, 4, 182, 1, 48, 172]
abbrev dktX4_once_1 : List UInt8 := dkwX4_once_1 ++ dktX4_once_2
def dkwX4_once_0 : List UInt8 := [42, 180, 1, 57, 27, 122, 4, 126, 4, 160, 0, 9, 42, 6, 182, 1, 48, 172, 42, 42, 180, 1, 57, 4]
abbrev dktX4_once_0 : List UInt8 := dkwX4_once_0 ++ dktX4_once_1
theorem dksX4_once_0 : cX4_once.data.toList.drop 0 = dktX4_once_0 := by decide +kernel
theorem dksX4_once_1 : cX4_once.data.toList.drop 24 = dktX4_once_1 := dk_seg dksX4_once_0 24 rfl rfl
theorem dksX4_once_2 : cX4_once.data.toList.drop 48 = dktX4_once_2 := dk_seg dksX4_once_1 24 rfl rfl
theorem dksX4_once_3 : cX4_once.data.toList.drop 72 = dktX4_once_3 := dk_seg dksX4_once_2 24 rfl rfl
theorem dX4_once_0 : decode cX4_once 0 = .ok (.aload_n 0, 1) := dk_42 (dk_at dksX4_once_0 0 rfl rfl)
theorem dX4_once_1 : decode cX4_once 1 = .ok (.getfield 313, 3) := dk_180 1 57 (dk_at dksX4_once_0 1 rfl rfl)
theorem dX4_once_4 : decode cX4_once 4 = .ok (.iload_n 1, 1) := dk_27 (dk_at dksX4_once_0 4 rfl rfl)
theorem dX4_once_5 : decode cX4_once 5 = .ok (.ishr, 1) := dk_122 (dk_at dksX4_once_0 5 rfl rfl)
theorem dX4_once_6 : decode cX4_once 6 = .ok (.iconst 1, 1) := dk_4 (dk_at dksX4_once_0 6 rfl rfl)
theorem dX4_once_7 : decode cX4_once 7 = .ok (.iand, 1) := dk_126 (dk_at dksX4_once_0 7 rfl rfl)
theorem dX4_once_8 : decode cX4_once 8 = .ok (.iconst 1, 1) := dk_4 (dk_at dksX4_once_0 8 rfl rfl)
theorem dX4_once_9 : decode cX4_once 9 = .ok (.if_icmp .ne 9, 3) := dk_160 0 9 (dk_at dksX4_once_0 9 rfl rfl)
theorem dX4_once_12 : decode cX4_once 12 = .ok (.aload_n 0, 1) := dk_42 (dk_at dksX4_once_0 12 rfl rfl)
theorem dX4_once_13 : decode cX4_once 13 = .ok (.iconst 3, 1) := dk_6 (dk_at dksX4_once_0 13 rfl rfl)
theorem dX4_once_14 : decode cX4_once 14 = .ok (.invokevirtual 304, 3) := dk_182 1 48 (dk_at dksX4_once_0 14 rfl rfl)
theorem dX4_once_17 : decode cX4_once 17 = .ok (.ireturn, 1) := dk_172 (dk_at dksX4_once_0 17 rfl rfl)
theorem dX4_once_18 : decode cX4_once 18 = .ok (.aload_n 0, 1) := dk_42 (dk_at dksX4_once_0 18 rfl rfl)
theorem dX4_once_19 : decode cX4_once 19 = .ok (.aload_n 0, 1) := dk_42 (dk_at dksX4_once_0 19 rfl rfl)
theorem dX4_once_20 : decode cX4_once 20 = .ok (.getfield 313, 3) := dk_180 1 57 (dk_at dksX4_once_0 20 rfl rfl)
theorem dX4_once_23 : decode cX4_once 23 = .ok (.iconst 1, 1) := dk_4 (dk_at dksX4_once_0 23 rfl rfl)
theorem dX4_once_24 : decode cX4_once 24 = .ok (.iload_n 1, 1) := dk_27 (dk_at dksX4_once_1 0 rfl rfl)
theorem dX4_once_25 : decode cX4_once 25 = .ok (.ishl, 1) := dk_120 (dk_at dksX4_once_1 1 rfl rfl)
theorem dX4_once_26 : decode cX4_once 26 = .ok (.ior, 1) := dk_128 (dk_at dksX4_once_1 2 rfl rfl)
theorem dX4_once_27 : decode cX4_once 27 = .ok (.putfield 313, 3) := dk_181 1 57 (dk_at dksX4_once_1 3 rfl rfl)
theorem dX4_once_30 : decode cX4_once 30 = .ok (.aload_n 0, 1) := dk_42 (dk_at dksX4_once_1 6 rfl rfl)
theorem dX4_once_31 : decode cX4_once 31 = .ok (.invokevirtual 307, 3) := dk_182 1 51 (dk_at dksX4_once_1 7 rfl rfl)
theorem dX4_once_34 : decode cX4_once 34 = .ok (.aload_n 0, 1) := dk_42 (dk_at dksX4_once_1 10 rfl rfl)
theorem dX4_once_35 : decode cX4_once 35 = .ok (.getfield 278, 3) := dk_180 1 22 (dk_at dksX4_once_1 11 rfl rfl)
theorem dX4_once_38 : decode cX4_once 38 = .ok (.iconst 2, 1) := dk_5 (dk_at dksX4_once_1 14 rfl rfl)
theorem dX4_once_39 : decode cX4_once 39 = .ok (.if_icmp .eq 9, 3) := dk_159 0 9 (dk_at dksX4_once_1 15 rfl rfl)
theorem dX4_once_42 : decode cX4_once 42 = .ok (.aload_n 0, 1) := dk_42 (dk_at dksX4_once_1 18 rfl rfl)
theorem dX4_once_43 : decode cX4_once 43 = .ok (.iconst 1, 1) := dk_4 (dk_at dksX4_once_1 19 rfl rfl)
theorem dX4_once_44 : decode cX4_once 44 = .ok (.invokevirtual 304, 3) := dk_182 1 48 (dk_at dksX4_once_1 20 rfl rfl)
theorem dX4_once_47 : decode cX4_once 47 = .ok (.ireturn, 1) := dk_172 (dk_at dksX4_once_1 23 rfl rfl)
theorem dX4_once_48 : decode cX4_once 48 = .ok (.aload_n 0, 1) := dk_42 (dk_at dksX4_once_2 0 rfl rfl)
theorem dX4_once_49 : decode cX4_once 49 = .ok (.getfield 288, 3) := dk_180 1 32 (dk_at dksX4_once_2 1 rfl rfl)
theorem dX4_once_52 : decode cX4_once 52 = .ok (.iload_n 2, 1) := dk_28 (dk_at dksX4_once_2 4 rfl rfl)
theorem dX4_once_53 : decode cX4_once 53 = .ok (.iload_n 3, 1) := dk_29 (dk_at dksX4_once_2 5 rfl rfl)
theorem dX4_once_54 : decode cX4_once 54 = .ok (.invokestatic 242, 3) := dk_184 0 242 (dk_at dksX4_once_2 6 rfl rfl)
theorem dX4_once_57 : decode cX4_once 57 = .ok (.ifCond .ne 9, 3) := dk_154 0 9 (dk_at dksX4_once_2 9 rfl rfl)
theorem dX4_once_60 : decode cX4_once 60 = .ok (.aload_n 0, 1) := dk_42 (dk_at dksX4_once_2 12 rfl rfl)
theorem dX4_once_61 : decode cX4_once 61 = .ok (.iconst 2, 1) := dk_5 (dk_at dksX4_once_2 13 rfl rfl)
theorem dX4_once_62 : decode cX4_once 62 = .ok (.invokevirtual 304, 3) := dk_182 1 48 (dk_at dksX4_once_2 14 rfl rfl)
theorem dX4_once_65 : decode cX4_once 65 = .ok (.ireturn, 1) := dk_172 (dk_at dksX4_once_2 17 rfl rfl)
theorem dX4_once_66 : decode cX4_once 66 = .ok (.aload_n 0, 1) := dk_42 (dk_at dksX4_once_2 18 rfl rfl)
theorem dX4_once_67 : decode cX4_once 67 = .ok (.getfield 64, 3) := dk_180 0 64 (dk_at dksX4_once_2 19 rfl rfl)
theorem dX4_once_70 : decode cX4_once 70 = .ok (.bipush 80, 2) := dk_16 80 (dk_at dksX4_once_2 22 rfl rfl)
theorem dX4_once_72 : decode cX4_once 72 = .ok (.iload_n 1, 1) := dk_27 (dk_at dksX4_once_3 0 rfl rfl)
theorem dX4_once_73 : decode cX4_once 73 = .ok (.iadd, 1) := dk_96 (dk_at dksX4_once_3 1 rfl rfl)
theorem dX4_once_74 : decode cX4_once 74 = .ok (.aload_n 0, 1) := dk_42 (dk_at dksX4_once_3 2 rfl rfl)
theorem dX4_once_75 : decode cX4_once 75 = .ok (.getfield 288, 3) := dk_180 1 32 (dk_at dksX4_once_3 3 rfl rfl)
theorem dX4_once_78 : decode cX4_once 78 = .ok (.iastore, 1) := dk_79 (dk_at dksX4_once_3 6 rfl rfl)
theorem dX4_once_79 : decode cX4_once 79 = .ok (.aload_n 0, 1) := dk_42 (dk_at dksX4_once_3 7 rfl rfl)
theorem dX4_once_80 : decode cX4_once 80 = .ok (.invokevirtual 307, 3) := dk_182 1 51 (dk_at dksX4_once_3 8 rfl rfl)
theorem dX4_once_83 : decode cX4_once 83 = .ok (.iconst 1, 1) := dk_4 (dk_at dksX4_once_3 11 rfl rfl)
theorem dX4_once_84 : decode cX4_once 84 = .ok (.ireturn, 1) := dk_172 (dk_at dksX4_once_3 12 rfl rfl)
abbrev cX4_bad : ByteArray := prog_18_method_23_code
def yX4_bad : MethodName := ⟨RX4, "bad", "(I)Z"⟩
def dkwX4_bad_0 : List UInt8 := [42, 27, 181, 1, 39, 42, 42, 180, 1, 16, 181, 1, 42, 3, 172]
abbrev dktX4_bad_0 : List UInt8 := dkwX4_bad_0 ++ []
theorem dksX4_bad_0 : cX4_bad.data.toList.drop 0 = dktX4_bad_0 := by decide +kernel
theorem dX4_bad_0 : decode cX4_bad 0 = .ok (.aload_n 0, 1) := dk_42 (dk_at dksX4_bad_0 0 rfl rfl)
theorem dX4_bad_1 : decode cX4_bad 1 = .ok (.iload_n 1, 1) := dk_27 (dk_at dksX4_bad_0 1 rfl rfl)
theorem dX4_bad_2 : decode cX4_bad 2 = .ok (.putfield 295, 3) := dk_181 1 39 (dk_at dksX4_bad_0 2 rfl rfl)
theorem dX4_bad_5 : decode cX4_bad 5 = .ok (.aload_n 0, 1) := dk_42 (dk_at dksX4_bad_0 5 rfl rfl)
theorem dX4_bad_6 : decode cX4_bad 6 = .ok (.aload_n 0, 1) := dk_42 (dk_at dksX4_bad_0 6 rfl rfl)
theorem dX4_bad_7 : decode cX4_bad 7 = .ok (.getfield 272, 3) := dk_180 1 16 (dk_at dksX4_bad_0 7 rfl rfl)
theorem dX4_bad_10 : decode cX4_bad 10 = .ok (.putfield 298, 3) := dk_181 1 42 (dk_at dksX4_bad_0 10 rfl rfl)
theorem dX4_bad_13 : decode cX4_bad 13 = .ok (.iconst 0, 1) := dk_3 (dk_at dksX4_bad_0 13 rfl rfl)
theorem dX4_bad_14 : decode cX4_bad 14 = .ok (.ireturn, 1) := dk_172 (dk_at dksX4_bad_0 14 rfl rfl)
abbrev cX4_leave : ByteArray := prog_18_method_31_code
def yX4_leave : MethodName := ⟨RX4, "leave", "()Z"⟩
def dkwX4_leave_7 : List UInt8 := [182, 1, 51, 4, 172]
abbrev dktX4_leave_7 : List UInt8 := dkwX4_leave_7 ++ []
def dkwX4_leave_6 : List UInt8 := [180, 0, 67, 16, 20, 46, 96, 42, 180, 1, 32, 79, 42, 180, 0, 67, 16, 20, 92, 46, 4, 96, 79, 42]
abbrev dktX4_leave_6 : List UInt8 := dkwX4_leave_6 ++ dktX4_leave_7
def dkwX4_leave_5 : List UInt8 := [180, 0, 70, 16, 120, 42, 180, 0, 67, 16, 20, 46, 96, 27, 79, 42, 180, 0, 73, 16, 120, 42]
abbrev dktX4_leave_5 : List UInt8 := dkwX4_leave_5 ++ dktX4_leave_6
def dkwX4_leave_4 : List UInt8 := [180, 1, 32, 27, 161, 0, 12, 42, 180, 1, 32, 16, 29, 164, 0, 9, 42, 5, 182, 1, 48, 172, 42]
abbrev dktX4_leave_4 : List UInt8 := dkwX4_leave_4 ++ dktX4_leave_5
def dkwX4_leave_3 : List UInt8 := [4, 182, 1, 48, 172, 42, 182, 1, 51, 42, 180, 1, 22, 5, 159, 0, 9, 42, 4, 182, 1, 48, 172, 42]
abbrev dktX4_leave_3 : List UInt8 := dkwX4_leave_3 ++ dktX4_leave_4
def dkwX4_leave_2 : List UInt8 := [182, 1, 48, 172, 42, 180, 1, 32, 60, 42, 182, 1, 51, 42, 20, 1, 98, 182, 1, 75, 154, 0, 9, 42]
abbrev dktX4_leave_2 : List UInt8 := dkwX4_leave_2 ++ dktX4_leave_3
def dkwX4_leave_1 : List UInt8 := [180, 1, 22, 5, 159, 0, 9, 42, 4, 182, 1, 48, 172, 42, 180, 1, 32, 16, 29, 164, 0, 9, 42, 5]
abbrev dktX4_leave_1 : List UInt8 := dkwX4_leave_1 ++ dktX4_leave_2
def dkwX4_leave_0 : List UInt8 := [42, 180, 0, 67, 16, 20, 46, 16, 6, 160, 0, 9, 42, 6, 182, 1, 48, 172, 42, 182, 1, 51, 42]
abbrev dktX4_leave_0 : List UInt8 := dkwX4_leave_0 ++ dktX4_leave_1
theorem dksX4_leave_0 : cX4_leave.data.toList.drop 0 = dktX4_leave_0 := by decide +kernel
theorem dksX4_leave_1 : cX4_leave.data.toList.drop 23 = dktX4_leave_1 := dk_seg dksX4_leave_0 23 rfl rfl
theorem dksX4_leave_2 : cX4_leave.data.toList.drop 47 = dktX4_leave_2 := dk_seg dksX4_leave_1 24 rfl rfl
theorem dksX4_leave_3 : cX4_leave.data.toList.drop 71 = dktX4_leave_3 := dk_seg dksX4_leave_2 24 rfl rfl
theorem dksX4_leave_4 : cX4_leave.data.toList.drop 95 = dktX4_leave_4 := dk_seg dksX4_leave_3 24 rfl rfl
theorem dksX4_leave_5 : cX4_leave.data.toList.drop 118 = dktX4_leave_5 := dk_seg dksX4_leave_4 23 rfl rfl
theorem dksX4_leave_6 : cX4_leave.data.toList.drop 140 = dktX4_leave_6 := dk_seg dksX4_leave_5 22 rfl rfl
theorem dksX4_leave_7 : cX4_leave.data.toList.drop 164 = dktX4_leave_7 := dk_seg dksX4_leave_6 24 rfl rfl
theorem dX4_leave_0 : decode cX4_leave 0 = .ok (.aload_n 0, 1) := dk_42 (dk_at dksX4_leave_0 0 rfl rfl)
theorem dX4_leave_1 : decode cX4_leave 1 = .ok (.getfield 67, 3) := dk_180 0 67 (dk_at dksX4_leave_0 1 rfl rfl)
theorem dX4_leave_4 : decode cX4_leave 4 = .ok (.bipush 20, 2) := dk_16 20 (dk_at dksX4_leave_0 4 rfl rfl)
theorem dX4_leave_6 : decode cX4_leave 6 = .ok (.iaload, 1) := dk_46 (dk_at dksX4_leave_0 6 rfl rfl)
theorem dX4_leave_7 : decode cX4_leave 7 = .ok (.bipush 6, 2) := dk_16 6 (dk_at dksX4_leave_0 7 rfl rfl)
theorem dX4_leave_9 : decode cX4_leave 9 = .ok (.if_icmp .ne 9, 3) := dk_160 0 9 (dk_at dksX4_leave_0 9 rfl rfl)
theorem dX4_leave_12 : decode cX4_leave 12 = .ok (.aload_n 0, 1) := dk_42 (dk_at dksX4_leave_0 12 rfl rfl)
theorem dX4_leave_13 : decode cX4_leave 13 = .ok (.iconst 3, 1) := dk_6 (dk_at dksX4_leave_0 13 rfl rfl)
theorem dX4_leave_14 : decode cX4_leave 14 = .ok (.invokevirtual 304, 3) := dk_182 1 48 (dk_at dksX4_leave_0 14 rfl rfl)
theorem dX4_leave_17 : decode cX4_leave 17 = .ok (.ireturn, 1) := dk_172 (dk_at dksX4_leave_0 17 rfl rfl)
theorem dX4_leave_18 : decode cX4_leave 18 = .ok (.aload_n 0, 1) := dk_42 (dk_at dksX4_leave_0 18 rfl rfl)
theorem dX4_leave_19 : decode cX4_leave 19 = .ok (.invokevirtual 307, 3) := dk_182 1 51 (dk_at dksX4_leave_0 19 rfl rfl)
theorem dX4_leave_22 : decode cX4_leave 22 = .ok (.aload_n 0, 1) := dk_42 (dk_at dksX4_leave_0 22 rfl rfl)
theorem dX4_leave_23 : decode cX4_leave 23 = .ok (.getfield 278, 3) := dk_180 1 22 (dk_at dksX4_leave_1 0 rfl rfl)
theorem dX4_leave_26 : decode cX4_leave 26 = .ok (.iconst 2, 1) := dk_5 (dk_at dksX4_leave_1 3 rfl rfl)
theorem dX4_leave_27 : decode cX4_leave 27 = .ok (.if_icmp .eq 9, 3) := dk_159 0 9 (dk_at dksX4_leave_1 4 rfl rfl)
theorem dX4_leave_30 : decode cX4_leave 30 = .ok (.aload_n 0, 1) := dk_42 (dk_at dksX4_leave_1 7 rfl rfl)
theorem dX4_leave_31 : decode cX4_leave 31 = .ok (.iconst 1, 1) := dk_4 (dk_at dksX4_leave_1 8 rfl rfl)
theorem dX4_leave_32 : decode cX4_leave 32 = .ok (.invokevirtual 304, 3) := dk_182 1 48 (dk_at dksX4_leave_1 9 rfl rfl)
theorem dX4_leave_35 : decode cX4_leave 35 = .ok (.ireturn, 1) := dk_172 (dk_at dksX4_leave_1 12 rfl rfl)
theorem dX4_leave_36 : decode cX4_leave 36 = .ok (.aload_n 0, 1) := dk_42 (dk_at dksX4_leave_1 13 rfl rfl)
theorem dX4_leave_37 : decode cX4_leave 37 = .ok (.getfield 288, 3) := dk_180 1 32 (dk_at dksX4_leave_1 14 rfl rfl)
theorem dX4_leave_40 : decode cX4_leave 40 = .ok (.bipush 29, 2) := dk_16 29 (dk_at dksX4_leave_1 17 rfl rfl)
theorem dX4_leave_42 : decode cX4_leave 42 = .ok (.if_icmp .le 9, 3) := dk_164 0 9 (dk_at dksX4_leave_1 19 rfl rfl)
theorem dX4_leave_45 : decode cX4_leave 45 = .ok (.aload_n 0, 1) := dk_42 (dk_at dksX4_leave_1 22 rfl rfl)
theorem dX4_leave_46 : decode cX4_leave 46 = .ok (.iconst 2, 1) := dk_5 (dk_at dksX4_leave_1 23 rfl rfl)
theorem dX4_leave_47 : decode cX4_leave 47 = .ok (.invokevirtual 304, 3) := dk_182 1 48 (dk_at dksX4_leave_2 0 rfl rfl)
theorem dX4_leave_50 : decode cX4_leave 50 = .ok (.ireturn, 1) := dk_172 (dk_at dksX4_leave_2 3 rfl rfl)
theorem dX4_leave_51 : decode cX4_leave 51 = .ok (.aload_n 0, 1) := dk_42 (dk_at dksX4_leave_2 4 rfl rfl)
theorem dX4_leave_52 : decode cX4_leave 52 = .ok (.getfield 288, 3) := dk_180 1 32 (dk_at dksX4_leave_2 5 rfl rfl)
theorem dX4_leave_55 : decode cX4_leave 55 = .ok (.istore_n 1, 1) := dk_60 (dk_at dksX4_leave_2 8 rfl rfl)
theorem dX4_leave_56 : decode cX4_leave 56 = .ok (.aload_n 0, 1) := dk_42 (dk_at dksX4_leave_2 9 rfl rfl)
theorem dX4_leave_57 : decode cX4_leave 57 = .ok (.invokevirtual 307, 3) := dk_182 1 51 (dk_at dksX4_leave_2 10 rfl rfl)
theorem dX4_leave_60 : decode cX4_leave 60 = .ok (.aload_n 0, 1) := dk_42 (dk_at dksX4_leave_2 13 rfl rfl)
theorem dX4_leave_61 : decode cX4_leave 61 = .ok (.ldc2_w 354, 3) := dk_20 1 98 (dk_at dksX4_leave_2 14 rfl rfl)
theorem dX4_leave_64 : decode cX4_leave 64 = .ok (.invokevirtual 331, 3) := dk_182 1 75 (dk_at dksX4_leave_2 17 rfl rfl)
theorem dX4_leave_67 : decode cX4_leave 67 = .ok (.ifCond .ne 9, 3) := dk_154 0 9 (dk_at dksX4_leave_2 20 rfl rfl)
theorem dX4_leave_70 : decode cX4_leave 70 = .ok (.aload_n 0, 1) := dk_42 (dk_at dksX4_leave_2 23 rfl rfl)
theorem dX4_leave_71 : decode cX4_leave 71 = .ok (.iconst 1, 1) := dk_4 (dk_at dksX4_leave_3 0 rfl rfl)
theorem dX4_leave_72 : decode cX4_leave 72 = .ok (.invokevirtual 304, 3) := dk_182 1 48 (dk_at dksX4_leave_3 1 rfl rfl)
theorem dX4_leave_75 : decode cX4_leave 75 = .ok (.ireturn, 1) := dk_172 (dk_at dksX4_leave_3 4 rfl rfl)
theorem dX4_leave_76 : decode cX4_leave 76 = .ok (.aload_n 0, 1) := dk_42 (dk_at dksX4_leave_3 5 rfl rfl)
theorem dX4_leave_77 : decode cX4_leave 77 = .ok (.invokevirtual 307, 3) := dk_182 1 51 (dk_at dksX4_leave_3 6 rfl rfl)
theorem dX4_leave_80 : decode cX4_leave 80 = .ok (.aload_n 0, 1) := dk_42 (dk_at dksX4_leave_3 9 rfl rfl)
theorem dX4_leave_81 : decode cX4_leave 81 = .ok (.getfield 278, 3) := dk_180 1 22 (dk_at dksX4_leave_3 10 rfl rfl)
theorem dX4_leave_84 : decode cX4_leave 84 = .ok (.iconst 2, 1) := dk_5 (dk_at dksX4_leave_3 13 rfl rfl)
theorem dX4_leave_85 : decode cX4_leave 85 = .ok (.if_icmp .eq 9, 3) := dk_159 0 9 (dk_at dksX4_leave_3 14 rfl rfl)
theorem dX4_leave_88 : decode cX4_leave 88 = .ok (.aload_n 0, 1) := dk_42 (dk_at dksX4_leave_3 17 rfl rfl)
theorem dX4_leave_89 : decode cX4_leave 89 = .ok (.iconst 1, 1) := dk_4 (dk_at dksX4_leave_3 18 rfl rfl)
theorem dX4_leave_90 : decode cX4_leave 90 = .ok (.invokevirtual 304, 3) := dk_182 1 48 (dk_at dksX4_leave_3 19 rfl rfl)
theorem dX4_leave_93 : decode cX4_leave 93 = .ok (.ireturn, 1) := dk_172 (dk_at dksX4_leave_3 22 rfl rfl)
theorem dX4_leave_94 : decode cX4_leave 94 = .ok (.aload_n 0, 1) := dk_42 (dk_at dksX4_leave_3 23 rfl rfl)
theorem dX4_leave_95 : decode cX4_leave 95 = .ok (.getfield 288, 3) := dk_180 1 32 (dk_at dksX4_leave_4 0 rfl rfl)
theorem dX4_leave_98 : decode cX4_leave 98 = .ok (.iload_n 1, 1) := dk_27 (dk_at dksX4_leave_4 3 rfl rfl)
theorem dX4_leave_99 : decode cX4_leave 99 = .ok (.if_icmp .lt 12, 3) := dk_161 0 12 (dk_at dksX4_leave_4 4 rfl rfl)
theorem dX4_leave_102 : decode cX4_leave 102 = .ok (.aload_n 0, 1) := dk_42 (dk_at dksX4_leave_4 7 rfl rfl)
theorem dX4_leave_103 : decode cX4_leave 103 = .ok (.getfield 288, 3) := dk_180 1 32 (dk_at dksX4_leave_4 8 rfl rfl)
theorem dX4_leave_106 : decode cX4_leave 106 = .ok (.bipush 29, 2) := dk_16 29 (dk_at dksX4_leave_4 11 rfl rfl)
theorem dX4_leave_108 : decode cX4_leave 108 = .ok (.if_icmp .le 9, 3) := dk_164 0 9 (dk_at dksX4_leave_4 13 rfl rfl)
theorem dX4_leave_111 : decode cX4_leave 111 = .ok (.aload_n 0, 1) := dk_42 (dk_at dksX4_leave_4 16 rfl rfl)
theorem dX4_leave_112 : decode cX4_leave 112 = .ok (.iconst 2, 1) := dk_5 (dk_at dksX4_leave_4 17 rfl rfl)
theorem dX4_leave_113 : decode cX4_leave 113 = .ok (.invokevirtual 304, 3) := dk_182 1 48 (dk_at dksX4_leave_4 18 rfl rfl)
theorem dX4_leave_116 : decode cX4_leave 116 = .ok (.ireturn, 1) := dk_172 (dk_at dksX4_leave_4 21 rfl rfl)
theorem dX4_leave_117 : decode cX4_leave 117 = .ok (.aload_n 0, 1) := dk_42 (dk_at dksX4_leave_4 22 rfl rfl)
theorem dX4_leave_118 : decode cX4_leave 118 = .ok (.getfield 70, 3) := dk_180 0 70 (dk_at dksX4_leave_5 0 rfl rfl)
theorem dX4_leave_121 : decode cX4_leave 121 = .ok (.bipush 120, 2) := dk_16 120 (dk_at dksX4_leave_5 3 rfl rfl)
theorem dX4_leave_123 : decode cX4_leave 123 = .ok (.aload_n 0, 1) := dk_42 (dk_at dksX4_leave_5 5 rfl rfl)
theorem dX4_leave_124 : decode cX4_leave 124 = .ok (.getfield 67, 3) := dk_180 0 67 (dk_at dksX4_leave_5 6 rfl rfl)
theorem dX4_leave_127 : decode cX4_leave 127 = .ok (.bipush 20, 2) := dk_16 20 (dk_at dksX4_leave_5 9 rfl rfl)
theorem dX4_leave_129 : decode cX4_leave 129 = .ok (.iaload, 1) := dk_46 (dk_at dksX4_leave_5 11 rfl rfl)
theorem dX4_leave_130 : decode cX4_leave 130 = .ok (.iadd, 1) := dk_96 (dk_at dksX4_leave_5 12 rfl rfl)
theorem dX4_leave_131 : decode cX4_leave 131 = .ok (.iload_n 1, 1) := dk_27 (dk_at dksX4_leave_5 13 rfl rfl)
theorem dX4_leave_132 : decode cX4_leave 132 = .ok (.iastore, 1) := dk_79 (dk_at dksX4_leave_5 14 rfl rfl)
theorem dX4_leave_133 : decode cX4_leave 133 = .ok (.aload_n 0, 1) := dk_42 (dk_at dksX4_leave_5 15 rfl rfl)
theorem dX4_leave_134 : decode cX4_leave 134 = .ok (.getfield 73, 3) := dk_180 0 73 (dk_at dksX4_leave_5 16 rfl rfl)
theorem dX4_leave_137 : decode cX4_leave 137 = .ok (.bipush 120, 2) := dk_16 120 (dk_at dksX4_leave_5 19 rfl rfl)
theorem dX4_leave_139 : decode cX4_leave 139 = .ok (.aload_n 0, 1) := dk_42 (dk_at dksX4_leave_5 21 rfl rfl)
theorem dX4_leave_140 : decode cX4_leave 140 = .ok (.getfield 67, 3) := dk_180 0 67 (dk_at dksX4_leave_6 0 rfl rfl)
theorem dX4_leave_143 : decode cX4_leave 143 = .ok (.bipush 20, 2) := dk_16 20 (dk_at dksX4_leave_6 3 rfl rfl)
theorem dX4_leave_145 : decode cX4_leave 145 = .ok (.iaload, 1) := dk_46 (dk_at dksX4_leave_6 5 rfl rfl)
theorem dX4_leave_146 : decode cX4_leave 146 = .ok (.iadd, 1) := dk_96 (dk_at dksX4_leave_6 6 rfl rfl)
theorem dX4_leave_147 : decode cX4_leave 147 = .ok (.aload_n 0, 1) := dk_42 (dk_at dksX4_leave_6 7 rfl rfl)
theorem dX4_leave_148 : decode cX4_leave 148 = .ok (.getfield 288, 3) := dk_180 1 32 (dk_at dksX4_leave_6 8 rfl rfl)
theorem dX4_leave_151 : decode cX4_leave 151 = .ok (.iastore, 1) := dk_79 (dk_at dksX4_leave_6 11 rfl rfl)
theorem dX4_leave_152 : decode cX4_leave 152 = .ok (.aload_n 0, 1) := dk_42 (dk_at dksX4_leave_6 12 rfl rfl)
theorem dX4_leave_153 : decode cX4_leave 153 = .ok (.getfield 67, 3) := dk_180 0 67 (dk_at dksX4_leave_6 13 rfl rfl)
theorem dX4_leave_156 : decode cX4_leave 156 = .ok (.bipush 20, 2) := dk_16 20 (dk_at dksX4_leave_6 16 rfl rfl)
theorem dX4_leave_158 : decode cX4_leave 158 = .ok (.dup2, 1) := dk_92 (dk_at dksX4_leave_6 18 rfl rfl)
theorem dX4_leave_159 : decode cX4_leave 159 = .ok (.iaload, 1) := dk_46 (dk_at dksX4_leave_6 19 rfl rfl)
theorem dX4_leave_160 : decode cX4_leave 160 = .ok (.iconst 1, 1) := dk_4 (dk_at dksX4_leave_6 20 rfl rfl)
theorem dX4_leave_161 : decode cX4_leave 161 = .ok (.iadd, 1) := dk_96 (dk_at dksX4_leave_6 21 rfl rfl)
theorem dX4_leave_162 : decode cX4_leave 162 = .ok (.iastore, 1) := dk_79 (dk_at dksX4_leave_6 22 rfl rfl)
theorem dX4_leave_163 : decode cX4_leave 163 = .ok (.aload_n 0, 1) := dk_42 (dk_at dksX4_leave_6 23 rfl rfl)
theorem dX4_leave_164 : decode cX4_leave 164 = .ok (.invokevirtual 307, 3) := dk_182 1 51 (dk_at dksX4_leave_7 0 rfl rfl)
theorem dX4_leave_167 : decode cX4_leave 167 = .ok (.iconst 1, 1) := dk_4 (dk_at dksX4_leave_7 3 rfl rfl)
theorem dX4_leave_168 : decode cX4_leave 168 = .ok (.ireturn, 1) := dk_172 (dk_at dksX4_leave_7 4 rfl rfl)
abbrev cX4_fee : ByteArray := prog_18_method_32_code
def yX4_fee : MethodName := ⟨RX4, "fee", "()Z"⟩
def dkwX4_fee_5 : List UInt8 := [172]
abbrev dktX4_fee_5 : List UInt8 := dkwX4_fee_5 ++ []
def dkwX4_fee_4 : List UInt8 := [3, 172, 42, 180, 0, 85, 27, 42, 180, 1, 60, 79, 42, 180, 0, 76, 16, 20, 92, 46, 4, 96, 79, 4]
abbrev dktX4_fee_4 : List UInt8 := dkwX4_fee_4 ++ dktX4_fee_5
def dkwX4_fee_3 : List UInt8 := [182, 1, 51, 42, 20, 1, 100, 182, 1, 75, 153, 0, 16, 42, 182, 1, 51, 42, 182, 1, 102, 154, 0, 5]
abbrev dktX4_fee_3 : List UInt8 := dkwX4_fee_3 ++ dktX4_fee_4
def dkwX4_fee_2 : List UInt8 := [60, 42, 180, 0, 79, 27, 42, 180, 1, 32, 79, 42, 180, 0, 82, 27, 42, 180, 1, 60, 79, 42]
abbrev dktX4_fee_2 : List UInt8 := dkwX4_fee_2 ++ dktX4_fee_3
def dkwX4_fee_1 : List UInt8 := [180, 1, 22, 5, 159, 0, 9, 42, 4, 182, 1, 48, 172, 17, 0, 160, 42, 180, 0, 76, 16, 20, 46, 96]
abbrev dktX4_fee_1 : List UInt8 := dkwX4_fee_1 ++ dktX4_fee_2
def dkwX4_fee_0 : List UInt8 := [42, 180, 0, 76, 16, 20, 46, 16, 8, 160, 0, 9, 42, 6, 182, 1, 48, 172, 42, 182, 1, 51, 42]
abbrev dktX4_fee_0 : List UInt8 := dkwX4_fee_0 ++ dktX4_fee_1
theorem dksX4_fee_0 : cX4_fee.data.toList.drop 0 = dktX4_fee_0 := by decide +kernel
theorem dksX4_fee_1 : cX4_fee.data.toList.drop 23 = dktX4_fee_1 := dk_seg dksX4_fee_0 23 rfl rfl
theorem dksX4_fee_2 : cX4_fee.data.toList.drop 47 = dktX4_fee_2 := dk_seg dksX4_fee_1 24 rfl rfl
theorem dksX4_fee_3 : cX4_fee.data.toList.drop 69 = dktX4_fee_3 := dk_seg dksX4_fee_2 22 rfl rfl
theorem dksX4_fee_4 : cX4_fee.data.toList.drop 93 = dktX4_fee_4 := dk_seg dksX4_fee_3 24 rfl rfl
theorem dksX4_fee_5 : cX4_fee.data.toList.drop 117 = dktX4_fee_5 := dk_seg dksX4_fee_4 24 rfl rfl
theorem dX4_fee_0 : decode cX4_fee 0 = .ok (.aload_n 0, 1) := dk_42 (dk_at dksX4_fee_0 0 rfl rfl)
theorem dX4_fee_1 : decode cX4_fee 1 = .ok (.getfield 76, 3) := dk_180 0 76 (dk_at dksX4_fee_0 1 rfl rfl)
theorem dX4_fee_4 : decode cX4_fee 4 = .ok (.bipush 20, 2) := dk_16 20 (dk_at dksX4_fee_0 4 rfl rfl)
theorem dX4_fee_6 : decode cX4_fee 6 = .ok (.iaload, 1) := dk_46 (dk_at dksX4_fee_0 6 rfl rfl)
theorem dX4_fee_7 : decode cX4_fee 7 = .ok (.bipush 8, 2) := dk_16 8 (dk_at dksX4_fee_0 7 rfl rfl)
theorem dX4_fee_9 : decode cX4_fee 9 = .ok (.if_icmp .ne 9, 3) := dk_160 0 9 (dk_at dksX4_fee_0 9 rfl rfl)
theorem dX4_fee_12 : decode cX4_fee 12 = .ok (.aload_n 0, 1) := dk_42 (dk_at dksX4_fee_0 12 rfl rfl)
theorem dX4_fee_13 : decode cX4_fee 13 = .ok (.iconst 3, 1) := dk_6 (dk_at dksX4_fee_0 13 rfl rfl)
theorem dX4_fee_14 : decode cX4_fee 14 = .ok (.invokevirtual 304, 3) := dk_182 1 48 (dk_at dksX4_fee_0 14 rfl rfl)
theorem dX4_fee_17 : decode cX4_fee 17 = .ok (.ireturn, 1) := dk_172 (dk_at dksX4_fee_0 17 rfl rfl)
theorem dX4_fee_18 : decode cX4_fee 18 = .ok (.aload_n 0, 1) := dk_42 (dk_at dksX4_fee_0 18 rfl rfl)
theorem dX4_fee_19 : decode cX4_fee 19 = .ok (.invokevirtual 307, 3) := dk_182 1 51 (dk_at dksX4_fee_0 19 rfl rfl)
theorem dX4_fee_22 : decode cX4_fee 22 = .ok (.aload_n 0, 1) := dk_42 (dk_at dksX4_fee_0 22 rfl rfl)
theorem dX4_fee_23 : decode cX4_fee 23 = .ok (.getfield 278, 3) := dk_180 1 22 (dk_at dksX4_fee_1 0 rfl rfl)
theorem dX4_fee_26 : decode cX4_fee 26 = .ok (.iconst 2, 1) := dk_5 (dk_at dksX4_fee_1 3 rfl rfl)
theorem dX4_fee_27 : decode cX4_fee 27 = .ok (.if_icmp .eq 9, 3) := dk_159 0 9 (dk_at dksX4_fee_1 4 rfl rfl)
theorem dX4_fee_30 : decode cX4_fee 30 = .ok (.aload_n 0, 1) := dk_42 (dk_at dksX4_fee_1 7 rfl rfl)
theorem dX4_fee_31 : decode cX4_fee 31 = .ok (.iconst 1, 1) := dk_4 (dk_at dksX4_fee_1 8 rfl rfl)
theorem dX4_fee_32 : decode cX4_fee 32 = .ok (.invokevirtual 304, 3) := dk_182 1 48 (dk_at dksX4_fee_1 9 rfl rfl)
theorem dX4_fee_35 : decode cX4_fee 35 = .ok (.ireturn, 1) := dk_172 (dk_at dksX4_fee_1 12 rfl rfl)
theorem dX4_fee_36 : decode cX4_fee 36 = .ok (.sipush 160, 3) := dk_17 0 160 (dk_at dksX4_fee_1 13 rfl rfl)
theorem dX4_fee_39 : decode cX4_fee 39 = .ok (.aload_n 0, 1) := dk_42 (dk_at dksX4_fee_1 16 rfl rfl)
theorem dX4_fee_40 : decode cX4_fee 40 = .ok (.getfield 76, 3) := dk_180 0 76 (dk_at dksX4_fee_1 17 rfl rfl)
theorem dX4_fee_43 : decode cX4_fee 43 = .ok (.bipush 20, 2) := dk_16 20 (dk_at dksX4_fee_1 20 rfl rfl)
theorem dX4_fee_45 : decode cX4_fee 45 = .ok (.iaload, 1) := dk_46 (dk_at dksX4_fee_1 22 rfl rfl)
theorem dX4_fee_46 : decode cX4_fee 46 = .ok (.iadd, 1) := dk_96 (dk_at dksX4_fee_1 23 rfl rfl)
theorem dX4_fee_47 : decode cX4_fee 47 = .ok (.istore_n 1, 1) := dk_60 (dk_at dksX4_fee_2 0 rfl rfl)
theorem dX4_fee_48 : decode cX4_fee 48 = .ok (.aload_n 0, 1) := dk_42 (dk_at dksX4_fee_2 1 rfl rfl)
theorem dX4_fee_49 : decode cX4_fee 49 = .ok (.getfield 79, 3) := dk_180 0 79 (dk_at dksX4_fee_2 2 rfl rfl)
theorem dX4_fee_52 : decode cX4_fee 52 = .ok (.iload_n 1, 1) := dk_27 (dk_at dksX4_fee_2 5 rfl rfl)
theorem dX4_fee_53 : decode cX4_fee 53 = .ok (.aload_n 0, 1) := dk_42 (dk_at dksX4_fee_2 6 rfl rfl)
theorem dX4_fee_54 : decode cX4_fee 54 = .ok (.getfield 288, 3) := dk_180 1 32 (dk_at dksX4_fee_2 7 rfl rfl)
theorem dX4_fee_57 : decode cX4_fee 57 = .ok (.iastore, 1) := dk_79 (dk_at dksX4_fee_2 10 rfl rfl)
theorem dX4_fee_58 : decode cX4_fee 58 = .ok (.aload_n 0, 1) := dk_42 (dk_at dksX4_fee_2 11 rfl rfl)
theorem dX4_fee_59 : decode cX4_fee 59 = .ok (.getfield 82, 3) := dk_180 0 82 (dk_at dksX4_fee_2 12 rfl rfl)
theorem dX4_fee_62 : decode cX4_fee 62 = .ok (.iload_n 1, 1) := dk_27 (dk_at dksX4_fee_2 15 rfl rfl)
theorem dX4_fee_63 : decode cX4_fee 63 = .ok (.aload_n 0, 1) := dk_42 (dk_at dksX4_fee_2 16 rfl rfl)
theorem dX4_fee_64 : decode cX4_fee 64 = .ok (.getfield 316, 3) := dk_180 1 60 (dk_at dksX4_fee_2 17 rfl rfl)
theorem dX4_fee_67 : decode cX4_fee 67 = .ok (.iastore, 1) := dk_79 (dk_at dksX4_fee_2 20 rfl rfl)
theorem dX4_fee_68 : decode cX4_fee 68 = .ok (.aload_n 0, 1) := dk_42 (dk_at dksX4_fee_2 21 rfl rfl)
theorem dX4_fee_69 : decode cX4_fee 69 = .ok (.invokevirtual 307, 3) := dk_182 1 51 (dk_at dksX4_fee_3 0 rfl rfl)
theorem dX4_fee_72 : decode cX4_fee 72 = .ok (.aload_n 0, 1) := dk_42 (dk_at dksX4_fee_3 3 rfl rfl)
theorem dX4_fee_73 : decode cX4_fee 73 = .ok (.ldc2_w 356, 3) := dk_20 1 100 (dk_at dksX4_fee_3 4 rfl rfl)
theorem dX4_fee_76 : decode cX4_fee 76 = .ok (.invokevirtual 331, 3) := dk_182 1 75 (dk_at dksX4_fee_3 7 rfl rfl)
theorem dX4_fee_79 : decode cX4_fee 79 = .ok (.ifCond .eq 16, 3) := dk_153 0 16 (dk_at dksX4_fee_3 10 rfl rfl)
theorem dX4_fee_82 : decode cX4_fee 82 = .ok (.aload_n 0, 1) := dk_42 (dk_at dksX4_fee_3 13 rfl rfl)
theorem dX4_fee_83 : decode cX4_fee 83 = .ok (.invokevirtual 307, 3) := dk_182 1 51 (dk_at dksX4_fee_3 14 rfl rfl)
theorem dX4_fee_86 : decode cX4_fee 86 = .ok (.aload_n 0, 1) := dk_42 (dk_at dksX4_fee_3 17 rfl rfl)
theorem dX4_fee_87 : decode cX4_fee 87 = .ok (.invokevirtual 358, 3) := dk_182 1 102 (dk_at dksX4_fee_3 18 rfl rfl)
theorem dX4_fee_90 : decode cX4_fee 90 = .ok (.ifCond .ne 5, 3) := dk_154 0 5 (dk_at dksX4_fee_3 21 rfl rfl)
theorem dX4_fee_93 : decode cX4_fee 93 = .ok (.iconst 0, 1) := dk_3 (dk_at dksX4_fee_4 0 rfl rfl)
theorem dX4_fee_94 : decode cX4_fee 94 = .ok (.ireturn, 1) := dk_172 (dk_at dksX4_fee_4 1 rfl rfl)
theorem dX4_fee_95 : decode cX4_fee 95 = .ok (.aload_n 0, 1) := dk_42 (dk_at dksX4_fee_4 2 rfl rfl)
theorem dX4_fee_96 : decode cX4_fee 96 = .ok (.getfield 85, 3) := dk_180 0 85 (dk_at dksX4_fee_4 3 rfl rfl)
theorem dX4_fee_99 : decode cX4_fee 99 = .ok (.iload_n 1, 1) := dk_27 (dk_at dksX4_fee_4 6 rfl rfl)
theorem dX4_fee_100 : decode cX4_fee 100 = .ok (.aload_n 0, 1) := dk_42 (dk_at dksX4_fee_4 7 rfl rfl)
theorem dX4_fee_101 : decode cX4_fee 101 = .ok (.getfield 316, 3) := dk_180 1 60 (dk_at dksX4_fee_4 8 rfl rfl)
theorem dX4_fee_104 : decode cX4_fee 104 = .ok (.iastore, 1) := dk_79 (dk_at dksX4_fee_4 11 rfl rfl)
theorem dX4_fee_105 : decode cX4_fee 105 = .ok (.aload_n 0, 1) := dk_42 (dk_at dksX4_fee_4 12 rfl rfl)
theorem dX4_fee_106 : decode cX4_fee 106 = .ok (.getfield 76, 3) := dk_180 0 76 (dk_at dksX4_fee_4 13 rfl rfl)
theorem dX4_fee_109 : decode cX4_fee 109 = .ok (.bipush 20, 2) := dk_16 20 (dk_at dksX4_fee_4 16 rfl rfl)
theorem dX4_fee_111 : decode cX4_fee 111 = .ok (.dup2, 1) := dk_92 (dk_at dksX4_fee_4 18 rfl rfl)
theorem dX4_fee_112 : decode cX4_fee 112 = .ok (.iaload, 1) := dk_46 (dk_at dksX4_fee_4 19 rfl rfl)
theorem dX4_fee_113 : decode cX4_fee 113 = .ok (.iconst 1, 1) := dk_4 (dk_at dksX4_fee_4 20 rfl rfl)
theorem dX4_fee_114 : decode cX4_fee 114 = .ok (.iadd, 1) := dk_96 (dk_at dksX4_fee_4 21 rfl rfl)
theorem dX4_fee_115 : decode cX4_fee 115 = .ok (.iastore, 1) := dk_79 (dk_at dksX4_fee_4 22 rfl rfl)
theorem dX4_fee_116 : decode cX4_fee 116 = .ok (.iconst 1, 1) := dk_4 (dk_at dksX4_fee_4 23 rfl rfl)
theorem dX4_fee_117 : decode cX4_fee 117 = .ok (.ireturn, 1) := dk_172 (dk_at dksX4_fee_5 0 rfl rfl)
abbrev cX4_cond : ByteArray := prog_18_method_39_code
def yX4_cond : MethodName := ⟨RX4, "cond", "()Z"⟩
def dkwX4_cond_6 : List UInt8 := [181, 1, 125, 42, 182, 1, 51, 167, 255, 115]
abbrev dktX4_cond_6 : List UInt8 := dkwX4_cond_6 ++ []
def dkwX4_cond_5 : List UInt8 := [180, 1, 125, 27, 153, 0, 8, 16, 21, 167, 0, 5, 16, 22, 79, 42, 89, 180, 1, 125, 4, 96]
abbrev dktX4_cond_5 : List UInt8 := dkwX4_cond_5 ++ dktX4_cond_6
def dkwX4_cond_4 : List UInt8 := [182, 1, 142, 4, 172, 42, 27, 153, 0, 7, 5, 167, 0, 4, 4, 182, 1, 142, 42, 180, 0, 97, 42]
abbrev dktX4_cond_4 : List UInt8 := dkwX4_cond_4 ++ dktX4_cond_5
def dkwX4_cond_3 : List UInt8 := [20, 1, 147, 182, 1, 75, 154, 0, 23, 42, 182, 1, 139, 153, 0, 9, 42, 4, 182, 1, 48, 172, 42, 4]
abbrev dktX4_cond_3 : List UInt8 := dkwX4_cond_3 ++ dktX4_cond_4
def dkwX4_cond_2 : List UInt8 := [182, 1, 142, 42, 182, 1, 51, 167, 255, 216, 42, 20, 1, 145, 182, 1, 75, 60, 27, 154, 0, 33, 42]
abbrev dktX4_cond_2 : List UInt8 := dkwX4_cond_2 ++ dktX4_cond_3
def dkwX4_cond_1 : List UInt8 := [182, 1, 139, 153, 0, 30, 42, 4, 182, 1, 142, 42, 89, 180, 1, 125, 4, 100, 181, 1, 125, 42, 6]
abbrev dktX4_cond_1 : List UInt8 := dkwX4_cond_1 ++ dktX4_cond_2
def dkwX4_cond_0 : List UInt8 := [42, 3, 181, 1, 125, 42, 182, 1, 136, 154, 0, 5, 3, 172, 42, 16, 41, 182, 1, 45, 153, 0, 37, 42]
abbrev dktX4_cond_0 : List UInt8 := dkwX4_cond_0 ++ dktX4_cond_1
theorem dksX4_cond_0 : cX4_cond.data.toList.drop 0 = dktX4_cond_0 := by decide +kernel
theorem dksX4_cond_1 : cX4_cond.data.toList.drop 24 = dktX4_cond_1 := dk_seg dksX4_cond_0 24 rfl rfl
theorem dksX4_cond_2 : cX4_cond.data.toList.drop 47 = dktX4_cond_2 := dk_seg dksX4_cond_1 23 rfl rfl
theorem dksX4_cond_3 : cX4_cond.data.toList.drop 70 = dktX4_cond_3 := dk_seg dksX4_cond_2 23 rfl rfl
theorem dksX4_cond_4 : cX4_cond.data.toList.drop 94 = dktX4_cond_4 := dk_seg dksX4_cond_3 24 rfl rfl
theorem dksX4_cond_5 : cX4_cond.data.toList.drop 117 = dktX4_cond_5 := dk_seg dksX4_cond_4 23 rfl rfl
theorem dksX4_cond_6 : cX4_cond.data.toList.drop 139 = dktX4_cond_6 := dk_seg dksX4_cond_5 22 rfl rfl
theorem dX4_cond_0 : decode cX4_cond 0 = .ok (.aload_n 0, 1) := dk_42 (dk_at dksX4_cond_0 0 rfl rfl)
theorem dX4_cond_1 : decode cX4_cond 1 = .ok (.iconst 0, 1) := dk_3 (dk_at dksX4_cond_0 1 rfl rfl)
theorem dX4_cond_2 : decode cX4_cond 2 = .ok (.putfield 381, 3) := dk_181 1 125 (dk_at dksX4_cond_0 2 rfl rfl)
theorem dX4_cond_5 : decode cX4_cond 5 = .ok (.aload_n 0, 1) := dk_42 (dk_at dksX4_cond_0 5 rfl rfl)
theorem dX4_cond_6 : decode cX4_cond 6 = .ok (.invokevirtual 392, 3) := dk_182 1 136 (dk_at dksX4_cond_0 6 rfl rfl)
theorem dX4_cond_9 : decode cX4_cond 9 = .ok (.ifCond .ne 5, 3) := dk_154 0 5 (dk_at dksX4_cond_0 9 rfl rfl)
theorem dX4_cond_12 : decode cX4_cond 12 = .ok (.iconst 0, 1) := dk_3 (dk_at dksX4_cond_0 12 rfl rfl)
theorem dX4_cond_13 : decode cX4_cond 13 = .ok (.ireturn, 1) := dk_172 (dk_at dksX4_cond_0 13 rfl rfl)
theorem dX4_cond_14 : decode cX4_cond 14 = .ok (.aload_n 0, 1) := dk_42 (dk_at dksX4_cond_0 14 rfl rfl)
theorem dX4_cond_15 : decode cX4_cond 15 = .ok (.bipush 41, 2) := dk_16 41 (dk_at dksX4_cond_0 15 rfl rfl)
theorem dX4_cond_17 : decode cX4_cond 17 = .ok (.invokevirtual 301, 3) := dk_182 1 45 (dk_at dksX4_cond_0 17 rfl rfl)
theorem dX4_cond_20 : decode cX4_cond 20 = .ok (.ifCond .eq 37, 3) := dk_153 0 37 (dk_at dksX4_cond_0 20 rfl rfl)
theorem dX4_cond_23 : decode cX4_cond 23 = .ok (.aload_n 0, 1) := dk_42 (dk_at dksX4_cond_0 23 rfl rfl)
theorem dX4_cond_24 : decode cX4_cond 24 = .ok (.invokevirtual 395, 3) := dk_182 1 139 (dk_at dksX4_cond_1 0 rfl rfl)
theorem dX4_cond_27 : decode cX4_cond 27 = .ok (.ifCond .eq 30, 3) := dk_153 0 30 (dk_at dksX4_cond_1 3 rfl rfl)
theorem dX4_cond_30 : decode cX4_cond 30 = .ok (.aload_n 0, 1) := dk_42 (dk_at dksX4_cond_1 6 rfl rfl)
theorem dX4_cond_31 : decode cX4_cond 31 = .ok (.iconst 1, 1) := dk_4 (dk_at dksX4_cond_1 7 rfl rfl)
theorem dX4_cond_32 : decode cX4_cond 32 = .ok (.invokevirtual 398, 3) := dk_182 1 142 (dk_at dksX4_cond_1 8 rfl rfl)
theorem dX4_cond_35 : decode cX4_cond 35 = .ok (.aload_n 0, 1) := dk_42 (dk_at dksX4_cond_1 11 rfl rfl)
theorem dX4_cond_36 : decode cX4_cond 36 = .ok (.dup, 1) := dk_89 (dk_at dksX4_cond_1 12 rfl rfl)
theorem dX4_cond_37 : decode cX4_cond 37 = .ok (.getfield 381, 3) := dk_180 1 125 (dk_at dksX4_cond_1 13 rfl rfl)
theorem dX4_cond_40 : decode cX4_cond 40 = .ok (.iconst 1, 1) := dk_4 (dk_at dksX4_cond_1 16 rfl rfl)
theorem dX4_cond_41 : decode cX4_cond 41 = .ok (.isub, 1) := dk_100 (dk_at dksX4_cond_1 17 rfl rfl)
theorem dX4_cond_42 : decode cX4_cond 42 = .ok (.putfield 381, 3) := dk_181 1 125 (dk_at dksX4_cond_1 18 rfl rfl)
theorem dX4_cond_45 : decode cX4_cond 45 = .ok (.aload_n 0, 1) := dk_42 (dk_at dksX4_cond_1 21 rfl rfl)
theorem dX4_cond_46 : decode cX4_cond 46 = .ok (.iconst 3, 1) := dk_6 (dk_at dksX4_cond_1 22 rfl rfl)
theorem dX4_cond_47 : decode cX4_cond 47 = .ok (.invokevirtual 398, 3) := dk_182 1 142 (dk_at dksX4_cond_2 0 rfl rfl)
theorem dX4_cond_50 : decode cX4_cond 50 = .ok (.aload_n 0, 1) := dk_42 (dk_at dksX4_cond_2 3 rfl rfl)
theorem dX4_cond_51 : decode cX4_cond 51 = .ok (.invokevirtual 307, 3) := dk_182 1 51 (dk_at dksX4_cond_2 4 rfl rfl)
theorem dX4_cond_54 : decode cX4_cond 54 = .ok (.goto (-40), 3) := dk_167 255 216 (dk_at dksX4_cond_2 7 rfl rfl)
theorem dX4_cond_57 : decode cX4_cond 57 = .ok (.aload_n 0, 1) := dk_42 (dk_at dksX4_cond_2 10 rfl rfl)
theorem dX4_cond_58 : decode cX4_cond 58 = .ok (.ldc2_w 401, 3) := dk_20 1 145 (dk_at dksX4_cond_2 11 rfl rfl)
theorem dX4_cond_61 : decode cX4_cond 61 = .ok (.invokevirtual 331, 3) := dk_182 1 75 (dk_at dksX4_cond_2 14 rfl rfl)
theorem dX4_cond_64 : decode cX4_cond 64 = .ok (.istore_n 1, 1) := dk_60 (dk_at dksX4_cond_2 17 rfl rfl)
theorem dX4_cond_65 : decode cX4_cond 65 = .ok (.iload_n 1, 1) := dk_27 (dk_at dksX4_cond_2 18 rfl rfl)
theorem dX4_cond_66 : decode cX4_cond 66 = .ok (.ifCond .ne 33, 3) := dk_154 0 33 (dk_at dksX4_cond_2 19 rfl rfl)
theorem dX4_cond_69 : decode cX4_cond 69 = .ok (.aload_n 0, 1) := dk_42 (dk_at dksX4_cond_2 22 rfl rfl)
theorem dX4_cond_70 : decode cX4_cond 70 = .ok (.ldc2_w 403, 3) := dk_20 1 147 (dk_at dksX4_cond_3 0 rfl rfl)
theorem dX4_cond_73 : decode cX4_cond 73 = .ok (.invokevirtual 331, 3) := dk_182 1 75 (dk_at dksX4_cond_3 3 rfl rfl)
theorem dX4_cond_76 : decode cX4_cond 76 = .ok (.ifCond .ne 23, 3) := dk_154 0 23 (dk_at dksX4_cond_3 6 rfl rfl)
theorem dX4_cond_79 : decode cX4_cond 79 = .ok (.aload_n 0, 1) := dk_42 (dk_at dksX4_cond_3 9 rfl rfl)
theorem dX4_cond_80 : decode cX4_cond 80 = .ok (.invokevirtual 395, 3) := dk_182 1 139 (dk_at dksX4_cond_3 10 rfl rfl)
theorem dX4_cond_83 : decode cX4_cond 83 = .ok (.ifCond .eq 9, 3) := dk_153 0 9 (dk_at dksX4_cond_3 13 rfl rfl)
theorem dX4_cond_86 : decode cX4_cond 86 = .ok (.aload_n 0, 1) := dk_42 (dk_at dksX4_cond_3 16 rfl rfl)
theorem dX4_cond_87 : decode cX4_cond 87 = .ok (.iconst 1, 1) := dk_4 (dk_at dksX4_cond_3 17 rfl rfl)
theorem dX4_cond_88 : decode cX4_cond 88 = .ok (.invokevirtual 304, 3) := dk_182 1 48 (dk_at dksX4_cond_3 18 rfl rfl)
theorem dX4_cond_91 : decode cX4_cond 91 = .ok (.ireturn, 1) := dk_172 (dk_at dksX4_cond_3 21 rfl rfl)
theorem dX4_cond_92 : decode cX4_cond 92 = .ok (.aload_n 0, 1) := dk_42 (dk_at dksX4_cond_3 22 rfl rfl)
theorem dX4_cond_93 : decode cX4_cond 93 = .ok (.iconst 1, 1) := dk_4 (dk_at dksX4_cond_3 23 rfl rfl)
theorem dX4_cond_94 : decode cX4_cond 94 = .ok (.invokevirtual 398, 3) := dk_182 1 142 (dk_at dksX4_cond_4 0 rfl rfl)
theorem dX4_cond_97 : decode cX4_cond 97 = .ok (.iconst 1, 1) := dk_4 (dk_at dksX4_cond_4 3 rfl rfl)
theorem dX4_cond_98 : decode cX4_cond 98 = .ok (.ireturn, 1) := dk_172 (dk_at dksX4_cond_4 4 rfl rfl)
theorem dX4_cond_99 : decode cX4_cond 99 = .ok (.aload_n 0, 1) := dk_42 (dk_at dksX4_cond_4 5 rfl rfl)
theorem dX4_cond_100 : decode cX4_cond 100 = .ok (.iload_n 1, 1) := dk_27 (dk_at dksX4_cond_4 6 rfl rfl)
theorem dX4_cond_101 : decode cX4_cond 101 = .ok (.ifCond .eq 7, 3) := dk_153 0 7 (dk_at dksX4_cond_4 7 rfl rfl)
theorem dX4_cond_104 : decode cX4_cond 104 = .ok (.iconst 2, 1) := dk_5 (dk_at dksX4_cond_4 10 rfl rfl)
theorem dX4_cond_105 : decode cX4_cond 105 = .ok (.goto 4, 3) := dk_167 0 4 (dk_at dksX4_cond_4 11 rfl rfl)
theorem dX4_cond_108 : decode cX4_cond 108 = .ok (.iconst 1, 1) := dk_4 (dk_at dksX4_cond_4 14 rfl rfl)
theorem dX4_cond_109 : decode cX4_cond 109 = .ok (.invokevirtual 398, 3) := dk_182 1 142 (dk_at dksX4_cond_4 15 rfl rfl)
theorem dX4_cond_112 : decode cX4_cond 112 = .ok (.aload_n 0, 1) := dk_42 (dk_at dksX4_cond_4 18 rfl rfl)
theorem dX4_cond_113 : decode cX4_cond 113 = .ok (.getfield 97, 3) := dk_180 0 97 (dk_at dksX4_cond_4 19 rfl rfl)
theorem dX4_cond_116 : decode cX4_cond 116 = .ok (.aload_n 0, 1) := dk_42 (dk_at dksX4_cond_4 22 rfl rfl)
theorem dX4_cond_117 : decode cX4_cond 117 = .ok (.getfield 381, 3) := dk_180 1 125 (dk_at dksX4_cond_5 0 rfl rfl)
theorem dX4_cond_120 : decode cX4_cond 120 = .ok (.iload_n 1, 1) := dk_27 (dk_at dksX4_cond_5 3 rfl rfl)
theorem dX4_cond_121 : decode cX4_cond 121 = .ok (.ifCond .eq 8, 3) := dk_153 0 8 (dk_at dksX4_cond_5 4 rfl rfl)
theorem dX4_cond_124 : decode cX4_cond 124 = .ok (.bipush 21, 2) := dk_16 21 (dk_at dksX4_cond_5 7 rfl rfl)
theorem dX4_cond_126 : decode cX4_cond 126 = .ok (.goto 5, 3) := dk_167 0 5 (dk_at dksX4_cond_5 9 rfl rfl)
theorem dX4_cond_129 : decode cX4_cond 129 = .ok (.bipush 22, 2) := dk_16 22 (dk_at dksX4_cond_5 12 rfl rfl)
theorem dX4_cond_131 : decode cX4_cond 131 = .ok (.iastore, 1) := dk_79 (dk_at dksX4_cond_5 14 rfl rfl)
theorem dX4_cond_132 : decode cX4_cond 132 = .ok (.aload_n 0, 1) := dk_42 (dk_at dksX4_cond_5 15 rfl rfl)
theorem dX4_cond_133 : decode cX4_cond 133 = .ok (.dup, 1) := dk_89 (dk_at dksX4_cond_5 16 rfl rfl)
theorem dX4_cond_134 : decode cX4_cond 134 = .ok (.getfield 381, 3) := dk_180 1 125 (dk_at dksX4_cond_5 17 rfl rfl)
theorem dX4_cond_137 : decode cX4_cond 137 = .ok (.iconst 1, 1) := dk_4 (dk_at dksX4_cond_5 20 rfl rfl)
theorem dX4_cond_138 : decode cX4_cond 138 = .ok (.iadd, 1) := dk_96 (dk_at dksX4_cond_5 21 rfl rfl)
theorem dX4_cond_139 : decode cX4_cond 139 = .ok (.putfield 381, 3) := dk_181 1 125 (dk_at dksX4_cond_6 0 rfl rfl)
theorem dX4_cond_142 : decode cX4_cond 142 = .ok (.aload_n 0, 1) := dk_42 (dk_at dksX4_cond_6 3 rfl rfl)
theorem dX4_cond_143 : decode cX4_cond 143 = .ok (.invokevirtual 307, 3) := dk_182 1 51 (dk_at dksX4_cond_6 4 rfl rfl)
theorem dX4_cond_146 : decode cX4_cond 146 = .ok (.goto (-141), 3) := dk_167 255 115 (dk_at dksX4_cond_6 7 rfl rfl)
abbrev cX4_one : ByteArray := prog_18_method_40_code
def yX4_one : MethodName := ⟨RX4, "one", "()Z"⟩
def dkwX4_one_8 : List UInt8 := [29, 42, 180, 1, 32, 182, 1, 132, 42, 182, 1, 51, 42, 6, 182, 1, 142, 4, 172]
abbrev dktX4_one_8 : List UInt8 := dkwX4_one_8 ++ []
def dkwX4_one_7 : List UInt8 := [180, 1, 32, 62, 42, 182, 1, 51, 42, 180, 1, 22, 5, 159, 0, 9, 42, 4, 182, 1, 48, 172, 42, 28]
abbrev dktX4_one_7 : List UInt8 := dkwX4_one_7 ++ dktX4_one_8
def dkwX4_one_6 : List UInt8 := [16, 61, 182, 1, 45, 154, 0, 18, 42, 16, 62, 182, 1, 45, 154, 0, 9, 42, 4, 182, 1, 48, 172, 42]
abbrev dktX4_one_6 : List UInt8 := dkwX4_one_6 ++ dktX4_one_7
def dkwX4_one_5 : List UInt8 := [162, 0, 13, 42, 28, 3, 3, 182, 1, 132, 167, 0, 73, 42, 16, 60, 182, 1, 45, 154, 0, 27, 42]
abbrev dktX4_one_5 : List UInt8 := dkwX4_one_5 ++ dktX4_one_6
def dkwX4_one_4 : List UInt8 := [167, 0, 5, 16, 23, 79, 42, 89, 180, 1, 125, 4, 96, 181, 1, 125, 167, 255, 148, 28, 16, 7]
abbrev dktX4_one_4 : List UInt8 := dkwX4_one_4 ++ dktX4_one_5
def dkwX4_one_3 : List UInt8 := [42, 182, 1, 51, 28, 156, 0, 36, 42, 180, 0, 97, 42, 180, 1, 125, 27, 153, 0, 8, 16, 20]
abbrev dktX4_one_3 : List UInt8 := dkwX4_one_3 ++ dktX4_one_4
def dkwX4_one_2 : List UInt8 := [182, 1, 154, 16, 12, 160, 0, 9, 42, 7, 182, 1, 48, 172, 42, 89, 180, 1, 63, 4, 96, 181, 1, 63]
abbrev dktX4_one_2 : List UInt8 := dkwX4_one_2 ++ dktX4_one_3
def dkwX4_one_1 : List UInt8 := [182, 1, 45, 154, 0, 9, 42, 4, 182, 1, 48, 172, 42, 180, 1, 63, 16, 40, 159, 0, 12, 42]
abbrev dktX4_one_1 : List UInt8 := dkwX4_one_1 ++ dktX4_one_2
def dkwX4_one_0 : List UInt8 := [42, 20, 1, 149, 182, 1, 75, 60, 42, 182, 1, 151, 61, 27, 154, 0, 22, 28, 156, 0, 18, 42, 16, 40]
abbrev dktX4_one_0 : List UInt8 := dkwX4_one_0 ++ dktX4_one_1
theorem dksX4_one_0 : cX4_one.data.toList.drop 0 = dktX4_one_0 := by decide +kernel
theorem dksX4_one_1 : cX4_one.data.toList.drop 24 = dktX4_one_1 := dk_seg dksX4_one_0 24 rfl rfl
theorem dksX4_one_2 : cX4_one.data.toList.drop 46 = dktX4_one_2 := dk_seg dksX4_one_1 22 rfl rfl
theorem dksX4_one_3 : cX4_one.data.toList.drop 70 = dktX4_one_3 := dk_seg dksX4_one_2 24 rfl rfl
theorem dksX4_one_4 : cX4_one.data.toList.drop 92 = dktX4_one_4 := dk_seg dksX4_one_3 22 rfl rfl
theorem dksX4_one_5 : cX4_one.data.toList.drop 114 = dktX4_one_5 := dk_seg dksX4_one_4 22 rfl rfl
theorem dksX4_one_6 : cX4_one.data.toList.drop 137 = dktX4_one_6 := dk_seg dksX4_one_5 23 rfl rfl
theorem dksX4_one_7 : cX4_one.data.toList.drop 161 = dktX4_one_7 := dk_seg dksX4_one_6 24 rfl rfl
theorem dksX4_one_8 : cX4_one.data.toList.drop 185 = dktX4_one_8 := dk_seg dksX4_one_7 24 rfl rfl
theorem dX4_one_0 : decode cX4_one 0 = .ok (.aload_n 0, 1) := dk_42 (dk_at dksX4_one_0 0 rfl rfl)
theorem dX4_one_1 : decode cX4_one 1 = .ok (.ldc2_w 405, 3) := dk_20 1 149 (dk_at dksX4_one_0 1 rfl rfl)
theorem dX4_one_4 : decode cX4_one 4 = .ok (.invokevirtual 331, 3) := dk_182 1 75 (dk_at dksX4_one_0 4 rfl rfl)
theorem dX4_one_7 : decode cX4_one 7 = .ok (.istore_n 1, 1) := dk_60 (dk_at dksX4_one_0 7 rfl rfl)
theorem dX4_one_8 : decode cX4_one 8 = .ok (.aload_n 0, 1) := dk_42 (dk_at dksX4_one_0 8 rfl rfl)
theorem dX4_one_9 : decode cX4_one 9 = .ok (.invokevirtual 407, 3) := dk_182 1 151 (dk_at dksX4_one_0 9 rfl rfl)
theorem dX4_one_12 : decode cX4_one 12 = .ok (.istore_n 2, 1) := dk_61 (dk_at dksX4_one_0 12 rfl rfl)
theorem dX4_one_13 : decode cX4_one 13 = .ok (.iload_n 1, 1) := dk_27 (dk_at dksX4_one_0 13 rfl rfl)
theorem dX4_one_14 : decode cX4_one 14 = .ok (.ifCond .ne 22, 3) := dk_154 0 22 (dk_at dksX4_one_0 14 rfl rfl)
theorem dX4_one_17 : decode cX4_one 17 = .ok (.iload_n 2, 1) := dk_28 (dk_at dksX4_one_0 17 rfl rfl)
theorem dX4_one_18 : decode cX4_one 18 = .ok (.ifCond .ge 18, 3) := dk_156 0 18 (dk_at dksX4_one_0 18 rfl rfl)
theorem dX4_one_21 : decode cX4_one 21 = .ok (.aload_n 0, 1) := dk_42 (dk_at dksX4_one_0 21 rfl rfl)
theorem dX4_one_22 : decode cX4_one 22 = .ok (.bipush 40, 2) := dk_16 40 (dk_at dksX4_one_0 22 rfl rfl)
theorem dX4_one_24 : decode cX4_one 24 = .ok (.invokevirtual 301, 3) := dk_182 1 45 (dk_at dksX4_one_1 0 rfl rfl)
theorem dX4_one_27 : decode cX4_one 27 = .ok (.ifCond .ne 9, 3) := dk_154 0 9 (dk_at dksX4_one_1 3 rfl rfl)
theorem dX4_one_30 : decode cX4_one 30 = .ok (.aload_n 0, 1) := dk_42 (dk_at dksX4_one_1 6 rfl rfl)
theorem dX4_one_31 : decode cX4_one 31 = .ok (.iconst 1, 1) := dk_4 (dk_at dksX4_one_1 7 rfl rfl)
theorem dX4_one_32 : decode cX4_one 32 = .ok (.invokevirtual 304, 3) := dk_182 1 48 (dk_at dksX4_one_1 8 rfl rfl)
theorem dX4_one_35 : decode cX4_one 35 = .ok (.ireturn, 1) := dk_172 (dk_at dksX4_one_1 11 rfl rfl)
theorem dX4_one_36 : decode cX4_one 36 = .ok (.aload_n 0, 1) := dk_42 (dk_at dksX4_one_1 12 rfl rfl)
theorem dX4_one_37 : decode cX4_one 37 = .ok (.getfield 319, 3) := dk_180 1 63 (dk_at dksX4_one_1 13 rfl rfl)
theorem dX4_one_40 : decode cX4_one 40 = .ok (.bipush 40, 2) := dk_16 40 (dk_at dksX4_one_1 16 rfl rfl)
theorem dX4_one_42 : decode cX4_one 42 = .ok (.if_icmp .eq 12, 3) := dk_159 0 12 (dk_at dksX4_one_1 18 rfl rfl)
theorem dX4_one_45 : decode cX4_one 45 = .ok (.aload_n 0, 1) := dk_42 (dk_at dksX4_one_1 21 rfl rfl)
theorem dX4_one_46 : decode cX4_one 46 = .ok (.invokevirtual 410, 3) := dk_182 1 154 (dk_at dksX4_one_2 0 rfl rfl)
theorem dX4_one_49 : decode cX4_one 49 = .ok (.bipush 12, 2) := dk_16 12 (dk_at dksX4_one_2 3 rfl rfl)
theorem dX4_one_51 : decode cX4_one 51 = .ok (.if_icmp .ne 9, 3) := dk_160 0 9 (dk_at dksX4_one_2 5 rfl rfl)
theorem dX4_one_54 : decode cX4_one 54 = .ok (.aload_n 0, 1) := dk_42 (dk_at dksX4_one_2 8 rfl rfl)
theorem dX4_one_55 : decode cX4_one 55 = .ok (.iconst 4, 1) := dk_7 (dk_at dksX4_one_2 9 rfl rfl)
theorem dX4_one_56 : decode cX4_one 56 = .ok (.invokevirtual 304, 3) := dk_182 1 48 (dk_at dksX4_one_2 10 rfl rfl)
theorem dX4_one_59 : decode cX4_one 59 = .ok (.ireturn, 1) := dk_172 (dk_at dksX4_one_2 13 rfl rfl)
theorem dX4_one_60 : decode cX4_one 60 = .ok (.aload_n 0, 1) := dk_42 (dk_at dksX4_one_2 14 rfl rfl)
theorem dX4_one_61 : decode cX4_one 61 = .ok (.dup, 1) := dk_89 (dk_at dksX4_one_2 15 rfl rfl)
theorem dX4_one_62 : decode cX4_one 62 = .ok (.getfield 319, 3) := dk_180 1 63 (dk_at dksX4_one_2 16 rfl rfl)
theorem dX4_one_65 : decode cX4_one 65 = .ok (.iconst 1, 1) := dk_4 (dk_at dksX4_one_2 19 rfl rfl)
theorem dX4_one_66 : decode cX4_one 66 = .ok (.iadd, 1) := dk_96 (dk_at dksX4_one_2 20 rfl rfl)
theorem dX4_one_67 : decode cX4_one 67 = .ok (.putfield 319, 3) := dk_181 1 63 (dk_at dksX4_one_2 21 rfl rfl)
theorem dX4_one_70 : decode cX4_one 70 = .ok (.aload_n 0, 1) := dk_42 (dk_at dksX4_one_3 0 rfl rfl)
theorem dX4_one_71 : decode cX4_one 71 = .ok (.invokevirtual 307, 3) := dk_182 1 51 (dk_at dksX4_one_3 1 rfl rfl)
theorem dX4_one_74 : decode cX4_one 74 = .ok (.iload_n 2, 1) := dk_28 (dk_at dksX4_one_3 4 rfl rfl)
theorem dX4_one_75 : decode cX4_one 75 = .ok (.ifCond .ge 36, 3) := dk_156 0 36 (dk_at dksX4_one_3 5 rfl rfl)
theorem dX4_one_78 : decode cX4_one 78 = .ok (.aload_n 0, 1) := dk_42 (dk_at dksX4_one_3 8 rfl rfl)
theorem dX4_one_79 : decode cX4_one 79 = .ok (.getfield 97, 3) := dk_180 0 97 (dk_at dksX4_one_3 9 rfl rfl)
theorem dX4_one_82 : decode cX4_one 82 = .ok (.aload_n 0, 1) := dk_42 (dk_at dksX4_one_3 12 rfl rfl)
theorem dX4_one_83 : decode cX4_one 83 = .ok (.getfield 381, 3) := dk_180 1 125 (dk_at dksX4_one_3 13 rfl rfl)
theorem dX4_one_86 : decode cX4_one 86 = .ok (.iload_n 1, 1) := dk_27 (dk_at dksX4_one_3 16 rfl rfl)
theorem dX4_one_87 : decode cX4_one 87 = .ok (.ifCond .eq 8, 3) := dk_153 0 8 (dk_at dksX4_one_3 17 rfl rfl)
theorem dX4_one_90 : decode cX4_one 90 = .ok (.bipush 20, 2) := dk_16 20 (dk_at dksX4_one_3 20 rfl rfl)
theorem dX4_one_92 : decode cX4_one 92 = .ok (.goto 5, 3) := dk_167 0 5 (dk_at dksX4_one_4 0 rfl rfl)
theorem dX4_one_95 : decode cX4_one 95 = .ok (.bipush 23, 2) := dk_16 23 (dk_at dksX4_one_4 3 rfl rfl)
theorem dX4_one_97 : decode cX4_one 97 = .ok (.iastore, 1) := dk_79 (dk_at dksX4_one_4 5 rfl rfl)
theorem dX4_one_98 : decode cX4_one 98 = .ok (.aload_n 0, 1) := dk_42 (dk_at dksX4_one_4 6 rfl rfl)
theorem dX4_one_99 : decode cX4_one 99 = .ok (.dup, 1) := dk_89 (dk_at dksX4_one_4 7 rfl rfl)
theorem dX4_one_100 : decode cX4_one 100 = .ok (.getfield 381, 3) := dk_180 1 125 (dk_at dksX4_one_4 8 rfl rfl)
theorem dX4_one_103 : decode cX4_one 103 = .ok (.iconst 1, 1) := dk_4 (dk_at dksX4_one_4 11 rfl rfl)
theorem dX4_one_104 : decode cX4_one 104 = .ok (.iadd, 1) := dk_96 (dk_at dksX4_one_4 12 rfl rfl)
theorem dX4_one_105 : decode cX4_one 105 = .ok (.putfield 381, 3) := dk_181 1 125 (dk_at dksX4_one_4 13 rfl rfl)
theorem dX4_one_108 : decode cX4_one 108 = .ok (.goto (-108), 3) := dk_167 255 148 (dk_at dksX4_one_4 16 rfl rfl)
theorem dX4_one_111 : decode cX4_one 111 = .ok (.iload_n 2, 1) := dk_28 (dk_at dksX4_one_4 19 rfl rfl)
theorem dX4_one_112 : decode cX4_one 112 = .ok (.bipush 7, 2) := dk_16 7 (dk_at dksX4_one_4 20 rfl rfl)
theorem dX4_one_114 : decode cX4_one 114 = .ok (.if_icmp .ge 13, 3) := dk_162 0 13 (dk_at dksX4_one_5 0 rfl rfl)
theorem dX4_one_117 : decode cX4_one 117 = .ok (.aload_n 0, 1) := dk_42 (dk_at dksX4_one_5 3 rfl rfl)
theorem dX4_one_118 : decode cX4_one 118 = .ok (.iload_n 2, 1) := dk_28 (dk_at dksX4_one_5 4 rfl rfl)
theorem dX4_one_119 : decode cX4_one 119 = .ok (.iconst 0, 1) := dk_3 (dk_at dksX4_one_5 5 rfl rfl)
theorem dX4_one_120 : decode cX4_one 120 = .ok (.iconst 0, 1) := dk_3 (dk_at dksX4_one_5 6 rfl rfl)
theorem dX4_one_121 : decode cX4_one 121 = .ok (.invokevirtual 388, 3) := dk_182 1 132 (dk_at dksX4_one_5 7 rfl rfl)
theorem dX4_one_124 : decode cX4_one 124 = .ok (.goto 73, 3) := dk_167 0 73 (dk_at dksX4_one_5 10 rfl rfl)
theorem dX4_one_127 : decode cX4_one 127 = .ok (.aload_n 0, 1) := dk_42 (dk_at dksX4_one_5 13 rfl rfl)
theorem dX4_one_128 : decode cX4_one 128 = .ok (.bipush 60, 2) := dk_16 60 (dk_at dksX4_one_5 14 rfl rfl)
theorem dX4_one_130 : decode cX4_one 130 = .ok (.invokevirtual 301, 3) := dk_182 1 45 (dk_at dksX4_one_5 16 rfl rfl)
theorem dX4_one_133 : decode cX4_one 133 = .ok (.ifCond .ne 27, 3) := dk_154 0 27 (dk_at dksX4_one_5 19 rfl rfl)
theorem dX4_one_136 : decode cX4_one 136 = .ok (.aload_n 0, 1) := dk_42 (dk_at dksX4_one_5 22 rfl rfl)
theorem dX4_one_137 : decode cX4_one 137 = .ok (.bipush 61, 2) := dk_16 61 (dk_at dksX4_one_6 0 rfl rfl)
theorem dX4_one_139 : decode cX4_one 139 = .ok (.invokevirtual 301, 3) := dk_182 1 45 (dk_at dksX4_one_6 2 rfl rfl)
theorem dX4_one_142 : decode cX4_one 142 = .ok (.ifCond .ne 18, 3) := dk_154 0 18 (dk_at dksX4_one_6 5 rfl rfl)
theorem dX4_one_145 : decode cX4_one 145 = .ok (.aload_n 0, 1) := dk_42 (dk_at dksX4_one_6 8 rfl rfl)
theorem dX4_one_146 : decode cX4_one 146 = .ok (.bipush 62, 2) := dk_16 62 (dk_at dksX4_one_6 9 rfl rfl)
theorem dX4_one_148 : decode cX4_one 148 = .ok (.invokevirtual 301, 3) := dk_182 1 45 (dk_at dksX4_one_6 11 rfl rfl)
theorem dX4_one_151 : decode cX4_one 151 = .ok (.ifCond .ne 9, 3) := dk_154 0 9 (dk_at dksX4_one_6 14 rfl rfl)
theorem dX4_one_154 : decode cX4_one 154 = .ok (.aload_n 0, 1) := dk_42 (dk_at dksX4_one_6 17 rfl rfl)
theorem dX4_one_155 : decode cX4_one 155 = .ok (.iconst 1, 1) := dk_4 (dk_at dksX4_one_6 18 rfl rfl)
theorem dX4_one_156 : decode cX4_one 156 = .ok (.invokevirtual 304, 3) := dk_182 1 48 (dk_at dksX4_one_6 19 rfl rfl)
theorem dX4_one_159 : decode cX4_one 159 = .ok (.ireturn, 1) := dk_172 (dk_at dksX4_one_6 22 rfl rfl)
theorem dX4_one_160 : decode cX4_one 160 = .ok (.aload_n 0, 1) := dk_42 (dk_at dksX4_one_6 23 rfl rfl)
theorem dX4_one_161 : decode cX4_one 161 = .ok (.getfield 288, 3) := dk_180 1 32 (dk_at dksX4_one_7 0 rfl rfl)
theorem dX4_one_164 : decode cX4_one 164 = .ok (.istore_n 3, 1) := dk_62 (dk_at dksX4_one_7 3 rfl rfl)
theorem dX4_one_165 : decode cX4_one 165 = .ok (.aload_n 0, 1) := dk_42 (dk_at dksX4_one_7 4 rfl rfl)
theorem dX4_one_166 : decode cX4_one 166 = .ok (.invokevirtual 307, 3) := dk_182 1 51 (dk_at dksX4_one_7 5 rfl rfl)
theorem dX4_one_169 : decode cX4_one 169 = .ok (.aload_n 0, 1) := dk_42 (dk_at dksX4_one_7 8 rfl rfl)
theorem dX4_one_170 : decode cX4_one 170 = .ok (.getfield 278, 3) := dk_180 1 22 (dk_at dksX4_one_7 9 rfl rfl)
theorem dX4_one_173 : decode cX4_one 173 = .ok (.iconst 2, 1) := dk_5 (dk_at dksX4_one_7 12 rfl rfl)
theorem dX4_one_174 : decode cX4_one 174 = .ok (.if_icmp .eq 9, 3) := dk_159 0 9 (dk_at dksX4_one_7 13 rfl rfl)
theorem dX4_one_177 : decode cX4_one 177 = .ok (.aload_n 0, 1) := dk_42 (dk_at dksX4_one_7 16 rfl rfl)
theorem dX4_one_178 : decode cX4_one 178 = .ok (.iconst 1, 1) := dk_4 (dk_at dksX4_one_7 17 rfl rfl)
theorem dX4_one_179 : decode cX4_one 179 = .ok (.invokevirtual 304, 3) := dk_182 1 48 (dk_at dksX4_one_7 18 rfl rfl)
theorem dX4_one_182 : decode cX4_one 182 = .ok (.ireturn, 1) := dk_172 (dk_at dksX4_one_7 21 rfl rfl)
theorem dX4_one_183 : decode cX4_one 183 = .ok (.aload_n 0, 1) := dk_42 (dk_at dksX4_one_7 22 rfl rfl)
theorem dX4_one_184 : decode cX4_one 184 = .ok (.iload_n 2, 1) := dk_28 (dk_at dksX4_one_7 23 rfl rfl)
theorem dX4_one_185 : decode cX4_one 185 = .ok (.iload_n 3, 1) := dk_29 (dk_at dksX4_one_8 0 rfl rfl)
theorem dX4_one_186 : decode cX4_one 186 = .ok (.aload_n 0, 1) := dk_42 (dk_at dksX4_one_8 1 rfl rfl)
theorem dX4_one_187 : decode cX4_one 187 = .ok (.getfield 288, 3) := dk_180 1 32 (dk_at dksX4_one_8 2 rfl rfl)
theorem dX4_one_190 : decode cX4_one 190 = .ok (.invokevirtual 388, 3) := dk_182 1 132 (dk_at dksX4_one_8 5 rfl rfl)
theorem dX4_one_193 : decode cX4_one 193 = .ok (.aload_n 0, 1) := dk_42 (dk_at dksX4_one_8 8 rfl rfl)
theorem dX4_one_194 : decode cX4_one 194 = .ok (.invokevirtual 307, 3) := dk_182 1 51 (dk_at dksX4_one_8 9 rfl rfl)
theorem dX4_one_197 : decode cX4_one 197 = .ok (.aload_n 0, 1) := dk_42 (dk_at dksX4_one_8 12 rfl rfl)
theorem dX4_one_198 : decode cX4_one 198 = .ok (.iconst 3, 1) := dk_6 (dk_at dksX4_one_8 13 rfl rfl)
theorem dX4_one_199 : decode cX4_one 199 = .ok (.invokevirtual 398, 3) := dk_182 1 142 (dk_at dksX4_one_8 14 rfl rfl)
theorem dX4_one_202 : decode cX4_one 202 = .ok (.iconst 1, 1) := dk_4 (dk_at dksX4_one_8 17 rfl rfl)
theorem dX4_one_203 : decode cX4_one 203 = .ok (.ireturn, 1) := dk_172 (dk_at dksX4_one_8 18 rfl rfl)
abbrev cX4_atom : ByteArray := prog_18_method_34_code
def yX4_atom : MethodName := ⟨RX4, "atom", "()I"⟩
def dkwX4_atom_5 : List UInt8 := [153, 0, 8, 16, 9, 167, 0, 4, 2, 172]
abbrev dktX4_atom_5 : List UInt8 := dkwX4_atom_5 ++ []
def dkwX4_atom_4 : List UInt8 := [16, 7, 172, 42, 20, 1, 121, 182, 1, 75, 153, 0, 6, 16, 8, 172, 42, 20, 1, 123, 182, 1, 75]
abbrev dktX4_atom_4 : List UInt8 := dkwX4_atom_4 ++ dktX4_atom_5
def dkwX4_atom_3 : List UInt8 := [42, 20, 1, 117, 182, 1, 75, 153, 0, 6, 16, 6, 172, 42, 20, 1, 119, 182, 1, 75, 153, 0, 6]
abbrev dktX4_atom_3 : List UInt8 := dkwX4_atom_3 ++ dktX4_atom_4
def dkwX4_atom_2 : List UInt8 := [42, 20, 1, 113, 182, 1, 75, 153, 0, 5, 7, 172, 42, 20, 1, 115, 182, 1, 75, 153, 0, 5, 8, 172]
abbrev dktX4_atom_2 : List UInt8 := dkwX4_atom_2 ++ dktX4_atom_3
def dkwX4_atom_1 : List UInt8 := [42, 20, 1, 109, 182, 1, 75, 153, 0, 5, 5, 172, 42, 20, 1, 111, 182, 1, 75, 153, 0, 5, 6, 172]
abbrev dktX4_atom_1 : List UInt8 := dkwX4_atom_1 ++ dktX4_atom_2
def dkwX4_atom_0 : List UInt8 := [42, 20, 1, 105, 182, 1, 75, 153, 0, 5, 3, 172, 42, 20, 1, 107, 182, 1, 75, 153, 0, 5, 4, 172]
abbrev dktX4_atom_0 : List UInt8 := dkwX4_atom_0 ++ dktX4_atom_1
theorem dksX4_atom_0 : cX4_atom.data.toList.drop 0 = dktX4_atom_0 := by decide +kernel
theorem dksX4_atom_1 : cX4_atom.data.toList.drop 24 = dktX4_atom_1 := dk_seg dksX4_atom_0 24 rfl rfl
theorem dksX4_atom_2 : cX4_atom.data.toList.drop 48 = dktX4_atom_2 := dk_seg dksX4_atom_1 24 rfl rfl
theorem dksX4_atom_3 : cX4_atom.data.toList.drop 72 = dktX4_atom_3 := dk_seg dksX4_atom_2 24 rfl rfl
theorem dksX4_atom_4 : cX4_atom.data.toList.drop 95 = dktX4_atom_4 := dk_seg dksX4_atom_3 23 rfl rfl
theorem dksX4_atom_5 : cX4_atom.data.toList.drop 118 = dktX4_atom_5 := dk_seg dksX4_atom_4 23 rfl rfl
theorem dX4_atom_0 : decode cX4_atom 0 = .ok (.aload_n 0, 1) := dk_42 (dk_at dksX4_atom_0 0 rfl rfl)
theorem dX4_atom_1 : decode cX4_atom 1 = .ok (.ldc2_w 361, 3) := dk_20 1 105 (dk_at dksX4_atom_0 1 rfl rfl)
theorem dX4_atom_4 : decode cX4_atom 4 = .ok (.invokevirtual 331, 3) := dk_182 1 75 (dk_at dksX4_atom_0 4 rfl rfl)
theorem dX4_atom_7 : decode cX4_atom 7 = .ok (.ifCond .eq 5, 3) := dk_153 0 5 (dk_at dksX4_atom_0 7 rfl rfl)
theorem dX4_atom_10 : decode cX4_atom 10 = .ok (.iconst 0, 1) := dk_3 (dk_at dksX4_atom_0 10 rfl rfl)
theorem dX4_atom_11 : decode cX4_atom 11 = .ok (.ireturn, 1) := dk_172 (dk_at dksX4_atom_0 11 rfl rfl)
theorem dX4_atom_12 : decode cX4_atom 12 = .ok (.aload_n 0, 1) := dk_42 (dk_at dksX4_atom_0 12 rfl rfl)
theorem dX4_atom_13 : decode cX4_atom 13 = .ok (.ldc2_w 363, 3) := dk_20 1 107 (dk_at dksX4_atom_0 13 rfl rfl)
theorem dX4_atom_16 : decode cX4_atom 16 = .ok (.invokevirtual 331, 3) := dk_182 1 75 (dk_at dksX4_atom_0 16 rfl rfl)
theorem dX4_atom_19 : decode cX4_atom 19 = .ok (.ifCond .eq 5, 3) := dk_153 0 5 (dk_at dksX4_atom_0 19 rfl rfl)
theorem dX4_atom_22 : decode cX4_atom 22 = .ok (.iconst 1, 1) := dk_4 (dk_at dksX4_atom_0 22 rfl rfl)
theorem dX4_atom_23 : decode cX4_atom 23 = .ok (.ireturn, 1) := dk_172 (dk_at dksX4_atom_0 23 rfl rfl)
theorem dX4_atom_24 : decode cX4_atom 24 = .ok (.aload_n 0, 1) := dk_42 (dk_at dksX4_atom_1 0 rfl rfl)
theorem dX4_atom_25 : decode cX4_atom 25 = .ok (.ldc2_w 365, 3) := dk_20 1 109 (dk_at dksX4_atom_1 1 rfl rfl)
theorem dX4_atom_28 : decode cX4_atom 28 = .ok (.invokevirtual 331, 3) := dk_182 1 75 (dk_at dksX4_atom_1 4 rfl rfl)
theorem dX4_atom_31 : decode cX4_atom 31 = .ok (.ifCond .eq 5, 3) := dk_153 0 5 (dk_at dksX4_atom_1 7 rfl rfl)
theorem dX4_atom_34 : decode cX4_atom 34 = .ok (.iconst 2, 1) := dk_5 (dk_at dksX4_atom_1 10 rfl rfl)
theorem dX4_atom_35 : decode cX4_atom 35 = .ok (.ireturn, 1) := dk_172 (dk_at dksX4_atom_1 11 rfl rfl)
theorem dX4_atom_36 : decode cX4_atom 36 = .ok (.aload_n 0, 1) := dk_42 (dk_at dksX4_atom_1 12 rfl rfl)
theorem dX4_atom_37 : decode cX4_atom 37 = .ok (.ldc2_w 367, 3) := dk_20 1 111 (dk_at dksX4_atom_1 13 rfl rfl)
theorem dX4_atom_40 : decode cX4_atom 40 = .ok (.invokevirtual 331, 3) := dk_182 1 75 (dk_at dksX4_atom_1 16 rfl rfl)
theorem dX4_atom_43 : decode cX4_atom 43 = .ok (.ifCond .eq 5, 3) := dk_153 0 5 (dk_at dksX4_atom_1 19 rfl rfl)
theorem dX4_atom_46 : decode cX4_atom 46 = .ok (.iconst 3, 1) := dk_6 (dk_at dksX4_atom_1 22 rfl rfl)
theorem dX4_atom_47 : decode cX4_atom 47 = .ok (.ireturn, 1) := dk_172 (dk_at dksX4_atom_1 23 rfl rfl)
theorem dX4_atom_48 : decode cX4_atom 48 = .ok (.aload_n 0, 1) := dk_42 (dk_at dksX4_atom_2 0 rfl rfl)
theorem dX4_atom_49 : decode cX4_atom 49 = .ok (.ldc2_w 369, 3) := dk_20 1 113 (dk_at dksX4_atom_2 1 rfl rfl)
theorem dX4_atom_52 : decode cX4_atom 52 = .ok (.invokevirtual 331, 3) := dk_182 1 75 (dk_at dksX4_atom_2 4 rfl rfl)
theorem dX4_atom_55 : decode cX4_atom 55 = .ok (.ifCond .eq 5, 3) := dk_153 0 5 (dk_at dksX4_atom_2 7 rfl rfl)
theorem dX4_atom_58 : decode cX4_atom 58 = .ok (.iconst 4, 1) := dk_7 (dk_at dksX4_atom_2 10 rfl rfl)
theorem dX4_atom_59 : decode cX4_atom 59 = .ok (.ireturn, 1) := dk_172 (dk_at dksX4_atom_2 11 rfl rfl)
theorem dX4_atom_60 : decode cX4_atom 60 = .ok (.aload_n 0, 1) := dk_42 (dk_at dksX4_atom_2 12 rfl rfl)
theorem dX4_atom_61 : decode cX4_atom 61 = .ok (.ldc2_w 371, 3) := dk_20 1 115 (dk_at dksX4_atom_2 13 rfl rfl)
theorem dX4_atom_64 : decode cX4_atom 64 = .ok (.invokevirtual 331, 3) := dk_182 1 75 (dk_at dksX4_atom_2 16 rfl rfl)
theorem dX4_atom_67 : decode cX4_atom 67 = .ok (.ifCond .eq 5, 3) := dk_153 0 5 (dk_at dksX4_atom_2 19 rfl rfl)
theorem dX4_atom_70 : decode cX4_atom 70 = .ok (.iconst 5, 1) := dk_8 (dk_at dksX4_atom_2 22 rfl rfl)
theorem dX4_atom_71 : decode cX4_atom 71 = .ok (.ireturn, 1) := dk_172 (dk_at dksX4_atom_2 23 rfl rfl)
theorem dX4_atom_72 : decode cX4_atom 72 = .ok (.aload_n 0, 1) := dk_42 (dk_at dksX4_atom_3 0 rfl rfl)
theorem dX4_atom_73 : decode cX4_atom 73 = .ok (.ldc2_w 373, 3) := dk_20 1 117 (dk_at dksX4_atom_3 1 rfl rfl)
theorem dX4_atom_76 : decode cX4_atom 76 = .ok (.invokevirtual 331, 3) := dk_182 1 75 (dk_at dksX4_atom_3 4 rfl rfl)
theorem dX4_atom_79 : decode cX4_atom 79 = .ok (.ifCond .eq 6, 3) := dk_153 0 6 (dk_at dksX4_atom_3 7 rfl rfl)
theorem dX4_atom_82 : decode cX4_atom 82 = .ok (.bipush 6, 2) := dk_16 6 (dk_at dksX4_atom_3 10 rfl rfl)
theorem dX4_atom_84 : decode cX4_atom 84 = .ok (.ireturn, 1) := dk_172 (dk_at dksX4_atom_3 12 rfl rfl)
theorem dX4_atom_85 : decode cX4_atom 85 = .ok (.aload_n 0, 1) := dk_42 (dk_at dksX4_atom_3 13 rfl rfl)
theorem dX4_atom_86 : decode cX4_atom 86 = .ok (.ldc2_w 375, 3) := dk_20 1 119 (dk_at dksX4_atom_3 14 rfl rfl)
theorem dX4_atom_89 : decode cX4_atom 89 = .ok (.invokevirtual 331, 3) := dk_182 1 75 (dk_at dksX4_atom_3 17 rfl rfl)
theorem dX4_atom_92 : decode cX4_atom 92 = .ok (.ifCond .eq 6, 3) := dk_153 0 6 (dk_at dksX4_atom_3 20 rfl rfl)
theorem dX4_atom_95 : decode cX4_atom 95 = .ok (.bipush 7, 2) := dk_16 7 (dk_at dksX4_atom_4 0 rfl rfl)
theorem dX4_atom_97 : decode cX4_atom 97 = .ok (.ireturn, 1) := dk_172 (dk_at dksX4_atom_4 2 rfl rfl)
theorem dX4_atom_98 : decode cX4_atom 98 = .ok (.aload_n 0, 1) := dk_42 (dk_at dksX4_atom_4 3 rfl rfl)
theorem dX4_atom_99 : decode cX4_atom 99 = .ok (.ldc2_w 377, 3) := dk_20 1 121 (dk_at dksX4_atom_4 4 rfl rfl)
theorem dX4_atom_102 : decode cX4_atom 102 = .ok (.invokevirtual 331, 3) := dk_182 1 75 (dk_at dksX4_atom_4 7 rfl rfl)
theorem dX4_atom_105 : decode cX4_atom 105 = .ok (.ifCond .eq 6, 3) := dk_153 0 6 (dk_at dksX4_atom_4 10 rfl rfl)
theorem dX4_atom_108 : decode cX4_atom 108 = .ok (.bipush 8, 2) := dk_16 8 (dk_at dksX4_atom_4 13 rfl rfl)
theorem dX4_atom_110 : decode cX4_atom 110 = .ok (.ireturn, 1) := dk_172 (dk_at dksX4_atom_4 15 rfl rfl)
theorem dX4_atom_111 : decode cX4_atom 111 = .ok (.aload_n 0, 1) := dk_42 (dk_at dksX4_atom_4 16 rfl rfl)
theorem dX4_atom_112 : decode cX4_atom 112 = .ok (.ldc2_w 379, 3) := dk_20 1 123 (dk_at dksX4_atom_4 17 rfl rfl)
theorem dX4_atom_115 : decode cX4_atom 115 = .ok (.invokevirtual 331, 3) := dk_182 1 75 (dk_at dksX4_atom_4 20 rfl rfl)
theorem dX4_atom_118 : decode cX4_atom 118 = .ok (.ifCond .eq 8, 3) := dk_153 0 8 (dk_at dksX4_atom_5 0 rfl rfl)
theorem dX4_atom_121 : decode cX4_atom 121 = .ok (.bipush 9, 2) := dk_16 9 (dk_at dksX4_atom_5 3 rfl rfl)
theorem dX4_atom_123 : decode cX4_atom 123 = .ok (.goto 4, 3) := dk_167 0 4 (dk_at dksX4_atom_5 5 rfl rfl)
theorem dX4_atom_126 : decode cX4_atom 126 = .ok (.iconst (-1), 1) := dk_2 (dk_at dksX4_atom_5 8 rfl rfl)
theorem dX4_atom_127 : decode cX4_atom 127 = .ok (.ireturn, 1) := dk_172 (dk_at dksX4_atom_5 9 rfl rfl)
abbrev cX4_isSign : ByteArray := prog_18_method_25_code
def yX4_isSign : MethodName := ⟨RX4, "isSign", "(I)Z"⟩
def dkwX4_isSign_0 : List UInt8 := [42, 180, 1, 22, 6, 160, 0, 15, 42, 180, 1, 32, 27, 160, 0, 7, 4, 167, 0, 4, 3, 172]
abbrev dktX4_isSign_0 : List UInt8 := dkwX4_isSign_0 ++ []
theorem dksX4_isSign_0 : cX4_isSign.data.toList.drop 0 = dktX4_isSign_0 := by decide +kernel
theorem dX4_isSign_0 : decode cX4_isSign 0 = .ok (.aload_n 0, 1) := dk_42 (dk_at dksX4_isSign_0 0 rfl rfl)
theorem dX4_isSign_1 : decode cX4_isSign 1 = .ok (.getfield 278, 3) := dk_180 1 22 (dk_at dksX4_isSign_0 1 rfl rfl)
theorem dX4_isSign_4 : decode cX4_isSign 4 = .ok (.iconst 3, 1) := dk_6 (dk_at dksX4_isSign_0 4 rfl rfl)
theorem dX4_isSign_5 : decode cX4_isSign 5 = .ok (.if_icmp .ne 15, 3) := dk_160 0 15 (dk_at dksX4_isSign_0 5 rfl rfl)
theorem dX4_isSign_8 : decode cX4_isSign 8 = .ok (.aload_n 0, 1) := dk_42 (dk_at dksX4_isSign_0 8 rfl rfl)
theorem dX4_isSign_9 : decode cX4_isSign 9 = .ok (.getfield 288, 3) := dk_180 1 32 (dk_at dksX4_isSign_0 9 rfl rfl)
theorem dX4_isSign_12 : decode cX4_isSign 12 = .ok (.iload_n 1, 1) := dk_27 (dk_at dksX4_isSign_0 12 rfl rfl)
theorem dX4_isSign_13 : decode cX4_isSign 13 = .ok (.if_icmp .ne 7, 3) := dk_160 0 7 (dk_at dksX4_isSign_0 13 rfl rfl)
theorem dX4_isSign_16 : decode cX4_isSign 16 = .ok (.iconst 1, 1) := dk_4 (dk_at dksX4_isSign_0 16 rfl rfl)
theorem dX4_isSign_17 : decode cX4_isSign 17 = .ok (.goto 4, 3) := dk_167 0 4 (dk_at dksX4_isSign_0 17 rfl rfl)
theorem dX4_isSign_20 : decode cX4_isSign 20 = .ok (.iconst 0, 1) := dk_3 (dk_at dksX4_isSign_0 20 rfl rfl)
theorem dX4_isSign_21 : decode cX4_isSign 21 = .ok (.ireturn, 1) := dk_172 (dk_at dksX4_isSign_0 21 rfl rfl)
abbrev cX4_open : ByteArray := prog_18_method_37_code
def yX4_open : MethodName := ⟨RX4, "open", "()I"⟩
def dkwX4_open_2 : List UInt8 := [27, 172]
abbrev dktX4_open_2 : List UInt8 := dkwX4_open_2 ++ []
def dkwX4_open_1 : List UInt8 := [42, 180, 0, 97, 28, 46, 16, 23, 160, 0, 7, 4, 167, 0, 4, 3, 96, 60, 132, 2, 1, 167, 255, 215]
abbrev dktX4_open_1 : List UInt8 := dkwX4_open_1 ++ dktX4_open_2
def dkwX4_open_0 : List UInt8 := [3, 60, 3, 61, 28, 42, 180, 1, 125, 162, 0, 39, 27, 42, 180, 0, 97, 28, 46, 16, 20, 159, 0, 14]
abbrev dktX4_open_0 : List UInt8 := dkwX4_open_0 ++ dktX4_open_1
theorem dksX4_open_0 : cX4_open.data.toList.drop 0 = dktX4_open_0 := by decide +kernel
theorem dksX4_open_1 : cX4_open.data.toList.drop 24 = dktX4_open_1 := dk_seg dksX4_open_0 24 rfl rfl
theorem dksX4_open_2 : cX4_open.data.toList.drop 48 = dktX4_open_2 := dk_seg dksX4_open_1 24 rfl rfl
theorem dX4_open_0 : decode cX4_open 0 = .ok (.iconst 0, 1) := dk_3 (dk_at dksX4_open_0 0 rfl rfl)
theorem dX4_open_1 : decode cX4_open 1 = .ok (.istore_n 1, 1) := dk_60 (dk_at dksX4_open_0 1 rfl rfl)
theorem dX4_open_2 : decode cX4_open 2 = .ok (.iconst 0, 1) := dk_3 (dk_at dksX4_open_0 2 rfl rfl)
theorem dX4_open_3 : decode cX4_open 3 = .ok (.istore_n 2, 1) := dk_61 (dk_at dksX4_open_0 3 rfl rfl)
theorem dX4_open_4 : decode cX4_open 4 = .ok (.iload_n 2, 1) := dk_28 (dk_at dksX4_open_0 4 rfl rfl)
theorem dX4_open_5 : decode cX4_open 5 = .ok (.aload_n 0, 1) := dk_42 (dk_at dksX4_open_0 5 rfl rfl)
theorem dX4_open_6 : decode cX4_open 6 = .ok (.getfield 381, 3) := dk_180 1 125 (dk_at dksX4_open_0 6 rfl rfl)
theorem dX4_open_9 : decode cX4_open 9 = .ok (.if_icmp .ge 39, 3) := dk_162 0 39 (dk_at dksX4_open_0 9 rfl rfl)
theorem dX4_open_12 : decode cX4_open 12 = .ok (.iload_n 1, 1) := dk_27 (dk_at dksX4_open_0 12 rfl rfl)
theorem dX4_open_13 : decode cX4_open 13 = .ok (.aload_n 0, 1) := dk_42 (dk_at dksX4_open_0 13 rfl rfl)
theorem dX4_open_14 : decode cX4_open 14 = .ok (.getfield 97, 3) := dk_180 0 97 (dk_at dksX4_open_0 14 rfl rfl)
theorem dX4_open_17 : decode cX4_open 17 = .ok (.iload_n 2, 1) := dk_28 (dk_at dksX4_open_0 17 rfl rfl)
theorem dX4_open_18 : decode cX4_open 18 = .ok (.iaload, 1) := dk_46 (dk_at dksX4_open_0 18 rfl rfl)
theorem dX4_open_19 : decode cX4_open 19 = .ok (.bipush 20, 2) := dk_16 20 (dk_at dksX4_open_0 19 rfl rfl)
theorem dX4_open_21 : decode cX4_open 21 = .ok (.if_icmp .eq 14, 3) := dk_159 0 14 (dk_at dksX4_open_0 21 rfl rfl)
theorem dX4_open_24 : decode cX4_open 24 = .ok (.aload_n 0, 1) := dk_42 (dk_at dksX4_open_1 0 rfl rfl)
theorem dX4_open_25 : decode cX4_open 25 = .ok (.getfield 97, 3) := dk_180 0 97 (dk_at dksX4_open_1 1 rfl rfl)
theorem dX4_open_28 : decode cX4_open 28 = .ok (.iload_n 2, 1) := dk_28 (dk_at dksX4_open_1 4 rfl rfl)
theorem dX4_open_29 : decode cX4_open 29 = .ok (.iaload, 1) := dk_46 (dk_at dksX4_open_1 5 rfl rfl)
theorem dX4_open_30 : decode cX4_open 30 = .ok (.bipush 23, 2) := dk_16 23 (dk_at dksX4_open_1 6 rfl rfl)
theorem dX4_open_32 : decode cX4_open 32 = .ok (.if_icmp .ne 7, 3) := dk_160 0 7 (dk_at dksX4_open_1 8 rfl rfl)
theorem dX4_open_35 : decode cX4_open 35 = .ok (.iconst 1, 1) := dk_4 (dk_at dksX4_open_1 11 rfl rfl)
theorem dX4_open_36 : decode cX4_open 36 = .ok (.goto 4, 3) := dk_167 0 4 (dk_at dksX4_open_1 12 rfl rfl)
theorem dX4_open_39 : decode cX4_open 39 = .ok (.iconst 0, 1) := dk_3 (dk_at dksX4_open_1 15 rfl rfl)
theorem dX4_open_40 : decode cX4_open 40 = .ok (.iadd, 1) := dk_96 (dk_at dksX4_open_1 16 rfl rfl)
theorem dX4_open_41 : decode cX4_open 41 = .ok (.istore_n 1, 1) := dk_60 (dk_at dksX4_open_1 17 rfl rfl)
theorem dX4_open_42 : decode cX4_open 42 = .ok (.iinc 2 1, 3) := dk_132 2 1 (dk_at dksX4_open_1 18 rfl rfl)
theorem dX4_open_45 : decode cX4_open 45 = .ok (.goto (-41), 3) := dk_167 255 215 (dk_at dksX4_open_1 21 rfl rfl)
theorem dX4_open_48 : decode cX4_open 48 = .ok (.iload_n 1, 1) := dk_27 (dk_at dksX4_open_2 0 rfl rfl)
theorem dX4_open_49 : decode cX4_open 49 = .ok (.ireturn, 1) := dk_172 (dk_at dksX4_open_2 1 rfl rfl)
abbrev cX4_write : ByteArray := prog_18_method_33_code
def yX4_write : MethodName := ⟨RX4, "write", "(III)V"⟩
def dkwX4_write_2 : List UInt8 := [180, 1, 60, 4, 96, 181, 1, 60, 177]
abbrev dktX4_write_2 : List UInt8 := dkwX4_write_2 ++ []
def dkwX4_write_1 : List UInt8 := [180, 1, 60, 96, 28, 79, 42, 180, 0, 94, 17, 7, 208, 42, 180, 1, 60, 96, 29, 79, 42, 89]
abbrev dktX4_write_1 : List UInt8 := dkwX4_write_1 ++ dktX4_write_2
def dkwX4_write_0 : List UInt8 := [42, 180, 0, 88, 17, 7, 208, 42, 180, 1, 60, 96, 27, 79, 42, 180, 0, 91, 17, 7, 208, 42]
abbrev dktX4_write_0 : List UInt8 := dkwX4_write_0 ++ dktX4_write_1
theorem dksX4_write_0 : cX4_write.data.toList.drop 0 = dktX4_write_0 := by decide +kernel
theorem dksX4_write_1 : cX4_write.data.toList.drop 22 = dktX4_write_1 := dk_seg dksX4_write_0 22 rfl rfl
theorem dksX4_write_2 : cX4_write.data.toList.drop 44 = dktX4_write_2 := dk_seg dksX4_write_1 22 rfl rfl
theorem dX4_write_0 : decode cX4_write 0 = .ok (.aload_n 0, 1) := dk_42 (dk_at dksX4_write_0 0 rfl rfl)
theorem dX4_write_1 : decode cX4_write 1 = .ok (.getfield 88, 3) := dk_180 0 88 (dk_at dksX4_write_0 1 rfl rfl)
theorem dX4_write_4 : decode cX4_write 4 = .ok (.sipush 2000, 3) := dk_17 7 208 (dk_at dksX4_write_0 4 rfl rfl)
theorem dX4_write_7 : decode cX4_write 7 = .ok (.aload_n 0, 1) := dk_42 (dk_at dksX4_write_0 7 rfl rfl)
theorem dX4_write_8 : decode cX4_write 8 = .ok (.getfield 316, 3) := dk_180 1 60 (dk_at dksX4_write_0 8 rfl rfl)
theorem dX4_write_11 : decode cX4_write 11 = .ok (.iadd, 1) := dk_96 (dk_at dksX4_write_0 11 rfl rfl)
theorem dX4_write_12 : decode cX4_write 12 = .ok (.iload_n 1, 1) := dk_27 (dk_at dksX4_write_0 12 rfl rfl)
theorem dX4_write_13 : decode cX4_write 13 = .ok (.iastore, 1) := dk_79 (dk_at dksX4_write_0 13 rfl rfl)
theorem dX4_write_14 : decode cX4_write 14 = .ok (.aload_n 0, 1) := dk_42 (dk_at dksX4_write_0 14 rfl rfl)
theorem dX4_write_15 : decode cX4_write 15 = .ok (.getfield 91, 3) := dk_180 0 91 (dk_at dksX4_write_0 15 rfl rfl)
theorem dX4_write_18 : decode cX4_write 18 = .ok (.sipush 2000, 3) := dk_17 7 208 (dk_at dksX4_write_0 18 rfl rfl)
theorem dX4_write_21 : decode cX4_write 21 = .ok (.aload_n 0, 1) := dk_42 (dk_at dksX4_write_0 21 rfl rfl)
theorem dX4_write_22 : decode cX4_write 22 = .ok (.getfield 316, 3) := dk_180 1 60 (dk_at dksX4_write_1 0 rfl rfl)
theorem dX4_write_25 : decode cX4_write 25 = .ok (.iadd, 1) := dk_96 (dk_at dksX4_write_1 3 rfl rfl)
theorem dX4_write_26 : decode cX4_write 26 = .ok (.iload_n 2, 1) := dk_28 (dk_at dksX4_write_1 4 rfl rfl)
theorem dX4_write_27 : decode cX4_write 27 = .ok (.iastore, 1) := dk_79 (dk_at dksX4_write_1 5 rfl rfl)
theorem dX4_write_28 : decode cX4_write 28 = .ok (.aload_n 0, 1) := dk_42 (dk_at dksX4_write_1 6 rfl rfl)
theorem dX4_write_29 : decode cX4_write 29 = .ok (.getfield 94, 3) := dk_180 0 94 (dk_at dksX4_write_1 7 rfl rfl)
theorem dX4_write_32 : decode cX4_write 32 = .ok (.sipush 2000, 3) := dk_17 7 208 (dk_at dksX4_write_1 10 rfl rfl)
theorem dX4_write_35 : decode cX4_write 35 = .ok (.aload_n 0, 1) := dk_42 (dk_at dksX4_write_1 13 rfl rfl)
theorem dX4_write_36 : decode cX4_write 36 = .ok (.getfield 316, 3) := dk_180 1 60 (dk_at dksX4_write_1 14 rfl rfl)
theorem dX4_write_39 : decode cX4_write 39 = .ok (.iadd, 1) := dk_96 (dk_at dksX4_write_1 17 rfl rfl)
theorem dX4_write_40 : decode cX4_write 40 = .ok (.iload_n 3, 1) := dk_29 (dk_at dksX4_write_1 18 rfl rfl)
theorem dX4_write_41 : decode cX4_write 41 = .ok (.iastore, 1) := dk_79 (dk_at dksX4_write_1 19 rfl rfl)
theorem dX4_write_42 : decode cX4_write 42 = .ok (.aload_n 0, 1) := dk_42 (dk_at dksX4_write_1 20 rfl rfl)
theorem dX4_write_43 : decode cX4_write 43 = .ok (.dup, 1) := dk_89 (dk_at dksX4_write_1 21 rfl rfl)
theorem dX4_write_44 : decode cX4_write 44 = .ok (.getfield 316, 3) := dk_180 1 60 (dk_at dksX4_write_2 0 rfl rfl)
theorem dX4_write_47 : decode cX4_write 47 = .ok (.iconst 1, 1) := dk_4 (dk_at dksX4_write_2 3 rfl rfl)
theorem dX4_write_48 : decode cX4_write 48 = .ok (.iadd, 1) := dk_96 (dk_at dksX4_write_2 4 rfl rfl)
theorem dX4_write_49 : decode cX4_write 49 = .ok (.putfield 316, 3) := dk_181 1 60 (dk_at dksX4_write_2 5 rfl rfl)
theorem dX4_write_52 : decode cX4_write 52 = .ok (.return_, 1) := dk_177 (dk_at dksX4_write_2 8 rfl rfl)
abbrev cX4_writeDown : ByteArray := prog_18_method_35_code
def yX4_writeDown : MethodName := ⟨RX4, "writeDown", "(I)V"⟩
def dkwX4_writeDown_2 : List UInt8 := [181, 1, 125, 42, 42, 180, 0, 97, 42, 180, 1, 125, 46, 3, 3, 182, 1, 132, 167, 255, 190, 177]
abbrev dktX4_writeDown_2 : List UInt8 := dkwX4_writeDown_2 ++ []
def dkwX4_writeDown_1 : List UInt8 := [180, 0, 97, 42, 180, 1, 125, 4, 100, 46, 184, 1, 128, 27, 161, 0, 31, 42, 89, 180, 1, 125, 4, 100]
abbrev dktX4_writeDown_1 : List UInt8 := dkwX4_writeDown_1 ++ dktX4_writeDown_2
def dkwX4_writeDown_0 : List UInt8 := [42, 180, 1, 125, 158, 0, 65, 42, 180, 0, 97, 42, 180, 1, 125, 4, 100, 46, 16, 23, 159, 0, 49, 42]
abbrev dktX4_writeDown_0 : List UInt8 := dkwX4_writeDown_0 ++ dktX4_writeDown_1
theorem dksX4_writeDown_0 : cX4_writeDown.data.toList.drop 0 = dktX4_writeDown_0 := by decide +kernel
theorem dksX4_writeDown_1 : cX4_writeDown.data.toList.drop 24 = dktX4_writeDown_1 := dk_seg dksX4_writeDown_0 24 rfl rfl
theorem dksX4_writeDown_2 : cX4_writeDown.data.toList.drop 48 = dktX4_writeDown_2 := dk_seg dksX4_writeDown_1 24 rfl rfl
theorem dX4_writeDown_0 : decode cX4_writeDown 0 = .ok (.aload_n 0, 1) := dk_42 (dk_at dksX4_writeDown_0 0 rfl rfl)
theorem dX4_writeDown_1 : decode cX4_writeDown 1 = .ok (.getfield 381, 3) := dk_180 1 125 (dk_at dksX4_writeDown_0 1 rfl rfl)
theorem dX4_writeDown_4 : decode cX4_writeDown 4 = .ok (.ifCond .le 65, 3) := dk_158 0 65 (dk_at dksX4_writeDown_0 4 rfl rfl)
theorem dX4_writeDown_7 : decode cX4_writeDown 7 = .ok (.aload_n 0, 1) := dk_42 (dk_at dksX4_writeDown_0 7 rfl rfl)
theorem dX4_writeDown_8 : decode cX4_writeDown 8 = .ok (.getfield 97, 3) := dk_180 0 97 (dk_at dksX4_writeDown_0 8 rfl rfl)
theorem dX4_writeDown_11 : decode cX4_writeDown 11 = .ok (.aload_n 0, 1) := dk_42 (dk_at dksX4_writeDown_0 11 rfl rfl)
theorem dX4_writeDown_12 : decode cX4_writeDown 12 = .ok (.getfield 381, 3) := dk_180 1 125 (dk_at dksX4_writeDown_0 12 rfl rfl)
theorem dX4_writeDown_15 : decode cX4_writeDown 15 = .ok (.iconst 1, 1) := dk_4 (dk_at dksX4_writeDown_0 15 rfl rfl)
theorem dX4_writeDown_16 : decode cX4_writeDown 16 = .ok (.isub, 1) := dk_100 (dk_at dksX4_writeDown_0 16 rfl rfl)
theorem dX4_writeDown_17 : decode cX4_writeDown 17 = .ok (.iaload, 1) := dk_46 (dk_at dksX4_writeDown_0 17 rfl rfl)
theorem dX4_writeDown_18 : decode cX4_writeDown 18 = .ok (.bipush 23, 2) := dk_16 23 (dk_at dksX4_writeDown_0 18 rfl rfl)
theorem dX4_writeDown_20 : decode cX4_writeDown 20 = .ok (.if_icmp .eq 49, 3) := dk_159 0 49 (dk_at dksX4_writeDown_0 20 rfl rfl)
theorem dX4_writeDown_23 : decode cX4_writeDown 23 = .ok (.aload_n 0, 1) := dk_42 (dk_at dksX4_writeDown_0 23 rfl rfl)
theorem dX4_writeDown_24 : decode cX4_writeDown 24 = .ok (.getfield 97, 3) := dk_180 0 97 (dk_at dksX4_writeDown_1 0 rfl rfl)
theorem dX4_writeDown_27 : decode cX4_writeDown 27 = .ok (.aload_n 0, 1) := dk_42 (dk_at dksX4_writeDown_1 3 rfl rfl)
theorem dX4_writeDown_28 : decode cX4_writeDown 28 = .ok (.getfield 381, 3) := dk_180 1 125 (dk_at dksX4_writeDown_1 4 rfl rfl)
theorem dX4_writeDown_31 : decode cX4_writeDown 31 = .ok (.iconst 1, 1) := dk_4 (dk_at dksX4_writeDown_1 7 rfl rfl)
theorem dX4_writeDown_32 : decode cX4_writeDown 32 = .ok (.isub, 1) := dk_100 (dk_at dksX4_writeDown_1 8 rfl rfl)
theorem dX4_writeDown_33 : decode cX4_writeDown 33 = .ok (.iaload, 1) := dk_46 (dk_at dksX4_writeDown_1 9 rfl rfl)
theorem dX4_writeDown_34 : decode cX4_writeDown 34 = .ok (.invokestatic 384, 3) := dk_184 1 128 (dk_at dksX4_writeDown_1 10 rfl rfl)
theorem dX4_writeDown_37 : decode cX4_writeDown 37 = .ok (.iload_n 1, 1) := dk_27 (dk_at dksX4_writeDown_1 13 rfl rfl)
theorem dX4_writeDown_38 : decode cX4_writeDown 38 = .ok (.if_icmp .lt 31, 3) := dk_161 0 31 (dk_at dksX4_writeDown_1 14 rfl rfl)
theorem dX4_writeDown_41 : decode cX4_writeDown 41 = .ok (.aload_n 0, 1) := dk_42 (dk_at dksX4_writeDown_1 17 rfl rfl)
theorem dX4_writeDown_42 : decode cX4_writeDown 42 = .ok (.dup, 1) := dk_89 (dk_at dksX4_writeDown_1 18 rfl rfl)
theorem dX4_writeDown_43 : decode cX4_writeDown 43 = .ok (.getfield 381, 3) := dk_180 1 125 (dk_at dksX4_writeDown_1 19 rfl rfl)
theorem dX4_writeDown_46 : decode cX4_writeDown 46 = .ok (.iconst 1, 1) := dk_4 (dk_at dksX4_writeDown_1 22 rfl rfl)
theorem dX4_writeDown_47 : decode cX4_writeDown 47 = .ok (.isub, 1) := dk_100 (dk_at dksX4_writeDown_1 23 rfl rfl)
theorem dX4_writeDown_48 : decode cX4_writeDown 48 = .ok (.putfield 381, 3) := dk_181 1 125 (dk_at dksX4_writeDown_2 0 rfl rfl)
theorem dX4_writeDown_51 : decode cX4_writeDown 51 = .ok (.aload_n 0, 1) := dk_42 (dk_at dksX4_writeDown_2 3 rfl rfl)
theorem dX4_writeDown_52 : decode cX4_writeDown 52 = .ok (.aload_n 0, 1) := dk_42 (dk_at dksX4_writeDown_2 4 rfl rfl)
theorem dX4_writeDown_53 : decode cX4_writeDown 53 = .ok (.getfield 97, 3) := dk_180 0 97 (dk_at dksX4_writeDown_2 5 rfl rfl)
theorem dX4_writeDown_56 : decode cX4_writeDown 56 = .ok (.aload_n 0, 1) := dk_42 (dk_at dksX4_writeDown_2 8 rfl rfl)
theorem dX4_writeDown_57 : decode cX4_writeDown 57 = .ok (.getfield 381, 3) := dk_180 1 125 (dk_at dksX4_writeDown_2 9 rfl rfl)
theorem dX4_writeDown_60 : decode cX4_writeDown 60 = .ok (.iaload, 1) := dk_46 (dk_at dksX4_writeDown_2 12 rfl rfl)
theorem dX4_writeDown_61 : decode cX4_writeDown 61 = .ok (.iconst 0, 1) := dk_3 (dk_at dksX4_writeDown_2 13 rfl rfl)
theorem dX4_writeDown_62 : decode cX4_writeDown 62 = .ok (.iconst 0, 1) := dk_3 (dk_at dksX4_writeDown_2 14 rfl rfl)
theorem dX4_writeDown_63 : decode cX4_writeDown 63 = .ok (.invokevirtual 388, 3) := dk_182 1 132 (dk_at dksX4_writeDown_2 15 rfl rfl)
theorem dX4_writeDown_66 : decode cX4_writeDown 66 = .ok (.goto (-66), 3) := dk_167 255 190 (dk_at dksX4_writeDown_2 18 rfl rfl)
theorem dX4_writeDown_69 : decode cX4_writeDown 69 = .ok (.return_, 1) := dk_177 (dk_at dksX4_writeDown_2 21 rfl rfl)
abbrev cX4_binds : ByteArray := prog_18_method_36_code
def yX4_binds : MethodName := ⟨RX4, "binds", "(I)I"⟩
def dkwX4_binds_0 : List UInt8 := [26, 16, 20, 160, 0, 7, 6, 167, 0, 14, 26, 16, 21, 160, 0, 7, 5, 167, 0, 4, 4, 172]
abbrev dktX4_binds_0 : List UInt8 := dkwX4_binds_0 ++ []
theorem dksX4_binds_0 : cX4_binds.data.toList.drop 0 = dktX4_binds_0 := by decide +kernel
theorem dX4_binds_0 : decode cX4_binds 0 = .ok (.iload_n 0, 1) := dk_26 (dk_at dksX4_binds_0 0 rfl rfl)
theorem dX4_binds_1 : decode cX4_binds 1 = .ok (.bipush 20, 2) := dk_16 20 (dk_at dksX4_binds_0 1 rfl rfl)
theorem dX4_binds_3 : decode cX4_binds 3 = .ok (.if_icmp .ne 7, 3) := dk_160 0 7 (dk_at dksX4_binds_0 3 rfl rfl)
theorem dX4_binds_6 : decode cX4_binds 6 = .ok (.iconst 3, 1) := dk_6 (dk_at dksX4_binds_0 6 rfl rfl)
theorem dX4_binds_7 : decode cX4_binds 7 = .ok (.goto 14, 3) := dk_167 0 14 (dk_at dksX4_binds_0 7 rfl rfl)
theorem dX4_binds_10 : decode cX4_binds 10 = .ok (.iload_n 0, 1) := dk_26 (dk_at dksX4_binds_0 10 rfl rfl)
theorem dX4_binds_11 : decode cX4_binds 11 = .ok (.bipush 21, 2) := dk_16 21 (dk_at dksX4_binds_0 11 rfl rfl)
theorem dX4_binds_13 : decode cX4_binds 13 = .ok (.if_icmp .ne 7, 3) := dk_160 0 7 (dk_at dksX4_binds_0 13 rfl rfl)
theorem dX4_binds_16 : decode cX4_binds 16 = .ok (.iconst 2, 1) := dk_5 (dk_at dksX4_binds_0 16 rfl rfl)
theorem dX4_binds_17 : decode cX4_binds 17 = .ok (.goto 4, 3) := dk_167 0 4 (dk_at dksX4_binds_0 17 rfl rfl)
theorem dX4_binds_20 : decode cX4_binds 20 = .ok (.iconst 1, 1) := dk_4 (dk_at dksX4_binds_0 20 rfl rfl)
theorem dX4_binds_21 : decode cX4_binds 21 = .ok (.ireturn, 1) := dk_172 (dk_at dksX4_binds_0 21 rfl rfl)
abbrev cX4_isOpen : ByteArray := prog_18_method_38_code
def yX4_isOpen : MethodName := ⟨RX4, "isOpen", "()Z"⟩
def dkwX4_isOpen_1 : List UInt8 := [132, 1, 1, 167, 255, 232, 3, 172]
abbrev dktX4_isOpen_1 : List UInt8 := dkwX4_isOpen_1 ++ []
def dkwX4_isOpen_0 : List UInt8 := [3, 60, 27, 42, 180, 1, 125, 162, 0, 22, 42, 180, 0, 97, 27, 46, 16, 23, 160, 0, 5, 4, 172]
abbrev dktX4_isOpen_0 : List UInt8 := dkwX4_isOpen_0 ++ dktX4_isOpen_1
theorem dksX4_isOpen_0 : cX4_isOpen.data.toList.drop 0 = dktX4_isOpen_0 := by decide +kernel
theorem dksX4_isOpen_1 : cX4_isOpen.data.toList.drop 23 = dktX4_isOpen_1 := dk_seg dksX4_isOpen_0 23 rfl rfl
theorem dX4_isOpen_0 : decode cX4_isOpen 0 = .ok (.iconst 0, 1) := dk_3 (dk_at dksX4_isOpen_0 0 rfl rfl)
theorem dX4_isOpen_1 : decode cX4_isOpen 1 = .ok (.istore_n 1, 1) := dk_60 (dk_at dksX4_isOpen_0 1 rfl rfl)
theorem dX4_isOpen_2 : decode cX4_isOpen 2 = .ok (.iload_n 1, 1) := dk_27 (dk_at dksX4_isOpen_0 2 rfl rfl)
theorem dX4_isOpen_3 : decode cX4_isOpen 3 = .ok (.aload_n 0, 1) := dk_42 (dk_at dksX4_isOpen_0 3 rfl rfl)
theorem dX4_isOpen_4 : decode cX4_isOpen 4 = .ok (.getfield 381, 3) := dk_180 1 125 (dk_at dksX4_isOpen_0 4 rfl rfl)
theorem dX4_isOpen_7 : decode cX4_isOpen 7 = .ok (.if_icmp .ge 22, 3) := dk_162 0 22 (dk_at dksX4_isOpen_0 7 rfl rfl)
theorem dX4_isOpen_10 : decode cX4_isOpen 10 = .ok (.aload_n 0, 1) := dk_42 (dk_at dksX4_isOpen_0 10 rfl rfl)
theorem dX4_isOpen_11 : decode cX4_isOpen 11 = .ok (.getfield 97, 3) := dk_180 0 97 (dk_at dksX4_isOpen_0 11 rfl rfl)
theorem dX4_isOpen_14 : decode cX4_isOpen 14 = .ok (.iload_n 1, 1) := dk_27 (dk_at dksX4_isOpen_0 14 rfl rfl)
theorem dX4_isOpen_15 : decode cX4_isOpen 15 = .ok (.iaload, 1) := dk_46 (dk_at dksX4_isOpen_0 15 rfl rfl)
theorem dX4_isOpen_16 : decode cX4_isOpen 16 = .ok (.bipush 23, 2) := dk_16 23 (dk_at dksX4_isOpen_0 16 rfl rfl)
theorem dX4_isOpen_18 : decode cX4_isOpen 18 = .ok (.if_icmp .ne 5, 3) := dk_160 0 5 (dk_at dksX4_isOpen_0 18 rfl rfl)
theorem dX4_isOpen_21 : decode cX4_isOpen 21 = .ok (.iconst 1, 1) := dk_4 (dk_at dksX4_isOpen_0 21 rfl rfl)
theorem dX4_isOpen_22 : decode cX4_isOpen 22 = .ok (.ireturn, 1) := dk_172 (dk_at dksX4_isOpen_0 22 rfl rfl)
theorem dX4_isOpen_23 : decode cX4_isOpen 23 = .ok (.iinc 1 1, 3) := dk_132 1 1 (dk_at dksX4_isOpen_1 0 rfl rfl)
theorem dX4_isOpen_26 : decode cX4_isOpen 26 = .ok (.goto (-24), 3) := dk_167 255 232 (dk_at dksX4_isOpen_1 3 rfl rfl)
theorem dX4_isOpen_29 : decode cX4_isOpen 29 = .ok (.iconst 0, 1) := dk_3 (dk_at dksX4_isOpen_1 6 rfl rfl)
theorem dX4_isOpen_30 : decode cX4_isOpen 30 = .ok (.ireturn, 1) := dk_172 (dk_at dksX4_isOpen_1 7 rfl rfl)
abbrev cX4_sign : ByteArray := prog_18_method_26_code
def yX4_sign : MethodName := ⟨RX4, "sign", "(I)Z"⟩
def dkwX4_sign_0 : List UInt8 := [42, 27, 182, 1, 45, 154, 0, 9, 42, 4, 182, 1, 48, 172, 42, 182, 1, 51, 4, 172]
abbrev dktX4_sign_0 : List UInt8 := dkwX4_sign_0 ++ []
theorem dksX4_sign_0 : cX4_sign.data.toList.drop 0 = dktX4_sign_0 := by decide +kernel
theorem dX4_sign_0 : decode cX4_sign 0 = .ok (.aload_n 0, 1) := dk_42 (dk_at dksX4_sign_0 0 rfl rfl)
theorem dX4_sign_1 : decode cX4_sign 1 = .ok (.iload_n 1, 1) := dk_27 (dk_at dksX4_sign_0 1 rfl rfl)
theorem dX4_sign_2 : decode cX4_sign 2 = .ok (.invokevirtual 301, 3) := dk_182 1 45 (dk_at dksX4_sign_0 2 rfl rfl)
theorem dX4_sign_5 : decode cX4_sign 5 = .ok (.ifCond .ne 9, 3) := dk_154 0 9 (dk_at dksX4_sign_0 5 rfl rfl)
theorem dX4_sign_8 : decode cX4_sign 8 = .ok (.aload_n 0, 1) := dk_42 (dk_at dksX4_sign_0 8 rfl rfl)
theorem dX4_sign_9 : decode cX4_sign 9 = .ok (.iconst 1, 1) := dk_4 (dk_at dksX4_sign_0 9 rfl rfl)
theorem dX4_sign_10 : decode cX4_sign 10 = .ok (.invokevirtual 304, 3) := dk_182 1 48 (dk_at dksX4_sign_0 10 rfl rfl)
theorem dX4_sign_13 : decode cX4_sign 13 = .ok (.ireturn, 1) := dk_172 (dk_at dksX4_sign_0 13 rfl rfl)
theorem dX4_sign_14 : decode cX4_sign 14 = .ok (.aload_n 0, 1) := dk_42 (dk_at dksX4_sign_0 14 rfl rfl)
theorem dX4_sign_15 : decode cX4_sign 15 = .ok (.invokevirtual 307, 3) := dk_182 1 51 (dk_at dksX4_sign_0 15 rfl rfl)
theorem dX4_sign_18 : decode cX4_sign 18 = .ok (.iconst 1, 1) := dk_4 (dk_at dksX4_sign_0 18 rfl rfl)
theorem dX4_sign_19 : decode cX4_sign 19 = .ok (.ireturn, 1) := dk_172 (dk_at dksX4_sign_0 19 rfl rfl)
abbrev cX4_fault : ByteArray := prog_18_method_28_code
def yX4_fault : MethodName := ⟨RX4, "fault", "()I"⟩
def dkwX4_fault_0 : List UInt8 := [42, 3, 181, 0, 226, 42, 180, 1, 39, 172]
abbrev dktX4_fault_0 : List UInt8 := dkwX4_fault_0 ++ []
theorem dksX4_fault_0 : cX4_fault.data.toList.drop 0 = dktX4_fault_0 := by decide +kernel
theorem dX4_fault_0 : decode cX4_fault 0 = .ok (.aload_n 0, 1) := dk_42 (dk_at dksX4_fault_0 0 rfl rfl)
theorem dX4_fault_1 : decode cX4_fault 1 = .ok (.iconst 0, 1) := dk_3 (dk_at dksX4_fault_0 1 rfl rfl)
theorem dX4_fault_2 : decode cX4_fault 2 = .ok (.putfield 226, 3) := dk_181 0 226 (dk_at dksX4_fault_0 2 rfl rfl)
theorem dX4_fault_5 : decode cX4_fault 5 = .ok (.aload_n 0, 1) := dk_42 (dk_at dksX4_fault_0 5 rfl rfl)
theorem dX4_fault_6 : decode cX4_fault 6 = .ok (.getfield 295, 3) := dk_180 1 39 (dk_at dksX4_fault_0 6 rfl rfl)
theorem dX4_fault_9 : decode cX4_fault 9 = .ok (.ireturn, 1) := dk_172 (dk_at dksX4_fault_0 9 rfl rfl)
abbrev cX4_learn : ByteArray := prog_18_method_42_code
def yX4_learn : MethodName := ⟨RX4, "learn", "(IIII)Z"⟩
def dkwX4_learn_4 : List UInt8 := [42, 89, 180, 1, 161, 4, 96, 181, 1, 161, 42, 89, 180, 0, 249, 4, 96, 181, 0, 249, 4, 172]
abbrev dktX4_learn_4 : List UInt8 := dkwX4_learn_4 ++ []
def dkwX4_learn_3 : List UInt8 := [42, 180, 0, 106, 42, 180, 1, 161, 21, 4, 79, 42, 180, 0, 109, 42, 180, 1, 161, 42, 180, 0, 246, 79]
abbrev dktX4_learn_3 : List UInt8 := dkwX4_learn_3 ++ dktX4_learn_4
def dkwX4_learn_2 : List UInt8 := [180, 0, 100, 42, 180, 1, 161, 27, 79, 42, 180, 0, 103, 42, 180, 1, 161, 16, 8, 28, 104, 29, 96, 79]
abbrev dktX4_learn_2 : List UInt8 := dkwX4_learn_2 ++ dktX4_learn_3
def dkwX4_learn_1 : List UInt8 := [4, 16, 99, 184, 0, 242, 153, 0, 13, 42, 180, 1, 161, 17, 0, 200, 160, 0, 5, 3, 172, 42]
abbrev dktX4_learn_1 : List UInt8 := dkwX4_learn_1 ++ dktX4_learn_2
def dkwX4_learn_0 : List UInt8 := [42, 3, 181, 0, 226, 42, 27, 182, 1, 54, 153, 0, 33, 42, 28, 29, 182, 1, 157, 153, 0, 24, 21, 4]
abbrev dktX4_learn_0 : List UInt8 := dkwX4_learn_0 ++ dktX4_learn_1
theorem dksX4_learn_0 : cX4_learn.data.toList.drop 0 = dktX4_learn_0 := by decide +kernel
theorem dksX4_learn_1 : cX4_learn.data.toList.drop 24 = dktX4_learn_1 := dk_seg dksX4_learn_0 24 rfl rfl
theorem dksX4_learn_2 : cX4_learn.data.toList.drop 46 = dktX4_learn_2 := dk_seg dksX4_learn_1 22 rfl rfl
theorem dksX4_learn_3 : cX4_learn.data.toList.drop 70 = dktX4_learn_3 := dk_seg dksX4_learn_2 24 rfl rfl
theorem dksX4_learn_4 : cX4_learn.data.toList.drop 94 = dktX4_learn_4 := dk_seg dksX4_learn_3 24 rfl rfl
theorem dX4_learn_0 : decode cX4_learn 0 = .ok (.aload_n 0, 1) := dk_42 (dk_at dksX4_learn_0 0 rfl rfl)
theorem dX4_learn_1 : decode cX4_learn 1 = .ok (.iconst 0, 1) := dk_3 (dk_at dksX4_learn_0 1 rfl rfl)
theorem dX4_learn_2 : decode cX4_learn 2 = .ok (.putfield 226, 3) := dk_181 0 226 (dk_at dksX4_learn_0 2 rfl rfl)
theorem dX4_learn_5 : decode cX4_learn 5 = .ok (.aload_n 0, 1) := dk_42 (dk_at dksX4_learn_0 5 rfl rfl)
theorem dX4_learn_6 : decode cX4_learn 6 = .ok (.iload_n 1, 1) := dk_27 (dk_at dksX4_learn_0 6 rfl rfl)
theorem dX4_learn_7 : decode cX4_learn 7 = .ok (.invokevirtual 310, 3) := dk_182 1 54 (dk_at dksX4_learn_0 7 rfl rfl)
theorem dX4_learn_10 : decode cX4_learn 10 = .ok (.ifCond .eq 33, 3) := dk_153 0 33 (dk_at dksX4_learn_0 10 rfl rfl)
theorem dX4_learn_13 : decode cX4_learn 13 = .ok (.aload_n 0, 1) := dk_42 (dk_at dksX4_learn_0 13 rfl rfl)
theorem dX4_learn_14 : decode cX4_learn 14 = .ok (.iload_n 2, 1) := dk_28 (dk_at dksX4_learn_0 14 rfl rfl)
theorem dX4_learn_15 : decode cX4_learn 15 = .ok (.iload_n 3, 1) := dk_29 (dk_at dksX4_learn_0 15 rfl rfl)
theorem dX4_learn_16 : decode cX4_learn 16 = .ok (.invokevirtual 413, 3) := dk_182 1 157 (dk_at dksX4_learn_0 16 rfl rfl)
theorem dX4_learn_19 : decode cX4_learn 19 = .ok (.ifCond .eq 24, 3) := dk_153 0 24 (dk_at dksX4_learn_0 19 rfl rfl)
theorem dX4_learn_22 : decode cX4_learn 22 = .ok (.iload 4, 2) := dk_21 4 (dk_at dksX4_learn_0 22 rfl rfl)
theorem dX4_learn_24 : decode cX4_learn 24 = .ok (.iconst 1, 1) := dk_4 (dk_at dksX4_learn_1 0 rfl rfl)
theorem dX4_learn_25 : decode cX4_learn 25 = .ok (.bipush 99, 2) := dk_16 99 (dk_at dksX4_learn_1 1 rfl rfl)
theorem dX4_learn_27 : decode cX4_learn 27 = .ok (.invokestatic 242, 3) := dk_184 0 242 (dk_at dksX4_learn_1 3 rfl rfl)
theorem dX4_learn_30 : decode cX4_learn 30 = .ok (.ifCond .eq 13, 3) := dk_153 0 13 (dk_at dksX4_learn_1 6 rfl rfl)
theorem dX4_learn_33 : decode cX4_learn 33 = .ok (.aload_n 0, 1) := dk_42 (dk_at dksX4_learn_1 9 rfl rfl)
theorem dX4_learn_34 : decode cX4_learn 34 = .ok (.getfield 417, 3) := dk_180 1 161 (dk_at dksX4_learn_1 10 rfl rfl)
theorem dX4_learn_37 : decode cX4_learn 37 = .ok (.sipush 200, 3) := dk_17 0 200 (dk_at dksX4_learn_1 13 rfl rfl)
theorem dX4_learn_40 : decode cX4_learn 40 = .ok (.if_icmp .ne 5, 3) := dk_160 0 5 (dk_at dksX4_learn_1 16 rfl rfl)
theorem dX4_learn_43 : decode cX4_learn 43 = .ok (.iconst 0, 1) := dk_3 (dk_at dksX4_learn_1 19 rfl rfl)
theorem dX4_learn_44 : decode cX4_learn 44 = .ok (.ireturn, 1) := dk_172 (dk_at dksX4_learn_1 20 rfl rfl)
theorem dX4_learn_45 : decode cX4_learn 45 = .ok (.aload_n 0, 1) := dk_42 (dk_at dksX4_learn_1 21 rfl rfl)
theorem dX4_learn_46 : decode cX4_learn 46 = .ok (.getfield 100, 3) := dk_180 0 100 (dk_at dksX4_learn_2 0 rfl rfl)
theorem dX4_learn_49 : decode cX4_learn 49 = .ok (.aload_n 0, 1) := dk_42 (dk_at dksX4_learn_2 3 rfl rfl)
theorem dX4_learn_50 : decode cX4_learn 50 = .ok (.getfield 417, 3) := dk_180 1 161 (dk_at dksX4_learn_2 4 rfl rfl)
theorem dX4_learn_53 : decode cX4_learn 53 = .ok (.iload_n 1, 1) := dk_27 (dk_at dksX4_learn_2 7 rfl rfl)
theorem dX4_learn_54 : decode cX4_learn 54 = .ok (.iastore, 1) := dk_79 (dk_at dksX4_learn_2 8 rfl rfl)
theorem dX4_learn_55 : decode cX4_learn 55 = .ok (.aload_n 0, 1) := dk_42 (dk_at dksX4_learn_2 9 rfl rfl)
theorem dX4_learn_56 : decode cX4_learn 56 = .ok (.getfield 103, 3) := dk_180 0 103 (dk_at dksX4_learn_2 10 rfl rfl)
theorem dX4_learn_59 : decode cX4_learn 59 = .ok (.aload_n 0, 1) := dk_42 (dk_at dksX4_learn_2 13 rfl rfl)
theorem dX4_learn_60 : decode cX4_learn 60 = .ok (.getfield 417, 3) := dk_180 1 161 (dk_at dksX4_learn_2 14 rfl rfl)
theorem dX4_learn_63 : decode cX4_learn 63 = .ok (.bipush 8, 2) := dk_16 8 (dk_at dksX4_learn_2 17 rfl rfl)
theorem dX4_learn_65 : decode cX4_learn 65 = .ok (.iload_n 2, 1) := dk_28 (dk_at dksX4_learn_2 19 rfl rfl)
theorem dX4_learn_66 : decode cX4_learn 66 = .ok (.imul, 1) := dk_104 (dk_at dksX4_learn_2 20 rfl rfl)
theorem dX4_learn_67 : decode cX4_learn 67 = .ok (.iload_n 3, 1) := dk_29 (dk_at dksX4_learn_2 21 rfl rfl)
theorem dX4_learn_68 : decode cX4_learn 68 = .ok (.iadd, 1) := dk_96 (dk_at dksX4_learn_2 22 rfl rfl)
theorem dX4_learn_69 : decode cX4_learn 69 = .ok (.iastore, 1) := dk_79 (dk_at dksX4_learn_2 23 rfl rfl)
theorem dX4_learn_70 : decode cX4_learn 70 = .ok (.aload_n 0, 1) := dk_42 (dk_at dksX4_learn_3 0 rfl rfl)
theorem dX4_learn_71 : decode cX4_learn 71 = .ok (.getfield 106, 3) := dk_180 0 106 (dk_at dksX4_learn_3 1 rfl rfl)
theorem dX4_learn_74 : decode cX4_learn 74 = .ok (.aload_n 0, 1) := dk_42 (dk_at dksX4_learn_3 4 rfl rfl)
theorem dX4_learn_75 : decode cX4_learn 75 = .ok (.getfield 417, 3) := dk_180 1 161 (dk_at dksX4_learn_3 5 rfl rfl)
theorem dX4_learn_78 : decode cX4_learn 78 = .ok (.iload 4, 2) := dk_21 4 (dk_at dksX4_learn_3 8 rfl rfl)
theorem dX4_learn_80 : decode cX4_learn 80 = .ok (.iastore, 1) := dk_79 (dk_at dksX4_learn_3 10 rfl rfl)
theorem dX4_learn_81 : decode cX4_learn 81 = .ok (.aload_n 0, 1) := dk_42 (dk_at dksX4_learn_3 11 rfl rfl)
theorem dX4_learn_82 : decode cX4_learn 82 = .ok (.getfield 109, 3) := dk_180 0 109 (dk_at dksX4_learn_3 12 rfl rfl)
theorem dX4_learn_85 : decode cX4_learn 85 = .ok (.aload_n 0, 1) := dk_42 (dk_at dksX4_learn_3 15 rfl rfl)
theorem dX4_learn_86 : decode cX4_learn 86 = .ok (.getfield 417, 3) := dk_180 1 161 (dk_at dksX4_learn_3 16 rfl rfl)
theorem dX4_learn_89 : decode cX4_learn 89 = .ok (.aload_n 0, 1) := dk_42 (dk_at dksX4_learn_3 19 rfl rfl)
theorem dX4_learn_90 : decode cX4_learn 90 = .ok (.getfield 246, 3) := dk_180 0 246 (dk_at dksX4_learn_3 20 rfl rfl)
theorem dX4_learn_93 : decode cX4_learn 93 = .ok (.iastore, 1) := dk_79 (dk_at dksX4_learn_3 23 rfl rfl)
theorem dX4_learn_94 : decode cX4_learn 94 = .ok (.aload_n 0, 1) := dk_42 (dk_at dksX4_learn_4 0 rfl rfl)
theorem dX4_learn_95 : decode cX4_learn 95 = .ok (.dup, 1) := dk_89 (dk_at dksX4_learn_4 1 rfl rfl)
theorem dX4_learn_96 : decode cX4_learn 96 = .ok (.getfield 417, 3) := dk_180 1 161 (dk_at dksX4_learn_4 2 rfl rfl)
theorem dX4_learn_99 : decode cX4_learn 99 = .ok (.iconst 1, 1) := dk_4 (dk_at dksX4_learn_4 5 rfl rfl)
theorem dX4_learn_100 : decode cX4_learn 100 = .ok (.iadd, 1) := dk_96 (dk_at dksX4_learn_4 6 rfl rfl)
theorem dX4_learn_101 : decode cX4_learn 101 = .ok (.putfield 417, 3) := dk_181 1 161 (dk_at dksX4_learn_4 7 rfl rfl)
theorem dX4_learn_104 : decode cX4_learn 104 = .ok (.aload_n 0, 1) := dk_42 (dk_at dksX4_learn_4 10 rfl rfl)
theorem dX4_learn_105 : decode cX4_learn 105 = .ok (.dup, 1) := dk_89 (dk_at dksX4_learn_4 11 rfl rfl)
theorem dX4_learn_106 : decode cX4_learn 106 = .ok (.getfield 249, 3) := dk_180 0 249 (dk_at dksX4_learn_4 12 rfl rfl)
theorem dX4_learn_109 : decode cX4_learn 109 = .ok (.iconst 1, 1) := dk_4 (dk_at dksX4_learn_4 15 rfl rfl)
theorem dX4_learn_110 : decode cX4_learn 110 = .ok (.iadd, 1) := dk_96 (dk_at dksX4_learn_4 16 rfl rfl)
theorem dX4_learn_111 : decode cX4_learn 111 = .ok (.putfield 249, 3) := dk_181 0 249 (dk_at dksX4_learn_4 17 rfl rfl)
theorem dX4_learn_114 : decode cX4_learn 114 = .ok (.iconst 1, 1) := dk_4 (dk_at dksX4_learn_4 20 rfl rfl)
theorem dX4_learn_115 : decode cX4_learn 115 = .ok (.ireturn, 1) := dk_172 (dk_at dksX4_learn_4 21 rfl rfl)
abbrev cX4_isRole : ByteArray := prog_18_method_11_code
def yX4_isRole : MethodName := ⟨RX4, "isRole", "(II)Z"⟩
def dkwX4_isRole_1 : List UInt8 := [184, 0, 242, 153, 0, 7, 4, 167, 0, 4, 3, 172]
abbrev dktX4_isRole_1 : List UInt8 := dkwX4_isRole_1 ++ []
def dkwX4_isRole_0 : List UInt8 := [27, 3, 42, 180, 0, 255, 4, 100, 184, 0, 242, 153, 0, 23, 28, 3, 42, 180, 0, 26, 27, 46, 4, 100]
abbrev dktX4_isRole_0 : List UInt8 := dkwX4_isRole_0 ++ dktX4_isRole_1
theorem dksX4_isRole_0 : cX4_isRole.data.toList.drop 0 = dktX4_isRole_0 := by decide +kernel
theorem dksX4_isRole_1 : cX4_isRole.data.toList.drop 24 = dktX4_isRole_1 := dk_seg dksX4_isRole_0 24 rfl rfl
theorem dX4_isRole_0 : decode cX4_isRole 0 = .ok (.iload_n 1, 1) := dk_27 (dk_at dksX4_isRole_0 0 rfl rfl)
theorem dX4_isRole_1 : decode cX4_isRole 1 = .ok (.iconst 0, 1) := dk_3 (dk_at dksX4_isRole_0 1 rfl rfl)
theorem dX4_isRole_2 : decode cX4_isRole 2 = .ok (.aload_n 0, 1) := dk_42 (dk_at dksX4_isRole_0 2 rfl rfl)
theorem dX4_isRole_3 : decode cX4_isRole 3 = .ok (.getfield 255, 3) := dk_180 0 255 (dk_at dksX4_isRole_0 3 rfl rfl)
theorem dX4_isRole_6 : decode cX4_isRole 6 = .ok (.iconst 1, 1) := dk_4 (dk_at dksX4_isRole_0 6 rfl rfl)
theorem dX4_isRole_7 : decode cX4_isRole 7 = .ok (.isub, 1) := dk_100 (dk_at dksX4_isRole_0 7 rfl rfl)
theorem dX4_isRole_8 : decode cX4_isRole 8 = .ok (.invokestatic 242, 3) := dk_184 0 242 (dk_at dksX4_isRole_0 8 rfl rfl)
theorem dX4_isRole_11 : decode cX4_isRole 11 = .ok (.ifCond .eq 23, 3) := dk_153 0 23 (dk_at dksX4_isRole_0 11 rfl rfl)
theorem dX4_isRole_14 : decode cX4_isRole 14 = .ok (.iload_n 2, 1) := dk_28 (dk_at dksX4_isRole_0 14 rfl rfl)
theorem dX4_isRole_15 : decode cX4_isRole 15 = .ok (.iconst 0, 1) := dk_3 (dk_at dksX4_isRole_0 15 rfl rfl)
theorem dX4_isRole_16 : decode cX4_isRole 16 = .ok (.aload_n 0, 1) := dk_42 (dk_at dksX4_isRole_0 16 rfl rfl)
theorem dX4_isRole_17 : decode cX4_isRole 17 = .ok (.getfield 26, 3) := dk_180 0 26 (dk_at dksX4_isRole_0 17 rfl rfl)
theorem dX4_isRole_20 : decode cX4_isRole 20 = .ok (.iload_n 1, 1) := dk_27 (dk_at dksX4_isRole_0 20 rfl rfl)
theorem dX4_isRole_21 : decode cX4_isRole 21 = .ok (.iaload, 1) := dk_46 (dk_at dksX4_isRole_0 21 rfl rfl)
theorem dX4_isRole_22 : decode cX4_isRole 22 = .ok (.iconst 1, 1) := dk_4 (dk_at dksX4_isRole_0 22 rfl rfl)
theorem dX4_isRole_23 : decode cX4_isRole 23 = .ok (.isub, 1) := dk_100 (dk_at dksX4_isRole_0 23 rfl rfl)
theorem dX4_isRole_24 : decode cX4_isRole 24 = .ok (.invokestatic 242, 3) := dk_184 0 242 (dk_at dksX4_isRole_1 0 rfl rfl)
theorem dX4_isRole_27 : decode cX4_isRole 27 = .ok (.ifCond .eq 7, 3) := dk_153 0 7 (dk_at dksX4_isRole_1 3 rfl rfl)
theorem dX4_isRole_30 : decode cX4_isRole 30 = .ok (.iconst 1, 1) := dk_4 (dk_at dksX4_isRole_1 6 rfl rfl)
theorem dX4_isRole_31 : decode cX4_isRole 31 = .ok (.goto 4, 3) := dk_167 0 4 (dk_at dksX4_isRole_1 7 rfl rfl)
theorem dX4_isRole_34 : decode cX4_isRole 34 = .ok (.iconst 0, 1) := dk_3 (dk_at dksX4_isRole_1 10 rfl rfl)
theorem dX4_isRole_35 : decode cX4_isRole 35 = .ok (.ireturn, 1) := dk_172 (dk_at dksX4_isRole_1 11 rfl rfl)
abbrev cX4_call : ByteArray := prog_18_method_45_code
def yX4_call : MethodName := ⟨RX4, "call", "(IIIII)I"⟩
def dkwX4_call_5 : List UInt8 := [181, 0, 249, 42, 180, 1, 167, 4, 100, 172]
abbrev dktX4_call_5 : List UInt8 := dkwX4_call_5 ++ []
def dkwX4_call_4 : List UInt8 := [21, 4, 21, 5, 182, 1, 170, 42, 89, 180, 1, 167, 4, 96, 181, 1, 167, 42, 89, 180, 0, 249, 4, 96]
abbrev dktX4_call_4 : List UInt8 := dkwX4_call_4 ++ dktX4_call_5
def dkwX4_call_3 : List UInt8 := [42, 29, 21, 4, 182, 1, 164, 96, 16, 24, 164, 0, 5, 2, 172, 42, 42, 180, 1, 167, 27, 28, 29]
abbrev dktX4_call_3 : List UInt8 := dkwX4_call_3 ++ dktX4_call_4
def dkwX4_call_2 : List UInt8 := [3, 42, 180, 0, 255, 4, 100, 184, 0, 242, 153, 0, 27, 21, 5, 3, 6, 184, 0, 242, 153, 0, 17, 28]
abbrev dktX4_call_2 : List UInt8 := dkwX4_call_2 ++ dktX4_call_3
def dkwX4_call_1 : List UInt8 := [153, 0, 61, 28, 3, 16, 23, 184, 0, 242, 153, 0, 51, 29, 3, 6, 184, 0, 242, 153, 0, 42, 21, 4]
abbrev dktX4_call_1 : List UInt8 := dkwX4_call_1 ++ dktX4_call_2
def dkwX4_call_0 : List UInt8 := [42, 3, 181, 0, 226, 42, 180, 1, 167, 16, 60, 159, 0, 74, 27, 42, 180, 0, 246, 16, 29, 184, 0, 242]
abbrev dktX4_call_0 : List UInt8 := dkwX4_call_0 ++ dktX4_call_1
theorem dksX4_call_0 : cX4_call.data.toList.drop 0 = dktX4_call_0 := by decide +kernel
theorem dksX4_call_1 : cX4_call.data.toList.drop 24 = dktX4_call_1 := dk_seg dksX4_call_0 24 rfl rfl
theorem dksX4_call_2 : cX4_call.data.toList.drop 48 = dktX4_call_2 := dk_seg dksX4_call_1 24 rfl rfl
theorem dksX4_call_3 : cX4_call.data.toList.drop 72 = dktX4_call_3 := dk_seg dksX4_call_2 24 rfl rfl
theorem dksX4_call_4 : cX4_call.data.toList.drop 95 = dktX4_call_4 := dk_seg dksX4_call_3 23 rfl rfl
theorem dksX4_call_5 : cX4_call.data.toList.drop 119 = dktX4_call_5 := dk_seg dksX4_call_4 24 rfl rfl
theorem dX4_call_0 : decode cX4_call 0 = .ok (.aload_n 0, 1) := dk_42 (dk_at dksX4_call_0 0 rfl rfl)
theorem dX4_call_1 : decode cX4_call 1 = .ok (.iconst 0, 1) := dk_3 (dk_at dksX4_call_0 1 rfl rfl)
theorem dX4_call_2 : decode cX4_call 2 = .ok (.putfield 226, 3) := dk_181 0 226 (dk_at dksX4_call_0 2 rfl rfl)
theorem dX4_call_5 : decode cX4_call 5 = .ok (.aload_n 0, 1) := dk_42 (dk_at dksX4_call_0 5 rfl rfl)
theorem dX4_call_6 : decode cX4_call 6 = .ok (.getfield 423, 3) := dk_180 1 167 (dk_at dksX4_call_0 6 rfl rfl)
theorem dX4_call_9 : decode cX4_call 9 = .ok (.bipush 60, 2) := dk_16 60 (dk_at dksX4_call_0 9 rfl rfl)
theorem dX4_call_11 : decode cX4_call 11 = .ok (.if_icmp .eq 74, 3) := dk_159 0 74 (dk_at dksX4_call_0 11 rfl rfl)
theorem dX4_call_14 : decode cX4_call 14 = .ok (.iload_n 1, 1) := dk_27 (dk_at dksX4_call_0 14 rfl rfl)
theorem dX4_call_15 : decode cX4_call 15 = .ok (.aload_n 0, 1) := dk_42 (dk_at dksX4_call_0 15 rfl rfl)
theorem dX4_call_16 : decode cX4_call 16 = .ok (.getfield 246, 3) := dk_180 0 246 (dk_at dksX4_call_0 16 rfl rfl)
theorem dX4_call_19 : decode cX4_call 19 = .ok (.bipush 29, 2) := dk_16 29 (dk_at dksX4_call_0 19 rfl rfl)
theorem dX4_call_21 : decode cX4_call 21 = .ok (.invokestatic 242, 3) := dk_184 0 242 (dk_at dksX4_call_0 21 rfl rfl)
theorem dX4_call_24 : decode cX4_call 24 = .ok (.ifCond .eq 61, 3) := dk_153 0 61 (dk_at dksX4_call_1 0 rfl rfl)
theorem dX4_call_27 : decode cX4_call 27 = .ok (.iload_n 2, 1) := dk_28 (dk_at dksX4_call_1 3 rfl rfl)
theorem dX4_call_28 : decode cX4_call 28 = .ok (.iconst 0, 1) := dk_3 (dk_at dksX4_call_1 4 rfl rfl)
theorem dX4_call_29 : decode cX4_call 29 = .ok (.bipush 23, 2) := dk_16 23 (dk_at dksX4_call_1 5 rfl rfl)
theorem dX4_call_31 : decode cX4_call 31 = .ok (.invokestatic 242, 3) := dk_184 0 242 (dk_at dksX4_call_1 7 rfl rfl)
theorem dX4_call_34 : decode cX4_call 34 = .ok (.ifCond .eq 51, 3) := dk_153 0 51 (dk_at dksX4_call_1 10 rfl rfl)
theorem dX4_call_37 : decode cX4_call 37 = .ok (.iload_n 3, 1) := dk_29 (dk_at dksX4_call_1 13 rfl rfl)
theorem dX4_call_38 : decode cX4_call 38 = .ok (.iconst 0, 1) := dk_3 (dk_at dksX4_call_1 14 rfl rfl)
theorem dX4_call_39 : decode cX4_call 39 = .ok (.iconst 3, 1) := dk_6 (dk_at dksX4_call_1 15 rfl rfl)
theorem dX4_call_40 : decode cX4_call 40 = .ok (.invokestatic 242, 3) := dk_184 0 242 (dk_at dksX4_call_1 16 rfl rfl)
theorem dX4_call_43 : decode cX4_call 43 = .ok (.ifCond .eq 42, 3) := dk_153 0 42 (dk_at dksX4_call_1 19 rfl rfl)
theorem dX4_call_46 : decode cX4_call 46 = .ok (.iload 4, 2) := dk_21 4 (dk_at dksX4_call_1 22 rfl rfl)
theorem dX4_call_48 : decode cX4_call 48 = .ok (.iconst 0, 1) := dk_3 (dk_at dksX4_call_2 0 rfl rfl)
theorem dX4_call_49 : decode cX4_call 49 = .ok (.aload_n 0, 1) := dk_42 (dk_at dksX4_call_2 1 rfl rfl)
theorem dX4_call_50 : decode cX4_call 50 = .ok (.getfield 255, 3) := dk_180 0 255 (dk_at dksX4_call_2 2 rfl rfl)
theorem dX4_call_53 : decode cX4_call 53 = .ok (.iconst 1, 1) := dk_4 (dk_at dksX4_call_2 5 rfl rfl)
theorem dX4_call_54 : decode cX4_call 54 = .ok (.isub, 1) := dk_100 (dk_at dksX4_call_2 6 rfl rfl)
theorem dX4_call_55 : decode cX4_call 55 = .ok (.invokestatic 242, 3) := dk_184 0 242 (dk_at dksX4_call_2 7 rfl rfl)
theorem dX4_call_58 : decode cX4_call 58 = .ok (.ifCond .eq 27, 3) := dk_153 0 27 (dk_at dksX4_call_2 10 rfl rfl)
theorem dX4_call_61 : decode cX4_call 61 = .ok (.iload 5, 2) := dk_21 5 (dk_at dksX4_call_2 13 rfl rfl)
theorem dX4_call_63 : decode cX4_call 63 = .ok (.iconst 0, 1) := dk_3 (dk_at dksX4_call_2 15 rfl rfl)
theorem dX4_call_64 : decode cX4_call 64 = .ok (.iconst 3, 1) := dk_6 (dk_at dksX4_call_2 16 rfl rfl)
theorem dX4_call_65 : decode cX4_call 65 = .ok (.invokestatic 242, 3) := dk_184 0 242 (dk_at dksX4_call_2 17 rfl rfl)
theorem dX4_call_68 : decode cX4_call 68 = .ok (.ifCond .eq 17, 3) := dk_153 0 17 (dk_at dksX4_call_2 20 rfl rfl)
theorem dX4_call_71 : decode cX4_call 71 = .ok (.iload_n 2, 1) := dk_28 (dk_at dksX4_call_2 23 rfl rfl)
theorem dX4_call_72 : decode cX4_call 72 = .ok (.aload_n 0, 1) := dk_42 (dk_at dksX4_call_3 0 rfl rfl)
theorem dX4_call_73 : decode cX4_call 73 = .ok (.iload_n 3, 1) := dk_29 (dk_at dksX4_call_3 1 rfl rfl)
theorem dX4_call_74 : decode cX4_call 74 = .ok (.iload 4, 2) := dk_21 4 (dk_at dksX4_call_3 2 rfl rfl)
theorem dX4_call_76 : decode cX4_call 76 = .ok (.invokevirtual 420, 3) := dk_182 1 164 (dk_at dksX4_call_3 4 rfl rfl)
theorem dX4_call_79 : decode cX4_call 79 = .ok (.iadd, 1) := dk_96 (dk_at dksX4_call_3 7 rfl rfl)
theorem dX4_call_80 : decode cX4_call 80 = .ok (.bipush 24, 2) := dk_16 24 (dk_at dksX4_call_3 8 rfl rfl)
theorem dX4_call_82 : decode cX4_call 82 = .ok (.if_icmp .le 5, 3) := dk_164 0 5 (dk_at dksX4_call_3 10 rfl rfl)
theorem dX4_call_85 : decode cX4_call 85 = .ok (.iconst (-1), 1) := dk_2 (dk_at dksX4_call_3 13 rfl rfl)
theorem dX4_call_86 : decode cX4_call 86 = .ok (.ireturn, 1) := dk_172 (dk_at dksX4_call_3 14 rfl rfl)
theorem dX4_call_87 : decode cX4_call 87 = .ok (.aload_n 0, 1) := dk_42 (dk_at dksX4_call_3 15 rfl rfl)
theorem dX4_call_88 : decode cX4_call 88 = .ok (.aload_n 0, 1) := dk_42 (dk_at dksX4_call_3 16 rfl rfl)
theorem dX4_call_89 : decode cX4_call 89 = .ok (.getfield 423, 3) := dk_180 1 167 (dk_at dksX4_call_3 17 rfl rfl)
theorem dX4_call_92 : decode cX4_call 92 = .ok (.iload_n 1, 1) := dk_27 (dk_at dksX4_call_3 20 rfl rfl)
theorem dX4_call_93 : decode cX4_call 93 = .ok (.iload_n 2, 1) := dk_28 (dk_at dksX4_call_3 21 rfl rfl)
theorem dX4_call_94 : decode cX4_call 94 = .ok (.iload_n 3, 1) := dk_29 (dk_at dksX4_call_3 22 rfl rfl)
theorem dX4_call_95 : decode cX4_call 95 = .ok (.iload 4, 2) := dk_21 4 (dk_at dksX4_call_4 0 rfl rfl)
theorem dX4_call_97 : decode cX4_call 97 = .ok (.iload 5, 2) := dk_21 5 (dk_at dksX4_call_4 2 rfl rfl)
theorem dX4_call_99 : decode cX4_call 99 = .ok (.invokevirtual 426, 3) := dk_182 1 170 (dk_at dksX4_call_4 4 rfl rfl)
theorem dX4_call_102 : decode cX4_call 102 = .ok (.aload_n 0, 1) := dk_42 (dk_at dksX4_call_4 7 rfl rfl)
theorem dX4_call_103 : decode cX4_call 103 = .ok (.dup, 1) := dk_89 (dk_at dksX4_call_4 8 rfl rfl)
theorem dX4_call_104 : decode cX4_call 104 = .ok (.getfield 423, 3) := dk_180 1 167 (dk_at dksX4_call_4 9 rfl rfl)
theorem dX4_call_107 : decode cX4_call 107 = .ok (.iconst 1, 1) := dk_4 (dk_at dksX4_call_4 12 rfl rfl)
theorem dX4_call_108 : decode cX4_call 108 = .ok (.iadd, 1) := dk_96 (dk_at dksX4_call_4 13 rfl rfl)
theorem dX4_call_109 : decode cX4_call 109 = .ok (.putfield 423, 3) := dk_181 1 167 (dk_at dksX4_call_4 14 rfl rfl)
theorem dX4_call_112 : decode cX4_call 112 = .ok (.aload_n 0, 1) := dk_42 (dk_at dksX4_call_4 17 rfl rfl)
theorem dX4_call_113 : decode cX4_call 113 = .ok (.dup, 1) := dk_89 (dk_at dksX4_call_4 18 rfl rfl)
theorem dX4_call_114 : decode cX4_call 114 = .ok (.getfield 249, 3) := dk_180 0 249 (dk_at dksX4_call_4 19 rfl rfl)
theorem dX4_call_117 : decode cX4_call 117 = .ok (.iconst 1, 1) := dk_4 (dk_at dksX4_call_4 22 rfl rfl)
theorem dX4_call_118 : decode cX4_call 118 = .ok (.iadd, 1) := dk_96 (dk_at dksX4_call_4 23 rfl rfl)
theorem dX4_call_119 : decode cX4_call 119 = .ok (.putfield 249, 3) := dk_181 0 249 (dk_at dksX4_call_5 0 rfl rfl)
theorem dX4_call_122 : decode cX4_call 122 = .ok (.aload_n 0, 1) := dk_42 (dk_at dksX4_call_5 3 rfl rfl)
theorem dX4_call_123 : decode cX4_call 123 = .ok (.getfield 423, 3) := dk_180 1 167 (dk_at dksX4_call_5 4 rfl rfl)
theorem dX4_call_126 : decode cX4_call 126 = .ok (.iconst 1, 1) := dk_4 (dk_at dksX4_call_5 7 rfl rfl)
theorem dX4_call_127 : decode cX4_call 127 = .ok (.isub, 1) := dk_100 (dk_at dksX4_call_5 8 rfl rfl)
theorem dX4_call_128 : decode cX4_call 128 = .ok (.ireturn, 1) := dk_172 (dk_at dksX4_call_5 9 rfl rfl)
abbrev cX4_lengthOf : ByteArray := prog_18_method_43_code
def yX4_lengthOf : MethodName := ⟨RX4, "lengthOf", "(II)I"⟩
def dkwX4_lengthOf_0 : List UInt8 := [27, 154, 0, 7, 5, 167, 0, 18, 27, 4, 160, 0, 7, 6, 167, 0, 9, 42, 180, 0, 13, 28, 46, 172]
abbrev dktX4_lengthOf_0 : List UInt8 := dkwX4_lengthOf_0 ++ []
theorem dksX4_lengthOf_0 : cX4_lengthOf.data.toList.drop 0 = dktX4_lengthOf_0 := by decide +kernel
theorem dX4_lengthOf_0 : decode cX4_lengthOf 0 = .ok (.iload_n 1, 1) := dk_27 (dk_at dksX4_lengthOf_0 0 rfl rfl)
theorem dX4_lengthOf_1 : decode cX4_lengthOf 1 = .ok (.ifCond .ne 7, 3) := dk_154 0 7 (dk_at dksX4_lengthOf_0 1 rfl rfl)
theorem dX4_lengthOf_4 : decode cX4_lengthOf 4 = .ok (.iconst 2, 1) := dk_5 (dk_at dksX4_lengthOf_0 4 rfl rfl)
theorem dX4_lengthOf_5 : decode cX4_lengthOf 5 = .ok (.goto 18, 3) := dk_167 0 18 (dk_at dksX4_lengthOf_0 5 rfl rfl)
theorem dX4_lengthOf_8 : decode cX4_lengthOf 8 = .ok (.iload_n 1, 1) := dk_27 (dk_at dksX4_lengthOf_0 8 rfl rfl)
theorem dX4_lengthOf_9 : decode cX4_lengthOf 9 = .ok (.iconst 1, 1) := dk_4 (dk_at dksX4_lengthOf_0 9 rfl rfl)
theorem dX4_lengthOf_10 : decode cX4_lengthOf 10 = .ok (.if_icmp .ne 7, 3) := dk_160 0 7 (dk_at dksX4_lengthOf_0 10 rfl rfl)
theorem dX4_lengthOf_13 : decode cX4_lengthOf 13 = .ok (.iconst 3, 1) := dk_6 (dk_at dksX4_lengthOf_0 13 rfl rfl)
theorem dX4_lengthOf_14 : decode cX4_lengthOf 14 = .ok (.goto 9, 3) := dk_167 0 9 (dk_at dksX4_lengthOf_0 14 rfl rfl)
theorem dX4_lengthOf_17 : decode cX4_lengthOf 17 = .ok (.aload_n 0, 1) := dk_42 (dk_at dksX4_lengthOf_0 17 rfl rfl)
theorem dX4_lengthOf_18 : decode cX4_lengthOf 18 = .ok (.getfield 13, 3) := dk_180 0 13 (dk_at dksX4_lengthOf_0 18 rfl rfl)
theorem dX4_lengthOf_21 : decode cX4_lengthOf 21 = .ok (.iload_n 2, 1) := dk_28 (dk_at dksX4_lengthOf_0 21 rfl rfl)
theorem dX4_lengthOf_22 : decode cX4_lengthOf 22 = .ok (.iaload, 1) := dk_46 (dk_at dksX4_lengthOf_0 22 rfl rfl)
theorem dX4_lengthOf_23 : decode cX4_lengthOf 23 = .ok (.ireturn, 1) := dk_172 (dk_at dksX4_lengthOf_0 23 rfl rfl)
abbrev cX4_place : ByteArray := prog_18_method_44_code
def yX4_place : MethodName := ⟨RX4, "place", "(IIIIII)V"⟩
def dkwX4_place_2 : List UInt8 := [42, 180, 0, 148, 27, 21, 5, 79, 42, 180, 0, 151, 27, 21, 6, 79, 177]
abbrev dktX4_place_2 : List UInt8 := dkwX4_place_2 ++ []
def dkwX4_place_1 : List UInt8 := [42, 180, 0, 139, 27, 46, 42, 21, 4, 21, 5, 182, 1, 164, 96, 79, 42, 180, 0, 145, 27, 21, 4, 79]
abbrev dktX4_place_1 : List UInt8 := dkwX4_place_1 ++ dktX4_place_2
def dkwX4_place_0 : List UInt8 := [42, 180, 0, 136, 27, 28, 79, 42, 180, 0, 139, 27, 16, 24, 28, 104, 29, 96, 79, 42, 180, 0, 142, 27]
abbrev dktX4_place_0 : List UInt8 := dkwX4_place_0 ++ dktX4_place_1
theorem dksX4_place_0 : cX4_place.data.toList.drop 0 = dktX4_place_0 := by decide +kernel
theorem dksX4_place_1 : cX4_place.data.toList.drop 24 = dktX4_place_1 := dk_seg dksX4_place_0 24 rfl rfl
theorem dksX4_place_2 : cX4_place.data.toList.drop 48 = dktX4_place_2 := dk_seg dksX4_place_1 24 rfl rfl
theorem dX4_place_0 : decode cX4_place 0 = .ok (.aload_n 0, 1) := dk_42 (dk_at dksX4_place_0 0 rfl rfl)
theorem dX4_place_1 : decode cX4_place 1 = .ok (.getfield 136, 3) := dk_180 0 136 (dk_at dksX4_place_0 1 rfl rfl)
theorem dX4_place_4 : decode cX4_place 4 = .ok (.iload_n 1, 1) := dk_27 (dk_at dksX4_place_0 4 rfl rfl)
theorem dX4_place_5 : decode cX4_place 5 = .ok (.iload_n 2, 1) := dk_28 (dk_at dksX4_place_0 5 rfl rfl)
theorem dX4_place_6 : decode cX4_place 6 = .ok (.iastore, 1) := dk_79 (dk_at dksX4_place_0 6 rfl rfl)
theorem dX4_place_7 : decode cX4_place 7 = .ok (.aload_n 0, 1) := dk_42 (dk_at dksX4_place_0 7 rfl rfl)
theorem dX4_place_8 : decode cX4_place 8 = .ok (.getfield 139, 3) := dk_180 0 139 (dk_at dksX4_place_0 8 rfl rfl)
theorem dX4_place_11 : decode cX4_place 11 = .ok (.iload_n 1, 1) := dk_27 (dk_at dksX4_place_0 11 rfl rfl)
theorem dX4_place_12 : decode cX4_place 12 = .ok (.bipush 24, 2) := dk_16 24 (dk_at dksX4_place_0 12 rfl rfl)
theorem dX4_place_14 : decode cX4_place 14 = .ok (.iload_n 2, 1) := dk_28 (dk_at dksX4_place_0 14 rfl rfl)
theorem dX4_place_15 : decode cX4_place 15 = .ok (.imul, 1) := dk_104 (dk_at dksX4_place_0 15 rfl rfl)
theorem dX4_place_16 : decode cX4_place 16 = .ok (.iload_n 3, 1) := dk_29 (dk_at dksX4_place_0 16 rfl rfl)
theorem dX4_place_17 : decode cX4_place 17 = .ok (.iadd, 1) := dk_96 (dk_at dksX4_place_0 17 rfl rfl)
theorem dX4_place_18 : decode cX4_place 18 = .ok (.iastore, 1) := dk_79 (dk_at dksX4_place_0 18 rfl rfl)
theorem dX4_place_19 : decode cX4_place 19 = .ok (.aload_n 0, 1) := dk_42 (dk_at dksX4_place_0 19 rfl rfl)
theorem dX4_place_20 : decode cX4_place 20 = .ok (.getfield 142, 3) := dk_180 0 142 (dk_at dksX4_place_0 20 rfl rfl)
theorem dX4_place_23 : decode cX4_place 23 = .ok (.iload_n 1, 1) := dk_27 (dk_at dksX4_place_0 23 rfl rfl)
theorem dX4_place_24 : decode cX4_place 24 = .ok (.aload_n 0, 1) := dk_42 (dk_at dksX4_place_1 0 rfl rfl)
theorem dX4_place_25 : decode cX4_place 25 = .ok (.getfield 139, 3) := dk_180 0 139 (dk_at dksX4_place_1 1 rfl rfl)
theorem dX4_place_28 : decode cX4_place 28 = .ok (.iload_n 1, 1) := dk_27 (dk_at dksX4_place_1 4 rfl rfl)
theorem dX4_place_29 : decode cX4_place 29 = .ok (.iaload, 1) := dk_46 (dk_at dksX4_place_1 5 rfl rfl)
theorem dX4_place_30 : decode cX4_place 30 = .ok (.aload_n 0, 1) := dk_42 (dk_at dksX4_place_1 6 rfl rfl)
theorem dX4_place_31 : decode cX4_place 31 = .ok (.iload 4, 2) := dk_21 4 (dk_at dksX4_place_1 7 rfl rfl)
theorem dX4_place_33 : decode cX4_place 33 = .ok (.iload 5, 2) := dk_21 5 (dk_at dksX4_place_1 9 rfl rfl)
theorem dX4_place_35 : decode cX4_place 35 = .ok (.invokevirtual 420, 3) := dk_182 1 164 (dk_at dksX4_place_1 11 rfl rfl)
theorem dX4_place_38 : decode cX4_place 38 = .ok (.iadd, 1) := dk_96 (dk_at dksX4_place_1 14 rfl rfl)
theorem dX4_place_39 : decode cX4_place 39 = .ok (.iastore, 1) := dk_79 (dk_at dksX4_place_1 15 rfl rfl)
theorem dX4_place_40 : decode cX4_place 40 = .ok (.aload_n 0, 1) := dk_42 (dk_at dksX4_place_1 16 rfl rfl)
theorem dX4_place_41 : decode cX4_place 41 = .ok (.getfield 145, 3) := dk_180 0 145 (dk_at dksX4_place_1 17 rfl rfl)
theorem dX4_place_44 : decode cX4_place 44 = .ok (.iload_n 1, 1) := dk_27 (dk_at dksX4_place_1 20 rfl rfl)
theorem dX4_place_45 : decode cX4_place 45 = .ok (.iload 4, 2) := dk_21 4 (dk_at dksX4_place_1 21 rfl rfl)
theorem dX4_place_47 : decode cX4_place 47 = .ok (.iastore, 1) := dk_79 (dk_at dksX4_place_1 23 rfl rfl)
theorem dX4_place_48 : decode cX4_place 48 = .ok (.aload_n 0, 1) := dk_42 (dk_at dksX4_place_2 0 rfl rfl)
theorem dX4_place_49 : decode cX4_place 49 = .ok (.getfield 148, 3) := dk_180 0 148 (dk_at dksX4_place_2 1 rfl rfl)
theorem dX4_place_52 : decode cX4_place 52 = .ok (.iload_n 1, 1) := dk_27 (dk_at dksX4_place_2 4 rfl rfl)
theorem dX4_place_53 : decode cX4_place 53 = .ok (.iload 5, 2) := dk_21 5 (dk_at dksX4_place_2 5 rfl rfl)
theorem dX4_place_55 : decode cX4_place 55 = .ok (.iastore, 1) := dk_79 (dk_at dksX4_place_2 7 rfl rfl)
theorem dX4_place_56 : decode cX4_place 56 = .ok (.aload_n 0, 1) := dk_42 (dk_at dksX4_place_2 8 rfl rfl)
theorem dX4_place_57 : decode cX4_place 57 = .ok (.getfield 151, 3) := dk_180 0 151 (dk_at dksX4_place_2 9 rfl rfl)
theorem dX4_place_60 : decode cX4_place 60 = .ok (.iload_n 1, 1) := dk_27 (dk_at dksX4_place_2 12 rfl rfl)
theorem dX4_place_61 : decode cX4_place 61 = .ok (.iload 6, 2) := dk_21 6 (dk_at dksX4_place_2 13 rfl rfl)
theorem dX4_place_63 : decode cX4_place 63 = .ok (.iastore, 1) := dk_79 (dk_at dksX4_place_2 15 rfl rfl)
theorem dX4_place_64 : decode cX4_place 64 = .ok (.return_, 1) := dk_177 (dk_at dksX4_place_2 16 rfl rfl)
abbrev cX4_cast : ByteArray := prog_18_method_48_code
def yX4_cast : MethodName := ⟨RX4, "cast", "(IIIZ)Z"⟩
def dkwX4_cast_3 : List UInt8 := [4, 172]
abbrev dktX4_cast_3 : List UInt8 := dkwX4_cast_3 ++ []
def dkwX4_cast_2 : List UInt8 := [160, 0, 5, 3, 172, 42, 27, 28, 29, 21, 4, 182, 1, 180, 42, 89, 180, 0, 249, 4, 96, 181, 0, 249]
abbrev dktX4_cast_2 : List UInt8 := dkwX4_cast_2 ++ dktX4_cast_3
def dkwX4_cast_1 : List UInt8 := [153, 0, 26, 42, 180, 0, 136, 27, 46, 42, 180, 0, 246, 161, 0, 13, 42, 180, 1, 174, 17, 1, 144]
abbrev dktX4_cast_1 : List UInt8 := dkwX4_cast_1 ++ dktX4_cast_2
def dkwX4_cast_0 : List UInt8 := [42, 3, 181, 0, 226, 42, 27, 28, 182, 1, 177, 153, 0, 39, 29, 2, 159, 0, 11, 42, 29, 182, 1, 54]
abbrev dktX4_cast_0 : List UInt8 := dkwX4_cast_0 ++ dktX4_cast_1
theorem dksX4_cast_0 : cX4_cast.data.toList.drop 0 = dktX4_cast_0 := by decide +kernel
theorem dksX4_cast_1 : cX4_cast.data.toList.drop 24 = dktX4_cast_1 := dk_seg dksX4_cast_0 24 rfl rfl
theorem dksX4_cast_2 : cX4_cast.data.toList.drop 47 = dktX4_cast_2 := dk_seg dksX4_cast_1 23 rfl rfl
theorem dksX4_cast_3 : cX4_cast.data.toList.drop 71 = dktX4_cast_3 := dk_seg dksX4_cast_2 24 rfl rfl
theorem dX4_cast_0 : decode cX4_cast 0 = .ok (.aload_n 0, 1) := dk_42 (dk_at dksX4_cast_0 0 rfl rfl)
theorem dX4_cast_1 : decode cX4_cast 1 = .ok (.iconst 0, 1) := dk_3 (dk_at dksX4_cast_0 1 rfl rfl)
theorem dX4_cast_2 : decode cX4_cast 2 = .ok (.putfield 226, 3) := dk_181 0 226 (dk_at dksX4_cast_0 2 rfl rfl)
theorem dX4_cast_5 : decode cX4_cast 5 = .ok (.aload_n 0, 1) := dk_42 (dk_at dksX4_cast_0 5 rfl rfl)
theorem dX4_cast_6 : decode cX4_cast 6 = .ok (.iload_n 1, 1) := dk_27 (dk_at dksX4_cast_0 6 rfl rfl)
theorem dX4_cast_7 : decode cX4_cast 7 = .ok (.iload_n 2, 1) := dk_28 (dk_at dksX4_cast_0 7 rfl rfl)
theorem dX4_cast_8 : decode cX4_cast 8 = .ok (.invokevirtual 433, 3) := dk_182 1 177 (dk_at dksX4_cast_0 8 rfl rfl)
theorem dX4_cast_11 : decode cX4_cast 11 = .ok (.ifCond .eq 39, 3) := dk_153 0 39 (dk_at dksX4_cast_0 11 rfl rfl)
theorem dX4_cast_14 : decode cX4_cast 14 = .ok (.iload_n 3, 1) := dk_29 (dk_at dksX4_cast_0 14 rfl rfl)
theorem dX4_cast_15 : decode cX4_cast 15 = .ok (.iconst (-1), 1) := dk_2 (dk_at dksX4_cast_0 15 rfl rfl)
theorem dX4_cast_16 : decode cX4_cast 16 = .ok (.if_icmp .eq 11, 3) := dk_159 0 11 (dk_at dksX4_cast_0 16 rfl rfl)
theorem dX4_cast_19 : decode cX4_cast 19 = .ok (.aload_n 0, 1) := dk_42 (dk_at dksX4_cast_0 19 rfl rfl)
theorem dX4_cast_20 : decode cX4_cast 20 = .ok (.iload_n 3, 1) := dk_29 (dk_at dksX4_cast_0 20 rfl rfl)
theorem dX4_cast_21 : decode cX4_cast 21 = .ok (.invokevirtual 310, 3) := dk_182 1 54 (dk_at dksX4_cast_0 21 rfl rfl)
theorem dX4_cast_24 : decode cX4_cast 24 = .ok (.ifCond .eq 26, 3) := dk_153 0 26 (dk_at dksX4_cast_1 0 rfl rfl)
theorem dX4_cast_27 : decode cX4_cast 27 = .ok (.aload_n 0, 1) := dk_42 (dk_at dksX4_cast_1 3 rfl rfl)
theorem dX4_cast_28 : decode cX4_cast 28 = .ok (.getfield 136, 3) := dk_180 0 136 (dk_at dksX4_cast_1 4 rfl rfl)
theorem dX4_cast_31 : decode cX4_cast 31 = .ok (.iload_n 1, 1) := dk_27 (dk_at dksX4_cast_1 7 rfl rfl)
theorem dX4_cast_32 : decode cX4_cast 32 = .ok (.iaload, 1) := dk_46 (dk_at dksX4_cast_1 8 rfl rfl)
theorem dX4_cast_33 : decode cX4_cast 33 = .ok (.aload_n 0, 1) := dk_42 (dk_at dksX4_cast_1 9 rfl rfl)
theorem dX4_cast_34 : decode cX4_cast 34 = .ok (.getfield 246, 3) := dk_180 0 246 (dk_at dksX4_cast_1 10 rfl rfl)
theorem dX4_cast_37 : decode cX4_cast 37 = .ok (.if_icmp .lt 13, 3) := dk_161 0 13 (dk_at dksX4_cast_1 13 rfl rfl)
theorem dX4_cast_40 : decode cX4_cast 40 = .ok (.aload_n 0, 1) := dk_42 (dk_at dksX4_cast_1 16 rfl rfl)
theorem dX4_cast_41 : decode cX4_cast 41 = .ok (.getfield 430, 3) := dk_180 1 174 (dk_at dksX4_cast_1 17 rfl rfl)
theorem dX4_cast_44 : decode cX4_cast 44 = .ok (.sipush 400, 3) := dk_17 1 144 (dk_at dksX4_cast_1 20 rfl rfl)
theorem dX4_cast_47 : decode cX4_cast 47 = .ok (.if_icmp .ne 5, 3) := dk_160 0 5 (dk_at dksX4_cast_2 0 rfl rfl)
theorem dX4_cast_50 : decode cX4_cast 50 = .ok (.iconst 0, 1) := dk_3 (dk_at dksX4_cast_2 3 rfl rfl)
theorem dX4_cast_51 : decode cX4_cast 51 = .ok (.ireturn, 1) := dk_172 (dk_at dksX4_cast_2 4 rfl rfl)
theorem dX4_cast_52 : decode cX4_cast 52 = .ok (.aload_n 0, 1) := dk_42 (dk_at dksX4_cast_2 5 rfl rfl)
theorem dX4_cast_53 : decode cX4_cast 53 = .ok (.iload_n 1, 1) := dk_27 (dk_at dksX4_cast_2 6 rfl rfl)
theorem dX4_cast_54 : decode cX4_cast 54 = .ok (.iload_n 2, 1) := dk_28 (dk_at dksX4_cast_2 7 rfl rfl)
theorem dX4_cast_55 : decode cX4_cast 55 = .ok (.iload_n 3, 1) := dk_29 (dk_at dksX4_cast_2 8 rfl rfl)
theorem dX4_cast_56 : decode cX4_cast 56 = .ok (.iload 4, 2) := dk_21 4 (dk_at dksX4_cast_2 9 rfl rfl)
theorem dX4_cast_58 : decode cX4_cast 58 = .ok (.invokevirtual 436, 3) := dk_182 1 180 (dk_at dksX4_cast_2 11 rfl rfl)
theorem dX4_cast_61 : decode cX4_cast 61 = .ok (.aload_n 0, 1) := dk_42 (dk_at dksX4_cast_2 14 rfl rfl)
theorem dX4_cast_62 : decode cX4_cast 62 = .ok (.dup, 1) := dk_89 (dk_at dksX4_cast_2 15 rfl rfl)
theorem dX4_cast_63 : decode cX4_cast 63 = .ok (.getfield 249, 3) := dk_180 0 249 (dk_at dksX4_cast_2 16 rfl rfl)
theorem dX4_cast_66 : decode cX4_cast 66 = .ok (.iconst 1, 1) := dk_4 (dk_at dksX4_cast_2 19 rfl rfl)
theorem dX4_cast_67 : decode cX4_cast 67 = .ok (.iadd, 1) := dk_96 (dk_at dksX4_cast_2 20 rfl rfl)
theorem dX4_cast_68 : decode cX4_cast 68 = .ok (.putfield 249, 3) := dk_181 0 249 (dk_at dksX4_cast_2 21 rfl rfl)
theorem dX4_cast_71 : decode cX4_cast 71 = .ok (.iconst 1, 1) := dk_4 (dk_at dksX4_cast_3 0 rfl rfl)
theorem dX4_cast_72 : decode cX4_cast 72 = .ok (.ireturn, 1) := dk_172 (dk_at dksX4_cast_3 1 rfl rfl)
abbrev cX4_isCallRole : ByteArray := prog_18_method_46_code
def yX4_isCallRole : MethodName := ⟨RX4, "isCallRole", "(II)Z"⟩
def dkwX4_isCallRole_1 : List UInt8 := [182, 1, 157, 153, 0, 7, 4, 167, 0, 4, 3, 172]
abbrev dktX4_isCallRole_1 : List UInt8 := dkwX4_isCallRole_1 ++ []
def dkwX4_isCallRole_0 : List UInt8 := [27, 3, 42, 180, 1, 167, 4, 100, 184, 0, 242, 153, 0, 21, 42, 42, 180, 0, 148, 27, 46, 28]
abbrev dktX4_isCallRole_0 : List UInt8 := dkwX4_isCallRole_0 ++ dktX4_isCallRole_1
theorem dksX4_isCallRole_0 : cX4_isCallRole.data.toList.drop 0 = dktX4_isCallRole_0 := by decide +kernel
theorem dksX4_isCallRole_1 : cX4_isCallRole.data.toList.drop 22 = dktX4_isCallRole_1 := dk_seg dksX4_isCallRole_0 22 rfl rfl
theorem dX4_isCallRole_0 : decode cX4_isCallRole 0 = .ok (.iload_n 1, 1) := dk_27 (dk_at dksX4_isCallRole_0 0 rfl rfl)
theorem dX4_isCallRole_1 : decode cX4_isCallRole 1 = .ok (.iconst 0, 1) := dk_3 (dk_at dksX4_isCallRole_0 1 rfl rfl)
theorem dX4_isCallRole_2 : decode cX4_isCallRole 2 = .ok (.aload_n 0, 1) := dk_42 (dk_at dksX4_isCallRole_0 2 rfl rfl)
theorem dX4_isCallRole_3 : decode cX4_isCallRole 3 = .ok (.getfield 423, 3) := dk_180 1 167 (dk_at dksX4_isCallRole_0 3 rfl rfl)
theorem dX4_isCallRole_6 : decode cX4_isCallRole 6 = .ok (.iconst 1, 1) := dk_4 (dk_at dksX4_isCallRole_0 6 rfl rfl)
theorem dX4_isCallRole_7 : decode cX4_isCallRole 7 = .ok (.isub, 1) := dk_100 (dk_at dksX4_isCallRole_0 7 rfl rfl)
theorem dX4_isCallRole_8 : decode cX4_isCallRole 8 = .ok (.invokestatic 242, 3) := dk_184 0 242 (dk_at dksX4_isCallRole_0 8 rfl rfl)
theorem dX4_isCallRole_11 : decode cX4_isCallRole 11 = .ok (.ifCond .eq 21, 3) := dk_153 0 21 (dk_at dksX4_isCallRole_0 11 rfl rfl)
theorem dX4_isCallRole_14 : decode cX4_isCallRole 14 = .ok (.aload_n 0, 1) := dk_42 (dk_at dksX4_isCallRole_0 14 rfl rfl)
theorem dX4_isCallRole_15 : decode cX4_isCallRole 15 = .ok (.aload_n 0, 1) := dk_42 (dk_at dksX4_isCallRole_0 15 rfl rfl)
theorem dX4_isCallRole_16 : decode cX4_isCallRole 16 = .ok (.getfield 148, 3) := dk_180 0 148 (dk_at dksX4_isCallRole_0 16 rfl rfl)
theorem dX4_isCallRole_19 : decode cX4_isCallRole 19 = .ok (.iload_n 1, 1) := dk_27 (dk_at dksX4_isCallRole_0 19 rfl rfl)
theorem dX4_isCallRole_20 : decode cX4_isCallRole 20 = .ok (.iaload, 1) := dk_46 (dk_at dksX4_isCallRole_0 20 rfl rfl)
theorem dX4_isCallRole_21 : decode cX4_isCallRole 21 = .ok (.iload_n 2, 1) := dk_28 (dk_at dksX4_isCallRole_0 21 rfl rfl)
theorem dX4_isCallRole_22 : decode cX4_isCallRole 22 = .ok (.invokevirtual 413, 3) := dk_182 1 157 (dk_at dksX4_isCallRole_1 0 rfl rfl)
theorem dX4_isCallRole_25 : decode cX4_isCallRole 25 = .ok (.ifCond .eq 7, 3) := dk_153 0 7 (dk_at dksX4_isCallRole_1 3 rfl rfl)
theorem dX4_isCallRole_28 : decode cX4_isCallRole 28 = .ok (.iconst 1, 1) := dk_4 (dk_at dksX4_isCallRole_1 6 rfl rfl)
theorem dX4_isCallRole_29 : decode cX4_isCallRole 29 = .ok (.goto 4, 3) := dk_167 0 4 (dk_at dksX4_isCallRole_1 7 rfl rfl)
theorem dX4_isCallRole_32 : decode cX4_isCallRole 32 = .ok (.iconst 0, 1) := dk_3 (dk_at dksX4_isCallRole_1 10 rfl rfl)
theorem dX4_isCallRole_33 : decode cX4_isCallRole 33 = .ok (.ireturn, 1) := dk_172 (dk_at dksX4_isCallRole_1 11 rfl rfl)
abbrev cX4_tell : ByteArray := prog_18_method_47_code
def yX4_tell : MethodName := ⟨RX4, "tell", "(IIIZ)V"⟩
def dkwX4_tell_2 : List UInt8 := [180, 1, 174, 21, 4, 84, 42, 89, 180, 1, 174, 4, 96, 181, 1, 174, 177]
abbrev dktX4_tell_2 : List UInt8 := dkwX4_tell_2 ++ []
def dkwX4_tell_1 : List UInt8 := [42, 180, 1, 174, 29, 79, 42, 180, 0, 133, 42, 180, 1, 174, 42, 180, 0, 246, 79, 42, 180, 0, 154, 42]
abbrev dktX4_tell_1 : List UInt8 := dkwX4_tell_1 ++ dktX4_tell_2
def dkwX4_tell_0 : List UInt8 := [42, 180, 0, 124, 42, 180, 1, 174, 27, 79, 42, 180, 0, 127, 42, 180, 1, 174, 28, 79, 42, 180, 0, 130]
abbrev dktX4_tell_0 : List UInt8 := dkwX4_tell_0 ++ dktX4_tell_1
theorem dksX4_tell_0 : cX4_tell.data.toList.drop 0 = dktX4_tell_0 := by decide +kernel
theorem dksX4_tell_1 : cX4_tell.data.toList.drop 24 = dktX4_tell_1 := dk_seg dksX4_tell_0 24 rfl rfl
theorem dksX4_tell_2 : cX4_tell.data.toList.drop 48 = dktX4_tell_2 := dk_seg dksX4_tell_1 24 rfl rfl
theorem dX4_tell_0 : decode cX4_tell 0 = .ok (.aload_n 0, 1) := dk_42 (dk_at dksX4_tell_0 0 rfl rfl)
theorem dX4_tell_1 : decode cX4_tell 1 = .ok (.getfield 124, 3) := dk_180 0 124 (dk_at dksX4_tell_0 1 rfl rfl)
theorem dX4_tell_4 : decode cX4_tell 4 = .ok (.aload_n 0, 1) := dk_42 (dk_at dksX4_tell_0 4 rfl rfl)
theorem dX4_tell_5 : decode cX4_tell 5 = .ok (.getfield 430, 3) := dk_180 1 174 (dk_at dksX4_tell_0 5 rfl rfl)
theorem dX4_tell_8 : decode cX4_tell 8 = .ok (.iload_n 1, 1) := dk_27 (dk_at dksX4_tell_0 8 rfl rfl)
theorem dX4_tell_9 : decode cX4_tell 9 = .ok (.iastore, 1) := dk_79 (dk_at dksX4_tell_0 9 rfl rfl)
theorem dX4_tell_10 : decode cX4_tell 10 = .ok (.aload_n 0, 1) := dk_42 (dk_at dksX4_tell_0 10 rfl rfl)
theorem dX4_tell_11 : decode cX4_tell 11 = .ok (.getfield 127, 3) := dk_180 0 127 (dk_at dksX4_tell_0 11 rfl rfl)
theorem dX4_tell_14 : decode cX4_tell 14 = .ok (.aload_n 0, 1) := dk_42 (dk_at dksX4_tell_0 14 rfl rfl)
theorem dX4_tell_15 : decode cX4_tell 15 = .ok (.getfield 430, 3) := dk_180 1 174 (dk_at dksX4_tell_0 15 rfl rfl)
theorem dX4_tell_18 : decode cX4_tell 18 = .ok (.iload_n 2, 1) := dk_28 (dk_at dksX4_tell_0 18 rfl rfl)
theorem dX4_tell_19 : decode cX4_tell 19 = .ok (.iastore, 1) := dk_79 (dk_at dksX4_tell_0 19 rfl rfl)
theorem dX4_tell_20 : decode cX4_tell 20 = .ok (.aload_n 0, 1) := dk_42 (dk_at dksX4_tell_0 20 rfl rfl)
theorem dX4_tell_21 : decode cX4_tell 21 = .ok (.getfield 130, 3) := dk_180 0 130 (dk_at dksX4_tell_0 21 rfl rfl)
theorem dX4_tell_24 : decode cX4_tell 24 = .ok (.aload_n 0, 1) := dk_42 (dk_at dksX4_tell_1 0 rfl rfl)
theorem dX4_tell_25 : decode cX4_tell 25 = .ok (.getfield 430, 3) := dk_180 1 174 (dk_at dksX4_tell_1 1 rfl rfl)
theorem dX4_tell_28 : decode cX4_tell 28 = .ok (.iload_n 3, 1) := dk_29 (dk_at dksX4_tell_1 4 rfl rfl)
theorem dX4_tell_29 : decode cX4_tell 29 = .ok (.iastore, 1) := dk_79 (dk_at dksX4_tell_1 5 rfl rfl)
theorem dX4_tell_30 : decode cX4_tell 30 = .ok (.aload_n 0, 1) := dk_42 (dk_at dksX4_tell_1 6 rfl rfl)
theorem dX4_tell_31 : decode cX4_tell 31 = .ok (.getfield 133, 3) := dk_180 0 133 (dk_at dksX4_tell_1 7 rfl rfl)
theorem dX4_tell_34 : decode cX4_tell 34 = .ok (.aload_n 0, 1) := dk_42 (dk_at dksX4_tell_1 10 rfl rfl)
theorem dX4_tell_35 : decode cX4_tell 35 = .ok (.getfield 430, 3) := dk_180 1 174 (dk_at dksX4_tell_1 11 rfl rfl)
theorem dX4_tell_38 : decode cX4_tell 38 = .ok (.aload_n 0, 1) := dk_42 (dk_at dksX4_tell_1 14 rfl rfl)
theorem dX4_tell_39 : decode cX4_tell 39 = .ok (.getfield 246, 3) := dk_180 0 246 (dk_at dksX4_tell_1 15 rfl rfl)
theorem dX4_tell_42 : decode cX4_tell 42 = .ok (.iastore, 1) := dk_79 (dk_at dksX4_tell_1 18 rfl rfl)
theorem dX4_tell_43 : decode cX4_tell 43 = .ok (.aload_n 0, 1) := dk_42 (dk_at dksX4_tell_1 19 rfl rfl)
theorem dX4_tell_44 : decode cX4_tell 44 = .ok (.getfield 154, 3) := dk_180 0 154 (dk_at dksX4_tell_1 20 rfl rfl)
theorem dX4_tell_47 : decode cX4_tell 47 = .ok (.aload_n 0, 1) := dk_42 (dk_at dksX4_tell_1 23 rfl rfl)
theorem dX4_tell_48 : decode cX4_tell 48 = .ok (.getfield 430, 3) := dk_180 1 174 (dk_at dksX4_tell_2 0 rfl rfl)
theorem dX4_tell_51 : decode cX4_tell 51 = .ok (.iload 4, 2) := dk_21 4 (dk_at dksX4_tell_2 3 rfl rfl)
theorem dX4_tell_53 : decode cX4_tell 53 = .ok (.bastore, 1) := dk_84 (dk_at dksX4_tell_2 5 rfl rfl)
theorem dX4_tell_54 : decode cX4_tell 54 = .ok (.aload_n 0, 1) := dk_42 (dk_at dksX4_tell_2 6 rfl rfl)
theorem dX4_tell_55 : decode cX4_tell 55 = .ok (.dup, 1) := dk_89 (dk_at dksX4_tell_2 7 rfl rfl)
theorem dX4_tell_56 : decode cX4_tell 56 = .ok (.getfield 430, 3) := dk_180 1 174 (dk_at dksX4_tell_2 8 rfl rfl)
theorem dX4_tell_59 : decode cX4_tell 59 = .ok (.iconst 1, 1) := dk_4 (dk_at dksX4_tell_2 11 rfl rfl)
theorem dX4_tell_60 : decode cX4_tell 60 = .ok (.iadd, 1) := dk_96 (dk_at dksX4_tell_2 12 rfl rfl)
theorem dX4_tell_61 : decode cX4_tell 61 = .ok (.putfield 430, 3) := dk_181 1 174 (dk_at dksX4_tell_2 13 rfl rfl)
theorem dX4_tell_64 : decode cX4_tell 64 = .ok (.return_, 1) := dk_177 (dk_at dksX4_tell_2 16 rfl rfl)
abbrev cX4_ill : ByteArray := prog_18_method_49_code
def yX4_ill : MethodName := ⟨RX4, "ill", "(III)Z"⟩
def dkwX4_ill_4 : List UInt8 := [180, 0, 249, 4, 96, 181, 0, 249, 4, 172]
abbrev dktX4_ill_4 : List UInt8 := dkwX4_ill_4 ++ []
def dkwX4_ill_3 : List UInt8 := [180, 0, 121, 42, 180, 1, 184, 42, 180, 0, 246, 79, 42, 89, 180, 1, 184, 4, 96, 181, 1, 184, 42, 89]
abbrev dktX4_ill_3 : List UInt8 := dkwX4_ill_3 ++ dktX4_ill_4
def dkwX4_ill_2 : List UInt8 := [27, 79, 42, 180, 0, 115, 42, 180, 1, 184, 28, 79, 42, 180, 0, 118, 42, 180, 1, 184, 29, 79, 42]
abbrev dktX4_ill_2 : List UInt8 := dkwX4_ill_2 ++ dktX4_ill_3
def dkwX4_ill_1 : List UInt8 := [16, 29, 163, 0, 12, 42, 180, 1, 184, 16, 60, 160, 0, 5, 3, 172, 42, 180, 0, 112, 42, 180, 1, 184]
abbrev dktX4_ill_1 : List UInt8 := dkwX4_ill_1 ++ dktX4_ill_2
def dkwX4_ill_0 : List UInt8 := [42, 3, 181, 0, 226, 42, 27, 182, 1, 54, 153, 0, 27, 28, 155, 0, 23, 29, 28, 161, 0, 18, 29]
abbrev dktX4_ill_0 : List UInt8 := dkwX4_ill_0 ++ dktX4_ill_1
theorem dksX4_ill_0 : cX4_ill.data.toList.drop 0 = dktX4_ill_0 := by decide +kernel
theorem dksX4_ill_1 : cX4_ill.data.toList.drop 23 = dktX4_ill_1 := dk_seg dksX4_ill_0 23 rfl rfl
theorem dksX4_ill_2 : cX4_ill.data.toList.drop 47 = dktX4_ill_2 := dk_seg dksX4_ill_1 24 rfl rfl
theorem dksX4_ill_3 : cX4_ill.data.toList.drop 70 = dktX4_ill_3 := dk_seg dksX4_ill_2 23 rfl rfl
theorem dksX4_ill_4 : cX4_ill.data.toList.drop 94 = dktX4_ill_4 := dk_seg dksX4_ill_3 24 rfl rfl
theorem dX4_ill_0 : decode cX4_ill 0 = .ok (.aload_n 0, 1) := dk_42 (dk_at dksX4_ill_0 0 rfl rfl)
theorem dX4_ill_1 : decode cX4_ill 1 = .ok (.iconst 0, 1) := dk_3 (dk_at dksX4_ill_0 1 rfl rfl)
theorem dX4_ill_2 : decode cX4_ill 2 = .ok (.putfield 226, 3) := dk_181 0 226 (dk_at dksX4_ill_0 2 rfl rfl)
theorem dX4_ill_5 : decode cX4_ill 5 = .ok (.aload_n 0, 1) := dk_42 (dk_at dksX4_ill_0 5 rfl rfl)
theorem dX4_ill_6 : decode cX4_ill 6 = .ok (.iload_n 1, 1) := dk_27 (dk_at dksX4_ill_0 6 rfl rfl)
theorem dX4_ill_7 : decode cX4_ill 7 = .ok (.invokevirtual 310, 3) := dk_182 1 54 (dk_at dksX4_ill_0 7 rfl rfl)
theorem dX4_ill_10 : decode cX4_ill 10 = .ok (.ifCond .eq 27, 3) := dk_153 0 27 (dk_at dksX4_ill_0 10 rfl rfl)
theorem dX4_ill_13 : decode cX4_ill 13 = .ok (.iload_n 2, 1) := dk_28 (dk_at dksX4_ill_0 13 rfl rfl)
theorem dX4_ill_14 : decode cX4_ill 14 = .ok (.ifCond .lt 23, 3) := dk_155 0 23 (dk_at dksX4_ill_0 14 rfl rfl)
theorem dX4_ill_17 : decode cX4_ill 17 = .ok (.iload_n 3, 1) := dk_29 (dk_at dksX4_ill_0 17 rfl rfl)
theorem dX4_ill_18 : decode cX4_ill 18 = .ok (.iload_n 2, 1) := dk_28 (dk_at dksX4_ill_0 18 rfl rfl)
theorem dX4_ill_19 : decode cX4_ill 19 = .ok (.if_icmp .lt 18, 3) := dk_161 0 18 (dk_at dksX4_ill_0 19 rfl rfl)
theorem dX4_ill_22 : decode cX4_ill 22 = .ok (.iload_n 3, 1) := dk_29 (dk_at dksX4_ill_0 22 rfl rfl)
theorem dX4_ill_23 : decode cX4_ill 23 = .ok (.bipush 29, 2) := dk_16 29 (dk_at dksX4_ill_1 0 rfl rfl)
theorem dX4_ill_25 : decode cX4_ill 25 = .ok (.if_icmp .gt 12, 3) := dk_163 0 12 (dk_at dksX4_ill_1 2 rfl rfl)
theorem dX4_ill_28 : decode cX4_ill 28 = .ok (.aload_n 0, 1) := dk_42 (dk_at dksX4_ill_1 5 rfl rfl)
theorem dX4_ill_29 : decode cX4_ill 29 = .ok (.getfield 440, 3) := dk_180 1 184 (dk_at dksX4_ill_1 6 rfl rfl)
theorem dX4_ill_32 : decode cX4_ill 32 = .ok (.bipush 60, 2) := dk_16 60 (dk_at dksX4_ill_1 9 rfl rfl)
theorem dX4_ill_34 : decode cX4_ill 34 = .ok (.if_icmp .ne 5, 3) := dk_160 0 5 (dk_at dksX4_ill_1 11 rfl rfl)
theorem dX4_ill_37 : decode cX4_ill 37 = .ok (.iconst 0, 1) := dk_3 (dk_at dksX4_ill_1 14 rfl rfl)
theorem dX4_ill_38 : decode cX4_ill 38 = .ok (.ireturn, 1) := dk_172 (dk_at dksX4_ill_1 15 rfl rfl)
theorem dX4_ill_39 : decode cX4_ill 39 = .ok (.aload_n 0, 1) := dk_42 (dk_at dksX4_ill_1 16 rfl rfl)
theorem dX4_ill_40 : decode cX4_ill 40 = .ok (.getfield 112, 3) := dk_180 0 112 (dk_at dksX4_ill_1 17 rfl rfl)
theorem dX4_ill_43 : decode cX4_ill 43 = .ok (.aload_n 0, 1) := dk_42 (dk_at dksX4_ill_1 20 rfl rfl)
theorem dX4_ill_44 : decode cX4_ill 44 = .ok (.getfield 440, 3) := dk_180 1 184 (dk_at dksX4_ill_1 21 rfl rfl)
theorem dX4_ill_47 : decode cX4_ill 47 = .ok (.iload_n 1, 1) := dk_27 (dk_at dksX4_ill_2 0 rfl rfl)
theorem dX4_ill_48 : decode cX4_ill 48 = .ok (.iastore, 1) := dk_79 (dk_at dksX4_ill_2 1 rfl rfl)
theorem dX4_ill_49 : decode cX4_ill 49 = .ok (.aload_n 0, 1) := dk_42 (dk_at dksX4_ill_2 2 rfl rfl)
theorem dX4_ill_50 : decode cX4_ill 50 = .ok (.getfield 115, 3) := dk_180 0 115 (dk_at dksX4_ill_2 3 rfl rfl)
theorem dX4_ill_53 : decode cX4_ill 53 = .ok (.aload_n 0, 1) := dk_42 (dk_at dksX4_ill_2 6 rfl rfl)
theorem dX4_ill_54 : decode cX4_ill 54 = .ok (.getfield 440, 3) := dk_180 1 184 (dk_at dksX4_ill_2 7 rfl rfl)
theorem dX4_ill_57 : decode cX4_ill 57 = .ok (.iload_n 2, 1) := dk_28 (dk_at dksX4_ill_2 10 rfl rfl)
theorem dX4_ill_58 : decode cX4_ill 58 = .ok (.iastore, 1) := dk_79 (dk_at dksX4_ill_2 11 rfl rfl)
theorem dX4_ill_59 : decode cX4_ill 59 = .ok (.aload_n 0, 1) := dk_42 (dk_at dksX4_ill_2 12 rfl rfl)
theorem dX4_ill_60 : decode cX4_ill 60 = .ok (.getfield 118, 3) := dk_180 0 118 (dk_at dksX4_ill_2 13 rfl rfl)
theorem dX4_ill_63 : decode cX4_ill 63 = .ok (.aload_n 0, 1) := dk_42 (dk_at dksX4_ill_2 16 rfl rfl)
theorem dX4_ill_64 : decode cX4_ill 64 = .ok (.getfield 440, 3) := dk_180 1 184 (dk_at dksX4_ill_2 17 rfl rfl)
theorem dX4_ill_67 : decode cX4_ill 67 = .ok (.iload_n 3, 1) := dk_29 (dk_at dksX4_ill_2 20 rfl rfl)
theorem dX4_ill_68 : decode cX4_ill 68 = .ok (.iastore, 1) := dk_79 (dk_at dksX4_ill_2 21 rfl rfl)
theorem dX4_ill_69 : decode cX4_ill 69 = .ok (.aload_n 0, 1) := dk_42 (dk_at dksX4_ill_2 22 rfl rfl)
theorem dX4_ill_70 : decode cX4_ill 70 = .ok (.getfield 121, 3) := dk_180 0 121 (dk_at dksX4_ill_3 0 rfl rfl)
theorem dX4_ill_73 : decode cX4_ill 73 = .ok (.aload_n 0, 1) := dk_42 (dk_at dksX4_ill_3 3 rfl rfl)
theorem dX4_ill_74 : decode cX4_ill 74 = .ok (.getfield 440, 3) := dk_180 1 184 (dk_at dksX4_ill_3 4 rfl rfl)
theorem dX4_ill_77 : decode cX4_ill 77 = .ok (.aload_n 0, 1) := dk_42 (dk_at dksX4_ill_3 7 rfl rfl)
theorem dX4_ill_78 : decode cX4_ill 78 = .ok (.getfield 246, 3) := dk_180 0 246 (dk_at dksX4_ill_3 8 rfl rfl)
theorem dX4_ill_81 : decode cX4_ill 81 = .ok (.iastore, 1) := dk_79 (dk_at dksX4_ill_3 11 rfl rfl)
theorem dX4_ill_82 : decode cX4_ill 82 = .ok (.aload_n 0, 1) := dk_42 (dk_at dksX4_ill_3 12 rfl rfl)
theorem dX4_ill_83 : decode cX4_ill 83 = .ok (.dup, 1) := dk_89 (dk_at dksX4_ill_3 13 rfl rfl)
theorem dX4_ill_84 : decode cX4_ill 84 = .ok (.getfield 440, 3) := dk_180 1 184 (dk_at dksX4_ill_3 14 rfl rfl)
theorem dX4_ill_87 : decode cX4_ill 87 = .ok (.iconst 1, 1) := dk_4 (dk_at dksX4_ill_3 17 rfl rfl)
theorem dX4_ill_88 : decode cX4_ill 88 = .ok (.iadd, 1) := dk_96 (dk_at dksX4_ill_3 18 rfl rfl)
theorem dX4_ill_89 : decode cX4_ill 89 = .ok (.putfield 440, 3) := dk_181 1 184 (dk_at dksX4_ill_3 19 rfl rfl)
theorem dX4_ill_92 : decode cX4_ill 92 = .ok (.aload_n 0, 1) := dk_42 (dk_at dksX4_ill_3 22 rfl rfl)
theorem dX4_ill_93 : decode cX4_ill 93 = .ok (.dup, 1) := dk_89 (dk_at dksX4_ill_3 23 rfl rfl)
theorem dX4_ill_94 : decode cX4_ill 94 = .ok (.getfield 249, 3) := dk_180 0 249 (dk_at dksX4_ill_4 0 rfl rfl)
theorem dX4_ill_97 : decode cX4_ill 97 = .ok (.iconst 1, 1) := dk_4 (dk_at dksX4_ill_4 3 rfl rfl)
theorem dX4_ill_98 : decode cX4_ill 98 = .ok (.iadd, 1) := dk_96 (dk_at dksX4_ill_4 4 rfl rfl)
theorem dX4_ill_99 : decode cX4_ill 99 = .ok (.putfield 249, 3) := dk_181 0 249 (dk_at dksX4_ill_4 5 rfl rfl)
theorem dX4_ill_102 : decode cX4_ill 102 = .ok (.iconst 1, 1) := dk_4 (dk_at dksX4_ill_4 8 rfl rfl)
theorem dX4_ill_103 : decode cX4_ill 103 = .ok (.ireturn, 1) := dk_172 (dk_at dksX4_ill_4 9 rfl rfl)
abbrev cX4_who : ByteArray := prog_18_method_62_code
def yX4_who : MethodName := ⟨RX4, "who", "(IIZI)I"⟩
def dkwX4_who_2 : List UInt8 := [104, 28, 96, 46, 172]
abbrev dktX4_who_2 : List UInt8 := dkwX4_who_2 ++ []
def dkwX4_who_1 : List UInt8 := [153, 0, 17, 42, 180, 0, 160, 16, 8, 27, 104, 28, 96, 46, 167, 0, 14, 42, 180, 0, 157, 16, 8, 27]
abbrev dktX4_who_1 : List UInt8 := dkwX4_who_1 ++ dktX4_who_2
def dkwX4_who_0 : List UInt8 := [42, 3, 181, 0, 226, 42, 27, 28, 182, 1, 177, 154, 0, 5, 2, 172, 42, 21, 4, 182, 1, 204, 29]
abbrev dktX4_who_0 : List UInt8 := dkwX4_who_0 ++ dktX4_who_1
theorem dksX4_who_0 : cX4_who.data.toList.drop 0 = dktX4_who_0 := by decide +kernel
theorem dksX4_who_1 : cX4_who.data.toList.drop 23 = dktX4_who_1 := dk_seg dksX4_who_0 23 rfl rfl
theorem dksX4_who_2 : cX4_who.data.toList.drop 47 = dktX4_who_2 := dk_seg dksX4_who_1 24 rfl rfl
theorem dX4_who_0 : decode cX4_who 0 = .ok (.aload_n 0, 1) := dk_42 (dk_at dksX4_who_0 0 rfl rfl)
theorem dX4_who_1 : decode cX4_who 1 = .ok (.iconst 0, 1) := dk_3 (dk_at dksX4_who_0 1 rfl rfl)
theorem dX4_who_2 : decode cX4_who 2 = .ok (.putfield 226, 3) := dk_181 0 226 (dk_at dksX4_who_0 2 rfl rfl)
theorem dX4_who_5 : decode cX4_who 5 = .ok (.aload_n 0, 1) := dk_42 (dk_at dksX4_who_0 5 rfl rfl)
theorem dX4_who_6 : decode cX4_who 6 = .ok (.iload_n 1, 1) := dk_27 (dk_at dksX4_who_0 6 rfl rfl)
theorem dX4_who_7 : decode cX4_who 7 = .ok (.iload_n 2, 1) := dk_28 (dk_at dksX4_who_0 7 rfl rfl)
theorem dX4_who_8 : decode cX4_who 8 = .ok (.invokevirtual 433, 3) := dk_182 1 177 (dk_at dksX4_who_0 8 rfl rfl)
theorem dX4_who_11 : decode cX4_who 11 = .ok (.ifCond .ne 5, 3) := dk_154 0 5 (dk_at dksX4_who_0 11 rfl rfl)
theorem dX4_who_14 : decode cX4_who 14 = .ok (.iconst (-1), 1) := dk_2 (dk_at dksX4_who_0 14 rfl rfl)
theorem dX4_who_15 : decode cX4_who 15 = .ok (.ireturn, 1) := dk_172 (dk_at dksX4_who_0 15 rfl rfl)
theorem dX4_who_16 : decode cX4_who 16 = .ok (.aload_n 0, 1) := dk_42 (dk_at dksX4_who_0 16 rfl rfl)
theorem dX4_who_17 : decode cX4_who 17 = .ok (.iload 4, 2) := dk_21 4 (dk_at dksX4_who_0 17 rfl rfl)
theorem dX4_who_19 : decode cX4_who 19 = .ok (.invokevirtual 460, 3) := dk_182 1 204 (dk_at dksX4_who_0 19 rfl rfl)
theorem dX4_who_22 : decode cX4_who 22 = .ok (.iload_n 3, 1) := dk_29 (dk_at dksX4_who_0 22 rfl rfl)
theorem dX4_who_23 : decode cX4_who 23 = .ok (.ifCond .eq 17, 3) := dk_153 0 17 (dk_at dksX4_who_1 0 rfl rfl)
theorem dX4_who_26 : decode cX4_who 26 = .ok (.aload_n 0, 1) := dk_42 (dk_at dksX4_who_1 3 rfl rfl)
theorem dX4_who_27 : decode cX4_who 27 = .ok (.getfield 160, 3) := dk_180 0 160 (dk_at dksX4_who_1 4 rfl rfl)
theorem dX4_who_30 : decode cX4_who 30 = .ok (.bipush 8, 2) := dk_16 8 (dk_at dksX4_who_1 7 rfl rfl)
theorem dX4_who_32 : decode cX4_who 32 = .ok (.iload_n 1, 1) := dk_27 (dk_at dksX4_who_1 9 rfl rfl)
theorem dX4_who_33 : decode cX4_who 33 = .ok (.imul, 1) := dk_104 (dk_at dksX4_who_1 10 rfl rfl)
theorem dX4_who_34 : decode cX4_who 34 = .ok (.iload_n 2, 1) := dk_28 (dk_at dksX4_who_1 11 rfl rfl)
theorem dX4_who_35 : decode cX4_who 35 = .ok (.iadd, 1) := dk_96 (dk_at dksX4_who_1 12 rfl rfl)
theorem dX4_who_36 : decode cX4_who 36 = .ok (.iaload, 1) := dk_46 (dk_at dksX4_who_1 13 rfl rfl)
theorem dX4_who_37 : decode cX4_who 37 = .ok (.goto 14, 3) := dk_167 0 14 (dk_at dksX4_who_1 14 rfl rfl)
theorem dX4_who_40 : decode cX4_who 40 = .ok (.aload_n 0, 1) := dk_42 (dk_at dksX4_who_1 17 rfl rfl)
theorem dX4_who_41 : decode cX4_who 41 = .ok (.getfield 157, 3) := dk_180 0 157 (dk_at dksX4_who_1 18 rfl rfl)
theorem dX4_who_44 : decode cX4_who 44 = .ok (.bipush 8, 2) := dk_16 8 (dk_at dksX4_who_1 21 rfl rfl)
theorem dX4_who_46 : decode cX4_who 46 = .ok (.iload_n 1, 1) := dk_27 (dk_at dksX4_who_1 23 rfl rfl)
theorem dX4_who_47 : decode cX4_who 47 = .ok (.imul, 1) := dk_104 (dk_at dksX4_who_2 0 rfl rfl)
theorem dX4_who_48 : decode cX4_who 48 = .ok (.iload_n 2, 1) := dk_28 (dk_at dksX4_who_2 1 rfl rfl)
theorem dX4_who_49 : decode cX4_who 49 = .ok (.iadd, 1) := dk_96 (dk_at dksX4_who_2 2 rfl rfl)
theorem dX4_who_50 : decode cX4_who 50 = .ok (.iaload, 1) := dk_46 (dk_at dksX4_who_2 3 rfl rfl)
theorem dX4_who_51 : decode cX4_who 51 = .ok (.ireturn, 1) := dk_172 (dk_at dksX4_who_2 4 rfl rfl)
abbrev cX4_load : ByteArray := prog_18_method_50_code
def yX4_load : MethodName := ⟨RX4, "load", "(I)V"⟩
def dkwX4_load_6 : List UInt8 := [167, 255, 167, 42, 182, 1, 193, 177]
abbrev dktX4_load_6 : List UInt8 := dkwX4_load_6 ++ []
def dkwX4_load_5 : List UInt8 := [29, 42, 180, 0, 157, 29, 46, 79, 42, 180, 0, 157, 29, 42, 180, 0, 130, 28, 46, 79, 132, 2, 1]
abbrev dktX4_load_5 : List UInt8 := dkwX4_load_5 ++ dktX4_load_6
def dkwX4_load_4 : List UInt8 := [28, 51, 153, 0, 18, 42, 180, 0, 160, 29, 42, 180, 0, 130, 28, 46, 79, 167, 0, 27, 42, 180, 0, 163]
abbrev dktX4_load_4 : List UInt8 := dkwX4_load_4 ++ dktX4_load_5
def dkwX4_load_3 : List UInt8 := [167, 0, 68, 16, 8, 42, 180, 0, 124, 28, 46, 104, 42, 180, 0, 127, 28, 46, 96, 62, 42, 180, 0, 154]
abbrev dktX4_load_3 : List UInt8 := dkwX4_load_3 ++ dktX4_load_4
def dkwX4_load_2 : List UInt8 := [167, 255, 225, 3, 61, 28, 42, 180, 1, 174, 162, 0, 87, 42, 180, 0, 133, 28, 46, 27, 164, 0, 6]
abbrev dktX4_load_2 : List UInt8 := dkwX4_load_2 ++ dktX4_load_3
def dkwX4_load_1 : List UInt8 := [180, 0, 157, 28, 2, 79, 42, 180, 0, 160, 28, 2, 79, 42, 180, 0, 163, 28, 2, 79, 132, 2, 1]
abbrev dktX4_load_1 : List UInt8 := dkwX4_load_1 ++ dktX4_load_2
def dkwX4_load_0 : List UInt8 := [42, 27, 181, 1, 187, 42, 42, 180, 1, 167, 181, 1, 190, 3, 61, 28, 17, 2, 16, 162, 0, 30, 42]
abbrev dktX4_load_0 : List UInt8 := dkwX4_load_0 ++ dktX4_load_1
theorem dksX4_load_0 : cX4_load.data.toList.drop 0 = dktX4_load_0 := by decide +kernel
theorem dksX4_load_1 : cX4_load.data.toList.drop 23 = dktX4_load_1 := dk_seg dksX4_load_0 23 rfl rfl
theorem dksX4_load_2 : cX4_load.data.toList.drop 46 = dktX4_load_2 := dk_seg dksX4_load_1 23 rfl rfl
theorem dksX4_load_3 : cX4_load.data.toList.drop 69 = dktX4_load_3 := dk_seg dksX4_load_2 23 rfl rfl
theorem dksX4_load_4 : cX4_load.data.toList.drop 93 = dktX4_load_4 := dk_seg dksX4_load_3 24 rfl rfl
theorem dksX4_load_5 : cX4_load.data.toList.drop 117 = dktX4_load_5 := dk_seg dksX4_load_4 24 rfl rfl
theorem dksX4_load_6 : cX4_load.data.toList.drop 140 = dktX4_load_6 := dk_seg dksX4_load_5 23 rfl rfl
theorem dX4_load_0 : decode cX4_load 0 = .ok (.aload_n 0, 1) := dk_42 (dk_at dksX4_load_0 0 rfl rfl)
theorem dX4_load_1 : decode cX4_load 1 = .ok (.iload_n 1, 1) := dk_27 (dk_at dksX4_load_0 1 rfl rfl)
theorem dX4_load_2 : decode cX4_load 2 = .ok (.putfield 443, 3) := dk_181 1 187 (dk_at dksX4_load_0 2 rfl rfl)
theorem dX4_load_5 : decode cX4_load 5 = .ok (.aload_n 0, 1) := dk_42 (dk_at dksX4_load_0 5 rfl rfl)
theorem dX4_load_6 : decode cX4_load 6 = .ok (.aload_n 0, 1) := dk_42 (dk_at dksX4_load_0 6 rfl rfl)
theorem dX4_load_7 : decode cX4_load 7 = .ok (.getfield 423, 3) := dk_180 1 167 (dk_at dksX4_load_0 7 rfl rfl)
theorem dX4_load_10 : decode cX4_load 10 = .ok (.putfield 446, 3) := dk_181 1 190 (dk_at dksX4_load_0 10 rfl rfl)
theorem dX4_load_13 : decode cX4_load 13 = .ok (.iconst 0, 1) := dk_3 (dk_at dksX4_load_0 13 rfl rfl)
theorem dX4_load_14 : decode cX4_load 14 = .ok (.istore_n 2, 1) := dk_61 (dk_at dksX4_load_0 14 rfl rfl)
theorem dX4_load_15 : decode cX4_load 15 = .ok (.iload_n 2, 1) := dk_28 (dk_at dksX4_load_0 15 rfl rfl)
theorem dX4_load_16 : decode cX4_load 16 = .ok (.sipush 528, 3) := dk_17 2 16 (dk_at dksX4_load_0 16 rfl rfl)
theorem dX4_load_19 : decode cX4_load 19 = .ok (.if_icmp .ge 30, 3) := dk_162 0 30 (dk_at dksX4_load_0 19 rfl rfl)
theorem dX4_load_22 : decode cX4_load 22 = .ok (.aload_n 0, 1) := dk_42 (dk_at dksX4_load_0 22 rfl rfl)
theorem dX4_load_23 : decode cX4_load 23 = .ok (.getfield 157, 3) := dk_180 0 157 (dk_at dksX4_load_1 0 rfl rfl)
theorem dX4_load_26 : decode cX4_load 26 = .ok (.iload_n 2, 1) := dk_28 (dk_at dksX4_load_1 3 rfl rfl)
theorem dX4_load_27 : decode cX4_load 27 = .ok (.iconst (-1), 1) := dk_2 (dk_at dksX4_load_1 4 rfl rfl)
theorem dX4_load_28 : decode cX4_load 28 = .ok (.iastore, 1) := dk_79 (dk_at dksX4_load_1 5 rfl rfl)
theorem dX4_load_29 : decode cX4_load 29 = .ok (.aload_n 0, 1) := dk_42 (dk_at dksX4_load_1 6 rfl rfl)
theorem dX4_load_30 : decode cX4_load 30 = .ok (.getfield 160, 3) := dk_180 0 160 (dk_at dksX4_load_1 7 rfl rfl)
theorem dX4_load_33 : decode cX4_load 33 = .ok (.iload_n 2, 1) := dk_28 (dk_at dksX4_load_1 10 rfl rfl)
theorem dX4_load_34 : decode cX4_load 34 = .ok (.iconst (-1), 1) := dk_2 (dk_at dksX4_load_1 11 rfl rfl)
theorem dX4_load_35 : decode cX4_load 35 = .ok (.iastore, 1) := dk_79 (dk_at dksX4_load_1 12 rfl rfl)
theorem dX4_load_36 : decode cX4_load 36 = .ok (.aload_n 0, 1) := dk_42 (dk_at dksX4_load_1 13 rfl rfl)
theorem dX4_load_37 : decode cX4_load 37 = .ok (.getfield 163, 3) := dk_180 0 163 (dk_at dksX4_load_1 14 rfl rfl)
theorem dX4_load_40 : decode cX4_load 40 = .ok (.iload_n 2, 1) := dk_28 (dk_at dksX4_load_1 17 rfl rfl)
theorem dX4_load_41 : decode cX4_load 41 = .ok (.iconst (-1), 1) := dk_2 (dk_at dksX4_load_1 18 rfl rfl)
theorem dX4_load_42 : decode cX4_load 42 = .ok (.iastore, 1) := dk_79 (dk_at dksX4_load_1 19 rfl rfl)
theorem dX4_load_43 : decode cX4_load 43 = .ok (.iinc 2 1, 3) := dk_132 2 1 (dk_at dksX4_load_1 20 rfl rfl)
theorem dX4_load_46 : decode cX4_load 46 = .ok (.goto (-31), 3) := dk_167 255 225 (dk_at dksX4_load_2 0 rfl rfl)
theorem dX4_load_49 : decode cX4_load 49 = .ok (.iconst 0, 1) := dk_3 (dk_at dksX4_load_2 3 rfl rfl)
theorem dX4_load_50 : decode cX4_load 50 = .ok (.istore_n 2, 1) := dk_61 (dk_at dksX4_load_2 4 rfl rfl)
theorem dX4_load_51 : decode cX4_load 51 = .ok (.iload_n 2, 1) := dk_28 (dk_at dksX4_load_2 5 rfl rfl)
theorem dX4_load_52 : decode cX4_load 52 = .ok (.aload_n 0, 1) := dk_42 (dk_at dksX4_load_2 6 rfl rfl)
theorem dX4_load_53 : decode cX4_load 53 = .ok (.getfield 430, 3) := dk_180 1 174 (dk_at dksX4_load_2 7 rfl rfl)
theorem dX4_load_56 : decode cX4_load 56 = .ok (.if_icmp .ge 87, 3) := dk_162 0 87 (dk_at dksX4_load_2 10 rfl rfl)
theorem dX4_load_59 : decode cX4_load 59 = .ok (.aload_n 0, 1) := dk_42 (dk_at dksX4_load_2 13 rfl rfl)
theorem dX4_load_60 : decode cX4_load 60 = .ok (.getfield 133, 3) := dk_180 0 133 (dk_at dksX4_load_2 14 rfl rfl)
theorem dX4_load_63 : decode cX4_load 63 = .ok (.iload_n 2, 1) := dk_28 (dk_at dksX4_load_2 17 rfl rfl)
theorem dX4_load_64 : decode cX4_load 64 = .ok (.iaload, 1) := dk_46 (dk_at dksX4_load_2 18 rfl rfl)
theorem dX4_load_65 : decode cX4_load 65 = .ok (.iload_n 1, 1) := dk_27 (dk_at dksX4_load_2 19 rfl rfl)
theorem dX4_load_66 : decode cX4_load 66 = .ok (.if_icmp .le 6, 3) := dk_164 0 6 (dk_at dksX4_load_2 20 rfl rfl)
theorem dX4_load_69 : decode cX4_load 69 = .ok (.goto 68, 3) := dk_167 0 68 (dk_at dksX4_load_3 0 rfl rfl)
theorem dX4_load_72 : decode cX4_load 72 = .ok (.bipush 8, 2) := dk_16 8 (dk_at dksX4_load_3 3 rfl rfl)
theorem dX4_load_74 : decode cX4_load 74 = .ok (.aload_n 0, 1) := dk_42 (dk_at dksX4_load_3 5 rfl rfl)
theorem dX4_load_75 : decode cX4_load 75 = .ok (.getfield 124, 3) := dk_180 0 124 (dk_at dksX4_load_3 6 rfl rfl)
theorem dX4_load_78 : decode cX4_load 78 = .ok (.iload_n 2, 1) := dk_28 (dk_at dksX4_load_3 9 rfl rfl)
theorem dX4_load_79 : decode cX4_load 79 = .ok (.iaload, 1) := dk_46 (dk_at dksX4_load_3 10 rfl rfl)
theorem dX4_load_80 : decode cX4_load 80 = .ok (.imul, 1) := dk_104 (dk_at dksX4_load_3 11 rfl rfl)
theorem dX4_load_81 : decode cX4_load 81 = .ok (.aload_n 0, 1) := dk_42 (dk_at dksX4_load_3 12 rfl rfl)
theorem dX4_load_82 : decode cX4_load 82 = .ok (.getfield 127, 3) := dk_180 0 127 (dk_at dksX4_load_3 13 rfl rfl)
theorem dX4_load_85 : decode cX4_load 85 = .ok (.iload_n 2, 1) := dk_28 (dk_at dksX4_load_3 16 rfl rfl)
theorem dX4_load_86 : decode cX4_load 86 = .ok (.iaload, 1) := dk_46 (dk_at dksX4_load_3 17 rfl rfl)
theorem dX4_load_87 : decode cX4_load 87 = .ok (.iadd, 1) := dk_96 (dk_at dksX4_load_3 18 rfl rfl)
theorem dX4_load_88 : decode cX4_load 88 = .ok (.istore_n 3, 1) := dk_62 (dk_at dksX4_load_3 19 rfl rfl)
theorem dX4_load_89 : decode cX4_load 89 = .ok (.aload_n 0, 1) := dk_42 (dk_at dksX4_load_3 20 rfl rfl)
theorem dX4_load_90 : decode cX4_load 90 = .ok (.getfield 154, 3) := dk_180 0 154 (dk_at dksX4_load_3 21 rfl rfl)
theorem dX4_load_93 : decode cX4_load 93 = .ok (.iload_n 2, 1) := dk_28 (dk_at dksX4_load_4 0 rfl rfl)
theorem dX4_load_94 : decode cX4_load 94 = .ok (.baload, 1) := dk_51 (dk_at dksX4_load_4 1 rfl rfl)
theorem dX4_load_95 : decode cX4_load 95 = .ok (.ifCond .eq 18, 3) := dk_153 0 18 (dk_at dksX4_load_4 2 rfl rfl)
theorem dX4_load_98 : decode cX4_load 98 = .ok (.aload_n 0, 1) := dk_42 (dk_at dksX4_load_4 5 rfl rfl)
theorem dX4_load_99 : decode cX4_load 99 = .ok (.getfield 160, 3) := dk_180 0 160 (dk_at dksX4_load_4 6 rfl rfl)
theorem dX4_load_102 : decode cX4_load 102 = .ok (.iload_n 3, 1) := dk_29 (dk_at dksX4_load_4 9 rfl rfl)
theorem dX4_load_103 : decode cX4_load 103 = .ok (.aload_n 0, 1) := dk_42 (dk_at dksX4_load_4 10 rfl rfl)
theorem dX4_load_104 : decode cX4_load 104 = .ok (.getfield 130, 3) := dk_180 0 130 (dk_at dksX4_load_4 11 rfl rfl)
theorem dX4_load_107 : decode cX4_load 107 = .ok (.iload_n 2, 1) := dk_28 (dk_at dksX4_load_4 14 rfl rfl)
theorem dX4_load_108 : decode cX4_load 108 = .ok (.iaload, 1) := dk_46 (dk_at dksX4_load_4 15 rfl rfl)
theorem dX4_load_109 : decode cX4_load 109 = .ok (.iastore, 1) := dk_79 (dk_at dksX4_load_4 16 rfl rfl)
theorem dX4_load_110 : decode cX4_load 110 = .ok (.goto 27, 3) := dk_167 0 27 (dk_at dksX4_load_4 17 rfl rfl)
theorem dX4_load_113 : decode cX4_load 113 = .ok (.aload_n 0, 1) := dk_42 (dk_at dksX4_load_4 20 rfl rfl)
theorem dX4_load_114 : decode cX4_load 114 = .ok (.getfield 163, 3) := dk_180 0 163 (dk_at dksX4_load_4 21 rfl rfl)
theorem dX4_load_117 : decode cX4_load 117 = .ok (.iload_n 3, 1) := dk_29 (dk_at dksX4_load_5 0 rfl rfl)
theorem dX4_load_118 : decode cX4_load 118 = .ok (.aload_n 0, 1) := dk_42 (dk_at dksX4_load_5 1 rfl rfl)
theorem dX4_load_119 : decode cX4_load 119 = .ok (.getfield 157, 3) := dk_180 0 157 (dk_at dksX4_load_5 2 rfl rfl)
theorem dX4_load_122 : decode cX4_load 122 = .ok (.iload_n 3, 1) := dk_29 (dk_at dksX4_load_5 5 rfl rfl)
theorem dX4_load_123 : decode cX4_load 123 = .ok (.iaload, 1) := dk_46 (dk_at dksX4_load_5 6 rfl rfl)
theorem dX4_load_124 : decode cX4_load 124 = .ok (.iastore, 1) := dk_79 (dk_at dksX4_load_5 7 rfl rfl)
theorem dX4_load_125 : decode cX4_load 125 = .ok (.aload_n 0, 1) := dk_42 (dk_at dksX4_load_5 8 rfl rfl)
theorem dX4_load_126 : decode cX4_load 126 = .ok (.getfield 157, 3) := dk_180 0 157 (dk_at dksX4_load_5 9 rfl rfl)
theorem dX4_load_129 : decode cX4_load 129 = .ok (.iload_n 3, 1) := dk_29 (dk_at dksX4_load_5 12 rfl rfl)
theorem dX4_load_130 : decode cX4_load 130 = .ok (.aload_n 0, 1) := dk_42 (dk_at dksX4_load_5 13 rfl rfl)
theorem dX4_load_131 : decode cX4_load 131 = .ok (.getfield 130, 3) := dk_180 0 130 (dk_at dksX4_load_5 14 rfl rfl)
theorem dX4_load_134 : decode cX4_load 134 = .ok (.iload_n 2, 1) := dk_28 (dk_at dksX4_load_5 17 rfl rfl)
theorem dX4_load_135 : decode cX4_load 135 = .ok (.iaload, 1) := dk_46 (dk_at dksX4_load_5 18 rfl rfl)
theorem dX4_load_136 : decode cX4_load 136 = .ok (.iastore, 1) := dk_79 (dk_at dksX4_load_5 19 rfl rfl)
theorem dX4_load_137 : decode cX4_load 137 = .ok (.iinc 2 1, 3) := dk_132 2 1 (dk_at dksX4_load_5 20 rfl rfl)
theorem dX4_load_140 : decode cX4_load 140 = .ok (.goto (-89), 3) := dk_167 255 167 (dk_at dksX4_load_6 0 rfl rfl)
theorem dX4_load_143 : decode cX4_load 143 = .ok (.aload_n 0, 1) := dk_42 (dk_at dksX4_load_6 3 rfl rfl)
theorem dX4_load_144 : decode cX4_load 144 = .ok (.invokevirtual 449, 3) := dk_182 1 193 (dk_at dksX4_load_6 4 rfl rfl)
theorem dX4_load_147 : decode cX4_load 147 = .ok (.return_, 1) := dk_177 (dk_at dksX4_load_6 7 rfl rfl)
abbrev cX4_sort : ByteArray := prog_18_method_51_code
def yX4_sort : MethodName := ⟨RX4, "sort", "()V"⟩
def dkwX4_sort_4 : List UInt8 := [182, 1, 196, 132, 1, 1, 167, 255, 228, 177]
abbrev dktX4_sort_4 : List UInt8 := dkwX4_sort_4 ++ []
def dkwX4_sort_3 : List UInt8 := [60, 27, 42, 180, 1, 190, 162, 0, 26, 42, 180, 0, 169, 42, 180, 0, 166, 27, 46, 27, 79, 42, 27]
abbrev dktX4_sort_3 : List UInt8 := dkwX4_sort_3 ++ dktX4_sort_4
def dkwX4_sort_2 : List UInt8 := [4, 100, 46, 79, 132, 2, 255, 167, 255, 213, 42, 180, 0, 166, 28, 27, 79, 132, 1, 1, 167, 255, 190, 3]
abbrev dktX4_sort_2 : List UInt8 := dkwX4_sort_2 ++ dktX4_sort_3
def dkwX4_sort_1 : List UInt8 := [28, 4, 100, 46, 46, 42, 180, 0, 139, 27, 46, 164, 0, 23, 42, 180, 0, 166, 28, 42, 180, 0, 166, 28]
abbrev dktX4_sort_1 : List UInt8 := dkwX4_sort_1 ++ dktX4_sort_2
def dkwX4_sort_0 : List UInt8 := [3, 60, 27, 42, 180, 1, 190, 162, 0, 64, 27, 61, 28, 158, 0, 45, 42, 180, 0, 139, 42, 180, 0, 166]
abbrev dktX4_sort_0 : List UInt8 := dkwX4_sort_0 ++ dktX4_sort_1
theorem dksX4_sort_0 : cX4_sort.data.toList.drop 0 = dktX4_sort_0 := by decide +kernel
theorem dksX4_sort_1 : cX4_sort.data.toList.drop 24 = dktX4_sort_1 := dk_seg dksX4_sort_0 24 rfl rfl
theorem dksX4_sort_2 : cX4_sort.data.toList.drop 48 = dktX4_sort_2 := dk_seg dksX4_sort_1 24 rfl rfl
theorem dksX4_sort_3 : cX4_sort.data.toList.drop 72 = dktX4_sort_3 := dk_seg dksX4_sort_2 24 rfl rfl
theorem dksX4_sort_4 : cX4_sort.data.toList.drop 95 = dktX4_sort_4 := dk_seg dksX4_sort_3 23 rfl rfl
theorem dX4_sort_0 : decode cX4_sort 0 = .ok (.iconst 0, 1) := dk_3 (dk_at dksX4_sort_0 0 rfl rfl)
theorem dX4_sort_1 : decode cX4_sort 1 = .ok (.istore_n 1, 1) := dk_60 (dk_at dksX4_sort_0 1 rfl rfl)
theorem dX4_sort_2 : decode cX4_sort 2 = .ok (.iload_n 1, 1) := dk_27 (dk_at dksX4_sort_0 2 rfl rfl)
theorem dX4_sort_3 : decode cX4_sort 3 = .ok (.aload_n 0, 1) := dk_42 (dk_at dksX4_sort_0 3 rfl rfl)
theorem dX4_sort_4 : decode cX4_sort 4 = .ok (.getfield 446, 3) := dk_180 1 190 (dk_at dksX4_sort_0 4 rfl rfl)
theorem dX4_sort_7 : decode cX4_sort 7 = .ok (.if_icmp .ge 64, 3) := dk_162 0 64 (dk_at dksX4_sort_0 7 rfl rfl)
theorem dX4_sort_10 : decode cX4_sort 10 = .ok (.iload_n 1, 1) := dk_27 (dk_at dksX4_sort_0 10 rfl rfl)
theorem dX4_sort_11 : decode cX4_sort 11 = .ok (.istore_n 2, 1) := dk_61 (dk_at dksX4_sort_0 11 rfl rfl)
theorem dX4_sort_12 : decode cX4_sort 12 = .ok (.iload_n 2, 1) := dk_28 (dk_at dksX4_sort_0 12 rfl rfl)
theorem dX4_sort_13 : decode cX4_sort 13 = .ok (.ifCond .le 45, 3) := dk_158 0 45 (dk_at dksX4_sort_0 13 rfl rfl)
theorem dX4_sort_16 : decode cX4_sort 16 = .ok (.aload_n 0, 1) := dk_42 (dk_at dksX4_sort_0 16 rfl rfl)
theorem dX4_sort_17 : decode cX4_sort 17 = .ok (.getfield 139, 3) := dk_180 0 139 (dk_at dksX4_sort_0 17 rfl rfl)
theorem dX4_sort_20 : decode cX4_sort 20 = .ok (.aload_n 0, 1) := dk_42 (dk_at dksX4_sort_0 20 rfl rfl)
theorem dX4_sort_21 : decode cX4_sort 21 = .ok (.getfield 166, 3) := dk_180 0 166 (dk_at dksX4_sort_0 21 rfl rfl)
theorem dX4_sort_24 : decode cX4_sort 24 = .ok (.iload_n 2, 1) := dk_28 (dk_at dksX4_sort_1 0 rfl rfl)
theorem dX4_sort_25 : decode cX4_sort 25 = .ok (.iconst 1, 1) := dk_4 (dk_at dksX4_sort_1 1 rfl rfl)
theorem dX4_sort_26 : decode cX4_sort 26 = .ok (.isub, 1) := dk_100 (dk_at dksX4_sort_1 2 rfl rfl)
theorem dX4_sort_27 : decode cX4_sort 27 = .ok (.iaload, 1) := dk_46 (dk_at dksX4_sort_1 3 rfl rfl)
theorem dX4_sort_28 : decode cX4_sort 28 = .ok (.iaload, 1) := dk_46 (dk_at dksX4_sort_1 4 rfl rfl)
theorem dX4_sort_29 : decode cX4_sort 29 = .ok (.aload_n 0, 1) := dk_42 (dk_at dksX4_sort_1 5 rfl rfl)
theorem dX4_sort_30 : decode cX4_sort 30 = .ok (.getfield 139, 3) := dk_180 0 139 (dk_at dksX4_sort_1 6 rfl rfl)
theorem dX4_sort_33 : decode cX4_sort 33 = .ok (.iload_n 1, 1) := dk_27 (dk_at dksX4_sort_1 9 rfl rfl)
theorem dX4_sort_34 : decode cX4_sort 34 = .ok (.iaload, 1) := dk_46 (dk_at dksX4_sort_1 10 rfl rfl)
theorem dX4_sort_35 : decode cX4_sort 35 = .ok (.if_icmp .le 23, 3) := dk_164 0 23 (dk_at dksX4_sort_1 11 rfl rfl)
theorem dX4_sort_38 : decode cX4_sort 38 = .ok (.aload_n 0, 1) := dk_42 (dk_at dksX4_sort_1 14 rfl rfl)
theorem dX4_sort_39 : decode cX4_sort 39 = .ok (.getfield 166, 3) := dk_180 0 166 (dk_at dksX4_sort_1 15 rfl rfl)
theorem dX4_sort_42 : decode cX4_sort 42 = .ok (.iload_n 2, 1) := dk_28 (dk_at dksX4_sort_1 18 rfl rfl)
theorem dX4_sort_43 : decode cX4_sort 43 = .ok (.aload_n 0, 1) := dk_42 (dk_at dksX4_sort_1 19 rfl rfl)
theorem dX4_sort_44 : decode cX4_sort 44 = .ok (.getfield 166, 3) := dk_180 0 166 (dk_at dksX4_sort_1 20 rfl rfl)
theorem dX4_sort_47 : decode cX4_sort 47 = .ok (.iload_n 2, 1) := dk_28 (dk_at dksX4_sort_1 23 rfl rfl)
theorem dX4_sort_48 : decode cX4_sort 48 = .ok (.iconst 1, 1) := dk_4 (dk_at dksX4_sort_2 0 rfl rfl)
theorem dX4_sort_49 : decode cX4_sort 49 = .ok (.isub, 1) := dk_100 (dk_at dksX4_sort_2 1 rfl rfl)
theorem dX4_sort_50 : decode cX4_sort 50 = .ok (.iaload, 1) := dk_46 (dk_at dksX4_sort_2 2 rfl rfl)
theorem dX4_sort_51 : decode cX4_sort 51 = .ok (.iastore, 1) := dk_79 (dk_at dksX4_sort_2 3 rfl rfl)
theorem dX4_sort_52 : decode cX4_sort 52 = .ok (.iinc 2 (-1), 3) := dk_132 2 255 (dk_at dksX4_sort_2 4 rfl rfl)
theorem dX4_sort_55 : decode cX4_sort 55 = .ok (.goto (-43), 3) := dk_167 255 213 (dk_at dksX4_sort_2 7 rfl rfl)
theorem dX4_sort_58 : decode cX4_sort 58 = .ok (.aload_n 0, 1) := dk_42 (dk_at dksX4_sort_2 10 rfl rfl)
theorem dX4_sort_59 : decode cX4_sort 59 = .ok (.getfield 166, 3) := dk_180 0 166 (dk_at dksX4_sort_2 11 rfl rfl)
theorem dX4_sort_62 : decode cX4_sort 62 = .ok (.iload_n 2, 1) := dk_28 (dk_at dksX4_sort_2 14 rfl rfl)
theorem dX4_sort_63 : decode cX4_sort 63 = .ok (.iload_n 1, 1) := dk_27 (dk_at dksX4_sort_2 15 rfl rfl)
theorem dX4_sort_64 : decode cX4_sort 64 = .ok (.iastore, 1) := dk_79 (dk_at dksX4_sort_2 16 rfl rfl)
theorem dX4_sort_65 : decode cX4_sort 65 = .ok (.iinc 1 1, 3) := dk_132 1 1 (dk_at dksX4_sort_2 17 rfl rfl)
theorem dX4_sort_68 : decode cX4_sort 68 = .ok (.goto (-66), 3) := dk_167 255 190 (dk_at dksX4_sort_2 20 rfl rfl)
theorem dX4_sort_71 : decode cX4_sort 71 = .ok (.iconst 0, 1) := dk_3 (dk_at dksX4_sort_2 23 rfl rfl)
theorem dX4_sort_72 : decode cX4_sort 72 = .ok (.istore_n 1, 1) := dk_60 (dk_at dksX4_sort_3 0 rfl rfl)
theorem dX4_sort_73 : decode cX4_sort 73 = .ok (.iload_n 1, 1) := dk_27 (dk_at dksX4_sort_3 1 rfl rfl)
theorem dX4_sort_74 : decode cX4_sort 74 = .ok (.aload_n 0, 1) := dk_42 (dk_at dksX4_sort_3 2 rfl rfl)
theorem dX4_sort_75 : decode cX4_sort 75 = .ok (.getfield 446, 3) := dk_180 1 190 (dk_at dksX4_sort_3 3 rfl rfl)
theorem dX4_sort_78 : decode cX4_sort 78 = .ok (.if_icmp .ge 26, 3) := dk_162 0 26 (dk_at dksX4_sort_3 6 rfl rfl)
theorem dX4_sort_81 : decode cX4_sort 81 = .ok (.aload_n 0, 1) := dk_42 (dk_at dksX4_sort_3 9 rfl rfl)
theorem dX4_sort_82 : decode cX4_sort 82 = .ok (.getfield 169, 3) := dk_180 0 169 (dk_at dksX4_sort_3 10 rfl rfl)
theorem dX4_sort_85 : decode cX4_sort 85 = .ok (.aload_n 0, 1) := dk_42 (dk_at dksX4_sort_3 13 rfl rfl)
theorem dX4_sort_86 : decode cX4_sort 86 = .ok (.getfield 166, 3) := dk_180 0 166 (dk_at dksX4_sort_3 14 rfl rfl)
theorem dX4_sort_89 : decode cX4_sort 89 = .ok (.iload_n 1, 1) := dk_27 (dk_at dksX4_sort_3 17 rfl rfl)
theorem dX4_sort_90 : decode cX4_sort 90 = .ok (.iaload, 1) := dk_46 (dk_at dksX4_sort_3 18 rfl rfl)
theorem dX4_sort_91 : decode cX4_sort 91 = .ok (.iload_n 1, 1) := dk_27 (dk_at dksX4_sort_3 19 rfl rfl)
theorem dX4_sort_92 : decode cX4_sort 92 = .ok (.iastore, 1) := dk_79 (dk_at dksX4_sort_3 20 rfl rfl)
theorem dX4_sort_93 : decode cX4_sort 93 = .ok (.aload_n 0, 1) := dk_42 (dk_at dksX4_sort_3 21 rfl rfl)
theorem dX4_sort_94 : decode cX4_sort 94 = .ok (.iload_n 1, 1) := dk_27 (dk_at dksX4_sort_3 22 rfl rfl)
theorem dX4_sort_95 : decode cX4_sort 95 = .ok (.invokevirtual 452, 3) := dk_182 1 196 (dk_at dksX4_sort_4 0 rfl rfl)
theorem dX4_sort_98 : decode cX4_sort 98 = .ok (.iinc 1 1, 3) := dk_132 1 1 (dk_at dksX4_sort_4 3 rfl rfl)
theorem dX4_sort_101 : decode cX4_sort 101 = .ok (.goto (-28), 3) := dk_167 255 228 (dk_at dksX4_sort_4 6 rfl rfl)
theorem dX4_sort_104 : decode cX4_sort 104 = .ok (.return_, 1) := dk_177 (dk_at dksX4_sort_4 9 rfl rfl)
abbrev cX4_enroll : ByteArray := prog_18_method_52_code
def yX4_enroll : MethodName := ⟨RX4, "enroll", "(I)V"⟩
def dkwX4_enroll_3 : List UInt8 := [79, 132, 2, 1, 167, 255, 189, 177]
abbrev dktX4_enroll_3 : List UInt8 := dkwX4_enroll_3 ++ []
def dkwX4_enroll_2 : List UInt8 := [46, 167, 0, 23, 42, 180, 0, 172, 27, 46, 4, 42, 180, 0, 157, 16, 8, 27, 104, 28, 96, 46, 120, 128]
abbrev dktX4_enroll_2 : List UInt8 := dkwX4_enroll_2 ++ dktX4_enroll_3
def dkwX4_enroll_1 : List UInt8 := [42, 180, 0, 172, 27, 42, 180, 0, 157, 16, 8, 27, 104, 28, 96, 46, 156, 0, 12, 42, 180, 0, 172, 27]
abbrev dktX4_enroll_1 : List UInt8 := dkwX4_enroll_1 ++ dktX4_enroll_2
def dkwX4_enroll_0 : List UInt8 := [42, 180, 0, 172, 27, 3, 79, 3, 61, 28, 42, 180, 0, 26, 42, 180, 0, 148, 27, 46, 46, 162, 0, 58]
abbrev dktX4_enroll_0 : List UInt8 := dkwX4_enroll_0 ++ dktX4_enroll_1
theorem dksX4_enroll_0 : cX4_enroll.data.toList.drop 0 = dktX4_enroll_0 := by decide +kernel
theorem dksX4_enroll_1 : cX4_enroll.data.toList.drop 24 = dktX4_enroll_1 := dk_seg dksX4_enroll_0 24 rfl rfl
theorem dksX4_enroll_2 : cX4_enroll.data.toList.drop 48 = dktX4_enroll_2 := dk_seg dksX4_enroll_1 24 rfl rfl
theorem dksX4_enroll_3 : cX4_enroll.data.toList.drop 72 = dktX4_enroll_3 := dk_seg dksX4_enroll_2 24 rfl rfl
theorem dX4_enroll_0 : decode cX4_enroll 0 = .ok (.aload_n 0, 1) := dk_42 (dk_at dksX4_enroll_0 0 rfl rfl)
theorem dX4_enroll_1 : decode cX4_enroll 1 = .ok (.getfield 172, 3) := dk_180 0 172 (dk_at dksX4_enroll_0 1 rfl rfl)
theorem dX4_enroll_4 : decode cX4_enroll 4 = .ok (.iload_n 1, 1) := dk_27 (dk_at dksX4_enroll_0 4 rfl rfl)
theorem dX4_enroll_5 : decode cX4_enroll 5 = .ok (.iconst 0, 1) := dk_3 (dk_at dksX4_enroll_0 5 rfl rfl)
theorem dX4_enroll_6 : decode cX4_enroll 6 = .ok (.iastore, 1) := dk_79 (dk_at dksX4_enroll_0 6 rfl rfl)
theorem dX4_enroll_7 : decode cX4_enroll 7 = .ok (.iconst 0, 1) := dk_3 (dk_at dksX4_enroll_0 7 rfl rfl)
theorem dX4_enroll_8 : decode cX4_enroll 8 = .ok (.istore_n 2, 1) := dk_61 (dk_at dksX4_enroll_0 8 rfl rfl)
theorem dX4_enroll_9 : decode cX4_enroll 9 = .ok (.iload_n 2, 1) := dk_28 (dk_at dksX4_enroll_0 9 rfl rfl)
theorem dX4_enroll_10 : decode cX4_enroll 10 = .ok (.aload_n 0, 1) := dk_42 (dk_at dksX4_enroll_0 10 rfl rfl)
theorem dX4_enroll_11 : decode cX4_enroll 11 = .ok (.getfield 26, 3) := dk_180 0 26 (dk_at dksX4_enroll_0 11 rfl rfl)
theorem dX4_enroll_14 : decode cX4_enroll 14 = .ok (.aload_n 0, 1) := dk_42 (dk_at dksX4_enroll_0 14 rfl rfl)
theorem dX4_enroll_15 : decode cX4_enroll 15 = .ok (.getfield 148, 3) := dk_180 0 148 (dk_at dksX4_enroll_0 15 rfl rfl)
theorem dX4_enroll_18 : decode cX4_enroll 18 = .ok (.iload_n 1, 1) := dk_27 (dk_at dksX4_enroll_0 18 rfl rfl)
theorem dX4_enroll_19 : decode cX4_enroll 19 = .ok (.iaload, 1) := dk_46 (dk_at dksX4_enroll_0 19 rfl rfl)
theorem dX4_enroll_20 : decode cX4_enroll 20 = .ok (.iaload, 1) := dk_46 (dk_at dksX4_enroll_0 20 rfl rfl)
theorem dX4_enroll_21 : decode cX4_enroll 21 = .ok (.if_icmp .ge 58, 3) := dk_162 0 58 (dk_at dksX4_enroll_0 21 rfl rfl)
theorem dX4_enroll_24 : decode cX4_enroll 24 = .ok (.aload_n 0, 1) := dk_42 (dk_at dksX4_enroll_1 0 rfl rfl)
theorem dX4_enroll_25 : decode cX4_enroll 25 = .ok (.getfield 172, 3) := dk_180 0 172 (dk_at dksX4_enroll_1 1 rfl rfl)
theorem dX4_enroll_28 : decode cX4_enroll 28 = .ok (.iload_n 1, 1) := dk_27 (dk_at dksX4_enroll_1 4 rfl rfl)
theorem dX4_enroll_29 : decode cX4_enroll 29 = .ok (.aload_n 0, 1) := dk_42 (dk_at dksX4_enroll_1 5 rfl rfl)
theorem dX4_enroll_30 : decode cX4_enroll 30 = .ok (.getfield 157, 3) := dk_180 0 157 (dk_at dksX4_enroll_1 6 rfl rfl)
theorem dX4_enroll_33 : decode cX4_enroll 33 = .ok (.bipush 8, 2) := dk_16 8 (dk_at dksX4_enroll_1 9 rfl rfl)
theorem dX4_enroll_35 : decode cX4_enroll 35 = .ok (.iload_n 1, 1) := dk_27 (dk_at dksX4_enroll_1 11 rfl rfl)
theorem dX4_enroll_36 : decode cX4_enroll 36 = .ok (.imul, 1) := dk_104 (dk_at dksX4_enroll_1 12 rfl rfl)
theorem dX4_enroll_37 : decode cX4_enroll 37 = .ok (.iload_n 2, 1) := dk_28 (dk_at dksX4_enroll_1 13 rfl rfl)
theorem dX4_enroll_38 : decode cX4_enroll 38 = .ok (.iadd, 1) := dk_96 (dk_at dksX4_enroll_1 14 rfl rfl)
theorem dX4_enroll_39 : decode cX4_enroll 39 = .ok (.iaload, 1) := dk_46 (dk_at dksX4_enroll_1 15 rfl rfl)
theorem dX4_enroll_40 : decode cX4_enroll 40 = .ok (.ifCond .ge 12, 3) := dk_156 0 12 (dk_at dksX4_enroll_1 16 rfl rfl)
theorem dX4_enroll_43 : decode cX4_enroll 43 = .ok (.aload_n 0, 1) := dk_42 (dk_at dksX4_enroll_1 19 rfl rfl)
theorem dX4_enroll_44 : decode cX4_enroll 44 = .ok (.getfield 172, 3) := dk_180 0 172 (dk_at dksX4_enroll_1 20 rfl rfl)
theorem dX4_enroll_47 : decode cX4_enroll 47 = .ok (.iload_n 1, 1) := dk_27 (dk_at dksX4_enroll_1 23 rfl rfl)
theorem dX4_enroll_48 : decode cX4_enroll 48 = .ok (.iaload, 1) := dk_46 (dk_at dksX4_enroll_2 0 rfl rfl)
theorem dX4_enroll_49 : decode cX4_enroll 49 = .ok (.goto 23, 3) := dk_167 0 23 (dk_at dksX4_enroll_2 1 rfl rfl)
theorem dX4_enroll_52 : decode cX4_enroll 52 = .ok (.aload_n 0, 1) := dk_42 (dk_at dksX4_enroll_2 4 rfl rfl)
theorem dX4_enroll_53 : decode cX4_enroll 53 = .ok (.getfield 172, 3) := dk_180 0 172 (dk_at dksX4_enroll_2 5 rfl rfl)
theorem dX4_enroll_56 : decode cX4_enroll 56 = .ok (.iload_n 1, 1) := dk_27 (dk_at dksX4_enroll_2 8 rfl rfl)
theorem dX4_enroll_57 : decode cX4_enroll 57 = .ok (.iaload, 1) := dk_46 (dk_at dksX4_enroll_2 9 rfl rfl)
theorem dX4_enroll_58 : decode cX4_enroll 58 = .ok (.iconst 1, 1) := dk_4 (dk_at dksX4_enroll_2 10 rfl rfl)
theorem dX4_enroll_59 : decode cX4_enroll 59 = .ok (.aload_n 0, 1) := dk_42 (dk_at dksX4_enroll_2 11 rfl rfl)
theorem dX4_enroll_60 : decode cX4_enroll 60 = .ok (.getfield 157, 3) := dk_180 0 157 (dk_at dksX4_enroll_2 12 rfl rfl)
theorem dX4_enroll_63 : decode cX4_enroll 63 = .ok (.bipush 8, 2) := dk_16 8 (dk_at dksX4_enroll_2 15 rfl rfl)
theorem dX4_enroll_65 : decode cX4_enroll 65 = .ok (.iload_n 1, 1) := dk_27 (dk_at dksX4_enroll_2 17 rfl rfl)
theorem dX4_enroll_66 : decode cX4_enroll 66 = .ok (.imul, 1) := dk_104 (dk_at dksX4_enroll_2 18 rfl rfl)
theorem dX4_enroll_67 : decode cX4_enroll 67 = .ok (.iload_n 2, 1) := dk_28 (dk_at dksX4_enroll_2 19 rfl rfl)
theorem dX4_enroll_68 : decode cX4_enroll 68 = .ok (.iadd, 1) := dk_96 (dk_at dksX4_enroll_2 20 rfl rfl)
theorem dX4_enroll_69 : decode cX4_enroll 69 = .ok (.iaload, 1) := dk_46 (dk_at dksX4_enroll_2 21 rfl rfl)
theorem dX4_enroll_70 : decode cX4_enroll 70 = .ok (.ishl, 1) := dk_120 (dk_at dksX4_enroll_2 22 rfl rfl)
theorem dX4_enroll_71 : decode cX4_enroll 71 = .ok (.ior, 1) := dk_128 (dk_at dksX4_enroll_2 23 rfl rfl)
theorem dX4_enroll_72 : decode cX4_enroll 72 = .ok (.iastore, 1) := dk_79 (dk_at dksX4_enroll_3 0 rfl rfl)
theorem dX4_enroll_73 : decode cX4_enroll 73 = .ok (.iinc 2 1, 3) := dk_132 2 1 (dk_at dksX4_enroll_3 1 rfl rfl)
theorem dX4_enroll_76 : decode cX4_enroll 76 = .ok (.goto (-67), 3) := dk_167 255 189 (dk_at dksX4_enroll_3 4 rfl rfl)
theorem dX4_enroll_79 : decode cX4_enroll 79 = .ok (.return_, 1) := dk_177 (dk_at dksX4_enroll_3 7 rfl rfl)
abbrev cX4_learned : ByteArray := prog_18_method_63_code
def yX4_learned : MethodName := ⟨RX4, "learned", "(IIII)I"⟩
def dkwX4_learned_1 : List UInt8 := [42, 21, 4, 182, 1, 204, 42, 27, 28, 29, 182, 1, 207, 172]
abbrev dktX4_learned_1 : List UInt8 := dkwX4_learned_1 ++ []
def dkwX4_learned_0 : List UInt8 := [42, 3, 181, 0, 226, 42, 27, 182, 1, 54, 153, 0, 12, 42, 28, 29, 182, 1, 177, 154, 0, 5, 2, 172]
abbrev dktX4_learned_0 : List UInt8 := dkwX4_learned_0 ++ dktX4_learned_1
theorem dksX4_learned_0 : cX4_learned.data.toList.drop 0 = dktX4_learned_0 := by decide +kernel
theorem dksX4_learned_1 : cX4_learned.data.toList.drop 24 = dktX4_learned_1 := dk_seg dksX4_learned_0 24 rfl rfl
theorem dX4_learned_0 : decode cX4_learned 0 = .ok (.aload_n 0, 1) := dk_42 (dk_at dksX4_learned_0 0 rfl rfl)
theorem dX4_learned_1 : decode cX4_learned 1 = .ok (.iconst 0, 1) := dk_3 (dk_at dksX4_learned_0 1 rfl rfl)
theorem dX4_learned_2 : decode cX4_learned 2 = .ok (.putfield 226, 3) := dk_181 0 226 (dk_at dksX4_learned_0 2 rfl rfl)
theorem dX4_learned_5 : decode cX4_learned 5 = .ok (.aload_n 0, 1) := dk_42 (dk_at dksX4_learned_0 5 rfl rfl)
theorem dX4_learned_6 : decode cX4_learned 6 = .ok (.iload_n 1, 1) := dk_27 (dk_at dksX4_learned_0 6 rfl rfl)
theorem dX4_learned_7 : decode cX4_learned 7 = .ok (.invokevirtual 310, 3) := dk_182 1 54 (dk_at dksX4_learned_0 7 rfl rfl)
theorem dX4_learned_10 : decode cX4_learned 10 = .ok (.ifCond .eq 12, 3) := dk_153 0 12 (dk_at dksX4_learned_0 10 rfl rfl)
theorem dX4_learned_13 : decode cX4_learned 13 = .ok (.aload_n 0, 1) := dk_42 (dk_at dksX4_learned_0 13 rfl rfl)
theorem dX4_learned_14 : decode cX4_learned 14 = .ok (.iload_n 2, 1) := dk_28 (dk_at dksX4_learned_0 14 rfl rfl)
theorem dX4_learned_15 : decode cX4_learned 15 = .ok (.iload_n 3, 1) := dk_29 (dk_at dksX4_learned_0 15 rfl rfl)
theorem dX4_learned_16 : decode cX4_learned 16 = .ok (.invokevirtual 433, 3) := dk_182 1 177 (dk_at dksX4_learned_0 16 rfl rfl)
theorem dX4_learned_19 : decode cX4_learned 19 = .ok (.ifCond .ne 5, 3) := dk_154 0 5 (dk_at dksX4_learned_0 19 rfl rfl)
theorem dX4_learned_22 : decode cX4_learned 22 = .ok (.iconst (-1), 1) := dk_2 (dk_at dksX4_learned_0 22 rfl rfl)
theorem dX4_learned_23 : decode cX4_learned 23 = .ok (.ireturn, 1) := dk_172 (dk_at dksX4_learned_0 23 rfl rfl)
theorem dX4_learned_24 : decode cX4_learned 24 = .ok (.aload_n 0, 1) := dk_42 (dk_at dksX4_learned_1 0 rfl rfl)
theorem dX4_learned_25 : decode cX4_learned 25 = .ok (.iload 4, 2) := dk_21 4 (dk_at dksX4_learned_1 1 rfl rfl)
theorem dX4_learned_27 : decode cX4_learned 27 = .ok (.invokevirtual 460, 3) := dk_182 1 204 (dk_at dksX4_learned_1 3 rfl rfl)
theorem dX4_learned_30 : decode cX4_learned 30 = .ok (.aload_n 0, 1) := dk_42 (dk_at dksX4_learned_1 6 rfl rfl)
theorem dX4_learned_31 : decode cX4_learned 31 = .ok (.iload_n 1, 1) := dk_27 (dk_at dksX4_learned_1 7 rfl rfl)
theorem dX4_learned_32 : decode cX4_learned 32 = .ok (.iload_n 2, 1) := dk_28 (dk_at dksX4_learned_1 8 rfl rfl)
theorem dX4_learned_33 : decode cX4_learned 33 = .ok (.iload_n 3, 1) := dk_29 (dk_at dksX4_learned_1 9 rfl rfl)
theorem dX4_learned_34 : decode cX4_learned 34 = .ok (.invokevirtual 463, 3) := dk_182 1 207 (dk_at dksX4_learned_1 10 rfl rfl)
theorem dX4_learned_37 : decode cX4_learned 37 = .ok (.ireturn, 1) := dk_172 (dk_at dksX4_learned_1 13 rfl rfl)
abbrev cX4_learnedOf : ByteArray := prog_18_method_58_code
def yX4_learnedOf : MethodName := ⟨RX4, "learnedOf", "(III)I"⟩
def dkwX4_learnedOf_7 : List UInt8 := [182, 1, 199, 167, 0, 4, 3, 96, 54, 4, 132, 6, 1, 167, 255, 170, 21, 4, 172]
abbrev dktX4_learnedOf_7 : List UInt8 := dkwX4_learnedOf_7 ++ []
def dkwX4_learnedOf_6 : List UInt8 := [27, 160, 0, 28, 42, 180, 0, 142, 21, 6, 46, 42, 180, 0, 139, 28, 46, 163, 0, 12, 42, 21, 6]
abbrev dktX4_learnedOf_6 : List UInt8 := dkwX4_learnedOf_6 ++ dktX4_learnedOf_7
def dkwX4_learnedOf_5 : List UInt8 := [21, 6, 46, 42, 180, 0, 148, 28, 46, 160, 0, 44, 42, 180, 0, 157, 16, 8, 21, 6, 104, 29, 96, 46]
abbrev dktX4_learnedOf_5 : List UInt8 := dkwX4_learnedOf_5 ++ dktX4_learnedOf_6
def dkwX4_learnedOf_4 : List UInt8 := [42, 180, 1, 190, 162, 0, 83, 21, 4, 42, 180, 0, 145, 21, 6, 46, 6, 159, 0, 60, 42, 180, 0, 148]
abbrev dktX4_learnedOf_4 : List UInt8 := dkwX4_learnedOf_4 ++ dktX4_learnedOf_5
def dkwX4_learnedOf_3 : List UInt8 := [180, 0, 106, 21, 6, 46, 167, 0, 4, 3, 96, 54, 4, 132, 6, 1, 167, 255, 191, 3, 54, 6, 21, 6]
abbrev dktX4_learnedOf_3 : List UInt8 := dkwX4_learnedOf_3 ++ dktX4_learnedOf_4
def dkwX4_learnedOf_2 : List UInt8 := [180, 0, 100, 21, 6, 46, 27, 160, 0, 25, 42, 180, 0, 103, 21, 6, 46, 21, 5, 160, 0, 13, 42]
abbrev dktX4_learnedOf_2 : List UInt8 := dkwX4_learnedOf_2 ++ dktX4_learnedOf_3
def dkwX4_learnedOf_1 : List UInt8 := [180, 1, 161, 162, 0, 62, 21, 4, 42, 180, 0, 109, 21, 6, 46, 42, 180, 1, 187, 163, 0, 36, 42]
abbrev dktX4_learnedOf_1 : List UInt8 := dkwX4_learnedOf_1 ++ dktX4_learnedOf_2
def dkwX4_learnedOf_0 : List UInt8 := [3, 54, 4, 16, 8, 42, 180, 0, 148, 28, 46, 104, 29, 96, 54, 5, 3, 54, 6, 21, 6, 42]
abbrev dktX4_learnedOf_0 : List UInt8 := dkwX4_learnedOf_0 ++ dktX4_learnedOf_1
theorem dksX4_learnedOf_0 : cX4_learnedOf.data.toList.drop 0 = dktX4_learnedOf_0 := by decide +kernel
theorem dksX4_learnedOf_1 : cX4_learnedOf.data.toList.drop 22 = dktX4_learnedOf_1 := dk_seg dksX4_learnedOf_0 22 rfl rfl
theorem dksX4_learnedOf_2 : cX4_learnedOf.data.toList.drop 45 = dktX4_learnedOf_2 := dk_seg dksX4_learnedOf_1 23 rfl rfl
theorem dksX4_learnedOf_3 : cX4_learnedOf.data.toList.drop 68 = dktX4_learnedOf_3 := dk_seg dksX4_learnedOf_2 23 rfl rfl
theorem dksX4_learnedOf_4 : cX4_learnedOf.data.toList.drop 92 = dktX4_learnedOf_4 := dk_seg dksX4_learnedOf_3 24 rfl rfl
theorem dksX4_learnedOf_5 : cX4_learnedOf.data.toList.drop 116 = dktX4_learnedOf_5 := dk_seg dksX4_learnedOf_4 24 rfl rfl
theorem dksX4_learnedOf_6 : cX4_learnedOf.data.toList.drop 140 = dktX4_learnedOf_6 := dk_seg dksX4_learnedOf_5 24 rfl rfl
theorem dksX4_learnedOf_7 : cX4_learnedOf.data.toList.drop 163 = dktX4_learnedOf_7 := dk_seg dksX4_learnedOf_6 23 rfl rfl
theorem dX4_learnedOf_0 : decode cX4_learnedOf 0 = .ok (.iconst 0, 1) := dk_3 (dk_at dksX4_learnedOf_0 0 rfl rfl)
theorem dX4_learnedOf_1 : decode cX4_learnedOf 1 = .ok (.istore 4, 2) := dk_54 4 (dk_at dksX4_learnedOf_0 1 rfl rfl)
theorem dX4_learnedOf_3 : decode cX4_learnedOf 3 = .ok (.bipush 8, 2) := dk_16 8 (dk_at dksX4_learnedOf_0 3 rfl rfl)
theorem dX4_learnedOf_5 : decode cX4_learnedOf 5 = .ok (.aload_n 0, 1) := dk_42 (dk_at dksX4_learnedOf_0 5 rfl rfl)
theorem dX4_learnedOf_6 : decode cX4_learnedOf 6 = .ok (.getfield 148, 3) := dk_180 0 148 (dk_at dksX4_learnedOf_0 6 rfl rfl)
theorem dX4_learnedOf_9 : decode cX4_learnedOf 9 = .ok (.iload_n 2, 1) := dk_28 (dk_at dksX4_learnedOf_0 9 rfl rfl)
theorem dX4_learnedOf_10 : decode cX4_learnedOf 10 = .ok (.iaload, 1) := dk_46 (dk_at dksX4_learnedOf_0 10 rfl rfl)
theorem dX4_learnedOf_11 : decode cX4_learnedOf 11 = .ok (.imul, 1) := dk_104 (dk_at dksX4_learnedOf_0 11 rfl rfl)
theorem dX4_learnedOf_12 : decode cX4_learnedOf 12 = .ok (.iload_n 3, 1) := dk_29 (dk_at dksX4_learnedOf_0 12 rfl rfl)
theorem dX4_learnedOf_13 : decode cX4_learnedOf 13 = .ok (.iadd, 1) := dk_96 (dk_at dksX4_learnedOf_0 13 rfl rfl)
theorem dX4_learnedOf_14 : decode cX4_learnedOf 14 = .ok (.istore 5, 2) := dk_54 5 (dk_at dksX4_learnedOf_0 14 rfl rfl)
theorem dX4_learnedOf_16 : decode cX4_learnedOf 16 = .ok (.iconst 0, 1) := dk_3 (dk_at dksX4_learnedOf_0 16 rfl rfl)
theorem dX4_learnedOf_17 : decode cX4_learnedOf 17 = .ok (.istore 6, 2) := dk_54 6 (dk_at dksX4_learnedOf_0 17 rfl rfl)
theorem dX4_learnedOf_19 : decode cX4_learnedOf 19 = .ok (.iload 6, 2) := dk_21 6 (dk_at dksX4_learnedOf_0 19 rfl rfl)
theorem dX4_learnedOf_21 : decode cX4_learnedOf 21 = .ok (.aload_n 0, 1) := dk_42 (dk_at dksX4_learnedOf_0 21 rfl rfl)
theorem dX4_learnedOf_22 : decode cX4_learnedOf 22 = .ok (.getfield 417, 3) := dk_180 1 161 (dk_at dksX4_learnedOf_1 0 rfl rfl)
theorem dX4_learnedOf_25 : decode cX4_learnedOf 25 = .ok (.if_icmp .ge 62, 3) := dk_162 0 62 (dk_at dksX4_learnedOf_1 3 rfl rfl)
theorem dX4_learnedOf_28 : decode cX4_learnedOf 28 = .ok (.iload 4, 2) := dk_21 4 (dk_at dksX4_learnedOf_1 6 rfl rfl)
theorem dX4_learnedOf_30 : decode cX4_learnedOf 30 = .ok (.aload_n 0, 1) := dk_42 (dk_at dksX4_learnedOf_1 8 rfl rfl)
theorem dX4_learnedOf_31 : decode cX4_learnedOf 31 = .ok (.getfield 109, 3) := dk_180 0 109 (dk_at dksX4_learnedOf_1 9 rfl rfl)
theorem dX4_learnedOf_34 : decode cX4_learnedOf 34 = .ok (.iload 6, 2) := dk_21 6 (dk_at dksX4_learnedOf_1 12 rfl rfl)
theorem dX4_learnedOf_36 : decode cX4_learnedOf 36 = .ok (.iaload, 1) := dk_46 (dk_at dksX4_learnedOf_1 14 rfl rfl)
theorem dX4_learnedOf_37 : decode cX4_learnedOf 37 = .ok (.aload_n 0, 1) := dk_42 (dk_at dksX4_learnedOf_1 15 rfl rfl)
theorem dX4_learnedOf_38 : decode cX4_learnedOf 38 = .ok (.getfield 443, 3) := dk_180 1 187 (dk_at dksX4_learnedOf_1 16 rfl rfl)
theorem dX4_learnedOf_41 : decode cX4_learnedOf 41 = .ok (.if_icmp .gt 36, 3) := dk_163 0 36 (dk_at dksX4_learnedOf_1 19 rfl rfl)
theorem dX4_learnedOf_44 : decode cX4_learnedOf 44 = .ok (.aload_n 0, 1) := dk_42 (dk_at dksX4_learnedOf_1 22 rfl rfl)
theorem dX4_learnedOf_45 : decode cX4_learnedOf 45 = .ok (.getfield 100, 3) := dk_180 0 100 (dk_at dksX4_learnedOf_2 0 rfl rfl)
theorem dX4_learnedOf_48 : decode cX4_learnedOf 48 = .ok (.iload 6, 2) := dk_21 6 (dk_at dksX4_learnedOf_2 3 rfl rfl)
theorem dX4_learnedOf_50 : decode cX4_learnedOf 50 = .ok (.iaload, 1) := dk_46 (dk_at dksX4_learnedOf_2 5 rfl rfl)
theorem dX4_learnedOf_51 : decode cX4_learnedOf 51 = .ok (.iload_n 1, 1) := dk_27 (dk_at dksX4_learnedOf_2 6 rfl rfl)
theorem dX4_learnedOf_52 : decode cX4_learnedOf 52 = .ok (.if_icmp .ne 25, 3) := dk_160 0 25 (dk_at dksX4_learnedOf_2 7 rfl rfl)
theorem dX4_learnedOf_55 : decode cX4_learnedOf 55 = .ok (.aload_n 0, 1) := dk_42 (dk_at dksX4_learnedOf_2 10 rfl rfl)
theorem dX4_learnedOf_56 : decode cX4_learnedOf 56 = .ok (.getfield 103, 3) := dk_180 0 103 (dk_at dksX4_learnedOf_2 11 rfl rfl)
theorem dX4_learnedOf_59 : decode cX4_learnedOf 59 = .ok (.iload 6, 2) := dk_21 6 (dk_at dksX4_learnedOf_2 14 rfl rfl)
theorem dX4_learnedOf_61 : decode cX4_learnedOf 61 = .ok (.iaload, 1) := dk_46 (dk_at dksX4_learnedOf_2 16 rfl rfl)
theorem dX4_learnedOf_62 : decode cX4_learnedOf 62 = .ok (.iload 5, 2) := dk_21 5 (dk_at dksX4_learnedOf_2 17 rfl rfl)
theorem dX4_learnedOf_64 : decode cX4_learnedOf 64 = .ok (.if_icmp .ne 13, 3) := dk_160 0 13 (dk_at dksX4_learnedOf_2 19 rfl rfl)
theorem dX4_learnedOf_67 : decode cX4_learnedOf 67 = .ok (.aload_n 0, 1) := dk_42 (dk_at dksX4_learnedOf_2 22 rfl rfl)
theorem dX4_learnedOf_68 : decode cX4_learnedOf 68 = .ok (.getfield 106, 3) := dk_180 0 106 (dk_at dksX4_learnedOf_3 0 rfl rfl)
theorem dX4_learnedOf_71 : decode cX4_learnedOf 71 = .ok (.iload 6, 2) := dk_21 6 (dk_at dksX4_learnedOf_3 3 rfl rfl)
theorem dX4_learnedOf_73 : decode cX4_learnedOf 73 = .ok (.iaload, 1) := dk_46 (dk_at dksX4_learnedOf_3 5 rfl rfl)
theorem dX4_learnedOf_74 : decode cX4_learnedOf 74 = .ok (.goto 4, 3) := dk_167 0 4 (dk_at dksX4_learnedOf_3 6 rfl rfl)
theorem dX4_learnedOf_77 : decode cX4_learnedOf 77 = .ok (.iconst 0, 1) := dk_3 (dk_at dksX4_learnedOf_3 9 rfl rfl)
theorem dX4_learnedOf_78 : decode cX4_learnedOf 78 = .ok (.iadd, 1) := dk_96 (dk_at dksX4_learnedOf_3 10 rfl rfl)
theorem dX4_learnedOf_79 : decode cX4_learnedOf 79 = .ok (.istore 4, 2) := dk_54 4 (dk_at dksX4_learnedOf_3 11 rfl rfl)
theorem dX4_learnedOf_81 : decode cX4_learnedOf 81 = .ok (.iinc 6 1, 3) := dk_132 6 1 (dk_at dksX4_learnedOf_3 13 rfl rfl)
theorem dX4_learnedOf_84 : decode cX4_learnedOf 84 = .ok (.goto (-65), 3) := dk_167 255 191 (dk_at dksX4_learnedOf_3 16 rfl rfl)
theorem dX4_learnedOf_87 : decode cX4_learnedOf 87 = .ok (.iconst 0, 1) := dk_3 (dk_at dksX4_learnedOf_3 19 rfl rfl)
theorem dX4_learnedOf_88 : decode cX4_learnedOf 88 = .ok (.istore 6, 2) := dk_54 6 (dk_at dksX4_learnedOf_3 20 rfl rfl)
theorem dX4_learnedOf_90 : decode cX4_learnedOf 90 = .ok (.iload 6, 2) := dk_21 6 (dk_at dksX4_learnedOf_3 22 rfl rfl)
theorem dX4_learnedOf_92 : decode cX4_learnedOf 92 = .ok (.aload_n 0, 1) := dk_42 (dk_at dksX4_learnedOf_4 0 rfl rfl)
theorem dX4_learnedOf_93 : decode cX4_learnedOf 93 = .ok (.getfield 446, 3) := dk_180 1 190 (dk_at dksX4_learnedOf_4 1 rfl rfl)
theorem dX4_learnedOf_96 : decode cX4_learnedOf 96 = .ok (.if_icmp .ge 83, 3) := dk_162 0 83 (dk_at dksX4_learnedOf_4 4 rfl rfl)
theorem dX4_learnedOf_99 : decode cX4_learnedOf 99 = .ok (.iload 4, 2) := dk_21 4 (dk_at dksX4_learnedOf_4 7 rfl rfl)
theorem dX4_learnedOf_101 : decode cX4_learnedOf 101 = .ok (.aload_n 0, 1) := dk_42 (dk_at dksX4_learnedOf_4 9 rfl rfl)
theorem dX4_learnedOf_102 : decode cX4_learnedOf 102 = .ok (.getfield 145, 3) := dk_180 0 145 (dk_at dksX4_learnedOf_4 10 rfl rfl)
theorem dX4_learnedOf_105 : decode cX4_learnedOf 105 = .ok (.iload 6, 2) := dk_21 6 (dk_at dksX4_learnedOf_4 13 rfl rfl)
theorem dX4_learnedOf_107 : decode cX4_learnedOf 107 = .ok (.iaload, 1) := dk_46 (dk_at dksX4_learnedOf_4 15 rfl rfl)
theorem dX4_learnedOf_108 : decode cX4_learnedOf 108 = .ok (.iconst 3, 1) := dk_6 (dk_at dksX4_learnedOf_4 16 rfl rfl)
theorem dX4_learnedOf_109 : decode cX4_learnedOf 109 = .ok (.if_icmp .eq 60, 3) := dk_159 0 60 (dk_at dksX4_learnedOf_4 17 rfl rfl)
theorem dX4_learnedOf_112 : decode cX4_learnedOf 112 = .ok (.aload_n 0, 1) := dk_42 (dk_at dksX4_learnedOf_4 20 rfl rfl)
theorem dX4_learnedOf_113 : decode cX4_learnedOf 113 = .ok (.getfield 148, 3) := dk_180 0 148 (dk_at dksX4_learnedOf_4 21 rfl rfl)
theorem dX4_learnedOf_116 : decode cX4_learnedOf 116 = .ok (.iload 6, 2) := dk_21 6 (dk_at dksX4_learnedOf_5 0 rfl rfl)
theorem dX4_learnedOf_118 : decode cX4_learnedOf 118 = .ok (.iaload, 1) := dk_46 (dk_at dksX4_learnedOf_5 2 rfl rfl)
theorem dX4_learnedOf_119 : decode cX4_learnedOf 119 = .ok (.aload_n 0, 1) := dk_42 (dk_at dksX4_learnedOf_5 3 rfl rfl)
theorem dX4_learnedOf_120 : decode cX4_learnedOf 120 = .ok (.getfield 148, 3) := dk_180 0 148 (dk_at dksX4_learnedOf_5 4 rfl rfl)
theorem dX4_learnedOf_123 : decode cX4_learnedOf 123 = .ok (.iload_n 2, 1) := dk_28 (dk_at dksX4_learnedOf_5 7 rfl rfl)
theorem dX4_learnedOf_124 : decode cX4_learnedOf 124 = .ok (.iaload, 1) := dk_46 (dk_at dksX4_learnedOf_5 8 rfl rfl)
theorem dX4_learnedOf_125 : decode cX4_learnedOf 125 = .ok (.if_icmp .ne 44, 3) := dk_160 0 44 (dk_at dksX4_learnedOf_5 9 rfl rfl)
theorem dX4_learnedOf_128 : decode cX4_learnedOf 128 = .ok (.aload_n 0, 1) := dk_42 (dk_at dksX4_learnedOf_5 12 rfl rfl)
theorem dX4_learnedOf_129 : decode cX4_learnedOf 129 = .ok (.getfield 157, 3) := dk_180 0 157 (dk_at dksX4_learnedOf_5 13 rfl rfl)
theorem dX4_learnedOf_132 : decode cX4_learnedOf 132 = .ok (.bipush 8, 2) := dk_16 8 (dk_at dksX4_learnedOf_5 16 rfl rfl)
theorem dX4_learnedOf_134 : decode cX4_learnedOf 134 = .ok (.iload 6, 2) := dk_21 6 (dk_at dksX4_learnedOf_5 18 rfl rfl)
theorem dX4_learnedOf_136 : decode cX4_learnedOf 136 = .ok (.imul, 1) := dk_104 (dk_at dksX4_learnedOf_5 20 rfl rfl)
theorem dX4_learnedOf_137 : decode cX4_learnedOf 137 = .ok (.iload_n 3, 1) := dk_29 (dk_at dksX4_learnedOf_5 21 rfl rfl)
theorem dX4_learnedOf_138 : decode cX4_learnedOf 138 = .ok (.iadd, 1) := dk_96 (dk_at dksX4_learnedOf_5 22 rfl rfl)
theorem dX4_learnedOf_139 : decode cX4_learnedOf 139 = .ok (.iaload, 1) := dk_46 (dk_at dksX4_learnedOf_5 23 rfl rfl)
theorem dX4_learnedOf_140 : decode cX4_learnedOf 140 = .ok (.iload_n 1, 1) := dk_27 (dk_at dksX4_learnedOf_6 0 rfl rfl)
theorem dX4_learnedOf_141 : decode cX4_learnedOf 141 = .ok (.if_icmp .ne 28, 3) := dk_160 0 28 (dk_at dksX4_learnedOf_6 1 rfl rfl)
theorem dX4_learnedOf_144 : decode cX4_learnedOf 144 = .ok (.aload_n 0, 1) := dk_42 (dk_at dksX4_learnedOf_6 4 rfl rfl)
theorem dX4_learnedOf_145 : decode cX4_learnedOf 145 = .ok (.getfield 142, 3) := dk_180 0 142 (dk_at dksX4_learnedOf_6 5 rfl rfl)
theorem dX4_learnedOf_148 : decode cX4_learnedOf 148 = .ok (.iload 6, 2) := dk_21 6 (dk_at dksX4_learnedOf_6 8 rfl rfl)
theorem dX4_learnedOf_150 : decode cX4_learnedOf 150 = .ok (.iaload, 1) := dk_46 (dk_at dksX4_learnedOf_6 10 rfl rfl)
theorem dX4_learnedOf_151 : decode cX4_learnedOf 151 = .ok (.aload_n 0, 1) := dk_42 (dk_at dksX4_learnedOf_6 11 rfl rfl)
theorem dX4_learnedOf_152 : decode cX4_learnedOf 152 = .ok (.getfield 139, 3) := dk_180 0 139 (dk_at dksX4_learnedOf_6 12 rfl rfl)
theorem dX4_learnedOf_155 : decode cX4_learnedOf 155 = .ok (.iload_n 2, 1) := dk_28 (dk_at dksX4_learnedOf_6 15 rfl rfl)
theorem dX4_learnedOf_156 : decode cX4_learnedOf 156 = .ok (.iaload, 1) := dk_46 (dk_at dksX4_learnedOf_6 16 rfl rfl)
theorem dX4_learnedOf_157 : decode cX4_learnedOf 157 = .ok (.if_icmp .gt 12, 3) := dk_163 0 12 (dk_at dksX4_learnedOf_6 17 rfl rfl)
theorem dX4_learnedOf_160 : decode cX4_learnedOf 160 = .ok (.aload_n 0, 1) := dk_42 (dk_at dksX4_learnedOf_6 20 rfl rfl)
theorem dX4_learnedOf_161 : decode cX4_learnedOf 161 = .ok (.iload 6, 2) := dk_21 6 (dk_at dksX4_learnedOf_6 21 rfl rfl)
theorem dX4_learnedOf_163 : decode cX4_learnedOf 163 = .ok (.invokevirtual 455, 3) := dk_182 1 199 (dk_at dksX4_learnedOf_7 0 rfl rfl)
theorem dX4_learnedOf_166 : decode cX4_learnedOf 166 = .ok (.goto 4, 3) := dk_167 0 4 (dk_at dksX4_learnedOf_7 3 rfl rfl)
theorem dX4_learnedOf_169 : decode cX4_learnedOf 169 = .ok (.iconst 0, 1) := dk_3 (dk_at dksX4_learnedOf_7 6 rfl rfl)
theorem dX4_learnedOf_170 : decode cX4_learnedOf 170 = .ok (.iadd, 1) := dk_96 (dk_at dksX4_learnedOf_7 7 rfl rfl)
theorem dX4_learnedOf_171 : decode cX4_learnedOf 171 = .ok (.istore 4, 2) := dk_54 4 (dk_at dksX4_learnedOf_7 8 rfl rfl)
theorem dX4_learnedOf_173 : decode cX4_learnedOf 173 = .ok (.iinc 6 1, 3) := dk_132 6 1 (dk_at dksX4_learnedOf_7 10 rfl rfl)
theorem dX4_learnedOf_176 : decode cX4_learnedOf 176 = .ok (.goto (-86), 3) := dk_167 255 170 (dk_at dksX4_learnedOf_7 13 rfl rfl)
theorem dX4_learnedOf_179 : decode cX4_learnedOf 179 = .ok (.iload 4, 2) := dk_21 4 (dk_at dksX4_learnedOf_7 16 rfl rfl)
theorem dX4_learnedOf_181 : decode cX4_learnedOf 181 = .ok (.ireturn, 1) := dk_172 (dk_at dksX4_learnedOf_7 18 rfl rfl)
abbrev cX4_longOf : ByteArray := prog_18_method_56_code
def yX4_longOf : MethodName := ⟨RX4, "longOf", "(I)I"⟩
def dkwX4_longOf_0 : List UInt8 := [42, 180, 0, 142, 27, 46, 42, 180, 0, 139, 27, 46, 100, 172]
abbrev dktX4_longOf_0 : List UInt8 := dkwX4_longOf_0 ++ []
theorem dksX4_longOf_0 : cX4_longOf.data.toList.drop 0 = dktX4_longOf_0 := by decide +kernel
theorem dX4_longOf_0 : decode cX4_longOf 0 = .ok (.aload_n 0, 1) := dk_42 (dk_at dksX4_longOf_0 0 rfl rfl)
theorem dX4_longOf_1 : decode cX4_longOf 1 = .ok (.getfield 142, 3) := dk_180 0 142 (dk_at dksX4_longOf_0 1 rfl rfl)
theorem dX4_longOf_4 : decode cX4_longOf 4 = .ok (.iload_n 1, 1) := dk_27 (dk_at dksX4_longOf_0 4 rfl rfl)
theorem dX4_longOf_5 : decode cX4_longOf 5 = .ok (.iaload, 1) := dk_46 (dk_at dksX4_longOf_0 5 rfl rfl)
theorem dX4_longOf_6 : decode cX4_longOf 6 = .ok (.aload_n 0, 1) := dk_42 (dk_at dksX4_longOf_0 6 rfl rfl)
theorem dX4_longOf_7 : decode cX4_longOf 7 = .ok (.getfield 139, 3) := dk_180 0 139 (dk_at dksX4_longOf_0 7 rfl rfl)
theorem dX4_longOf_10 : decode cX4_longOf 10 = .ok (.iload_n 1, 1) := dk_27 (dk_at dksX4_longOf_0 10 rfl rfl)
theorem dX4_longOf_11 : decode cX4_longOf 11 = .ok (.iaload, 1) := dk_46 (dk_at dksX4_longOf_0 11 rfl rfl)
theorem dX4_longOf_12 : decode cX4_longOf 12 = .ok (.isub, 1) := dk_100 (dk_at dksX4_longOf_0 12 rfl rfl)
theorem dX4_longOf_13 : decode cX4_longOf 13 = .ok (.ireturn, 1) := dk_172 (dk_at dksX4_longOf_0 13 rfl rfl)
abbrev cX4_tired : ByteArray := prog_18_method_64_code
def yX4_tired : MethodName := ⟨RX4, "tired", "(III)I"⟩
def dkwX4_tired_1 : List UInt8 := [154, 0, 5, 2, 172, 42, 29, 182, 1, 204, 42, 27, 28, 182, 1, 211, 172]
abbrev dktX4_tired_1 : List UInt8 := dkwX4_tired_1 ++ []
def dkwX4_tired_0 : List UInt8 := [42, 3, 181, 0, 226, 42, 27, 182, 1, 54, 153, 0, 17, 28, 3, 42, 180, 1, 167, 4, 100, 184, 0, 242]
abbrev dktX4_tired_0 : List UInt8 := dkwX4_tired_0 ++ dktX4_tired_1
theorem dksX4_tired_0 : cX4_tired.data.toList.drop 0 = dktX4_tired_0 := by decide +kernel
theorem dksX4_tired_1 : cX4_tired.data.toList.drop 24 = dktX4_tired_1 := dk_seg dksX4_tired_0 24 rfl rfl
theorem dX4_tired_0 : decode cX4_tired 0 = .ok (.aload_n 0, 1) := dk_42 (dk_at dksX4_tired_0 0 rfl rfl)
theorem dX4_tired_1 : decode cX4_tired 1 = .ok (.iconst 0, 1) := dk_3 (dk_at dksX4_tired_0 1 rfl rfl)
theorem dX4_tired_2 : decode cX4_tired 2 = .ok (.putfield 226, 3) := dk_181 0 226 (dk_at dksX4_tired_0 2 rfl rfl)
theorem dX4_tired_5 : decode cX4_tired 5 = .ok (.aload_n 0, 1) := dk_42 (dk_at dksX4_tired_0 5 rfl rfl)
theorem dX4_tired_6 : decode cX4_tired 6 = .ok (.iload_n 1, 1) := dk_27 (dk_at dksX4_tired_0 6 rfl rfl)
theorem dX4_tired_7 : decode cX4_tired 7 = .ok (.invokevirtual 310, 3) := dk_182 1 54 (dk_at dksX4_tired_0 7 rfl rfl)
theorem dX4_tired_10 : decode cX4_tired 10 = .ok (.ifCond .eq 17, 3) := dk_153 0 17 (dk_at dksX4_tired_0 10 rfl rfl)
theorem dX4_tired_13 : decode cX4_tired 13 = .ok (.iload_n 2, 1) := dk_28 (dk_at dksX4_tired_0 13 rfl rfl)
theorem dX4_tired_14 : decode cX4_tired 14 = .ok (.iconst 0, 1) := dk_3 (dk_at dksX4_tired_0 14 rfl rfl)
theorem dX4_tired_15 : decode cX4_tired 15 = .ok (.aload_n 0, 1) := dk_42 (dk_at dksX4_tired_0 15 rfl rfl)
theorem dX4_tired_16 : decode cX4_tired 16 = .ok (.getfield 423, 3) := dk_180 1 167 (dk_at dksX4_tired_0 16 rfl rfl)
theorem dX4_tired_19 : decode cX4_tired 19 = .ok (.iconst 1, 1) := dk_4 (dk_at dksX4_tired_0 19 rfl rfl)
theorem dX4_tired_20 : decode cX4_tired 20 = .ok (.isub, 1) := dk_100 (dk_at dksX4_tired_0 20 rfl rfl)
theorem dX4_tired_21 : decode cX4_tired 21 = .ok (.invokestatic 242, 3) := dk_184 0 242 (dk_at dksX4_tired_0 21 rfl rfl)
theorem dX4_tired_24 : decode cX4_tired 24 = .ok (.ifCond .ne 5, 3) := dk_154 0 5 (dk_at dksX4_tired_1 0 rfl rfl)
theorem dX4_tired_27 : decode cX4_tired 27 = .ok (.iconst (-1), 1) := dk_2 (dk_at dksX4_tired_1 3 rfl rfl)
theorem dX4_tired_28 : decode cX4_tired 28 = .ok (.ireturn, 1) := dk_172 (dk_at dksX4_tired_1 4 rfl rfl)
theorem dX4_tired_29 : decode cX4_tired 29 = .ok (.aload_n 0, 1) := dk_42 (dk_at dksX4_tired_1 5 rfl rfl)
theorem dX4_tired_30 : decode cX4_tired 30 = .ok (.iload_n 3, 1) := dk_29 (dk_at dksX4_tired_1 6 rfl rfl)
theorem dX4_tired_31 : decode cX4_tired 31 = .ok (.invokevirtual 460, 3) := dk_182 1 204 (dk_at dksX4_tired_1 7 rfl rfl)
theorem dX4_tired_34 : decode cX4_tired 34 = .ok (.aload_n 0, 1) := dk_42 (dk_at dksX4_tired_1 10 rfl rfl)
theorem dX4_tired_35 : decode cX4_tired 35 = .ok (.iload_n 1, 1) := dk_27 (dk_at dksX4_tired_1 11 rfl rfl)
theorem dX4_tired_36 : decode cX4_tired 36 = .ok (.iload_n 2, 1) := dk_28 (dk_at dksX4_tired_1 12 rfl rfl)
theorem dX4_tired_37 : decode cX4_tired 37 = .ok (.invokevirtual 467, 3) := dk_182 1 211 (dk_at dksX4_tired_1 13 rfl rfl)
theorem dX4_tired_40 : decode cX4_tired 40 = .ok (.ireturn, 1) := dk_172 (dk_at dksX4_tired_1 16 rfl rfl)
abbrev cX4_tiredOf : ByteArray := prog_18_method_59_code
def yX4_tiredOf : MethodName := ⟨RX4, "tiredOf", "(II)I"⟩
def dkwX4_tiredOf_9 : List UInt8 := [167, 255, 54, 29, 172]
abbrev dktX4_tiredOf_9 : List UInt8 := dkwX4_tiredOf_9 ++ []
def dkwX4_tiredOf_8 : List UInt8 := [167, 0, 4, 3, 62, 42, 180, 0, 139, 21, 6, 46, 54, 4, 29, 21, 7, 96, 62, 132, 5, 1]
abbrev dktX4_tiredOf_8 : List UInt8 := dkwX4_tiredOf_8 ++ dktX4_tiredOf_9
def dkwX4_tiredOf_7 : List UInt8 := [180, 0, 139, 21, 6, 46, 21, 4, 100, 164, 0, 18, 29, 42, 180, 0, 139, 21, 6, 46, 100, 21, 4, 96]
abbrev dktX4_tiredOf_7 : List UInt8 := dkwX4_tiredOf_7 ++ dktX4_tiredOf_8
def dkwX4_tiredOf_6 : List UInt8 := [167, 0, 4, 3, 54, 7, 21, 7, 154, 0, 12, 21, 6, 28, 159, 0, 6, 167, 0, 48, 29, 42]
abbrev dktX4_tiredOf_6 : List UInt8 := dkwX4_tiredOf_6 ++ dktX4_tiredOf_7
def dkwX4_tiredOf_5 : List UInt8 := [6, 160, 0, 10, 5, 21, 7, 104, 167, 0, 20, 42, 180, 0, 145, 21, 6, 46, 5, 160, 0, 8, 21, 7]
abbrev dktX4_tiredOf_5 : List UInt8 := dkwX4_tiredOf_5 ++ dktX4_tiredOf_6
def dkwX4_tiredOf_4 : List UInt8 := [21, 8, 96, 46, 167, 0, 4, 3, 96, 54, 7, 132, 8, 1, 167, 255, 182, 42, 180, 0, 145, 21, 6, 46]
abbrev dktX4_tiredOf_4 : List UInt8 := dkwX4_tiredOf_4 ++ dktX4_tiredOf_5
def dkwX4_tiredOf_3 : List UInt8 := [104, 21, 8, 96, 46, 27, 160, 0, 24, 42, 180, 0, 32, 16, 8, 42, 180, 0, 148, 21, 6, 46, 104]
abbrev dktX4_tiredOf_3 : List UInt8 := dkwX4_tiredOf_3 ++ dktX4_tiredOf_4
def dkwX4_tiredOf_2 : List UInt8 := [46, 162, 0, 63, 42, 27, 21, 6, 182, 1, 202, 153, 0, 53, 21, 7, 42, 180, 0, 157, 16, 8, 21, 6]
abbrev dktX4_tiredOf_2 : List UInt8 := dkwX4_tiredOf_2 ++ dktX4_tiredOf_3
def dkwX4_tiredOf_1 : List UInt8 := [21, 5, 46, 54, 6, 3, 54, 7, 3, 54, 8, 21, 8, 42, 180, 0, 26, 42, 180, 0, 148, 21, 6, 46]
abbrev dktX4_tiredOf_1 : List UInt8 := dkwX4_tiredOf_1 ++ dktX4_tiredOf_2
def dkwX4_tiredOf_0 : List UInt8 := [3, 62, 3, 54, 4, 3, 54, 5, 21, 5, 42, 180, 0, 169, 28, 46, 163, 0, 197, 42, 180, 0, 166]
abbrev dktX4_tiredOf_0 : List UInt8 := dkwX4_tiredOf_0 ++ dktX4_tiredOf_1
theorem dksX4_tiredOf_0 : cX4_tiredOf.data.toList.drop 0 = dktX4_tiredOf_0 := by decide +kernel
theorem dksX4_tiredOf_1 : cX4_tiredOf.data.toList.drop 23 = dktX4_tiredOf_1 := dk_seg dksX4_tiredOf_0 23 rfl rfl
theorem dksX4_tiredOf_2 : cX4_tiredOf.data.toList.drop 47 = dktX4_tiredOf_2 := dk_seg dksX4_tiredOf_1 24 rfl rfl
theorem dksX4_tiredOf_3 : cX4_tiredOf.data.toList.drop 71 = dktX4_tiredOf_3 := dk_seg dksX4_tiredOf_2 24 rfl rfl
theorem dksX4_tiredOf_4 : cX4_tiredOf.data.toList.drop 94 = dktX4_tiredOf_4 := dk_seg dksX4_tiredOf_3 23 rfl rfl
theorem dksX4_tiredOf_5 : cX4_tiredOf.data.toList.drop 118 = dktX4_tiredOf_5 := dk_seg dksX4_tiredOf_4 24 rfl rfl
theorem dksX4_tiredOf_6 : cX4_tiredOf.data.toList.drop 142 = dktX4_tiredOf_6 := dk_seg dksX4_tiredOf_5 24 rfl rfl
theorem dksX4_tiredOf_7 : cX4_tiredOf.data.toList.drop 164 = dktX4_tiredOf_7 := dk_seg dksX4_tiredOf_6 22 rfl rfl
theorem dksX4_tiredOf_8 : cX4_tiredOf.data.toList.drop 188 = dktX4_tiredOf_8 := dk_seg dksX4_tiredOf_7 24 rfl rfl
theorem dksX4_tiredOf_9 : cX4_tiredOf.data.toList.drop 210 = dktX4_tiredOf_9 := dk_seg dksX4_tiredOf_8 22 rfl rfl
theorem dX4_tiredOf_0 : decode cX4_tiredOf 0 = .ok (.iconst 0, 1) := dk_3 (dk_at dksX4_tiredOf_0 0 rfl rfl)
theorem dX4_tiredOf_1 : decode cX4_tiredOf 1 = .ok (.istore_n 3, 1) := dk_62 (dk_at dksX4_tiredOf_0 1 rfl rfl)
theorem dX4_tiredOf_2 : decode cX4_tiredOf 2 = .ok (.iconst 0, 1) := dk_3 (dk_at dksX4_tiredOf_0 2 rfl rfl)
theorem dX4_tiredOf_3 : decode cX4_tiredOf 3 = .ok (.istore 4, 2) := dk_54 4 (dk_at dksX4_tiredOf_0 3 rfl rfl)
theorem dX4_tiredOf_5 : decode cX4_tiredOf 5 = .ok (.iconst 0, 1) := dk_3 (dk_at dksX4_tiredOf_0 5 rfl rfl)
theorem dX4_tiredOf_6 : decode cX4_tiredOf 6 = .ok (.istore 5, 2) := dk_54 5 (dk_at dksX4_tiredOf_0 6 rfl rfl)
theorem dX4_tiredOf_8 : decode cX4_tiredOf 8 = .ok (.iload 5, 2) := dk_21 5 (dk_at dksX4_tiredOf_0 8 rfl rfl)
theorem dX4_tiredOf_10 : decode cX4_tiredOf 10 = .ok (.aload_n 0, 1) := dk_42 (dk_at dksX4_tiredOf_0 10 rfl rfl)
theorem dX4_tiredOf_11 : decode cX4_tiredOf 11 = .ok (.getfield 169, 3) := dk_180 0 169 (dk_at dksX4_tiredOf_0 11 rfl rfl)
theorem dX4_tiredOf_14 : decode cX4_tiredOf 14 = .ok (.iload_n 2, 1) := dk_28 (dk_at dksX4_tiredOf_0 14 rfl rfl)
theorem dX4_tiredOf_15 : decode cX4_tiredOf 15 = .ok (.iaload, 1) := dk_46 (dk_at dksX4_tiredOf_0 15 rfl rfl)
theorem dX4_tiredOf_16 : decode cX4_tiredOf 16 = .ok (.if_icmp .gt 197, 3) := dk_163 0 197 (dk_at dksX4_tiredOf_0 16 rfl rfl)
theorem dX4_tiredOf_19 : decode cX4_tiredOf 19 = .ok (.aload_n 0, 1) := dk_42 (dk_at dksX4_tiredOf_0 19 rfl rfl)
theorem dX4_tiredOf_20 : decode cX4_tiredOf 20 = .ok (.getfield 166, 3) := dk_180 0 166 (dk_at dksX4_tiredOf_0 20 rfl rfl)
theorem dX4_tiredOf_23 : decode cX4_tiredOf 23 = .ok (.iload 5, 2) := dk_21 5 (dk_at dksX4_tiredOf_1 0 rfl rfl)
theorem dX4_tiredOf_25 : decode cX4_tiredOf 25 = .ok (.iaload, 1) := dk_46 (dk_at dksX4_tiredOf_1 2 rfl rfl)
theorem dX4_tiredOf_26 : decode cX4_tiredOf 26 = .ok (.istore 6, 2) := dk_54 6 (dk_at dksX4_tiredOf_1 3 rfl rfl)
theorem dX4_tiredOf_28 : decode cX4_tiredOf 28 = .ok (.iconst 0, 1) := dk_3 (dk_at dksX4_tiredOf_1 5 rfl rfl)
theorem dX4_tiredOf_29 : decode cX4_tiredOf 29 = .ok (.istore 7, 2) := dk_54 7 (dk_at dksX4_tiredOf_1 6 rfl rfl)
theorem dX4_tiredOf_31 : decode cX4_tiredOf 31 = .ok (.iconst 0, 1) := dk_3 (dk_at dksX4_tiredOf_1 8 rfl rfl)
theorem dX4_tiredOf_32 : decode cX4_tiredOf 32 = .ok (.istore 8, 2) := dk_54 8 (dk_at dksX4_tiredOf_1 9 rfl rfl)
theorem dX4_tiredOf_34 : decode cX4_tiredOf 34 = .ok (.iload 8, 2) := dk_21 8 (dk_at dksX4_tiredOf_1 11 rfl rfl)
theorem dX4_tiredOf_36 : decode cX4_tiredOf 36 = .ok (.aload_n 0, 1) := dk_42 (dk_at dksX4_tiredOf_1 13 rfl rfl)
theorem dX4_tiredOf_37 : decode cX4_tiredOf 37 = .ok (.getfield 26, 3) := dk_180 0 26 (dk_at dksX4_tiredOf_1 14 rfl rfl)
theorem dX4_tiredOf_40 : decode cX4_tiredOf 40 = .ok (.aload_n 0, 1) := dk_42 (dk_at dksX4_tiredOf_1 17 rfl rfl)
theorem dX4_tiredOf_41 : decode cX4_tiredOf 41 = .ok (.getfield 148, 3) := dk_180 0 148 (dk_at dksX4_tiredOf_1 18 rfl rfl)
theorem dX4_tiredOf_44 : decode cX4_tiredOf 44 = .ok (.iload 6, 2) := dk_21 6 (dk_at dksX4_tiredOf_1 21 rfl rfl)
theorem dX4_tiredOf_46 : decode cX4_tiredOf 46 = .ok (.iaload, 1) := dk_46 (dk_at dksX4_tiredOf_1 23 rfl rfl)
theorem dX4_tiredOf_47 : decode cX4_tiredOf 47 = .ok (.iaload, 1) := dk_46 (dk_at dksX4_tiredOf_2 0 rfl rfl)
theorem dX4_tiredOf_48 : decode cX4_tiredOf 48 = .ok (.if_icmp .ge 63, 3) := dk_162 0 63 (dk_at dksX4_tiredOf_2 1 rfl rfl)
theorem dX4_tiredOf_51 : decode cX4_tiredOf 51 = .ok (.aload_n 0, 1) := dk_42 (dk_at dksX4_tiredOf_2 4 rfl rfl)
theorem dX4_tiredOf_52 : decode cX4_tiredOf 52 = .ok (.iload_n 1, 1) := dk_27 (dk_at dksX4_tiredOf_2 5 rfl rfl)
theorem dX4_tiredOf_53 : decode cX4_tiredOf 53 = .ok (.iload 6, 2) := dk_21 6 (dk_at dksX4_tiredOf_2 6 rfl rfl)
theorem dX4_tiredOf_55 : decode cX4_tiredOf 55 = .ok (.invokevirtual 458, 3) := dk_182 1 202 (dk_at dksX4_tiredOf_2 8 rfl rfl)
theorem dX4_tiredOf_58 : decode cX4_tiredOf 58 = .ok (.ifCond .eq 53, 3) := dk_153 0 53 (dk_at dksX4_tiredOf_2 11 rfl rfl)
theorem dX4_tiredOf_61 : decode cX4_tiredOf 61 = .ok (.iload 7, 2) := dk_21 7 (dk_at dksX4_tiredOf_2 14 rfl rfl)
theorem dX4_tiredOf_63 : decode cX4_tiredOf 63 = .ok (.aload_n 0, 1) := dk_42 (dk_at dksX4_tiredOf_2 16 rfl rfl)
theorem dX4_tiredOf_64 : decode cX4_tiredOf 64 = .ok (.getfield 157, 3) := dk_180 0 157 (dk_at dksX4_tiredOf_2 17 rfl rfl)
theorem dX4_tiredOf_67 : decode cX4_tiredOf 67 = .ok (.bipush 8, 2) := dk_16 8 (dk_at dksX4_tiredOf_2 20 rfl rfl)
theorem dX4_tiredOf_69 : decode cX4_tiredOf 69 = .ok (.iload 6, 2) := dk_21 6 (dk_at dksX4_tiredOf_2 22 rfl rfl)
theorem dX4_tiredOf_71 : decode cX4_tiredOf 71 = .ok (.imul, 1) := dk_104 (dk_at dksX4_tiredOf_3 0 rfl rfl)
theorem dX4_tiredOf_72 : decode cX4_tiredOf 72 = .ok (.iload 8, 2) := dk_21 8 (dk_at dksX4_tiredOf_3 1 rfl rfl)
theorem dX4_tiredOf_74 : decode cX4_tiredOf 74 = .ok (.iadd, 1) := dk_96 (dk_at dksX4_tiredOf_3 3 rfl rfl)
theorem dX4_tiredOf_75 : decode cX4_tiredOf 75 = .ok (.iaload, 1) := dk_46 (dk_at dksX4_tiredOf_3 4 rfl rfl)
theorem dX4_tiredOf_76 : decode cX4_tiredOf 76 = .ok (.iload_n 1, 1) := dk_27 (dk_at dksX4_tiredOf_3 5 rfl rfl)
theorem dX4_tiredOf_77 : decode cX4_tiredOf 77 = .ok (.if_icmp .ne 24, 3) := dk_160 0 24 (dk_at dksX4_tiredOf_3 6 rfl rfl)
theorem dX4_tiredOf_80 : decode cX4_tiredOf 80 = .ok (.aload_n 0, 1) := dk_42 (dk_at dksX4_tiredOf_3 9 rfl rfl)
theorem dX4_tiredOf_81 : decode cX4_tiredOf 81 = .ok (.getfield 32, 3) := dk_180 0 32 (dk_at dksX4_tiredOf_3 10 rfl rfl)
theorem dX4_tiredOf_84 : decode cX4_tiredOf 84 = .ok (.bipush 8, 2) := dk_16 8 (dk_at dksX4_tiredOf_3 13 rfl rfl)
theorem dX4_tiredOf_86 : decode cX4_tiredOf 86 = .ok (.aload_n 0, 1) := dk_42 (dk_at dksX4_tiredOf_3 15 rfl rfl)
theorem dX4_tiredOf_87 : decode cX4_tiredOf 87 = .ok (.getfield 148, 3) := dk_180 0 148 (dk_at dksX4_tiredOf_3 16 rfl rfl)
theorem dX4_tiredOf_90 : decode cX4_tiredOf 90 = .ok (.iload 6, 2) := dk_21 6 (dk_at dksX4_tiredOf_3 19 rfl rfl)
theorem dX4_tiredOf_92 : decode cX4_tiredOf 92 = .ok (.iaload, 1) := dk_46 (dk_at dksX4_tiredOf_3 21 rfl rfl)
theorem dX4_tiredOf_93 : decode cX4_tiredOf 93 = .ok (.imul, 1) := dk_104 (dk_at dksX4_tiredOf_3 22 rfl rfl)
theorem dX4_tiredOf_94 : decode cX4_tiredOf 94 = .ok (.iload 8, 2) := dk_21 8 (dk_at dksX4_tiredOf_4 0 rfl rfl)
theorem dX4_tiredOf_96 : decode cX4_tiredOf 96 = .ok (.iadd, 1) := dk_96 (dk_at dksX4_tiredOf_4 2 rfl rfl)
theorem dX4_tiredOf_97 : decode cX4_tiredOf 97 = .ok (.iaload, 1) := dk_46 (dk_at dksX4_tiredOf_4 3 rfl rfl)
theorem dX4_tiredOf_98 : decode cX4_tiredOf 98 = .ok (.goto 4, 3) := dk_167 0 4 (dk_at dksX4_tiredOf_4 4 rfl rfl)
theorem dX4_tiredOf_101 : decode cX4_tiredOf 101 = .ok (.iconst 0, 1) := dk_3 (dk_at dksX4_tiredOf_4 7 rfl rfl)
theorem dX4_tiredOf_102 : decode cX4_tiredOf 102 = .ok (.iadd, 1) := dk_96 (dk_at dksX4_tiredOf_4 8 rfl rfl)
theorem dX4_tiredOf_103 : decode cX4_tiredOf 103 = .ok (.istore 7, 2) := dk_54 7 (dk_at dksX4_tiredOf_4 9 rfl rfl)
theorem dX4_tiredOf_105 : decode cX4_tiredOf 105 = .ok (.iinc 8 1, 3) := dk_132 8 1 (dk_at dksX4_tiredOf_4 11 rfl rfl)
theorem dX4_tiredOf_108 : decode cX4_tiredOf 108 = .ok (.goto (-74), 3) := dk_167 255 182 (dk_at dksX4_tiredOf_4 14 rfl rfl)
theorem dX4_tiredOf_111 : decode cX4_tiredOf 111 = .ok (.aload_n 0, 1) := dk_42 (dk_at dksX4_tiredOf_4 17 rfl rfl)
theorem dX4_tiredOf_112 : decode cX4_tiredOf 112 = .ok (.getfield 145, 3) := dk_180 0 145 (dk_at dksX4_tiredOf_4 18 rfl rfl)
theorem dX4_tiredOf_115 : decode cX4_tiredOf 115 = .ok (.iload 6, 2) := dk_21 6 (dk_at dksX4_tiredOf_4 21 rfl rfl)
theorem dX4_tiredOf_117 : decode cX4_tiredOf 117 = .ok (.iaload, 1) := dk_46 (dk_at dksX4_tiredOf_4 23 rfl rfl)
theorem dX4_tiredOf_118 : decode cX4_tiredOf 118 = .ok (.iconst 3, 1) := dk_6 (dk_at dksX4_tiredOf_5 0 rfl rfl)
theorem dX4_tiredOf_119 : decode cX4_tiredOf 119 = .ok (.if_icmp .ne 10, 3) := dk_160 0 10 (dk_at dksX4_tiredOf_5 1 rfl rfl)
theorem dX4_tiredOf_122 : decode cX4_tiredOf 122 = .ok (.iconst 2, 1) := dk_5 (dk_at dksX4_tiredOf_5 4 rfl rfl)
theorem dX4_tiredOf_123 : decode cX4_tiredOf 123 = .ok (.iload 7, 2) := dk_21 7 (dk_at dksX4_tiredOf_5 5 rfl rfl)
theorem dX4_tiredOf_125 : decode cX4_tiredOf 125 = .ok (.imul, 1) := dk_104 (dk_at dksX4_tiredOf_5 7 rfl rfl)
theorem dX4_tiredOf_126 : decode cX4_tiredOf 126 = .ok (.goto 20, 3) := dk_167 0 20 (dk_at dksX4_tiredOf_5 8 rfl rfl)
theorem dX4_tiredOf_129 : decode cX4_tiredOf 129 = .ok (.aload_n 0, 1) := dk_42 (dk_at dksX4_tiredOf_5 11 rfl rfl)
theorem dX4_tiredOf_130 : decode cX4_tiredOf 130 = .ok (.getfield 145, 3) := dk_180 0 145 (dk_at dksX4_tiredOf_5 12 rfl rfl)
theorem dX4_tiredOf_133 : decode cX4_tiredOf 133 = .ok (.iload 6, 2) := dk_21 6 (dk_at dksX4_tiredOf_5 15 rfl rfl)
theorem dX4_tiredOf_135 : decode cX4_tiredOf 135 = .ok (.iaload, 1) := dk_46 (dk_at dksX4_tiredOf_5 17 rfl rfl)
theorem dX4_tiredOf_136 : decode cX4_tiredOf 136 = .ok (.iconst 2, 1) := dk_5 (dk_at dksX4_tiredOf_5 18 rfl rfl)
theorem dX4_tiredOf_137 : decode cX4_tiredOf 137 = .ok (.if_icmp .ne 8, 3) := dk_160 0 8 (dk_at dksX4_tiredOf_5 19 rfl rfl)
theorem dX4_tiredOf_140 : decode cX4_tiredOf 140 = .ok (.iload 7, 2) := dk_21 7 (dk_at dksX4_tiredOf_5 22 rfl rfl)
theorem dX4_tiredOf_142 : decode cX4_tiredOf 142 = .ok (.goto 4, 3) := dk_167 0 4 (dk_at dksX4_tiredOf_6 0 rfl rfl)
theorem dX4_tiredOf_145 : decode cX4_tiredOf 145 = .ok (.iconst 0, 1) := dk_3 (dk_at dksX4_tiredOf_6 3 rfl rfl)
theorem dX4_tiredOf_146 : decode cX4_tiredOf 146 = .ok (.istore 7, 2) := dk_54 7 (dk_at dksX4_tiredOf_6 4 rfl rfl)
theorem dX4_tiredOf_148 : decode cX4_tiredOf 148 = .ok (.iload 7, 2) := dk_21 7 (dk_at dksX4_tiredOf_6 6 rfl rfl)
theorem dX4_tiredOf_150 : decode cX4_tiredOf 150 = .ok (.ifCond .ne 12, 3) := dk_154 0 12 (dk_at dksX4_tiredOf_6 8 rfl rfl)
theorem dX4_tiredOf_153 : decode cX4_tiredOf 153 = .ok (.iload 6, 2) := dk_21 6 (dk_at dksX4_tiredOf_6 11 rfl rfl)
theorem dX4_tiredOf_155 : decode cX4_tiredOf 155 = .ok (.iload_n 2, 1) := dk_28 (dk_at dksX4_tiredOf_6 13 rfl rfl)
theorem dX4_tiredOf_156 : decode cX4_tiredOf 156 = .ok (.if_icmp .eq 6, 3) := dk_159 0 6 (dk_at dksX4_tiredOf_6 14 rfl rfl)
theorem dX4_tiredOf_159 : decode cX4_tiredOf 159 = .ok (.goto 48, 3) := dk_167 0 48 (dk_at dksX4_tiredOf_6 17 rfl rfl)
theorem dX4_tiredOf_162 : decode cX4_tiredOf 162 = .ok (.iload_n 3, 1) := dk_29 (dk_at dksX4_tiredOf_6 20 rfl rfl)
theorem dX4_tiredOf_163 : decode cX4_tiredOf 163 = .ok (.aload_n 0, 1) := dk_42 (dk_at dksX4_tiredOf_6 21 rfl rfl)
theorem dX4_tiredOf_164 : decode cX4_tiredOf 164 = .ok (.getfield 139, 3) := dk_180 0 139 (dk_at dksX4_tiredOf_7 0 rfl rfl)
theorem dX4_tiredOf_167 : decode cX4_tiredOf 167 = .ok (.iload 6, 2) := dk_21 6 (dk_at dksX4_tiredOf_7 3 rfl rfl)
theorem dX4_tiredOf_169 : decode cX4_tiredOf 169 = .ok (.iaload, 1) := dk_46 (dk_at dksX4_tiredOf_7 5 rfl rfl)
theorem dX4_tiredOf_170 : decode cX4_tiredOf 170 = .ok (.iload 4, 2) := dk_21 4 (dk_at dksX4_tiredOf_7 6 rfl rfl)
theorem dX4_tiredOf_172 : decode cX4_tiredOf 172 = .ok (.isub, 1) := dk_100 (dk_at dksX4_tiredOf_7 8 rfl rfl)
theorem dX4_tiredOf_173 : decode cX4_tiredOf 173 = .ok (.if_icmp .le 18, 3) := dk_164 0 18 (dk_at dksX4_tiredOf_7 9 rfl rfl)
theorem dX4_tiredOf_176 : decode cX4_tiredOf 176 = .ok (.iload_n 3, 1) := dk_29 (dk_at dksX4_tiredOf_7 12 rfl rfl)
theorem dX4_tiredOf_177 : decode cX4_tiredOf 177 = .ok (.aload_n 0, 1) := dk_42 (dk_at dksX4_tiredOf_7 13 rfl rfl)
theorem dX4_tiredOf_178 : decode cX4_tiredOf 178 = .ok (.getfield 139, 3) := dk_180 0 139 (dk_at dksX4_tiredOf_7 14 rfl rfl)
theorem dX4_tiredOf_181 : decode cX4_tiredOf 181 = .ok (.iload 6, 2) := dk_21 6 (dk_at dksX4_tiredOf_7 17 rfl rfl)
theorem dX4_tiredOf_183 : decode cX4_tiredOf 183 = .ok (.iaload, 1) := dk_46 (dk_at dksX4_tiredOf_7 19 rfl rfl)
theorem dX4_tiredOf_184 : decode cX4_tiredOf 184 = .ok (.isub, 1) := dk_100 (dk_at dksX4_tiredOf_7 20 rfl rfl)
theorem dX4_tiredOf_185 : decode cX4_tiredOf 185 = .ok (.iload 4, 2) := dk_21 4 (dk_at dksX4_tiredOf_7 21 rfl rfl)
theorem dX4_tiredOf_187 : decode cX4_tiredOf 187 = .ok (.iadd, 1) := dk_96 (dk_at dksX4_tiredOf_7 23 rfl rfl)
theorem dX4_tiredOf_188 : decode cX4_tiredOf 188 = .ok (.goto 4, 3) := dk_167 0 4 (dk_at dksX4_tiredOf_8 0 rfl rfl)
theorem dX4_tiredOf_191 : decode cX4_tiredOf 191 = .ok (.iconst 0, 1) := dk_3 (dk_at dksX4_tiredOf_8 3 rfl rfl)
theorem dX4_tiredOf_192 : decode cX4_tiredOf 192 = .ok (.istore_n 3, 1) := dk_62 (dk_at dksX4_tiredOf_8 4 rfl rfl)
theorem dX4_tiredOf_193 : decode cX4_tiredOf 193 = .ok (.aload_n 0, 1) := dk_42 (dk_at dksX4_tiredOf_8 5 rfl rfl)
theorem dX4_tiredOf_194 : decode cX4_tiredOf 194 = .ok (.getfield 139, 3) := dk_180 0 139 (dk_at dksX4_tiredOf_8 6 rfl rfl)
theorem dX4_tiredOf_197 : decode cX4_tiredOf 197 = .ok (.iload 6, 2) := dk_21 6 (dk_at dksX4_tiredOf_8 9 rfl rfl)
theorem dX4_tiredOf_199 : decode cX4_tiredOf 199 = .ok (.iaload, 1) := dk_46 (dk_at dksX4_tiredOf_8 11 rfl rfl)
theorem dX4_tiredOf_200 : decode cX4_tiredOf 200 = .ok (.istore 4, 2) := dk_54 4 (dk_at dksX4_tiredOf_8 12 rfl rfl)
theorem dX4_tiredOf_202 : decode cX4_tiredOf 202 = .ok (.iload_n 3, 1) := dk_29 (dk_at dksX4_tiredOf_8 14 rfl rfl)
theorem dX4_tiredOf_203 : decode cX4_tiredOf 203 = .ok (.iload 7, 2) := dk_21 7 (dk_at dksX4_tiredOf_8 15 rfl rfl)
theorem dX4_tiredOf_205 : decode cX4_tiredOf 205 = .ok (.iadd, 1) := dk_96 (dk_at dksX4_tiredOf_8 17 rfl rfl)
theorem dX4_tiredOf_206 : decode cX4_tiredOf 206 = .ok (.istore_n 3, 1) := dk_62 (dk_at dksX4_tiredOf_8 18 rfl rfl)
theorem dX4_tiredOf_207 : decode cX4_tiredOf 207 = .ok (.iinc 5 1, 3) := dk_132 5 1 (dk_at dksX4_tiredOf_8 19 rfl rfl)
theorem dX4_tiredOf_210 : decode cX4_tiredOf 210 = .ok (.goto (-202), 3) := dk_167 255 54 (dk_at dksX4_tiredOf_9 0 rfl rfl)
theorem dX4_tiredOf_213 : decode cX4_tiredOf 213 = .ok (.iload_n 3, 1) := dk_29 (dk_at dksX4_tiredOf_9 3 rfl rfl)
theorem dX4_tiredOf_214 : decode cX4_tiredOf 214 = .ok (.ireturn, 1) := dk_172 (dk_at dksX4_tiredOf_9 4 rfl rfl)
abbrev cX4_isIn_2 : ByteArray := prog_18_method_53_code
def yX4_isIn_2 : MethodName := ⟨RX4, "isIn", "(II)Z"⟩
def dkwX4_isIn_2_0 : List UInt8 := [42, 180, 0, 172, 28, 46, 27, 122, 4, 126, 4, 160, 0, 7, 4, 167, 0, 4, 3, 172]
abbrev dktX4_isIn_2_0 : List UInt8 := dkwX4_isIn_2_0 ++ []
theorem dksX4_isIn_2_0 : cX4_isIn_2.data.toList.drop 0 = dktX4_isIn_2_0 := by decide +kernel
theorem dX4_isIn_2_0 : decode cX4_isIn_2 0 = .ok (.aload_n 0, 1) := dk_42 (dk_at dksX4_isIn_2_0 0 rfl rfl)
theorem dX4_isIn_2_1 : decode cX4_isIn_2 1 = .ok (.getfield 172, 3) := dk_180 0 172 (dk_at dksX4_isIn_2_0 1 rfl rfl)
theorem dX4_isIn_2_4 : decode cX4_isIn_2 4 = .ok (.iload_n 2, 1) := dk_28 (dk_at dksX4_isIn_2_0 4 rfl rfl)
theorem dX4_isIn_2_5 : decode cX4_isIn_2 5 = .ok (.iaload, 1) := dk_46 (dk_at dksX4_isIn_2_0 5 rfl rfl)
theorem dX4_isIn_2_6 : decode cX4_isIn_2 6 = .ok (.iload_n 1, 1) := dk_27 (dk_at dksX4_isIn_2_0 6 rfl rfl)
theorem dX4_isIn_2_7 : decode cX4_isIn_2 7 = .ok (.ishr, 1) := dk_122 (dk_at dksX4_isIn_2_0 7 rfl rfl)
theorem dX4_isIn_2_8 : decode cX4_isIn_2 8 = .ok (.iconst 1, 1) := dk_4 (dk_at dksX4_isIn_2_0 8 rfl rfl)
theorem dX4_isIn_2_9 : decode cX4_isIn_2 9 = .ok (.iand, 1) := dk_126 (dk_at dksX4_isIn_2_0 9 rfl rfl)
theorem dX4_isIn_2_10 : decode cX4_isIn_2 10 = .ok (.iconst 1, 1) := dk_4 (dk_at dksX4_isIn_2_0 10 rfl rfl)
theorem dX4_isIn_2_11 : decode cX4_isIn_2 11 = .ok (.if_icmp .ne 7, 3) := dk_160 0 7 (dk_at dksX4_isIn_2_0 11 rfl rfl)
theorem dX4_isIn_2_14 : decode cX4_isIn_2 14 = .ok (.iconst 1, 1) := dk_4 (dk_at dksX4_isIn_2_0 14 rfl rfl)
theorem dX4_isIn_2_15 : decode cX4_isIn_2 15 = .ok (.goto 4, 3) := dk_167 0 4 (dk_at dksX4_isIn_2_0 15 rfl rfl)
theorem dX4_isIn_2_18 : decode cX4_isIn_2 18 = .ok (.iconst 0, 1) := dk_3 (dk_at dksX4_isIn_2_0 18 rfl rfl)
theorem dX4_isIn_2_19 : decode cX4_isIn_2 19 = .ok (.ireturn, 1) := dk_172 (dk_at dksX4_isIn_2_0 19 rfl rfl)
abbrev cX4_fee_2 : ByteArray := prog_18_method_69_code
def yX4_fee_2 : MethodName := ⟨RX4, "fee", "(III)I"⟩
def dkwX4_fee_2_1 : List UInt8 := [154, 0, 5, 2, 172, 42, 29, 182, 1, 204, 42, 27, 28, 182, 1, 241, 172]
abbrev dktX4_fee_2_1 : List UInt8 := dkwX4_fee_2_1 ++ []
def dkwX4_fee_2_0 : List UInt8 := [42, 3, 181, 0, 226, 42, 27, 182, 1, 54, 153, 0, 17, 28, 3, 42, 180, 1, 167, 4, 100, 184, 0, 242]
abbrev dktX4_fee_2_0 : List UInt8 := dkwX4_fee_2_0 ++ dktX4_fee_2_1
theorem dksX4_fee_2_0 : cX4_fee_2.data.toList.drop 0 = dktX4_fee_2_0 := by decide +kernel
theorem dksX4_fee_2_1 : cX4_fee_2.data.toList.drop 24 = dktX4_fee_2_1 := dk_seg dksX4_fee_2_0 24 rfl rfl
theorem dX4_fee_2_0 : decode cX4_fee_2 0 = .ok (.aload_n 0, 1) := dk_42 (dk_at dksX4_fee_2_0 0 rfl rfl)
theorem dX4_fee_2_1 : decode cX4_fee_2 1 = .ok (.iconst 0, 1) := dk_3 (dk_at dksX4_fee_2_0 1 rfl rfl)
theorem dX4_fee_2_2 : decode cX4_fee_2 2 = .ok (.putfield 226, 3) := dk_181 0 226 (dk_at dksX4_fee_2_0 2 rfl rfl)
theorem dX4_fee_2_5 : decode cX4_fee_2 5 = .ok (.aload_n 0, 1) := dk_42 (dk_at dksX4_fee_2_0 5 rfl rfl)
theorem dX4_fee_2_6 : decode cX4_fee_2 6 = .ok (.iload_n 1, 1) := dk_27 (dk_at dksX4_fee_2_0 6 rfl rfl)
theorem dX4_fee_2_7 : decode cX4_fee_2 7 = .ok (.invokevirtual 310, 3) := dk_182 1 54 (dk_at dksX4_fee_2_0 7 rfl rfl)
theorem dX4_fee_2_10 : decode cX4_fee_2 10 = .ok (.ifCond .eq 17, 3) := dk_153 0 17 (dk_at dksX4_fee_2_0 10 rfl rfl)
theorem dX4_fee_2_13 : decode cX4_fee_2 13 = .ok (.iload_n 2, 1) := dk_28 (dk_at dksX4_fee_2_0 13 rfl rfl)
theorem dX4_fee_2_14 : decode cX4_fee_2 14 = .ok (.iconst 0, 1) := dk_3 (dk_at dksX4_fee_2_0 14 rfl rfl)
theorem dX4_fee_2_15 : decode cX4_fee_2 15 = .ok (.aload_n 0, 1) := dk_42 (dk_at dksX4_fee_2_0 15 rfl rfl)
theorem dX4_fee_2_16 : decode cX4_fee_2 16 = .ok (.getfield 423, 3) := dk_180 1 167 (dk_at dksX4_fee_2_0 16 rfl rfl)
theorem dX4_fee_2_19 : decode cX4_fee_2 19 = .ok (.iconst 1, 1) := dk_4 (dk_at dksX4_fee_2_0 19 rfl rfl)
theorem dX4_fee_2_20 : decode cX4_fee_2 20 = .ok (.isub, 1) := dk_100 (dk_at dksX4_fee_2_0 20 rfl rfl)
theorem dX4_fee_2_21 : decode cX4_fee_2 21 = .ok (.invokestatic 242, 3) := dk_184 0 242 (dk_at dksX4_fee_2_0 21 rfl rfl)
theorem dX4_fee_2_24 : decode cX4_fee_2 24 = .ok (.ifCond .ne 5, 3) := dk_154 0 5 (dk_at dksX4_fee_2_1 0 rfl rfl)
theorem dX4_fee_2_27 : decode cX4_fee_2 27 = .ok (.iconst (-1), 1) := dk_2 (dk_at dksX4_fee_2_1 3 rfl rfl)
theorem dX4_fee_2_28 : decode cX4_fee_2 28 = .ok (.ireturn, 1) := dk_172 (dk_at dksX4_fee_2_1 4 rfl rfl)
theorem dX4_fee_2_29 : decode cX4_fee_2 29 = .ok (.aload_n 0, 1) := dk_42 (dk_at dksX4_fee_2_1 5 rfl rfl)
theorem dX4_fee_2_30 : decode cX4_fee_2 30 = .ok (.iload_n 3, 1) := dk_29 (dk_at dksX4_fee_2_1 6 rfl rfl)
theorem dX4_fee_2_31 : decode cX4_fee_2 31 = .ok (.invokevirtual 460, 3) := dk_182 1 204 (dk_at dksX4_fee_2_1 7 rfl rfl)
theorem dX4_fee_2_34 : decode cX4_fee_2 34 = .ok (.aload_n 0, 1) := dk_42 (dk_at dksX4_fee_2_1 10 rfl rfl)
theorem dX4_fee_2_35 : decode cX4_fee_2 35 = .ok (.iload_n 1, 1) := dk_27 (dk_at dksX4_fee_2_1 11 rfl rfl)
theorem dX4_fee_2_36 : decode cX4_fee_2 36 = .ok (.iload_n 2, 1) := dk_28 (dk_at dksX4_fee_2_1 12 rfl rfl)
theorem dX4_fee_2_37 : decode cX4_fee_2 37 = .ok (.invokevirtual 497, 3) := dk_182 1 241 (dk_at dksX4_fee_2_1 13 rfl rfl)
theorem dX4_fee_2_40 : decode cX4_fee_2 40 = .ok (.ireturn, 1) := dk_172 (dk_at dksX4_fee_2_1 16 rfl rfl)
abbrev cX4_feeOf : ByteArray := prog_18_method_68_code
def yX4_feeOf : MethodName := ⟨RX4, "feeOf", "(II)I"⟩
def dkwX4_feeOf_4 : List UInt8 := [167, 0, 4, 3, 96, 54, 4, 132, 5, 1, 167, 255, 197, 21, 4, 172]
abbrev dktX4_feeOf_4 : List UInt8 := dkwX4_feeOf_4 ++ []
def dkwX4_feeOf_3 : List UInt8 := [21, 5, 46, 42, 180, 0, 85, 21, 5, 46, 29, 182, 1, 237, 153, 0, 13, 42, 180, 0, 79, 21, 5, 46]
abbrev dktX4_feeOf_3 : List UInt8 := dkwX4_feeOf_3 ++ dktX4_feeOf_4
def dkwX4_feeOf_2 : List UInt8 := [16, 8, 27, 104, 42, 180, 0, 76, 27, 46, 96, 162, 0, 49, 21, 4, 42, 27, 28, 42, 180, 0, 82]
abbrev dktX4_feeOf_2 : List UInt8 := dkwX4_feeOf_2 ++ dktX4_feeOf_3
def dkwX4_feeOf_1 : List UInt8 := [180, 0, 136, 28, 46, 182, 1, 234, 153, 0, 5, 3, 172, 3, 54, 4, 16, 8, 27, 104, 54, 5, 21, 5]
abbrev dktX4_feeOf_1 : List UInt8 := dkwX4_feeOf_1 ++ dktX4_feeOf_2
def dkwX4_feeOf_0 : List UInt8 := [42, 27, 28, 182, 1, 202, 62, 29, 154, 0, 12, 42, 27, 28, 182, 1, 214, 153, 0, 17, 42, 27, 42]
abbrev dktX4_feeOf_0 : List UInt8 := dkwX4_feeOf_0 ++ dktX4_feeOf_1
theorem dksX4_feeOf_0 : cX4_feeOf.data.toList.drop 0 = dktX4_feeOf_0 := by decide +kernel
theorem dksX4_feeOf_1 : cX4_feeOf.data.toList.drop 23 = dktX4_feeOf_1 := dk_seg dksX4_feeOf_0 23 rfl rfl
theorem dksX4_feeOf_2 : cX4_feeOf.data.toList.drop 47 = dktX4_feeOf_2 := dk_seg dksX4_feeOf_1 24 rfl rfl
theorem dksX4_feeOf_3 : cX4_feeOf.data.toList.drop 70 = dktX4_feeOf_3 := dk_seg dksX4_feeOf_2 23 rfl rfl
theorem dksX4_feeOf_4 : cX4_feeOf.data.toList.drop 94 = dktX4_feeOf_4 := dk_seg dksX4_feeOf_3 24 rfl rfl
theorem dX4_feeOf_0 : decode cX4_feeOf 0 = .ok (.aload_n 0, 1) := dk_42 (dk_at dksX4_feeOf_0 0 rfl rfl)
theorem dX4_feeOf_1 : decode cX4_feeOf 1 = .ok (.iload_n 1, 1) := dk_27 (dk_at dksX4_feeOf_0 1 rfl rfl)
theorem dX4_feeOf_2 : decode cX4_feeOf 2 = .ok (.iload_n 2, 1) := dk_28 (dk_at dksX4_feeOf_0 2 rfl rfl)
theorem dX4_feeOf_3 : decode cX4_feeOf 3 = .ok (.invokevirtual 458, 3) := dk_182 1 202 (dk_at dksX4_feeOf_0 3 rfl rfl)
theorem dX4_feeOf_6 : decode cX4_feeOf 6 = .ok (.istore_n 3, 1) := dk_62 (dk_at dksX4_feeOf_0 6 rfl rfl)
theorem dX4_feeOf_7 : decode cX4_feeOf 7 = .ok (.iload_n 3, 1) := dk_29 (dk_at dksX4_feeOf_0 7 rfl rfl)
theorem dX4_feeOf_8 : decode cX4_feeOf 8 = .ok (.ifCond .ne 12, 3) := dk_154 0 12 (dk_at dksX4_feeOf_0 8 rfl rfl)
theorem dX4_feeOf_11 : decode cX4_feeOf 11 = .ok (.aload_n 0, 1) := dk_42 (dk_at dksX4_feeOf_0 11 rfl rfl)
theorem dX4_feeOf_12 : decode cX4_feeOf 12 = .ok (.iload_n 1, 1) := dk_27 (dk_at dksX4_feeOf_0 12 rfl rfl)
theorem dX4_feeOf_13 : decode cX4_feeOf 13 = .ok (.iload_n 2, 1) := dk_28 (dk_at dksX4_feeOf_0 13 rfl rfl)
theorem dX4_feeOf_14 : decode cX4_feeOf 14 = .ok (.invokevirtual 470, 3) := dk_182 1 214 (dk_at dksX4_feeOf_0 14 rfl rfl)
theorem dX4_feeOf_17 : decode cX4_feeOf 17 = .ok (.ifCond .eq 17, 3) := dk_153 0 17 (dk_at dksX4_feeOf_0 17 rfl rfl)
theorem dX4_feeOf_20 : decode cX4_feeOf 20 = .ok (.aload_n 0, 1) := dk_42 (dk_at dksX4_feeOf_0 20 rfl rfl)
theorem dX4_feeOf_21 : decode cX4_feeOf 21 = .ok (.iload_n 1, 1) := dk_27 (dk_at dksX4_feeOf_0 21 rfl rfl)
theorem dX4_feeOf_22 : decode cX4_feeOf 22 = .ok (.aload_n 0, 1) := dk_42 (dk_at dksX4_feeOf_0 22 rfl rfl)
theorem dX4_feeOf_23 : decode cX4_feeOf 23 = .ok (.getfield 136, 3) := dk_180 0 136 (dk_at dksX4_feeOf_1 0 rfl rfl)
theorem dX4_feeOf_26 : decode cX4_feeOf 26 = .ok (.iload_n 2, 1) := dk_28 (dk_at dksX4_feeOf_1 3 rfl rfl)
theorem dX4_feeOf_27 : decode cX4_feeOf 27 = .ok (.iaload, 1) := dk_46 (dk_at dksX4_feeOf_1 4 rfl rfl)
theorem dX4_feeOf_28 : decode cX4_feeOf 28 = .ok (.invokevirtual 490, 3) := dk_182 1 234 (dk_at dksX4_feeOf_1 5 rfl rfl)
theorem dX4_feeOf_31 : decode cX4_feeOf 31 = .ok (.ifCond .eq 5, 3) := dk_153 0 5 (dk_at dksX4_feeOf_1 8 rfl rfl)
theorem dX4_feeOf_34 : decode cX4_feeOf 34 = .ok (.iconst 0, 1) := dk_3 (dk_at dksX4_feeOf_1 11 rfl rfl)
theorem dX4_feeOf_35 : decode cX4_feeOf 35 = .ok (.ireturn, 1) := dk_172 (dk_at dksX4_feeOf_1 12 rfl rfl)
theorem dX4_feeOf_36 : decode cX4_feeOf 36 = .ok (.iconst 0, 1) := dk_3 (dk_at dksX4_feeOf_1 13 rfl rfl)
theorem dX4_feeOf_37 : decode cX4_feeOf 37 = .ok (.istore 4, 2) := dk_54 4 (dk_at dksX4_feeOf_1 14 rfl rfl)
theorem dX4_feeOf_39 : decode cX4_feeOf 39 = .ok (.bipush 8, 2) := dk_16 8 (dk_at dksX4_feeOf_1 16 rfl rfl)
theorem dX4_feeOf_41 : decode cX4_feeOf 41 = .ok (.iload_n 1, 1) := dk_27 (dk_at dksX4_feeOf_1 18 rfl rfl)
theorem dX4_feeOf_42 : decode cX4_feeOf 42 = .ok (.imul, 1) := dk_104 (dk_at dksX4_feeOf_1 19 rfl rfl)
theorem dX4_feeOf_43 : decode cX4_feeOf 43 = .ok (.istore 5, 2) := dk_54 5 (dk_at dksX4_feeOf_1 20 rfl rfl)
theorem dX4_feeOf_45 : decode cX4_feeOf 45 = .ok (.iload 5, 2) := dk_21 5 (dk_at dksX4_feeOf_1 22 rfl rfl)
theorem dX4_feeOf_47 : decode cX4_feeOf 47 = .ok (.bipush 8, 2) := dk_16 8 (dk_at dksX4_feeOf_2 0 rfl rfl)
theorem dX4_feeOf_49 : decode cX4_feeOf 49 = .ok (.iload_n 1, 1) := dk_27 (dk_at dksX4_feeOf_2 2 rfl rfl)
theorem dX4_feeOf_50 : decode cX4_feeOf 50 = .ok (.imul, 1) := dk_104 (dk_at dksX4_feeOf_2 3 rfl rfl)
theorem dX4_feeOf_51 : decode cX4_feeOf 51 = .ok (.aload_n 0, 1) := dk_42 (dk_at dksX4_feeOf_2 4 rfl rfl)
theorem dX4_feeOf_52 : decode cX4_feeOf 52 = .ok (.getfield 76, 3) := dk_180 0 76 (dk_at dksX4_feeOf_2 5 rfl rfl)
theorem dX4_feeOf_55 : decode cX4_feeOf 55 = .ok (.iload_n 1, 1) := dk_27 (dk_at dksX4_feeOf_2 8 rfl rfl)
theorem dX4_feeOf_56 : decode cX4_feeOf 56 = .ok (.iaload, 1) := dk_46 (dk_at dksX4_feeOf_2 9 rfl rfl)
theorem dX4_feeOf_57 : decode cX4_feeOf 57 = .ok (.iadd, 1) := dk_96 (dk_at dksX4_feeOf_2 10 rfl rfl)
theorem dX4_feeOf_58 : decode cX4_feeOf 58 = .ok (.if_icmp .ge 49, 3) := dk_162 0 49 (dk_at dksX4_feeOf_2 11 rfl rfl)
theorem dX4_feeOf_61 : decode cX4_feeOf 61 = .ok (.iload 4, 2) := dk_21 4 (dk_at dksX4_feeOf_2 14 rfl rfl)
theorem dX4_feeOf_63 : decode cX4_feeOf 63 = .ok (.aload_n 0, 1) := dk_42 (dk_at dksX4_feeOf_2 16 rfl rfl)
theorem dX4_feeOf_64 : decode cX4_feeOf 64 = .ok (.iload_n 1, 1) := dk_27 (dk_at dksX4_feeOf_2 17 rfl rfl)
theorem dX4_feeOf_65 : decode cX4_feeOf 65 = .ok (.iload_n 2, 1) := dk_28 (dk_at dksX4_feeOf_2 18 rfl rfl)
theorem dX4_feeOf_66 : decode cX4_feeOf 66 = .ok (.aload_n 0, 1) := dk_42 (dk_at dksX4_feeOf_2 19 rfl rfl)
theorem dX4_feeOf_67 : decode cX4_feeOf 67 = .ok (.getfield 82, 3) := dk_180 0 82 (dk_at dksX4_feeOf_2 20 rfl rfl)
theorem dX4_feeOf_70 : decode cX4_feeOf 70 = .ok (.iload 5, 2) := dk_21 5 (dk_at dksX4_feeOf_3 0 rfl rfl)
theorem dX4_feeOf_72 : decode cX4_feeOf 72 = .ok (.iaload, 1) := dk_46 (dk_at dksX4_feeOf_3 2 rfl rfl)
theorem dX4_feeOf_73 : decode cX4_feeOf 73 = .ok (.aload_n 0, 1) := dk_42 (dk_at dksX4_feeOf_3 3 rfl rfl)
theorem dX4_feeOf_74 : decode cX4_feeOf 74 = .ok (.getfield 85, 3) := dk_180 0 85 (dk_at dksX4_feeOf_3 4 rfl rfl)
theorem dX4_feeOf_77 : decode cX4_feeOf 77 = .ok (.iload 5, 2) := dk_21 5 (dk_at dksX4_feeOf_3 7 rfl rfl)
theorem dX4_feeOf_79 : decode cX4_feeOf 79 = .ok (.iaload, 1) := dk_46 (dk_at dksX4_feeOf_3 9 rfl rfl)
theorem dX4_feeOf_80 : decode cX4_feeOf 80 = .ok (.iload_n 3, 1) := dk_29 (dk_at dksX4_feeOf_3 10 rfl rfl)
theorem dX4_feeOf_81 : decode cX4_feeOf 81 = .ok (.invokevirtual 493, 3) := dk_182 1 237 (dk_at dksX4_feeOf_3 11 rfl rfl)
theorem dX4_feeOf_84 : decode cX4_feeOf 84 = .ok (.ifCond .eq 13, 3) := dk_153 0 13 (dk_at dksX4_feeOf_3 14 rfl rfl)
theorem dX4_feeOf_87 : decode cX4_feeOf 87 = .ok (.aload_n 0, 1) := dk_42 (dk_at dksX4_feeOf_3 17 rfl rfl)
theorem dX4_feeOf_88 : decode cX4_feeOf 88 = .ok (.getfield 79, 3) := dk_180 0 79 (dk_at dksX4_feeOf_3 18 rfl rfl)
theorem dX4_feeOf_91 : decode cX4_feeOf 91 = .ok (.iload 5, 2) := dk_21 5 (dk_at dksX4_feeOf_3 21 rfl rfl)
theorem dX4_feeOf_93 : decode cX4_feeOf 93 = .ok (.iaload, 1) := dk_46 (dk_at dksX4_feeOf_3 23 rfl rfl)
theorem dX4_feeOf_94 : decode cX4_feeOf 94 = .ok (.goto 4, 3) := dk_167 0 4 (dk_at dksX4_feeOf_4 0 rfl rfl)
theorem dX4_feeOf_97 : decode cX4_feeOf 97 = .ok (.iconst 0, 1) := dk_3 (dk_at dksX4_feeOf_4 3 rfl rfl)
theorem dX4_feeOf_98 : decode cX4_feeOf 98 = .ok (.iadd, 1) := dk_96 (dk_at dksX4_feeOf_4 4 rfl rfl)
theorem dX4_feeOf_99 : decode cX4_feeOf 99 = .ok (.istore 4, 2) := dk_54 4 (dk_at dksX4_feeOf_4 5 rfl rfl)
theorem dX4_feeOf_101 : decode cX4_feeOf 101 = .ok (.iinc 5 1, 3) := dk_132 5 1 (dk_at dksX4_feeOf_4 7 rfl rfl)
theorem dX4_feeOf_104 : decode cX4_feeOf 104 = .ok (.goto (-59), 3) := dk_167 255 197 (dk_at dksX4_feeOf_4 10 rfl rfl)
theorem dX4_feeOf_107 : decode cX4_feeOf 107 = .ok (.iload 4, 2) := dk_21 4 (dk_at dksX4_feeOf_4 13 rfl rfl)
theorem dX4_feeOf_109 : decode cX4_feeOf 109 = .ok (.ireturn, 1) := dk_172 (dk_at dksX4_feeOf_4 15 rfl rfl)
abbrev cX4_isCover : ByteArray := prog_18_method_54_code
def yX4_isCover : MethodName := ⟨RX4, "isCover", "(II)Z"⟩
def dkwX4_isCover_1 : List UInt8 := [104, 29, 96, 46, 27, 160, 0, 5, 4, 172, 132, 3, 1, 167, 255, 221, 3, 172]
abbrev dktX4_isCover_1 : List UInt8 := dkwX4_isCover_1 ++ []
def dkwX4_isCover_0 : List UInt8 := [3, 62, 29, 42, 180, 0, 26, 42, 180, 0, 148, 28, 46, 46, 162, 0, 26, 42, 180, 0, 160, 16, 8, 28]
abbrev dktX4_isCover_0 : List UInt8 := dkwX4_isCover_0 ++ dktX4_isCover_1
theorem dksX4_isCover_0 : cX4_isCover.data.toList.drop 0 = dktX4_isCover_0 := by decide +kernel
theorem dksX4_isCover_1 : cX4_isCover.data.toList.drop 24 = dktX4_isCover_1 := dk_seg dksX4_isCover_0 24 rfl rfl
theorem dX4_isCover_0 : decode cX4_isCover 0 = .ok (.iconst 0, 1) := dk_3 (dk_at dksX4_isCover_0 0 rfl rfl)
theorem dX4_isCover_1 : decode cX4_isCover 1 = .ok (.istore_n 3, 1) := dk_62 (dk_at dksX4_isCover_0 1 rfl rfl)
theorem dX4_isCover_2 : decode cX4_isCover 2 = .ok (.iload_n 3, 1) := dk_29 (dk_at dksX4_isCover_0 2 rfl rfl)
theorem dX4_isCover_3 : decode cX4_isCover 3 = .ok (.aload_n 0, 1) := dk_42 (dk_at dksX4_isCover_0 3 rfl rfl)
theorem dX4_isCover_4 : decode cX4_isCover 4 = .ok (.getfield 26, 3) := dk_180 0 26 (dk_at dksX4_isCover_0 4 rfl rfl)
theorem dX4_isCover_7 : decode cX4_isCover 7 = .ok (.aload_n 0, 1) := dk_42 (dk_at dksX4_isCover_0 7 rfl rfl)
theorem dX4_isCover_8 : decode cX4_isCover 8 = .ok (.getfield 148, 3) := dk_180 0 148 (dk_at dksX4_isCover_0 8 rfl rfl)
theorem dX4_isCover_11 : decode cX4_isCover 11 = .ok (.iload_n 2, 1) := dk_28 (dk_at dksX4_isCover_0 11 rfl rfl)
theorem dX4_isCover_12 : decode cX4_isCover 12 = .ok (.iaload, 1) := dk_46 (dk_at dksX4_isCover_0 12 rfl rfl)
theorem dX4_isCover_13 : decode cX4_isCover 13 = .ok (.iaload, 1) := dk_46 (dk_at dksX4_isCover_0 13 rfl rfl)
theorem dX4_isCover_14 : decode cX4_isCover 14 = .ok (.if_icmp .ge 26, 3) := dk_162 0 26 (dk_at dksX4_isCover_0 14 rfl rfl)
theorem dX4_isCover_17 : decode cX4_isCover 17 = .ok (.aload_n 0, 1) := dk_42 (dk_at dksX4_isCover_0 17 rfl rfl)
theorem dX4_isCover_18 : decode cX4_isCover 18 = .ok (.getfield 160, 3) := dk_180 0 160 (dk_at dksX4_isCover_0 18 rfl rfl)
theorem dX4_isCover_21 : decode cX4_isCover 21 = .ok (.bipush 8, 2) := dk_16 8 (dk_at dksX4_isCover_0 21 rfl rfl)
theorem dX4_isCover_23 : decode cX4_isCover 23 = .ok (.iload_n 2, 1) := dk_28 (dk_at dksX4_isCover_0 23 rfl rfl)
theorem dX4_isCover_24 : decode cX4_isCover 24 = .ok (.imul, 1) := dk_104 (dk_at dksX4_isCover_1 0 rfl rfl)
theorem dX4_isCover_25 : decode cX4_isCover 25 = .ok (.iload_n 3, 1) := dk_29 (dk_at dksX4_isCover_1 1 rfl rfl)
theorem dX4_isCover_26 : decode cX4_isCover 26 = .ok (.iadd, 1) := dk_96 (dk_at dksX4_isCover_1 2 rfl rfl)
theorem dX4_isCover_27 : decode cX4_isCover 27 = .ok (.iaload, 1) := dk_46 (dk_at dksX4_isCover_1 3 rfl rfl)
theorem dX4_isCover_28 : decode cX4_isCover 28 = .ok (.iload_n 1, 1) := dk_27 (dk_at dksX4_isCover_1 4 rfl rfl)
theorem dX4_isCover_29 : decode cX4_isCover 29 = .ok (.if_icmp .ne 5, 3) := dk_160 0 5 (dk_at dksX4_isCover_1 5 rfl rfl)
theorem dX4_isCover_32 : decode cX4_isCover 32 = .ok (.iconst 1, 1) := dk_4 (dk_at dksX4_isCover_1 8 rfl rfl)
theorem dX4_isCover_33 : decode cX4_isCover 33 = .ok (.ireturn, 1) := dk_172 (dk_at dksX4_isCover_1 9 rfl rfl)
theorem dX4_isCover_34 : decode cX4_isCover 34 = .ok (.iinc 3 1, 3) := dk_132 3 1 (dk_at dksX4_isCover_1 10 rfl rfl)
theorem dX4_isCover_37 : decode cX4_isCover 37 = .ok (.goto (-35), 3) := dk_167 255 221 (dk_at dksX4_isCover_1 13 rfl rfl)
theorem dX4_isCover_40 : decode cX4_isCover 40 = .ok (.iconst 0, 1) := dk_3 (dk_at dksX4_isCover_1 16 rfl rfl)
theorem dX4_isCover_41 : decode cX4_isCover 41 = .ok (.ireturn, 1) := dk_172 (dk_at dksX4_isCover_1 17 rfl rfl)
abbrev cX4_isIll : ByteArray := prog_18_method_57_code
def yX4_isIll : MethodName := ⟨RX4, "isIll", "(II)Z"⟩
def dkwX4_isIll_2 : List UInt8 := [29, 46, 163, 0, 5, 4, 172, 132, 3, 1, 167, 255, 200, 3, 172]
abbrev dktX4_isIll_2 : List UInt8 := dkwX4_isIll_2 ++ []
def dkwX4_isIll_1 : List UInt8 := [180, 0, 112, 29, 46, 27, 160, 0, 25, 42, 180, 0, 115, 29, 46, 28, 163, 0, 15, 28, 42, 180, 0, 118]
abbrev dktX4_isIll_1 : List UInt8 := dkwX4_isIll_1 ++ dktX4_isIll_2
def dkwX4_isIll_0 : List UInt8 := [3, 62, 29, 42, 180, 1, 184, 162, 0, 54, 42, 180, 0, 121, 29, 46, 42, 180, 1, 187, 163, 0, 35, 42]
abbrev dktX4_isIll_0 : List UInt8 := dkwX4_isIll_0 ++ dktX4_isIll_1
theorem dksX4_isIll_0 : cX4_isIll.data.toList.drop 0 = dktX4_isIll_0 := by decide +kernel
theorem dksX4_isIll_1 : cX4_isIll.data.toList.drop 24 = dktX4_isIll_1 := dk_seg dksX4_isIll_0 24 rfl rfl
theorem dksX4_isIll_2 : cX4_isIll.data.toList.drop 48 = dktX4_isIll_2 := dk_seg dksX4_isIll_1 24 rfl rfl
theorem dX4_isIll_0 : decode cX4_isIll 0 = .ok (.iconst 0, 1) := dk_3 (dk_at dksX4_isIll_0 0 rfl rfl)
theorem dX4_isIll_1 : decode cX4_isIll 1 = .ok (.istore_n 3, 1) := dk_62 (dk_at dksX4_isIll_0 1 rfl rfl)
theorem dX4_isIll_2 : decode cX4_isIll 2 = .ok (.iload_n 3, 1) := dk_29 (dk_at dksX4_isIll_0 2 rfl rfl)
theorem dX4_isIll_3 : decode cX4_isIll 3 = .ok (.aload_n 0, 1) := dk_42 (dk_at dksX4_isIll_0 3 rfl rfl)
theorem dX4_isIll_4 : decode cX4_isIll 4 = .ok (.getfield 440, 3) := dk_180 1 184 (dk_at dksX4_isIll_0 4 rfl rfl)
theorem dX4_isIll_7 : decode cX4_isIll 7 = .ok (.if_icmp .ge 54, 3) := dk_162 0 54 (dk_at dksX4_isIll_0 7 rfl rfl)
theorem dX4_isIll_10 : decode cX4_isIll 10 = .ok (.aload_n 0, 1) := dk_42 (dk_at dksX4_isIll_0 10 rfl rfl)
theorem dX4_isIll_11 : decode cX4_isIll 11 = .ok (.getfield 121, 3) := dk_180 0 121 (dk_at dksX4_isIll_0 11 rfl rfl)
theorem dX4_isIll_14 : decode cX4_isIll 14 = .ok (.iload_n 3, 1) := dk_29 (dk_at dksX4_isIll_0 14 rfl rfl)
theorem dX4_isIll_15 : decode cX4_isIll 15 = .ok (.iaload, 1) := dk_46 (dk_at dksX4_isIll_0 15 rfl rfl)
theorem dX4_isIll_16 : decode cX4_isIll 16 = .ok (.aload_n 0, 1) := dk_42 (dk_at dksX4_isIll_0 16 rfl rfl)
theorem dX4_isIll_17 : decode cX4_isIll 17 = .ok (.getfield 443, 3) := dk_180 1 187 (dk_at dksX4_isIll_0 17 rfl rfl)
theorem dX4_isIll_20 : decode cX4_isIll 20 = .ok (.if_icmp .gt 35, 3) := dk_163 0 35 (dk_at dksX4_isIll_0 20 rfl rfl)
theorem dX4_isIll_23 : decode cX4_isIll 23 = .ok (.aload_n 0, 1) := dk_42 (dk_at dksX4_isIll_0 23 rfl rfl)
theorem dX4_isIll_24 : decode cX4_isIll 24 = .ok (.getfield 112, 3) := dk_180 0 112 (dk_at dksX4_isIll_1 0 rfl rfl)
theorem dX4_isIll_27 : decode cX4_isIll 27 = .ok (.iload_n 3, 1) := dk_29 (dk_at dksX4_isIll_1 3 rfl rfl)
theorem dX4_isIll_28 : decode cX4_isIll 28 = .ok (.iaload, 1) := dk_46 (dk_at dksX4_isIll_1 4 rfl rfl)
theorem dX4_isIll_29 : decode cX4_isIll 29 = .ok (.iload_n 1, 1) := dk_27 (dk_at dksX4_isIll_1 5 rfl rfl)
theorem dX4_isIll_30 : decode cX4_isIll 30 = .ok (.if_icmp .ne 25, 3) := dk_160 0 25 (dk_at dksX4_isIll_1 6 rfl rfl)
theorem dX4_isIll_33 : decode cX4_isIll 33 = .ok (.aload_n 0, 1) := dk_42 (dk_at dksX4_isIll_1 9 rfl rfl)
theorem dX4_isIll_34 : decode cX4_isIll 34 = .ok (.getfield 115, 3) := dk_180 0 115 (dk_at dksX4_isIll_1 10 rfl rfl)
theorem dX4_isIll_37 : decode cX4_isIll 37 = .ok (.iload_n 3, 1) := dk_29 (dk_at dksX4_isIll_1 13 rfl rfl)
theorem dX4_isIll_38 : decode cX4_isIll 38 = .ok (.iaload, 1) := dk_46 (dk_at dksX4_isIll_1 14 rfl rfl)
theorem dX4_isIll_39 : decode cX4_isIll 39 = .ok (.iload_n 2, 1) := dk_28 (dk_at dksX4_isIll_1 15 rfl rfl)
theorem dX4_isIll_40 : decode cX4_isIll 40 = .ok (.if_icmp .gt 15, 3) := dk_163 0 15 (dk_at dksX4_isIll_1 16 rfl rfl)
theorem dX4_isIll_43 : decode cX4_isIll 43 = .ok (.iload_n 2, 1) := dk_28 (dk_at dksX4_isIll_1 19 rfl rfl)
theorem dX4_isIll_44 : decode cX4_isIll 44 = .ok (.aload_n 0, 1) := dk_42 (dk_at dksX4_isIll_1 20 rfl rfl)
theorem dX4_isIll_45 : decode cX4_isIll 45 = .ok (.getfield 118, 3) := dk_180 0 118 (dk_at dksX4_isIll_1 21 rfl rfl)
theorem dX4_isIll_48 : decode cX4_isIll 48 = .ok (.iload_n 3, 1) := dk_29 (dk_at dksX4_isIll_2 0 rfl rfl)
theorem dX4_isIll_49 : decode cX4_isIll 49 = .ok (.iaload, 1) := dk_46 (dk_at dksX4_isIll_2 1 rfl rfl)
theorem dX4_isIll_50 : decode cX4_isIll 50 = .ok (.if_icmp .gt 5, 3) := dk_163 0 5 (dk_at dksX4_isIll_2 2 rfl rfl)
theorem dX4_isIll_53 : decode cX4_isIll 53 = .ok (.iconst 1, 1) := dk_4 (dk_at dksX4_isIll_2 5 rfl rfl)
theorem dX4_isIll_54 : decode cX4_isIll 54 = .ok (.ireturn, 1) := dk_172 (dk_at dksX4_isIll_2 6 rfl rfl)
theorem dX4_isIll_55 : decode cX4_isIll 55 = .ok (.iinc 3 1, 3) := dk_132 3 1 (dk_at dksX4_isIll_2 7 rfl rfl)
theorem dX4_isIll_58 : decode cX4_isIll 58 = .ok (.goto (-56), 3) := dk_167 255 200 (dk_at dksX4_isIll_2 10 rfl rfl)
theorem dX4_isIll_61 : decode cX4_isIll 61 = .ok (.iconst 0, 1) := dk_3 (dk_at dksX4_isIll_2 13 rfl rfl)
theorem dX4_isIll_62 : decode cX4_isIll 62 = .ok (.ireturn, 1) := dk_172 (dk_at dksX4_isIll_2 14 rfl rfl)
abbrev cX4_isSo : ByteArray := prog_18_method_67_code
def yX4_isSo : MethodName := ⟨RX4, "isSo", "(IIIIZ)Z"⟩
def dkwX4_isSo_13 : List UInt8 := [153, 0, 12, 42, 180, 0, 175, 3, 51, 153, 0, 7, 4, 167, 0, 4, 3, 172]
abbrev dktX4_isSo_13 : List UInt8 := dkwX4_isSo_13 ++ []
def dkwX4_isSo_12 : List UInt8 := [21, 7, 46, 164, 0, 7, 4, 167, 0, 4, 3, 84, 132, 6, 1, 132, 7, 1, 167, 254, 226, 21, 6]
abbrev dktX4_isSo_12 : List UInt8 := dkwX4_isSo_12 ++ dktX4_isSo_13
def dkwX4_isSo_11 : List UInt8 := [180, 0, 94, 21, 7, 46, 160, 0, 7, 4, 167, 0, 24, 3, 167, 0, 20, 21, 9, 42, 180, 0, 94]
abbrev dktX4_isSo_11 : List UInt8 := dkwX4_isSo_11 ++ dktX4_isSo_12
def dkwX4_isSo_10 : List UInt8 := [167, 0, 56, 3, 167, 0, 52, 42, 180, 0, 91, 21, 7, 46, 16, 61, 160, 0, 23, 21, 9, 42]
abbrev dktX4_isSo_10 : List UInt8 := dkwX4_isSo_10 ++ dktX4_isSo_11
def dkwX4_isSo_9 : List UInt8 := [180, 0, 91, 21, 7, 46, 16, 60, 160, 0, 23, 21, 9, 42, 180, 0, 94, 21, 7, 46, 162, 0, 7, 4]
abbrev dktX4_isSo_9 : List UInt8 := dkwX4_isSo_9 ++ dktX4_isSo_10
def dkwX4_isSo_8 : List UInt8 := [167, 0, 106, 42, 27, 28, 21, 8, 21, 5, 182, 1, 230, 54, 9, 42, 180, 0, 175, 21, 6, 42]
abbrev dktX4_isSo_8 : List UInt8 := dkwX4_isSo_8 ++ dktX4_isSo_9
def dkwX4_isSo_7 : List UInt8 := [162, 0, 26, 42, 180, 0, 175, 21, 6, 42, 27, 28, 21, 8, 21, 5, 182, 1, 226, 84, 132, 6, 1]
abbrev dktX4_isSo_7 : List UInt8 := dkwX4_isSo_7 ++ dktX4_isSo_8
def dkwX4_isSo_6 : List UInt8 := [180, 0, 175, 21, 6, 51, 153, 0, 7, 4, 167, 0, 4, 3, 84, 167, 0, 136, 21, 8, 16, 7]
abbrev dktX4_isSo_6 : List UInt8 := dkwX4_isSo_6 ++ dktX4_isSo_7
def dkwX4_isSo_5 : List UInt8 := [153, 0, 7, 4, 167, 0, 34, 3, 167, 0, 30, 42, 180, 0, 175, 21, 6, 4, 100, 51, 154, 0, 13, 42]
abbrev dktX4_isSo_5 : List UInt8 := dkwX4_isSo_5 ++ dktX4_isSo_6
def dkwX4_isSo_4 : List UInt8 := [16, 21, 160, 0, 33, 42, 180, 0, 175, 21, 6, 4, 100, 51, 153, 0, 17, 42, 180, 0, 175, 21, 6, 51]
abbrev dktX4_isSo_4 : List UInt8 := dkwX4_isSo_4 ++ dktX4_isSo_5
def dkwX4_isSo_3 : List UInt8 := [159, 0, 10, 21, 8, 16, 22, 160, 0, 82, 132, 6, 255, 42, 180, 0, 175, 21, 6, 4, 100, 21, 8]
abbrev dktX4_isSo_3 : List UInt8 := dkwX4_isSo_3 ++ dktX4_isSo_4
def dkwX4_isSo_2 : List UInt8 := [180, 0, 175, 21, 6, 4, 100, 51, 154, 0, 7, 4, 167, 0, 4, 3, 84, 167, 0, 229, 21, 8, 16, 21]
abbrev dktX4_isSo_2 : List UInt8 := dkwX4_isSo_2 ++ dktX4_isSo_3
def dkwX4_isSo_1 : List UInt8 := [180, 0, 88, 21, 7, 46, 54, 8, 21, 8, 16, 20, 160, 0, 32, 42, 180, 0, 175, 21, 6, 4, 100, 42]
abbrev dktX4_isSo_1 : List UInt8 := dkwX4_isSo_1 ++ dktX4_isSo_2
def dkwX4_isSo_0 : List UInt8 := [3, 54, 6, 16, 100, 27, 104, 29, 96, 54, 7, 21, 7, 16, 100, 27, 104, 21, 4, 96, 162, 1, 24, 42]
abbrev dktX4_isSo_0 : List UInt8 := dkwX4_isSo_0 ++ dktX4_isSo_1
theorem dksX4_isSo_0 : cX4_isSo.data.toList.drop 0 = dktX4_isSo_0 := by decide +kernel
theorem dksX4_isSo_1 : cX4_isSo.data.toList.drop 24 = dktX4_isSo_1 := dk_seg dksX4_isSo_0 24 rfl rfl
theorem dksX4_isSo_2 : cX4_isSo.data.toList.drop 48 = dktX4_isSo_2 := dk_seg dksX4_isSo_1 24 rfl rfl
theorem dksX4_isSo_3 : cX4_isSo.data.toList.drop 72 = dktX4_isSo_3 := dk_seg dksX4_isSo_2 24 rfl rfl
theorem dksX4_isSo_4 : cX4_isSo.data.toList.drop 95 = dktX4_isSo_4 := dk_seg dksX4_isSo_3 23 rfl rfl
theorem dksX4_isSo_5 : cX4_isSo.data.toList.drop 119 = dktX4_isSo_5 := dk_seg dksX4_isSo_4 24 rfl rfl
theorem dksX4_isSo_6 : cX4_isSo.data.toList.drop 143 = dktX4_isSo_6 := dk_seg dksX4_isSo_5 24 rfl rfl
theorem dksX4_isSo_7 : cX4_isSo.data.toList.drop 165 = dktX4_isSo_7 := dk_seg dksX4_isSo_6 22 rfl rfl
theorem dksX4_isSo_8 : cX4_isSo.data.toList.drop 188 = dktX4_isSo_8 := dk_seg dksX4_isSo_7 23 rfl rfl
theorem dksX4_isSo_9 : cX4_isSo.data.toList.drop 210 = dktX4_isSo_9 := dk_seg dksX4_isSo_8 22 rfl rfl
theorem dksX4_isSo_10 : cX4_isSo.data.toList.drop 234 = dktX4_isSo_10 := dk_seg dksX4_isSo_9 24 rfl rfl
theorem dksX4_isSo_11 : cX4_isSo.data.toList.drop 256 = dktX4_isSo_11 := dk_seg dksX4_isSo_10 22 rfl rfl
theorem dksX4_isSo_12 : cX4_isSo.data.toList.drop 279 = dktX4_isSo_12 := dk_seg dksX4_isSo_11 23 rfl rfl
theorem dksX4_isSo_13 : cX4_isSo.data.toList.drop 302 = dktX4_isSo_13 := dk_seg dksX4_isSo_12 23 rfl rfl
theorem dX4_isSo_0 : decode cX4_isSo 0 = .ok (.iconst 0, 1) := dk_3 (dk_at dksX4_isSo_0 0 rfl rfl)
theorem dX4_isSo_1 : decode cX4_isSo 1 = .ok (.istore 6, 2) := dk_54 6 (dk_at dksX4_isSo_0 1 rfl rfl)
theorem dX4_isSo_3 : decode cX4_isSo 3 = .ok (.bipush 100, 2) := dk_16 100 (dk_at dksX4_isSo_0 3 rfl rfl)
theorem dX4_isSo_5 : decode cX4_isSo 5 = .ok (.iload_n 1, 1) := dk_27 (dk_at dksX4_isSo_0 5 rfl rfl)
theorem dX4_isSo_6 : decode cX4_isSo 6 = .ok (.imul, 1) := dk_104 (dk_at dksX4_isSo_0 6 rfl rfl)
theorem dX4_isSo_7 : decode cX4_isSo 7 = .ok (.iload_n 3, 1) := dk_29 (dk_at dksX4_isSo_0 7 rfl rfl)
theorem dX4_isSo_8 : decode cX4_isSo 8 = .ok (.iadd, 1) := dk_96 (dk_at dksX4_isSo_0 8 rfl rfl)
theorem dX4_isSo_9 : decode cX4_isSo 9 = .ok (.istore 7, 2) := dk_54 7 (dk_at dksX4_isSo_0 9 rfl rfl)
theorem dX4_isSo_11 : decode cX4_isSo 11 = .ok (.iload 7, 2) := dk_21 7 (dk_at dksX4_isSo_0 11 rfl rfl)
theorem dX4_isSo_13 : decode cX4_isSo 13 = .ok (.bipush 100, 2) := dk_16 100 (dk_at dksX4_isSo_0 13 rfl rfl)
theorem dX4_isSo_15 : decode cX4_isSo 15 = .ok (.iload_n 1, 1) := dk_27 (dk_at dksX4_isSo_0 15 rfl rfl)
theorem dX4_isSo_16 : decode cX4_isSo 16 = .ok (.imul, 1) := dk_104 (dk_at dksX4_isSo_0 16 rfl rfl)
theorem dX4_isSo_17 : decode cX4_isSo 17 = .ok (.iload 4, 2) := dk_21 4 (dk_at dksX4_isSo_0 17 rfl rfl)
theorem dX4_isSo_19 : decode cX4_isSo 19 = .ok (.iadd, 1) := dk_96 (dk_at dksX4_isSo_0 19 rfl rfl)
theorem dX4_isSo_20 : decode cX4_isSo 20 = .ok (.if_icmp .ge 280, 3) := dk_162 1 24 (dk_at dksX4_isSo_0 20 rfl rfl)
theorem dX4_isSo_23 : decode cX4_isSo 23 = .ok (.aload_n 0, 1) := dk_42 (dk_at dksX4_isSo_0 23 rfl rfl)
theorem dX4_isSo_24 : decode cX4_isSo 24 = .ok (.getfield 88, 3) := dk_180 0 88 (dk_at dksX4_isSo_1 0 rfl rfl)
theorem dX4_isSo_27 : decode cX4_isSo 27 = .ok (.iload 7, 2) := dk_21 7 (dk_at dksX4_isSo_1 3 rfl rfl)
theorem dX4_isSo_29 : decode cX4_isSo 29 = .ok (.iaload, 1) := dk_46 (dk_at dksX4_isSo_1 5 rfl rfl)
theorem dX4_isSo_30 : decode cX4_isSo 30 = .ok (.istore 8, 2) := dk_54 8 (dk_at dksX4_isSo_1 6 rfl rfl)
theorem dX4_isSo_32 : decode cX4_isSo 32 = .ok (.iload 8, 2) := dk_21 8 (dk_at dksX4_isSo_1 8 rfl rfl)
theorem dX4_isSo_34 : decode cX4_isSo 34 = .ok (.bipush 20, 2) := dk_16 20 (dk_at dksX4_isSo_1 10 rfl rfl)
theorem dX4_isSo_36 : decode cX4_isSo 36 = .ok (.if_icmp .ne 32, 3) := dk_160 0 32 (dk_at dksX4_isSo_1 12 rfl rfl)
theorem dX4_isSo_39 : decode cX4_isSo 39 = .ok (.aload_n 0, 1) := dk_42 (dk_at dksX4_isSo_1 15 rfl rfl)
theorem dX4_isSo_40 : decode cX4_isSo 40 = .ok (.getfield 175, 3) := dk_180 0 175 (dk_at dksX4_isSo_1 16 rfl rfl)
theorem dX4_isSo_43 : decode cX4_isSo 43 = .ok (.iload 6, 2) := dk_21 6 (dk_at dksX4_isSo_1 19 rfl rfl)
theorem dX4_isSo_45 : decode cX4_isSo 45 = .ok (.iconst 1, 1) := dk_4 (dk_at dksX4_isSo_1 21 rfl rfl)
theorem dX4_isSo_46 : decode cX4_isSo 46 = .ok (.isub, 1) := dk_100 (dk_at dksX4_isSo_1 22 rfl rfl)
theorem dX4_isSo_47 : decode cX4_isSo 47 = .ok (.aload_n 0, 1) := dk_42 (dk_at dksX4_isSo_1 23 rfl rfl)
theorem dX4_isSo_48 : decode cX4_isSo 48 = .ok (.getfield 175, 3) := dk_180 0 175 (dk_at dksX4_isSo_2 0 rfl rfl)
theorem dX4_isSo_51 : decode cX4_isSo 51 = .ok (.iload 6, 2) := dk_21 6 (dk_at dksX4_isSo_2 3 rfl rfl)
theorem dX4_isSo_53 : decode cX4_isSo 53 = .ok (.iconst 1, 1) := dk_4 (dk_at dksX4_isSo_2 5 rfl rfl)
theorem dX4_isSo_54 : decode cX4_isSo 54 = .ok (.isub, 1) := dk_100 (dk_at dksX4_isSo_2 6 rfl rfl)
theorem dX4_isSo_55 : decode cX4_isSo 55 = .ok (.baload, 1) := dk_51 (dk_at dksX4_isSo_2 7 rfl rfl)
theorem dX4_isSo_56 : decode cX4_isSo 56 = .ok (.ifCond .ne 7, 3) := dk_154 0 7 (dk_at dksX4_isSo_2 8 rfl rfl)
theorem dX4_isSo_59 : decode cX4_isSo 59 = .ok (.iconst 1, 1) := dk_4 (dk_at dksX4_isSo_2 11 rfl rfl)
theorem dX4_isSo_60 : decode cX4_isSo 60 = .ok (.goto 4, 3) := dk_167 0 4 (dk_at dksX4_isSo_2 12 rfl rfl)
theorem dX4_isSo_63 : decode cX4_isSo 63 = .ok (.iconst 0, 1) := dk_3 (dk_at dksX4_isSo_2 15 rfl rfl)
theorem dX4_isSo_64 : decode cX4_isSo 64 = .ok (.bastore, 1) := dk_84 (dk_at dksX4_isSo_2 16 rfl rfl)
theorem dX4_isSo_65 : decode cX4_isSo 65 = .ok (.goto 229, 3) := dk_167 0 229 (dk_at dksX4_isSo_2 17 rfl rfl)
theorem dX4_isSo_68 : decode cX4_isSo 68 = .ok (.iload 8, 2) := dk_21 8 (dk_at dksX4_isSo_2 20 rfl rfl)
theorem dX4_isSo_70 : decode cX4_isSo 70 = .ok (.bipush 21, 2) := dk_16 21 (dk_at dksX4_isSo_2 22 rfl rfl)
theorem dX4_isSo_72 : decode cX4_isSo 72 = .ok (.if_icmp .eq 10, 3) := dk_159 0 10 (dk_at dksX4_isSo_3 0 rfl rfl)
theorem dX4_isSo_75 : decode cX4_isSo 75 = .ok (.iload 8, 2) := dk_21 8 (dk_at dksX4_isSo_3 3 rfl rfl)
theorem dX4_isSo_77 : decode cX4_isSo 77 = .ok (.bipush 22, 2) := dk_16 22 (dk_at dksX4_isSo_3 5 rfl rfl)
theorem dX4_isSo_79 : decode cX4_isSo 79 = .ok (.if_icmp .ne 82, 3) := dk_160 0 82 (dk_at dksX4_isSo_3 7 rfl rfl)
theorem dX4_isSo_82 : decode cX4_isSo 82 = .ok (.iinc 6 (-1), 3) := dk_132 6 255 (dk_at dksX4_isSo_3 10 rfl rfl)
theorem dX4_isSo_85 : decode cX4_isSo 85 = .ok (.aload_n 0, 1) := dk_42 (dk_at dksX4_isSo_3 13 rfl rfl)
theorem dX4_isSo_86 : decode cX4_isSo 86 = .ok (.getfield 175, 3) := dk_180 0 175 (dk_at dksX4_isSo_3 14 rfl rfl)
theorem dX4_isSo_89 : decode cX4_isSo 89 = .ok (.iload 6, 2) := dk_21 6 (dk_at dksX4_isSo_3 17 rfl rfl)
theorem dX4_isSo_91 : decode cX4_isSo 91 = .ok (.iconst 1, 1) := dk_4 (dk_at dksX4_isSo_3 19 rfl rfl)
theorem dX4_isSo_92 : decode cX4_isSo 92 = .ok (.isub, 1) := dk_100 (dk_at dksX4_isSo_3 20 rfl rfl)
theorem dX4_isSo_93 : decode cX4_isSo 93 = .ok (.iload 8, 2) := dk_21 8 (dk_at dksX4_isSo_3 21 rfl rfl)
theorem dX4_isSo_95 : decode cX4_isSo 95 = .ok (.bipush 21, 2) := dk_16 21 (dk_at dksX4_isSo_4 0 rfl rfl)
theorem dX4_isSo_97 : decode cX4_isSo 97 = .ok (.if_icmp .ne 33, 3) := dk_160 0 33 (dk_at dksX4_isSo_4 2 rfl rfl)
theorem dX4_isSo_100 : decode cX4_isSo 100 = .ok (.aload_n 0, 1) := dk_42 (dk_at dksX4_isSo_4 5 rfl rfl)
theorem dX4_isSo_101 : decode cX4_isSo 101 = .ok (.getfield 175, 3) := dk_180 0 175 (dk_at dksX4_isSo_4 6 rfl rfl)
theorem dX4_isSo_104 : decode cX4_isSo 104 = .ok (.iload 6, 2) := dk_21 6 (dk_at dksX4_isSo_4 9 rfl rfl)
theorem dX4_isSo_106 : decode cX4_isSo 106 = .ok (.iconst 1, 1) := dk_4 (dk_at dksX4_isSo_4 11 rfl rfl)
theorem dX4_isSo_107 : decode cX4_isSo 107 = .ok (.isub, 1) := dk_100 (dk_at dksX4_isSo_4 12 rfl rfl)
theorem dX4_isSo_108 : decode cX4_isSo 108 = .ok (.baload, 1) := dk_51 (dk_at dksX4_isSo_4 13 rfl rfl)
theorem dX4_isSo_109 : decode cX4_isSo 109 = .ok (.ifCond .eq 17, 3) := dk_153 0 17 (dk_at dksX4_isSo_4 14 rfl rfl)
theorem dX4_isSo_112 : decode cX4_isSo 112 = .ok (.aload_n 0, 1) := dk_42 (dk_at dksX4_isSo_4 17 rfl rfl)
theorem dX4_isSo_113 : decode cX4_isSo 113 = .ok (.getfield 175, 3) := dk_180 0 175 (dk_at dksX4_isSo_4 18 rfl rfl)
theorem dX4_isSo_116 : decode cX4_isSo 116 = .ok (.iload 6, 2) := dk_21 6 (dk_at dksX4_isSo_4 21 rfl rfl)
theorem dX4_isSo_118 : decode cX4_isSo 118 = .ok (.baload, 1) := dk_51 (dk_at dksX4_isSo_4 23 rfl rfl)
theorem dX4_isSo_119 : decode cX4_isSo 119 = .ok (.ifCond .eq 7, 3) := dk_153 0 7 (dk_at dksX4_isSo_5 0 rfl rfl)
theorem dX4_isSo_122 : decode cX4_isSo 122 = .ok (.iconst 1, 1) := dk_4 (dk_at dksX4_isSo_5 3 rfl rfl)
theorem dX4_isSo_123 : decode cX4_isSo 123 = .ok (.goto 34, 3) := dk_167 0 34 (dk_at dksX4_isSo_5 4 rfl rfl)
theorem dX4_isSo_126 : decode cX4_isSo 126 = .ok (.iconst 0, 1) := dk_3 (dk_at dksX4_isSo_5 7 rfl rfl)
theorem dX4_isSo_127 : decode cX4_isSo 127 = .ok (.goto 30, 3) := dk_167 0 30 (dk_at dksX4_isSo_5 8 rfl rfl)
theorem dX4_isSo_130 : decode cX4_isSo 130 = .ok (.aload_n 0, 1) := dk_42 (dk_at dksX4_isSo_5 11 rfl rfl)
theorem dX4_isSo_131 : decode cX4_isSo 131 = .ok (.getfield 175, 3) := dk_180 0 175 (dk_at dksX4_isSo_5 12 rfl rfl)
theorem dX4_isSo_134 : decode cX4_isSo 134 = .ok (.iload 6, 2) := dk_21 6 (dk_at dksX4_isSo_5 15 rfl rfl)
theorem dX4_isSo_136 : decode cX4_isSo 136 = .ok (.iconst 1, 1) := dk_4 (dk_at dksX4_isSo_5 17 rfl rfl)
theorem dX4_isSo_137 : decode cX4_isSo 137 = .ok (.isub, 1) := dk_100 (dk_at dksX4_isSo_5 18 rfl rfl)
theorem dX4_isSo_138 : decode cX4_isSo 138 = .ok (.baload, 1) := dk_51 (dk_at dksX4_isSo_5 19 rfl rfl)
theorem dX4_isSo_139 : decode cX4_isSo 139 = .ok (.ifCond .ne 13, 3) := dk_154 0 13 (dk_at dksX4_isSo_5 20 rfl rfl)
theorem dX4_isSo_142 : decode cX4_isSo 142 = .ok (.aload_n 0, 1) := dk_42 (dk_at dksX4_isSo_5 23 rfl rfl)
theorem dX4_isSo_143 : decode cX4_isSo 143 = .ok (.getfield 175, 3) := dk_180 0 175 (dk_at dksX4_isSo_6 0 rfl rfl)
theorem dX4_isSo_146 : decode cX4_isSo 146 = .ok (.iload 6, 2) := dk_21 6 (dk_at dksX4_isSo_6 3 rfl rfl)
theorem dX4_isSo_148 : decode cX4_isSo 148 = .ok (.baload, 1) := dk_51 (dk_at dksX4_isSo_6 5 rfl rfl)
theorem dX4_isSo_149 : decode cX4_isSo 149 = .ok (.ifCond .eq 7, 3) := dk_153 0 7 (dk_at dksX4_isSo_6 6 rfl rfl)
theorem dX4_isSo_152 : decode cX4_isSo 152 = .ok (.iconst 1, 1) := dk_4 (dk_at dksX4_isSo_6 9 rfl rfl)
theorem dX4_isSo_153 : decode cX4_isSo 153 = .ok (.goto 4, 3) := dk_167 0 4 (dk_at dksX4_isSo_6 10 rfl rfl)
theorem dX4_isSo_156 : decode cX4_isSo 156 = .ok (.iconst 0, 1) := dk_3 (dk_at dksX4_isSo_6 13 rfl rfl)
theorem dX4_isSo_157 : decode cX4_isSo 157 = .ok (.bastore, 1) := dk_84 (dk_at dksX4_isSo_6 14 rfl rfl)
theorem dX4_isSo_158 : decode cX4_isSo 158 = .ok (.goto 136, 3) := dk_167 0 136 (dk_at dksX4_isSo_6 15 rfl rfl)
theorem dX4_isSo_161 : decode cX4_isSo 161 = .ok (.iload 8, 2) := dk_21 8 (dk_at dksX4_isSo_6 18 rfl rfl)
theorem dX4_isSo_163 : decode cX4_isSo 163 = .ok (.bipush 7, 2) := dk_16 7 (dk_at dksX4_isSo_6 20 rfl rfl)
theorem dX4_isSo_165 : decode cX4_isSo 165 = .ok (.if_icmp .ge 26, 3) := dk_162 0 26 (dk_at dksX4_isSo_7 0 rfl rfl)
theorem dX4_isSo_168 : decode cX4_isSo 168 = .ok (.aload_n 0, 1) := dk_42 (dk_at dksX4_isSo_7 3 rfl rfl)
theorem dX4_isSo_169 : decode cX4_isSo 169 = .ok (.getfield 175, 3) := dk_180 0 175 (dk_at dksX4_isSo_7 4 rfl rfl)
theorem dX4_isSo_172 : decode cX4_isSo 172 = .ok (.iload 6, 2) := dk_21 6 (dk_at dksX4_isSo_7 7 rfl rfl)
theorem dX4_isSo_174 : decode cX4_isSo 174 = .ok (.aload_n 0, 1) := dk_42 (dk_at dksX4_isSo_7 9 rfl rfl)
theorem dX4_isSo_175 : decode cX4_isSo 175 = .ok (.iload_n 1, 1) := dk_27 (dk_at dksX4_isSo_7 10 rfl rfl)
theorem dX4_isSo_176 : decode cX4_isSo 176 = .ok (.iload_n 2, 1) := dk_28 (dk_at dksX4_isSo_7 11 rfl rfl)
theorem dX4_isSo_177 : decode cX4_isSo 177 = .ok (.iload 8, 2) := dk_21 8 (dk_at dksX4_isSo_7 12 rfl rfl)
theorem dX4_isSo_179 : decode cX4_isSo 179 = .ok (.iload 5, 2) := dk_21 5 (dk_at dksX4_isSo_7 14 rfl rfl)
theorem dX4_isSo_181 : decode cX4_isSo 181 = .ok (.invokevirtual 482, 3) := dk_182 1 226 (dk_at dksX4_isSo_7 16 rfl rfl)
theorem dX4_isSo_184 : decode cX4_isSo 184 = .ok (.bastore, 1) := dk_84 (dk_at dksX4_isSo_7 19 rfl rfl)
theorem dX4_isSo_185 : decode cX4_isSo 185 = .ok (.iinc 6 1, 3) := dk_132 6 1 (dk_at dksX4_isSo_7 20 rfl rfl)
theorem dX4_isSo_188 : decode cX4_isSo 188 = .ok (.goto 106, 3) := dk_167 0 106 (dk_at dksX4_isSo_8 0 rfl rfl)
theorem dX4_isSo_191 : decode cX4_isSo 191 = .ok (.aload_n 0, 1) := dk_42 (dk_at dksX4_isSo_8 3 rfl rfl)
theorem dX4_isSo_192 : decode cX4_isSo 192 = .ok (.iload_n 1, 1) := dk_27 (dk_at dksX4_isSo_8 4 rfl rfl)
theorem dX4_isSo_193 : decode cX4_isSo 193 = .ok (.iload_n 2, 1) := dk_28 (dk_at dksX4_isSo_8 5 rfl rfl)
theorem dX4_isSo_194 : decode cX4_isSo 194 = .ok (.iload 8, 2) := dk_21 8 (dk_at dksX4_isSo_8 6 rfl rfl)
theorem dX4_isSo_196 : decode cX4_isSo 196 = .ok (.iload 5, 2) := dk_21 5 (dk_at dksX4_isSo_8 8 rfl rfl)
theorem dX4_isSo_198 : decode cX4_isSo 198 = .ok (.invokevirtual 486, 3) := dk_182 1 230 (dk_at dksX4_isSo_8 10 rfl rfl)
theorem dX4_isSo_201 : decode cX4_isSo 201 = .ok (.istore 9, 2) := dk_54 9 (dk_at dksX4_isSo_8 13 rfl rfl)
theorem dX4_isSo_203 : decode cX4_isSo 203 = .ok (.aload_n 0, 1) := dk_42 (dk_at dksX4_isSo_8 15 rfl rfl)
theorem dX4_isSo_204 : decode cX4_isSo 204 = .ok (.getfield 175, 3) := dk_180 0 175 (dk_at dksX4_isSo_8 16 rfl rfl)
theorem dX4_isSo_207 : decode cX4_isSo 207 = .ok (.iload 6, 2) := dk_21 6 (dk_at dksX4_isSo_8 19 rfl rfl)
theorem dX4_isSo_209 : decode cX4_isSo 209 = .ok (.aload_n 0, 1) := dk_42 (dk_at dksX4_isSo_8 21 rfl rfl)
theorem dX4_isSo_210 : decode cX4_isSo 210 = .ok (.getfield 91, 3) := dk_180 0 91 (dk_at dksX4_isSo_9 0 rfl rfl)
theorem dX4_isSo_213 : decode cX4_isSo 213 = .ok (.iload 7, 2) := dk_21 7 (dk_at dksX4_isSo_9 3 rfl rfl)
theorem dX4_isSo_215 : decode cX4_isSo 215 = .ok (.iaload, 1) := dk_46 (dk_at dksX4_isSo_9 5 rfl rfl)
theorem dX4_isSo_216 : decode cX4_isSo 216 = .ok (.bipush 60, 2) := dk_16 60 (dk_at dksX4_isSo_9 6 rfl rfl)
theorem dX4_isSo_218 : decode cX4_isSo 218 = .ok (.if_icmp .ne 23, 3) := dk_160 0 23 (dk_at dksX4_isSo_9 8 rfl rfl)
theorem dX4_isSo_221 : decode cX4_isSo 221 = .ok (.iload 9, 2) := dk_21 9 (dk_at dksX4_isSo_9 11 rfl rfl)
theorem dX4_isSo_223 : decode cX4_isSo 223 = .ok (.aload_n 0, 1) := dk_42 (dk_at dksX4_isSo_9 13 rfl rfl)
theorem dX4_isSo_224 : decode cX4_isSo 224 = .ok (.getfield 94, 3) := dk_180 0 94 (dk_at dksX4_isSo_9 14 rfl rfl)
theorem dX4_isSo_227 : decode cX4_isSo 227 = .ok (.iload 7, 2) := dk_21 7 (dk_at dksX4_isSo_9 17 rfl rfl)
theorem dX4_isSo_229 : decode cX4_isSo 229 = .ok (.iaload, 1) := dk_46 (dk_at dksX4_isSo_9 19 rfl rfl)
theorem dX4_isSo_230 : decode cX4_isSo 230 = .ok (.if_icmp .ge 7, 3) := dk_162 0 7 (dk_at dksX4_isSo_9 20 rfl rfl)
theorem dX4_isSo_233 : decode cX4_isSo 233 = .ok (.iconst 1, 1) := dk_4 (dk_at dksX4_isSo_9 23 rfl rfl)
theorem dX4_isSo_234 : decode cX4_isSo 234 = .ok (.goto 56, 3) := dk_167 0 56 (dk_at dksX4_isSo_10 0 rfl rfl)
theorem dX4_isSo_237 : decode cX4_isSo 237 = .ok (.iconst 0, 1) := dk_3 (dk_at dksX4_isSo_10 3 rfl rfl)
theorem dX4_isSo_238 : decode cX4_isSo 238 = .ok (.goto 52, 3) := dk_167 0 52 (dk_at dksX4_isSo_10 4 rfl rfl)
theorem dX4_isSo_241 : decode cX4_isSo 241 = .ok (.aload_n 0, 1) := dk_42 (dk_at dksX4_isSo_10 7 rfl rfl)
theorem dX4_isSo_242 : decode cX4_isSo 242 = .ok (.getfield 91, 3) := dk_180 0 91 (dk_at dksX4_isSo_10 8 rfl rfl)
theorem dX4_isSo_245 : decode cX4_isSo 245 = .ok (.iload 7, 2) := dk_21 7 (dk_at dksX4_isSo_10 11 rfl rfl)
theorem dX4_isSo_247 : decode cX4_isSo 247 = .ok (.iaload, 1) := dk_46 (dk_at dksX4_isSo_10 13 rfl rfl)
theorem dX4_isSo_248 : decode cX4_isSo 248 = .ok (.bipush 61, 2) := dk_16 61 (dk_at dksX4_isSo_10 14 rfl rfl)
theorem dX4_isSo_250 : decode cX4_isSo 250 = .ok (.if_icmp .ne 23, 3) := dk_160 0 23 (dk_at dksX4_isSo_10 16 rfl rfl)
theorem dX4_isSo_253 : decode cX4_isSo 253 = .ok (.iload 9, 2) := dk_21 9 (dk_at dksX4_isSo_10 19 rfl rfl)
theorem dX4_isSo_255 : decode cX4_isSo 255 = .ok (.aload_n 0, 1) := dk_42 (dk_at dksX4_isSo_10 21 rfl rfl)
theorem dX4_isSo_256 : decode cX4_isSo 256 = .ok (.getfield 94, 3) := dk_180 0 94 (dk_at dksX4_isSo_11 0 rfl rfl)
theorem dX4_isSo_259 : decode cX4_isSo 259 = .ok (.iload 7, 2) := dk_21 7 (dk_at dksX4_isSo_11 3 rfl rfl)
theorem dX4_isSo_261 : decode cX4_isSo 261 = .ok (.iaload, 1) := dk_46 (dk_at dksX4_isSo_11 5 rfl rfl)
theorem dX4_isSo_262 : decode cX4_isSo 262 = .ok (.if_icmp .ne 7, 3) := dk_160 0 7 (dk_at dksX4_isSo_11 6 rfl rfl)
theorem dX4_isSo_265 : decode cX4_isSo 265 = .ok (.iconst 1, 1) := dk_4 (dk_at dksX4_isSo_11 9 rfl rfl)
theorem dX4_isSo_266 : decode cX4_isSo 266 = .ok (.goto 24, 3) := dk_167 0 24 (dk_at dksX4_isSo_11 10 rfl rfl)
theorem dX4_isSo_269 : decode cX4_isSo 269 = .ok (.iconst 0, 1) := dk_3 (dk_at dksX4_isSo_11 13 rfl rfl)
theorem dX4_isSo_270 : decode cX4_isSo 270 = .ok (.goto 20, 3) := dk_167 0 20 (dk_at dksX4_isSo_11 14 rfl rfl)
theorem dX4_isSo_273 : decode cX4_isSo 273 = .ok (.iload 9, 2) := dk_21 9 (dk_at dksX4_isSo_11 17 rfl rfl)
theorem dX4_isSo_275 : decode cX4_isSo 275 = .ok (.aload_n 0, 1) := dk_42 (dk_at dksX4_isSo_11 19 rfl rfl)
theorem dX4_isSo_276 : decode cX4_isSo 276 = .ok (.getfield 94, 3) := dk_180 0 94 (dk_at dksX4_isSo_11 20 rfl rfl)
theorem dX4_isSo_279 : decode cX4_isSo 279 = .ok (.iload 7, 2) := dk_21 7 (dk_at dksX4_isSo_12 0 rfl rfl)
theorem dX4_isSo_281 : decode cX4_isSo 281 = .ok (.iaload, 1) := dk_46 (dk_at dksX4_isSo_12 2 rfl rfl)
theorem dX4_isSo_282 : decode cX4_isSo 282 = .ok (.if_icmp .le 7, 3) := dk_164 0 7 (dk_at dksX4_isSo_12 3 rfl rfl)
theorem dX4_isSo_285 : decode cX4_isSo 285 = .ok (.iconst 1, 1) := dk_4 (dk_at dksX4_isSo_12 6 rfl rfl)
theorem dX4_isSo_286 : decode cX4_isSo 286 = .ok (.goto 4, 3) := dk_167 0 4 (dk_at dksX4_isSo_12 7 rfl rfl)
theorem dX4_isSo_289 : decode cX4_isSo 289 = .ok (.iconst 0, 1) := dk_3 (dk_at dksX4_isSo_12 10 rfl rfl)
theorem dX4_isSo_290 : decode cX4_isSo 290 = .ok (.bastore, 1) := dk_84 (dk_at dksX4_isSo_12 11 rfl rfl)
theorem dX4_isSo_291 : decode cX4_isSo 291 = .ok (.iinc 6 1, 3) := dk_132 6 1 (dk_at dksX4_isSo_12 12 rfl rfl)
theorem dX4_isSo_294 : decode cX4_isSo 294 = .ok (.iinc 7 1, 3) := dk_132 7 1 (dk_at dksX4_isSo_12 15 rfl rfl)
theorem dX4_isSo_297 : decode cX4_isSo 297 = .ok (.goto (-286), 3) := dk_167 254 226 (dk_at dksX4_isSo_12 18 rfl rfl)
theorem dX4_isSo_300 : decode cX4_isSo 300 = .ok (.iload 6, 2) := dk_21 6 (dk_at dksX4_isSo_12 21 rfl rfl)
theorem dX4_isSo_302 : decode cX4_isSo 302 = .ok (.ifCond .eq 12, 3) := dk_153 0 12 (dk_at dksX4_isSo_13 0 rfl rfl)
theorem dX4_isSo_305 : decode cX4_isSo 305 = .ok (.aload_n 0, 1) := dk_42 (dk_at dksX4_isSo_13 3 rfl rfl)
theorem dX4_isSo_306 : decode cX4_isSo 306 = .ok (.getfield 175, 3) := dk_180 0 175 (dk_at dksX4_isSo_13 4 rfl rfl)
theorem dX4_isSo_309 : decode cX4_isSo 309 = .ok (.iconst 0, 1) := dk_3 (dk_at dksX4_isSo_13 7 rfl rfl)
theorem dX4_isSo_310 : decode cX4_isSo 310 = .ok (.baload, 1) := dk_51 (dk_at dksX4_isSo_13 8 rfl rfl)
theorem dX4_isSo_311 : decode cX4_isSo 311 = .ok (.ifCond .eq 7, 3) := dk_153 0 7 (dk_at dksX4_isSo_13 9 rfl rfl)
theorem dX4_isSo_314 : decode cX4_isSo 314 = .ok (.iconst 1, 1) := dk_4 (dk_at dksX4_isSo_13 12 rfl rfl)
theorem dX4_isSo_315 : decode cX4_isSo 315 = .ok (.goto 4, 3) := dk_167 0 4 (dk_at dksX4_isSo_13 13 rfl rfl)
theorem dX4_isSo_318 : decode cX4_isSo 318 = .ok (.iconst 0, 1) := dk_3 (dk_at dksX4_isSo_13 16 rfl rfl)
theorem dX4_isSo_319 : decode cX4_isSo 319 = .ok (.ireturn, 1) := dk_172 (dk_at dksX4_isSo_13 17 rfl rfl)
abbrev cX4_asks : ByteArray := prog_18_method_65_code
def yX4_asks : MethodName := ⟨RX4, "asks", "(IIIZ)Z"⟩
def dkwX4_asks_3 : List UInt8 := [153, 0, 16, 42, 27, 28, 182, 1, 217, 153, 0, 7, 4, 167, 0, 4, 3, 172]
abbrev dktX4_asks_3 : List UInt8 := dkwX4_asks_3 ++ []
def dkwX4_asks_2 : List UInt8 := [4, 167, 0, 4, 3, 172, 29, 8, 160, 0, 12, 42, 27, 28, 182, 1, 214, 167, 0, 22, 21, 4]
abbrev dktX4_asks_2 : List UInt8 := dkwX4_asks_2 ++ dktX4_asks_3
def dkwX4_asks_1 : List UInt8 := [160, 0, 30, 42, 180, 0, 142, 28, 46, 16, 24, 42, 180, 0, 136, 28, 46, 104, 16, 22, 96, 164, 0, 7]
abbrev dktX4_asks_1 : List UInt8 := dkwX4_asks_1 ++ dktX4_asks_2
def dkwX4_asks_0 : List UInt8 := [29, 6, 163, 0, 19, 42, 180, 0, 145, 28, 46, 29, 160, 0, 7, 4, 167, 0, 4, 3, 172, 29, 7]
abbrev dktX4_asks_0 : List UInt8 := dkwX4_asks_0 ++ dktX4_asks_1
theorem dksX4_asks_0 : cX4_asks.data.toList.drop 0 = dktX4_asks_0 := by decide +kernel
theorem dksX4_asks_1 : cX4_asks.data.toList.drop 23 = dktX4_asks_1 := dk_seg dksX4_asks_0 23 rfl rfl
theorem dksX4_asks_2 : cX4_asks.data.toList.drop 47 = dktX4_asks_2 := dk_seg dksX4_asks_1 24 rfl rfl
theorem dksX4_asks_3 : cX4_asks.data.toList.drop 69 = dktX4_asks_3 := dk_seg dksX4_asks_2 22 rfl rfl
theorem dX4_asks_0 : decode cX4_asks 0 = .ok (.iload_n 3, 1) := dk_29 (dk_at dksX4_asks_0 0 rfl rfl)
theorem dX4_asks_1 : decode cX4_asks 1 = .ok (.iconst 3, 1) := dk_6 (dk_at dksX4_asks_0 1 rfl rfl)
theorem dX4_asks_2 : decode cX4_asks 2 = .ok (.if_icmp .gt 19, 3) := dk_163 0 19 (dk_at dksX4_asks_0 2 rfl rfl)
theorem dX4_asks_5 : decode cX4_asks 5 = .ok (.aload_n 0, 1) := dk_42 (dk_at dksX4_asks_0 5 rfl rfl)
theorem dX4_asks_6 : decode cX4_asks 6 = .ok (.getfield 145, 3) := dk_180 0 145 (dk_at dksX4_asks_0 6 rfl rfl)
theorem dX4_asks_9 : decode cX4_asks 9 = .ok (.iload_n 2, 1) := dk_28 (dk_at dksX4_asks_0 9 rfl rfl)
theorem dX4_asks_10 : decode cX4_asks 10 = .ok (.iaload, 1) := dk_46 (dk_at dksX4_asks_0 10 rfl rfl)
theorem dX4_asks_11 : decode cX4_asks 11 = .ok (.iload_n 3, 1) := dk_29 (dk_at dksX4_asks_0 11 rfl rfl)
theorem dX4_asks_12 : decode cX4_asks 12 = .ok (.if_icmp .ne 7, 3) := dk_160 0 7 (dk_at dksX4_asks_0 12 rfl rfl)
theorem dX4_asks_15 : decode cX4_asks 15 = .ok (.iconst 1, 1) := dk_4 (dk_at dksX4_asks_0 15 rfl rfl)
theorem dX4_asks_16 : decode cX4_asks 16 = .ok (.goto 4, 3) := dk_167 0 4 (dk_at dksX4_asks_0 16 rfl rfl)
theorem dX4_asks_19 : decode cX4_asks 19 = .ok (.iconst 0, 1) := dk_3 (dk_at dksX4_asks_0 19 rfl rfl)
theorem dX4_asks_20 : decode cX4_asks 20 = .ok (.ireturn, 1) := dk_172 (dk_at dksX4_asks_0 20 rfl rfl)
theorem dX4_asks_21 : decode cX4_asks 21 = .ok (.iload_n 3, 1) := dk_29 (dk_at dksX4_asks_0 21 rfl rfl)
theorem dX4_asks_22 : decode cX4_asks 22 = .ok (.iconst 4, 1) := dk_7 (dk_at dksX4_asks_0 22 rfl rfl)
theorem dX4_asks_23 : decode cX4_asks 23 = .ok (.if_icmp .ne 30, 3) := dk_160 0 30 (dk_at dksX4_asks_1 0 rfl rfl)
theorem dX4_asks_26 : decode cX4_asks 26 = .ok (.aload_n 0, 1) := dk_42 (dk_at dksX4_asks_1 3 rfl rfl)
theorem dX4_asks_27 : decode cX4_asks 27 = .ok (.getfield 142, 3) := dk_180 0 142 (dk_at dksX4_asks_1 4 rfl rfl)
theorem dX4_asks_30 : decode cX4_asks 30 = .ok (.iload_n 2, 1) := dk_28 (dk_at dksX4_asks_1 7 rfl rfl)
theorem dX4_asks_31 : decode cX4_asks 31 = .ok (.iaload, 1) := dk_46 (dk_at dksX4_asks_1 8 rfl rfl)
theorem dX4_asks_32 : decode cX4_asks 32 = .ok (.bipush 24, 2) := dk_16 24 (dk_at dksX4_asks_1 9 rfl rfl)
theorem dX4_asks_34 : decode cX4_asks 34 = .ok (.aload_n 0, 1) := dk_42 (dk_at dksX4_asks_1 11 rfl rfl)
theorem dX4_asks_35 : decode cX4_asks 35 = .ok (.getfield 136, 3) := dk_180 0 136 (dk_at dksX4_asks_1 12 rfl rfl)
theorem dX4_asks_38 : decode cX4_asks 38 = .ok (.iload_n 2, 1) := dk_28 (dk_at dksX4_asks_1 15 rfl rfl)
theorem dX4_asks_39 : decode cX4_asks 39 = .ok (.iaload, 1) := dk_46 (dk_at dksX4_asks_1 16 rfl rfl)
theorem dX4_asks_40 : decode cX4_asks 40 = .ok (.imul, 1) := dk_104 (dk_at dksX4_asks_1 17 rfl rfl)
theorem dX4_asks_41 : decode cX4_asks 41 = .ok (.bipush 22, 2) := dk_16 22 (dk_at dksX4_asks_1 18 rfl rfl)
theorem dX4_asks_43 : decode cX4_asks 43 = .ok (.iadd, 1) := dk_96 (dk_at dksX4_asks_1 20 rfl rfl)
theorem dX4_asks_44 : decode cX4_asks 44 = .ok (.if_icmp .le 7, 3) := dk_164 0 7 (dk_at dksX4_asks_1 21 rfl rfl)
theorem dX4_asks_47 : decode cX4_asks 47 = .ok (.iconst 1, 1) := dk_4 (dk_at dksX4_asks_2 0 rfl rfl)
theorem dX4_asks_48 : decode cX4_asks 48 = .ok (.goto 4, 3) := dk_167 0 4 (dk_at dksX4_asks_2 1 rfl rfl)
theorem dX4_asks_51 : decode cX4_asks 51 = .ok (.iconst 0, 1) := dk_3 (dk_at dksX4_asks_2 4 rfl rfl)
theorem dX4_asks_52 : decode cX4_asks 52 = .ok (.ireturn, 1) := dk_172 (dk_at dksX4_asks_2 5 rfl rfl)
theorem dX4_asks_53 : decode cX4_asks 53 = .ok (.iload_n 3, 1) := dk_29 (dk_at dksX4_asks_2 6 rfl rfl)
theorem dX4_asks_54 : decode cX4_asks 54 = .ok (.iconst 5, 1) := dk_8 (dk_at dksX4_asks_2 7 rfl rfl)
theorem dX4_asks_55 : decode cX4_asks 55 = .ok (.if_icmp .ne 12, 3) := dk_160 0 12 (dk_at dksX4_asks_2 8 rfl rfl)
theorem dX4_asks_58 : decode cX4_asks 58 = .ok (.aload_n 0, 1) := dk_42 (dk_at dksX4_asks_2 11 rfl rfl)
theorem dX4_asks_59 : decode cX4_asks 59 = .ok (.iload_n 1, 1) := dk_27 (dk_at dksX4_asks_2 12 rfl rfl)
theorem dX4_asks_60 : decode cX4_asks 60 = .ok (.iload_n 2, 1) := dk_28 (dk_at dksX4_asks_2 13 rfl rfl)
theorem dX4_asks_61 : decode cX4_asks 61 = .ok (.invokevirtual 470, 3) := dk_182 1 214 (dk_at dksX4_asks_2 14 rfl rfl)
theorem dX4_asks_64 : decode cX4_asks 64 = .ok (.goto 22, 3) := dk_167 0 22 (dk_at dksX4_asks_2 17 rfl rfl)
theorem dX4_asks_67 : decode cX4_asks 67 = .ok (.iload 4, 2) := dk_21 4 (dk_at dksX4_asks_2 20 rfl rfl)
theorem dX4_asks_69 : decode cX4_asks 69 = .ok (.ifCond .eq 16, 3) := dk_153 0 16 (dk_at dksX4_asks_3 0 rfl rfl)
theorem dX4_asks_72 : decode cX4_asks 72 = .ok (.aload_n 0, 1) := dk_42 (dk_at dksX4_asks_3 3 rfl rfl)
theorem dX4_asks_73 : decode cX4_asks 73 = .ok (.iload_n 1, 1) := dk_27 (dk_at dksX4_asks_3 4 rfl rfl)
theorem dX4_asks_74 : decode cX4_asks 74 = .ok (.iload_n 2, 1) := dk_28 (dk_at dksX4_asks_3 5 rfl rfl)
theorem dX4_asks_75 : decode cX4_asks 75 = .ok (.invokevirtual 473, 3) := dk_182 1 217 (dk_at dksX4_asks_3 6 rfl rfl)
theorem dX4_asks_78 : decode cX4_asks 78 = .ok (.ifCond .eq 7, 3) := dk_153 0 7 (dk_at dksX4_asks_3 9 rfl rfl)
theorem dX4_asks_81 : decode cX4_asks 81 = .ok (.iconst 1, 1) := dk_4 (dk_at dksX4_asks_3 12 rfl rfl)
theorem dX4_asks_82 : decode cX4_asks 82 = .ok (.goto 4, 3) := dk_167 0 4 (dk_at dksX4_asks_3 13 rfl rfl)
theorem dX4_asks_85 : decode cX4_asks 85 = .ok (.iconst 0, 1) := dk_3 (dk_at dksX4_asks_3 16 rfl rfl)
theorem dX4_asks_86 : decode cX4_asks 86 = .ok (.ireturn, 1) := dk_172 (dk_at dksX4_asks_3 17 rfl rfl)
abbrev cX4_cameInstead : ByteArray := prog_18_method_55_code
def yX4_cameInstead : MethodName := ⟨RX4, "cameInstead", "(II)Z"⟩
def dkwX4_cameInstead_2 : List UInt8 := [180, 0, 163, 21, 4, 46, 27, 159, 0, 5, 4, 172, 132, 3, 1, 167, 255, 196, 3, 172]
abbrev dktX4_cameInstead_2 : List UInt8 := dkwX4_cameInstead_2 ++ []
def dkwX4_cameInstead_1 : List UInt8 := [54, 4, 42, 180, 0, 157, 21, 4, 46, 27, 160, 0, 26, 42, 180, 0, 163, 21, 4, 46, 155, 0, 16, 42]
abbrev dktX4_cameInstead_1 : List UInt8 := dkwX4_cameInstead_1 ++ dktX4_cameInstead_2
def dkwX4_cameInstead_0 : List UInt8 := [3, 62, 29, 42, 180, 0, 26, 42, 180, 0, 148, 28, 46, 46, 162, 0, 51, 16, 8, 28, 104, 29, 96]
abbrev dktX4_cameInstead_0 : List UInt8 := dkwX4_cameInstead_0 ++ dktX4_cameInstead_1
theorem dksX4_cameInstead_0 : cX4_cameInstead.data.toList.drop 0 = dktX4_cameInstead_0 := by decide +kernel
theorem dksX4_cameInstead_1 : cX4_cameInstead.data.toList.drop 23 = dktX4_cameInstead_1 := dk_seg dksX4_cameInstead_0 23 rfl rfl
theorem dksX4_cameInstead_2 : cX4_cameInstead.data.toList.drop 47 = dktX4_cameInstead_2 := dk_seg dksX4_cameInstead_1 24 rfl rfl
theorem dX4_cameInstead_0 : decode cX4_cameInstead 0 = .ok (.iconst 0, 1) := dk_3 (dk_at dksX4_cameInstead_0 0 rfl rfl)
theorem dX4_cameInstead_1 : decode cX4_cameInstead 1 = .ok (.istore_n 3, 1) := dk_62 (dk_at dksX4_cameInstead_0 1 rfl rfl)
theorem dX4_cameInstead_2 : decode cX4_cameInstead 2 = .ok (.iload_n 3, 1) := dk_29 (dk_at dksX4_cameInstead_0 2 rfl rfl)
theorem dX4_cameInstead_3 : decode cX4_cameInstead 3 = .ok (.aload_n 0, 1) := dk_42 (dk_at dksX4_cameInstead_0 3 rfl rfl)
theorem dX4_cameInstead_4 : decode cX4_cameInstead 4 = .ok (.getfield 26, 3) := dk_180 0 26 (dk_at dksX4_cameInstead_0 4 rfl rfl)
theorem dX4_cameInstead_7 : decode cX4_cameInstead 7 = .ok (.aload_n 0, 1) := dk_42 (dk_at dksX4_cameInstead_0 7 rfl rfl)
theorem dX4_cameInstead_8 : decode cX4_cameInstead 8 = .ok (.getfield 148, 3) := dk_180 0 148 (dk_at dksX4_cameInstead_0 8 rfl rfl)
theorem dX4_cameInstead_11 : decode cX4_cameInstead 11 = .ok (.iload_n 2, 1) := dk_28 (dk_at dksX4_cameInstead_0 11 rfl rfl)
theorem dX4_cameInstead_12 : decode cX4_cameInstead 12 = .ok (.iaload, 1) := dk_46 (dk_at dksX4_cameInstead_0 12 rfl rfl)
theorem dX4_cameInstead_13 : decode cX4_cameInstead 13 = .ok (.iaload, 1) := dk_46 (dk_at dksX4_cameInstead_0 13 rfl rfl)
theorem dX4_cameInstead_14 : decode cX4_cameInstead 14 = .ok (.if_icmp .ge 51, 3) := dk_162 0 51 (dk_at dksX4_cameInstead_0 14 rfl rfl)
theorem dX4_cameInstead_17 : decode cX4_cameInstead 17 = .ok (.bipush 8, 2) := dk_16 8 (dk_at dksX4_cameInstead_0 17 rfl rfl)
theorem dX4_cameInstead_19 : decode cX4_cameInstead 19 = .ok (.iload_n 2, 1) := dk_28 (dk_at dksX4_cameInstead_0 19 rfl rfl)
theorem dX4_cameInstead_20 : decode cX4_cameInstead 20 = .ok (.imul, 1) := dk_104 (dk_at dksX4_cameInstead_0 20 rfl rfl)
theorem dX4_cameInstead_21 : decode cX4_cameInstead 21 = .ok (.iload_n 3, 1) := dk_29 (dk_at dksX4_cameInstead_0 21 rfl rfl)
theorem dX4_cameInstead_22 : decode cX4_cameInstead 22 = .ok (.iadd, 1) := dk_96 (dk_at dksX4_cameInstead_0 22 rfl rfl)
theorem dX4_cameInstead_23 : decode cX4_cameInstead 23 = .ok (.istore 4, 2) := dk_54 4 (dk_at dksX4_cameInstead_1 0 rfl rfl)
theorem dX4_cameInstead_25 : decode cX4_cameInstead 25 = .ok (.aload_n 0, 1) := dk_42 (dk_at dksX4_cameInstead_1 2 rfl rfl)
theorem dX4_cameInstead_26 : decode cX4_cameInstead 26 = .ok (.getfield 157, 3) := dk_180 0 157 (dk_at dksX4_cameInstead_1 3 rfl rfl)
theorem dX4_cameInstead_29 : decode cX4_cameInstead 29 = .ok (.iload 4, 2) := dk_21 4 (dk_at dksX4_cameInstead_1 6 rfl rfl)
theorem dX4_cameInstead_31 : decode cX4_cameInstead 31 = .ok (.iaload, 1) := dk_46 (dk_at dksX4_cameInstead_1 8 rfl rfl)
theorem dX4_cameInstead_32 : decode cX4_cameInstead 32 = .ok (.iload_n 1, 1) := dk_27 (dk_at dksX4_cameInstead_1 9 rfl rfl)
theorem dX4_cameInstead_33 : decode cX4_cameInstead 33 = .ok (.if_icmp .ne 26, 3) := dk_160 0 26 (dk_at dksX4_cameInstead_1 10 rfl rfl)
theorem dX4_cameInstead_36 : decode cX4_cameInstead 36 = .ok (.aload_n 0, 1) := dk_42 (dk_at dksX4_cameInstead_1 13 rfl rfl)
theorem dX4_cameInstead_37 : decode cX4_cameInstead 37 = .ok (.getfield 163, 3) := dk_180 0 163 (dk_at dksX4_cameInstead_1 14 rfl rfl)
theorem dX4_cameInstead_40 : decode cX4_cameInstead 40 = .ok (.iload 4, 2) := dk_21 4 (dk_at dksX4_cameInstead_1 17 rfl rfl)
theorem dX4_cameInstead_42 : decode cX4_cameInstead 42 = .ok (.iaload, 1) := dk_46 (dk_at dksX4_cameInstead_1 19 rfl rfl)
theorem dX4_cameInstead_43 : decode cX4_cameInstead 43 = .ok (.ifCond .lt 16, 3) := dk_155 0 16 (dk_at dksX4_cameInstead_1 20 rfl rfl)
theorem dX4_cameInstead_46 : decode cX4_cameInstead 46 = .ok (.aload_n 0, 1) := dk_42 (dk_at dksX4_cameInstead_1 23 rfl rfl)
theorem dX4_cameInstead_47 : decode cX4_cameInstead 47 = .ok (.getfield 163, 3) := dk_180 0 163 (dk_at dksX4_cameInstead_2 0 rfl rfl)
theorem dX4_cameInstead_50 : decode cX4_cameInstead 50 = .ok (.iload 4, 2) := dk_21 4 (dk_at dksX4_cameInstead_2 3 rfl rfl)
theorem dX4_cameInstead_52 : decode cX4_cameInstead 52 = .ok (.iaload, 1) := dk_46 (dk_at dksX4_cameInstead_2 5 rfl rfl)
theorem dX4_cameInstead_53 : decode cX4_cameInstead 53 = .ok (.iload_n 1, 1) := dk_27 (dk_at dksX4_cameInstead_2 6 rfl rfl)
theorem dX4_cameInstead_54 : decode cX4_cameInstead 54 = .ok (.if_icmp .eq 5, 3) := dk_159 0 5 (dk_at dksX4_cameInstead_2 7 rfl rfl)
theorem dX4_cameInstead_57 : decode cX4_cameInstead 57 = .ok (.iconst 1, 1) := dk_4 (dk_at dksX4_cameInstead_2 10 rfl rfl)
theorem dX4_cameInstead_58 : decode cX4_cameInstead 58 = .ok (.ireturn, 1) := dk_172 (dk_at dksX4_cameInstead_2 11 rfl rfl)
theorem dX4_cameInstead_59 : decode cX4_cameInstead 59 = .ok (.iinc 3 1, 3) := dk_132 3 1 (dk_at dksX4_cameInstead_2 12 rfl rfl)
theorem dX4_cameInstead_62 : decode cX4_cameInstead 62 = .ok (.goto (-60), 3) := dk_167 255 196 (dk_at dksX4_cameInstead_2 15 rfl rfl)
theorem dX4_cameInstead_65 : decode cX4_cameInstead 65 = .ok (.iconst 0, 1) := dk_3 (dk_at dksX4_cameInstead_2 18 rfl rfl)
theorem dX4_cameInstead_66 : decode cX4_cameInstead 66 = .ok (.ireturn, 1) := dk_172 (dk_at dksX4_cameInstead_2 19 rfl rfl)
abbrev cX4_numberOf : ByteArray := prog_18_method_66_code
def yX4_numberOf : MethodName := ⟨RX4, "numberOf", "(IIIZ)I"⟩
def dkwX4_numberOf_3 : List UInt8 := [21, 5, 158, 0, 8, 21, 5, 167, 0, 4, 3, 172]
abbrev dktX4_numberOf_3 : List UInt8 := dkwX4_numberOf_3 ++ []
def dkwX4_numberOf_2 : List UInt8 := [167, 0, 4, 3, 172, 42, 27, 28, 182, 1, 223, 42, 180, 0, 64, 7, 27, 104, 4, 96, 46, 100, 54, 5]
abbrev dktX4_numberOf_2 : List UInt8 := dkwX4_numberOf_2 ++ dktX4_numberOf_3
def dkwX4_numberOf_1 : List UInt8 := [160, 0, 27, 42, 180, 0, 145, 28, 46, 6, 160, 0, 15, 42, 27, 28, 17, 3, 232, 182, 1, 220]
abbrev dktX4_numberOf_1 : List UInt8 := dkwX4_numberOf_1 ++ dktX4_numberOf_2
def dkwX4_numberOf_0 : List UInt8 := [29, 16, 7, 160, 0, 9, 42, 28, 182, 1, 199, 172, 21, 4, 154, 0, 5, 3, 172, 29, 16, 8]
abbrev dktX4_numberOf_0 : List UInt8 := dkwX4_numberOf_0 ++ dktX4_numberOf_1
theorem dksX4_numberOf_0 : cX4_numberOf.data.toList.drop 0 = dktX4_numberOf_0 := by decide +kernel
theorem dksX4_numberOf_1 : cX4_numberOf.data.toList.drop 22 = dktX4_numberOf_1 := dk_seg dksX4_numberOf_0 22 rfl rfl
theorem dksX4_numberOf_2 : cX4_numberOf.data.toList.drop 44 = dktX4_numberOf_2 := dk_seg dksX4_numberOf_1 22 rfl rfl
theorem dksX4_numberOf_3 : cX4_numberOf.data.toList.drop 68 = dktX4_numberOf_3 := dk_seg dksX4_numberOf_2 24 rfl rfl
theorem dX4_numberOf_0 : decode cX4_numberOf 0 = .ok (.iload_n 3, 1) := dk_29 (dk_at dksX4_numberOf_0 0 rfl rfl)
theorem dX4_numberOf_1 : decode cX4_numberOf 1 = .ok (.bipush 7, 2) := dk_16 7 (dk_at dksX4_numberOf_0 1 rfl rfl)
theorem dX4_numberOf_3 : decode cX4_numberOf 3 = .ok (.if_icmp .ne 9, 3) := dk_160 0 9 (dk_at dksX4_numberOf_0 3 rfl rfl)
theorem dX4_numberOf_6 : decode cX4_numberOf 6 = .ok (.aload_n 0, 1) := dk_42 (dk_at dksX4_numberOf_0 6 rfl rfl)
theorem dX4_numberOf_7 : decode cX4_numberOf 7 = .ok (.iload_n 2, 1) := dk_28 (dk_at dksX4_numberOf_0 7 rfl rfl)
theorem dX4_numberOf_8 : decode cX4_numberOf 8 = .ok (.invokevirtual 455, 3) := dk_182 1 199 (dk_at dksX4_numberOf_0 8 rfl rfl)
theorem dX4_numberOf_11 : decode cX4_numberOf 11 = .ok (.ireturn, 1) := dk_172 (dk_at dksX4_numberOf_0 11 rfl rfl)
theorem dX4_numberOf_12 : decode cX4_numberOf 12 = .ok (.iload 4, 2) := dk_21 4 (dk_at dksX4_numberOf_0 12 rfl rfl)
theorem dX4_numberOf_14 : decode cX4_numberOf 14 = .ok (.ifCond .ne 5, 3) := dk_154 0 5 (dk_at dksX4_numberOf_0 14 rfl rfl)
theorem dX4_numberOf_17 : decode cX4_numberOf 17 = .ok (.iconst 0, 1) := dk_3 (dk_at dksX4_numberOf_0 17 rfl rfl)
theorem dX4_numberOf_18 : decode cX4_numberOf 18 = .ok (.ireturn, 1) := dk_172 (dk_at dksX4_numberOf_0 18 rfl rfl)
theorem dX4_numberOf_19 : decode cX4_numberOf 19 = .ok (.iload_n 3, 1) := dk_29 (dk_at dksX4_numberOf_0 19 rfl rfl)
theorem dX4_numberOf_20 : decode cX4_numberOf 20 = .ok (.bipush 8, 2) := dk_16 8 (dk_at dksX4_numberOf_0 20 rfl rfl)
theorem dX4_numberOf_22 : decode cX4_numberOf 22 = .ok (.if_icmp .ne 27, 3) := dk_160 0 27 (dk_at dksX4_numberOf_1 0 rfl rfl)
theorem dX4_numberOf_25 : decode cX4_numberOf 25 = .ok (.aload_n 0, 1) := dk_42 (dk_at dksX4_numberOf_1 3 rfl rfl)
theorem dX4_numberOf_26 : decode cX4_numberOf 26 = .ok (.getfield 145, 3) := dk_180 0 145 (dk_at dksX4_numberOf_1 4 rfl rfl)
theorem dX4_numberOf_29 : decode cX4_numberOf 29 = .ok (.iload_n 2, 1) := dk_28 (dk_at dksX4_numberOf_1 7 rfl rfl)
theorem dX4_numberOf_30 : decode cX4_numberOf 30 = .ok (.iaload, 1) := dk_46 (dk_at dksX4_numberOf_1 8 rfl rfl)
theorem dX4_numberOf_31 : decode cX4_numberOf 31 = .ok (.iconst 3, 1) := dk_6 (dk_at dksX4_numberOf_1 9 rfl rfl)
theorem dX4_numberOf_32 : decode cX4_numberOf 32 = .ok (.if_icmp .ne 15, 3) := dk_160 0 15 (dk_at dksX4_numberOf_1 10 rfl rfl)
theorem dX4_numberOf_35 : decode cX4_numberOf 35 = .ok (.aload_n 0, 1) := dk_42 (dk_at dksX4_numberOf_1 13 rfl rfl)
theorem dX4_numberOf_36 : decode cX4_numberOf 36 = .ok (.iload_n 1, 1) := dk_27 (dk_at dksX4_numberOf_1 14 rfl rfl)
theorem dX4_numberOf_37 : decode cX4_numberOf 37 = .ok (.iload_n 2, 1) := dk_28 (dk_at dksX4_numberOf_1 15 rfl rfl)
theorem dX4_numberOf_38 : decode cX4_numberOf 38 = .ok (.sipush 1000, 3) := dk_17 3 232 (dk_at dksX4_numberOf_1 16 rfl rfl)
theorem dX4_numberOf_41 : decode cX4_numberOf 41 = .ok (.invokevirtual 476, 3) := dk_182 1 220 (dk_at dksX4_numberOf_1 19 rfl rfl)
theorem dX4_numberOf_44 : decode cX4_numberOf 44 = .ok (.goto 4, 3) := dk_167 0 4 (dk_at dksX4_numberOf_2 0 rfl rfl)
theorem dX4_numberOf_47 : decode cX4_numberOf 47 = .ok (.iconst 0, 1) := dk_3 (dk_at dksX4_numberOf_2 3 rfl rfl)
theorem dX4_numberOf_48 : decode cX4_numberOf 48 = .ok (.ireturn, 1) := dk_172 (dk_at dksX4_numberOf_2 4 rfl rfl)
theorem dX4_numberOf_49 : decode cX4_numberOf 49 = .ok (.aload_n 0, 1) := dk_42 (dk_at dksX4_numberOf_2 5 rfl rfl)
theorem dX4_numberOf_50 : decode cX4_numberOf 50 = .ok (.iload_n 1, 1) := dk_27 (dk_at dksX4_numberOf_2 6 rfl rfl)
theorem dX4_numberOf_51 : decode cX4_numberOf 51 = .ok (.iload_n 2, 1) := dk_28 (dk_at dksX4_numberOf_2 7 rfl rfl)
theorem dX4_numberOf_52 : decode cX4_numberOf 52 = .ok (.invokevirtual 479, 3) := dk_182 1 223 (dk_at dksX4_numberOf_2 8 rfl rfl)
theorem dX4_numberOf_55 : decode cX4_numberOf 55 = .ok (.aload_n 0, 1) := dk_42 (dk_at dksX4_numberOf_2 11 rfl rfl)
theorem dX4_numberOf_56 : decode cX4_numberOf 56 = .ok (.getfield 64, 3) := dk_180 0 64 (dk_at dksX4_numberOf_2 12 rfl rfl)
theorem dX4_numberOf_59 : decode cX4_numberOf 59 = .ok (.iconst 4, 1) := dk_7 (dk_at dksX4_numberOf_2 15 rfl rfl)
theorem dX4_numberOf_60 : decode cX4_numberOf 60 = .ok (.iload_n 1, 1) := dk_27 (dk_at dksX4_numberOf_2 16 rfl rfl)
theorem dX4_numberOf_61 : decode cX4_numberOf 61 = .ok (.imul, 1) := dk_104 (dk_at dksX4_numberOf_2 17 rfl rfl)
theorem dX4_numberOf_62 : decode cX4_numberOf 62 = .ok (.iconst 1, 1) := dk_4 (dk_at dksX4_numberOf_2 18 rfl rfl)
theorem dX4_numberOf_63 : decode cX4_numberOf 63 = .ok (.iadd, 1) := dk_96 (dk_at dksX4_numberOf_2 19 rfl rfl)
theorem dX4_numberOf_64 : decode cX4_numberOf 64 = .ok (.iaload, 1) := dk_46 (dk_at dksX4_numberOf_2 20 rfl rfl)
theorem dX4_numberOf_65 : decode cX4_numberOf 65 = .ok (.isub, 1) := dk_100 (dk_at dksX4_numberOf_2 21 rfl rfl)
theorem dX4_numberOf_66 : decode cX4_numberOf 66 = .ok (.istore 5, 2) := dk_54 5 (dk_at dksX4_numberOf_2 22 rfl rfl)
theorem dX4_numberOf_68 : decode cX4_numberOf 68 = .ok (.iload 5, 2) := dk_21 5 (dk_at dksX4_numberOf_3 0 rfl rfl)
theorem dX4_numberOf_70 : decode cX4_numberOf 70 = .ok (.ifCond .le 8, 3) := dk_158 0 8 (dk_at dksX4_numberOf_3 2 rfl rfl)
theorem dX4_numberOf_73 : decode cX4_numberOf 73 = .ok (.iload 5, 2) := dk_21 5 (dk_at dksX4_numberOf_3 5 rfl rfl)
theorem dX4_numberOf_75 : decode cX4_numberOf 75 = .ok (.goto 4, 3) := dk_167 0 4 (dk_at dksX4_numberOf_3 7 rfl rfl)
theorem dX4_numberOf_78 : decode cX4_numberOf 78 = .ok (.iconst 0, 1) := dk_3 (dk_at dksX4_numberOf_3 10 rfl rfl)
theorem dX4_numberOf_79 : decode cX4_numberOf 79 = .ok (.ireturn, 1) := dk_172 (dk_at dksX4_numberOf_3 11 rfl rfl)
abbrev cX4_nights : ByteArray := prog_18_method_61_code
def yX4_nights : MethodName := ⟨RX4, "nights", "(III)I"⟩
def dkwX4_nights_3 : List UInt8 := [153, 0, 7, 4, 167, 0, 4, 3, 96, 54, 4, 132, 5, 1, 167, 255, 178, 21, 4, 172]
abbrev dktX4_nights_3 : List UInt8 := dkwX4_nights_3 ++ []
def dkwX4_nights_2 : List UInt8 := [180, 0, 136, 28, 46, 29, 100, 164, 0, 22, 42, 27, 42, 180, 0, 166, 21, 5, 46, 182, 1, 202]
abbrev dktX4_nights_2 : List UInt8 := dkwX4_nights_2 ++ dktX4_nights_3
def dkwX4_nights_1 : List UInt8 := [180, 0, 166, 21, 5, 46, 46, 6, 160, 0, 45, 42, 180, 0, 136, 42, 180, 0, 166, 21, 5, 46, 46, 42]
abbrev dktX4_nights_1 : List UInt8 := dkwX4_nights_1 ++ dktX4_nights_2
def dkwX4_nights_0 : List UInt8 := [3, 54, 4, 3, 54, 5, 21, 5, 42, 180, 0, 169, 28, 46, 163, 0, 73, 21, 4, 42, 180, 0, 145, 42]
abbrev dktX4_nights_0 : List UInt8 := dkwX4_nights_0 ++ dktX4_nights_1
theorem dksX4_nights_0 : cX4_nights.data.toList.drop 0 = dktX4_nights_0 := by decide +kernel
theorem dksX4_nights_1 : cX4_nights.data.toList.drop 24 = dktX4_nights_1 := dk_seg dksX4_nights_0 24 rfl rfl
theorem dksX4_nights_2 : cX4_nights.data.toList.drop 48 = dktX4_nights_2 := dk_seg dksX4_nights_1 24 rfl rfl
theorem dksX4_nights_3 : cX4_nights.data.toList.drop 70 = dktX4_nights_3 := dk_seg dksX4_nights_2 22 rfl rfl
theorem dX4_nights_0 : decode cX4_nights 0 = .ok (.iconst 0, 1) := dk_3 (dk_at dksX4_nights_0 0 rfl rfl)
theorem dX4_nights_1 : decode cX4_nights 1 = .ok (.istore 4, 2) := dk_54 4 (dk_at dksX4_nights_0 1 rfl rfl)
theorem dX4_nights_3 : decode cX4_nights 3 = .ok (.iconst 0, 1) := dk_3 (dk_at dksX4_nights_0 3 rfl rfl)
theorem dX4_nights_4 : decode cX4_nights 4 = .ok (.istore 5, 2) := dk_54 5 (dk_at dksX4_nights_0 4 rfl rfl)
theorem dX4_nights_6 : decode cX4_nights 6 = .ok (.iload 5, 2) := dk_21 5 (dk_at dksX4_nights_0 6 rfl rfl)
theorem dX4_nights_8 : decode cX4_nights 8 = .ok (.aload_n 0, 1) := dk_42 (dk_at dksX4_nights_0 8 rfl rfl)
theorem dX4_nights_9 : decode cX4_nights 9 = .ok (.getfield 169, 3) := dk_180 0 169 (dk_at dksX4_nights_0 9 rfl rfl)
theorem dX4_nights_12 : decode cX4_nights 12 = .ok (.iload_n 2, 1) := dk_28 (dk_at dksX4_nights_0 12 rfl rfl)
theorem dX4_nights_13 : decode cX4_nights 13 = .ok (.iaload, 1) := dk_46 (dk_at dksX4_nights_0 13 rfl rfl)
theorem dX4_nights_14 : decode cX4_nights 14 = .ok (.if_icmp .gt 73, 3) := dk_163 0 73 (dk_at dksX4_nights_0 14 rfl rfl)
theorem dX4_nights_17 : decode cX4_nights 17 = .ok (.iload 4, 2) := dk_21 4 (dk_at dksX4_nights_0 17 rfl rfl)
theorem dX4_nights_19 : decode cX4_nights 19 = .ok (.aload_n 0, 1) := dk_42 (dk_at dksX4_nights_0 19 rfl rfl)
theorem dX4_nights_20 : decode cX4_nights 20 = .ok (.getfield 145, 3) := dk_180 0 145 (dk_at dksX4_nights_0 20 rfl rfl)
theorem dX4_nights_23 : decode cX4_nights 23 = .ok (.aload_n 0, 1) := dk_42 (dk_at dksX4_nights_0 23 rfl rfl)
theorem dX4_nights_24 : decode cX4_nights 24 = .ok (.getfield 166, 3) := dk_180 0 166 (dk_at dksX4_nights_1 0 rfl rfl)
theorem dX4_nights_27 : decode cX4_nights 27 = .ok (.iload 5, 2) := dk_21 5 (dk_at dksX4_nights_1 3 rfl rfl)
theorem dX4_nights_29 : decode cX4_nights 29 = .ok (.iaload, 1) := dk_46 (dk_at dksX4_nights_1 5 rfl rfl)
theorem dX4_nights_30 : decode cX4_nights 30 = .ok (.iaload, 1) := dk_46 (dk_at dksX4_nights_1 6 rfl rfl)
theorem dX4_nights_31 : decode cX4_nights 31 = .ok (.iconst 3, 1) := dk_6 (dk_at dksX4_nights_1 7 rfl rfl)
theorem dX4_nights_32 : decode cX4_nights 32 = .ok (.if_icmp .ne 45, 3) := dk_160 0 45 (dk_at dksX4_nights_1 8 rfl rfl)
theorem dX4_nights_35 : decode cX4_nights 35 = .ok (.aload_n 0, 1) := dk_42 (dk_at dksX4_nights_1 11 rfl rfl)
theorem dX4_nights_36 : decode cX4_nights 36 = .ok (.getfield 136, 3) := dk_180 0 136 (dk_at dksX4_nights_1 12 rfl rfl)
theorem dX4_nights_39 : decode cX4_nights 39 = .ok (.aload_n 0, 1) := dk_42 (dk_at dksX4_nights_1 15 rfl rfl)
theorem dX4_nights_40 : decode cX4_nights 40 = .ok (.getfield 166, 3) := dk_180 0 166 (dk_at dksX4_nights_1 16 rfl rfl)
theorem dX4_nights_43 : decode cX4_nights 43 = .ok (.iload 5, 2) := dk_21 5 (dk_at dksX4_nights_1 19 rfl rfl)
theorem dX4_nights_45 : decode cX4_nights 45 = .ok (.iaload, 1) := dk_46 (dk_at dksX4_nights_1 21 rfl rfl)
theorem dX4_nights_46 : decode cX4_nights 46 = .ok (.iaload, 1) := dk_46 (dk_at dksX4_nights_1 22 rfl rfl)
theorem dX4_nights_47 : decode cX4_nights 47 = .ok (.aload_n 0, 1) := dk_42 (dk_at dksX4_nights_1 23 rfl rfl)
theorem dX4_nights_48 : decode cX4_nights 48 = .ok (.getfield 136, 3) := dk_180 0 136 (dk_at dksX4_nights_2 0 rfl rfl)
theorem dX4_nights_51 : decode cX4_nights 51 = .ok (.iload_n 2, 1) := dk_28 (dk_at dksX4_nights_2 3 rfl rfl)
theorem dX4_nights_52 : decode cX4_nights 52 = .ok (.iaload, 1) := dk_46 (dk_at dksX4_nights_2 4 rfl rfl)
theorem dX4_nights_53 : decode cX4_nights 53 = .ok (.iload_n 3, 1) := dk_29 (dk_at dksX4_nights_2 5 rfl rfl)
theorem dX4_nights_54 : decode cX4_nights 54 = .ok (.isub, 1) := dk_100 (dk_at dksX4_nights_2 6 rfl rfl)
theorem dX4_nights_55 : decode cX4_nights 55 = .ok (.if_icmp .le 22, 3) := dk_164 0 22 (dk_at dksX4_nights_2 7 rfl rfl)
theorem dX4_nights_58 : decode cX4_nights 58 = .ok (.aload_n 0, 1) := dk_42 (dk_at dksX4_nights_2 10 rfl rfl)
theorem dX4_nights_59 : decode cX4_nights 59 = .ok (.iload_n 1, 1) := dk_27 (dk_at dksX4_nights_2 11 rfl rfl)
theorem dX4_nights_60 : decode cX4_nights 60 = .ok (.aload_n 0, 1) := dk_42 (dk_at dksX4_nights_2 12 rfl rfl)
theorem dX4_nights_61 : decode cX4_nights 61 = .ok (.getfield 166, 3) := dk_180 0 166 (dk_at dksX4_nights_2 13 rfl rfl)
theorem dX4_nights_64 : decode cX4_nights 64 = .ok (.iload 5, 2) := dk_21 5 (dk_at dksX4_nights_2 16 rfl rfl)
theorem dX4_nights_66 : decode cX4_nights 66 = .ok (.iaload, 1) := dk_46 (dk_at dksX4_nights_2 18 rfl rfl)
theorem dX4_nights_67 : decode cX4_nights 67 = .ok (.invokevirtual 458, 3) := dk_182 1 202 (dk_at dksX4_nights_2 19 rfl rfl)
theorem dX4_nights_70 : decode cX4_nights 70 = .ok (.ifCond .eq 7, 3) := dk_153 0 7 (dk_at dksX4_nights_3 0 rfl rfl)
theorem dX4_nights_73 : decode cX4_nights 73 = .ok (.iconst 1, 1) := dk_4 (dk_at dksX4_nights_3 3 rfl rfl)
theorem dX4_nights_74 : decode cX4_nights 74 = .ok (.goto 4, 3) := dk_167 0 4 (dk_at dksX4_nights_3 4 rfl rfl)
theorem dX4_nights_77 : decode cX4_nights 77 = .ok (.iconst 0, 1) := dk_3 (dk_at dksX4_nights_3 7 rfl rfl)
theorem dX4_nights_78 : decode cX4_nights 78 = .ok (.iadd, 1) := dk_96 (dk_at dksX4_nights_3 8 rfl rfl)
theorem dX4_nights_79 : decode cX4_nights 79 = .ok (.istore 4, 2) := dk_54 4 (dk_at dksX4_nights_3 9 rfl rfl)
theorem dX4_nights_81 : decode cX4_nights 81 = .ok (.iinc 5 1, 3) := dk_132 5 1 (dk_at dksX4_nights_3 11 rfl rfl)
theorem dX4_nights_84 : decode cX4_nights 84 = .ok (.goto (-78), 3) := dk_167 255 178 (dk_at dksX4_nights_3 14 rfl rfl)
theorem dX4_nights_87 : decode cX4_nights 87 = .ok (.iload 4, 2) := dk_21 4 (dk_at dksX4_nights_3 17 rfl rfl)
theorem dX4_nights_89 : decode cX4_nights 89 = .ok (.ireturn, 1) := dk_172 (dk_at dksX4_nights_3 19 rfl rfl)
abbrev cX4_dayHours : ByteArray := prog_18_method_60_code
def yX4_dayHours : MethodName := ⟨RX4, "dayHours", "(II)I"⟩
def dkwX4_dayHours_3 : List UInt8 := [132, 4, 1, 167, 255, 188, 29, 172]
abbrev dktX4_dayHours_3 : List UInt8 := dkwX4_dayHours_3 ++ []
def dkwX4_dayHours_2 : List UInt8 := [46, 182, 1, 202, 153, 0, 17, 42, 42, 180, 0, 166, 21, 4, 46, 182, 1, 199, 167, 0, 4, 3, 96, 62]
abbrev dktX4_dayHours_2 : List UInt8 := dkwX4_dayHours_2 ++ dktX4_dayHours_3
def dkwX4_dayHours_1 : List UInt8 := [180, 0, 166, 21, 4, 46, 46, 42, 180, 0, 136, 28, 46, 160, 0, 32, 42, 27, 42, 180, 0, 166, 21, 4]
abbrev dktX4_dayHours_1 : List UInt8 := dkwX4_dayHours_1 ++ dktX4_dayHours_2
def dkwX4_dayHours_0 : List UInt8 := [3, 62, 3, 54, 4, 21, 4, 42, 180, 0, 169, 28, 46, 163, 0, 63, 29, 42, 180, 0, 136, 42]
abbrev dktX4_dayHours_0 : List UInt8 := dkwX4_dayHours_0 ++ dktX4_dayHours_1
theorem dksX4_dayHours_0 : cX4_dayHours.data.toList.drop 0 = dktX4_dayHours_0 := by decide +kernel
theorem dksX4_dayHours_1 : cX4_dayHours.data.toList.drop 22 = dktX4_dayHours_1 := dk_seg dksX4_dayHours_0 22 rfl rfl
theorem dksX4_dayHours_2 : cX4_dayHours.data.toList.drop 46 = dktX4_dayHours_2 := dk_seg dksX4_dayHours_1 24 rfl rfl
theorem dksX4_dayHours_3 : cX4_dayHours.data.toList.drop 70 = dktX4_dayHours_3 := dk_seg dksX4_dayHours_2 24 rfl rfl
theorem dX4_dayHours_0 : decode cX4_dayHours 0 = .ok (.iconst 0, 1) := dk_3 (dk_at dksX4_dayHours_0 0 rfl rfl)
theorem dX4_dayHours_1 : decode cX4_dayHours 1 = .ok (.istore_n 3, 1) := dk_62 (dk_at dksX4_dayHours_0 1 rfl rfl)
theorem dX4_dayHours_2 : decode cX4_dayHours 2 = .ok (.iconst 0, 1) := dk_3 (dk_at dksX4_dayHours_0 2 rfl rfl)
theorem dX4_dayHours_3 : decode cX4_dayHours 3 = .ok (.istore 4, 2) := dk_54 4 (dk_at dksX4_dayHours_0 3 rfl rfl)
theorem dX4_dayHours_5 : decode cX4_dayHours 5 = .ok (.iload 4, 2) := dk_21 4 (dk_at dksX4_dayHours_0 5 rfl rfl)
theorem dX4_dayHours_7 : decode cX4_dayHours 7 = .ok (.aload_n 0, 1) := dk_42 (dk_at dksX4_dayHours_0 7 rfl rfl)
theorem dX4_dayHours_8 : decode cX4_dayHours 8 = .ok (.getfield 169, 3) := dk_180 0 169 (dk_at dksX4_dayHours_0 8 rfl rfl)
theorem dX4_dayHours_11 : decode cX4_dayHours 11 = .ok (.iload_n 2, 1) := dk_28 (dk_at dksX4_dayHours_0 11 rfl rfl)
theorem dX4_dayHours_12 : decode cX4_dayHours 12 = .ok (.iaload, 1) := dk_46 (dk_at dksX4_dayHours_0 12 rfl rfl)
theorem dX4_dayHours_13 : decode cX4_dayHours 13 = .ok (.if_icmp .gt 63, 3) := dk_163 0 63 (dk_at dksX4_dayHours_0 13 rfl rfl)
theorem dX4_dayHours_16 : decode cX4_dayHours 16 = .ok (.iload_n 3, 1) := dk_29 (dk_at dksX4_dayHours_0 16 rfl rfl)
theorem dX4_dayHours_17 : decode cX4_dayHours 17 = .ok (.aload_n 0, 1) := dk_42 (dk_at dksX4_dayHours_0 17 rfl rfl)
theorem dX4_dayHours_18 : decode cX4_dayHours 18 = .ok (.getfield 136, 3) := dk_180 0 136 (dk_at dksX4_dayHours_0 18 rfl rfl)
theorem dX4_dayHours_21 : decode cX4_dayHours 21 = .ok (.aload_n 0, 1) := dk_42 (dk_at dksX4_dayHours_0 21 rfl rfl)
theorem dX4_dayHours_22 : decode cX4_dayHours 22 = .ok (.getfield 166, 3) := dk_180 0 166 (dk_at dksX4_dayHours_1 0 rfl rfl)
theorem dX4_dayHours_25 : decode cX4_dayHours 25 = .ok (.iload 4, 2) := dk_21 4 (dk_at dksX4_dayHours_1 3 rfl rfl)
theorem dX4_dayHours_27 : decode cX4_dayHours 27 = .ok (.iaload, 1) := dk_46 (dk_at dksX4_dayHours_1 5 rfl rfl)
theorem dX4_dayHours_28 : decode cX4_dayHours 28 = .ok (.iaload, 1) := dk_46 (dk_at dksX4_dayHours_1 6 rfl rfl)
theorem dX4_dayHours_29 : decode cX4_dayHours 29 = .ok (.aload_n 0, 1) := dk_42 (dk_at dksX4_dayHours_1 7 rfl rfl)
theorem dX4_dayHours_30 : decode cX4_dayHours 30 = .ok (.getfield 136, 3) := dk_180 0 136 (dk_at dksX4_dayHours_1 8 rfl rfl)
theorem dX4_dayHours_33 : decode cX4_dayHours 33 = .ok (.iload_n 2, 1) := dk_28 (dk_at dksX4_dayHours_1 11 rfl rfl)
theorem dX4_dayHours_34 : decode cX4_dayHours 34 = .ok (.iaload, 1) := dk_46 (dk_at dksX4_dayHours_1 12 rfl rfl)
theorem dX4_dayHours_35 : decode cX4_dayHours 35 = .ok (.if_icmp .ne 32, 3) := dk_160 0 32 (dk_at dksX4_dayHours_1 13 rfl rfl)
theorem dX4_dayHours_38 : decode cX4_dayHours 38 = .ok (.aload_n 0, 1) := dk_42 (dk_at dksX4_dayHours_1 16 rfl rfl)
theorem dX4_dayHours_39 : decode cX4_dayHours 39 = .ok (.iload_n 1, 1) := dk_27 (dk_at dksX4_dayHours_1 17 rfl rfl)
theorem dX4_dayHours_40 : decode cX4_dayHours 40 = .ok (.aload_n 0, 1) := dk_42 (dk_at dksX4_dayHours_1 18 rfl rfl)
theorem dX4_dayHours_41 : decode cX4_dayHours 41 = .ok (.getfield 166, 3) := dk_180 0 166 (dk_at dksX4_dayHours_1 19 rfl rfl)
theorem dX4_dayHours_44 : decode cX4_dayHours 44 = .ok (.iload 4, 2) := dk_21 4 (dk_at dksX4_dayHours_1 22 rfl rfl)
theorem dX4_dayHours_46 : decode cX4_dayHours 46 = .ok (.iaload, 1) := dk_46 (dk_at dksX4_dayHours_2 0 rfl rfl)
theorem dX4_dayHours_47 : decode cX4_dayHours 47 = .ok (.invokevirtual 458, 3) := dk_182 1 202 (dk_at dksX4_dayHours_2 1 rfl rfl)
theorem dX4_dayHours_50 : decode cX4_dayHours 50 = .ok (.ifCond .eq 17, 3) := dk_153 0 17 (dk_at dksX4_dayHours_2 4 rfl rfl)
theorem dX4_dayHours_53 : decode cX4_dayHours 53 = .ok (.aload_n 0, 1) := dk_42 (dk_at dksX4_dayHours_2 7 rfl rfl)
theorem dX4_dayHours_54 : decode cX4_dayHours 54 = .ok (.aload_n 0, 1) := dk_42 (dk_at dksX4_dayHours_2 8 rfl rfl)
theorem dX4_dayHours_55 : decode cX4_dayHours 55 = .ok (.getfield 166, 3) := dk_180 0 166 (dk_at dksX4_dayHours_2 9 rfl rfl)
theorem dX4_dayHours_58 : decode cX4_dayHours 58 = .ok (.iload 4, 2) := dk_21 4 (dk_at dksX4_dayHours_2 12 rfl rfl)
theorem dX4_dayHours_60 : decode cX4_dayHours 60 = .ok (.iaload, 1) := dk_46 (dk_at dksX4_dayHours_2 14 rfl rfl)
theorem dX4_dayHours_61 : decode cX4_dayHours 61 = .ok (.invokevirtual 455, 3) := dk_182 1 199 (dk_at dksX4_dayHours_2 15 rfl rfl)
theorem dX4_dayHours_64 : decode cX4_dayHours 64 = .ok (.goto 4, 3) := dk_167 0 4 (dk_at dksX4_dayHours_2 18 rfl rfl)
theorem dX4_dayHours_67 : decode cX4_dayHours 67 = .ok (.iconst 0, 1) := dk_3 (dk_at dksX4_dayHours_2 21 rfl rfl)
theorem dX4_dayHours_68 : decode cX4_dayHours 68 = .ok (.iadd, 1) := dk_96 (dk_at dksX4_dayHours_2 22 rfl rfl)
theorem dX4_dayHours_69 : decode cX4_dayHours 69 = .ok (.istore_n 3, 1) := dk_62 (dk_at dksX4_dayHours_2 23 rfl rfl)
theorem dX4_dayHours_70 : decode cX4_dayHours 70 = .ok (.iinc 4 1, 3) := dk_132 4 1 (dk_at dksX4_dayHours_3 0 rfl rfl)
theorem dX4_dayHours_73 : decode cX4_dayHours 73 = .ok (.goto (-68), 3) := dk_167 255 188 (dk_at dksX4_dayHours_3 3 rfl rfl)
theorem dX4_dayHours_76 : decode cX4_dayHours 76 = .ok (.iload_n 3, 1) := dk_29 (dk_at dksX4_dayHours_3 6 rfl rfl)
theorem dX4_dayHours_77 : decode cX4_dayHours 77 = .ok (.ireturn, 1) := dk_172 (dk_at dksX4_dayHours_3 7 rfl rfl)
abbrev cX4_pay : ByteArray := prog_18_method_70_code
def yX4_pay : MethodName := ⟨RX4, "pay", "(III)I"⟩
def dkwX4_pay_3 : List UInt8 := [132, 5, 1, 167, 255, 217, 21, 4, 172]
abbrev dktX4_pay_3 : List UInt8 := dkwX4_pay_3 ++ []
def dkwX4_pay_2 : List UInt8 := [180, 0, 136, 21, 5, 46, 28, 163, 0, 13, 42, 27, 21, 5, 182, 1, 241, 167, 0, 4, 3, 96, 54, 4]
abbrev dktX4_pay_2 : List UInt8 := dkwX4_pay_2 ++ dktX4_pay_3
def dkwX4_pay_1 : List UInt8 := [172, 42, 29, 182, 1, 204, 3, 54, 4, 3, 54, 5, 21, 5, 42, 180, 1, 167, 162, 0, 36, 21, 4, 42]
abbrev dktX4_pay_1 : List UInt8 := dkwX4_pay_1 ++ dktX4_pay_2
def dkwX4_pay_0 : List UInt8 := [42, 3, 181, 0, 226, 42, 27, 182, 1, 54, 153, 0, 13, 28, 3, 16, 29, 184, 0, 242, 154, 0, 5, 2]
abbrev dktX4_pay_0 : List UInt8 := dkwX4_pay_0 ++ dktX4_pay_1
theorem dksX4_pay_0 : cX4_pay.data.toList.drop 0 = dktX4_pay_0 := by decide +kernel
theorem dksX4_pay_1 : cX4_pay.data.toList.drop 24 = dktX4_pay_1 := dk_seg dksX4_pay_0 24 rfl rfl
theorem dksX4_pay_2 : cX4_pay.data.toList.drop 48 = dktX4_pay_2 := dk_seg dksX4_pay_1 24 rfl rfl
theorem dksX4_pay_3 : cX4_pay.data.toList.drop 72 = dktX4_pay_3 := dk_seg dksX4_pay_2 24 rfl rfl
theorem dX4_pay_0 : decode cX4_pay 0 = .ok (.aload_n 0, 1) := dk_42 (dk_at dksX4_pay_0 0 rfl rfl)
theorem dX4_pay_1 : decode cX4_pay 1 = .ok (.iconst 0, 1) := dk_3 (dk_at dksX4_pay_0 1 rfl rfl)
theorem dX4_pay_2 : decode cX4_pay 2 = .ok (.putfield 226, 3) := dk_181 0 226 (dk_at dksX4_pay_0 2 rfl rfl)
theorem dX4_pay_5 : decode cX4_pay 5 = .ok (.aload_n 0, 1) := dk_42 (dk_at dksX4_pay_0 5 rfl rfl)
theorem dX4_pay_6 : decode cX4_pay 6 = .ok (.iload_n 1, 1) := dk_27 (dk_at dksX4_pay_0 6 rfl rfl)
theorem dX4_pay_7 : decode cX4_pay 7 = .ok (.invokevirtual 310, 3) := dk_182 1 54 (dk_at dksX4_pay_0 7 rfl rfl)
theorem dX4_pay_10 : decode cX4_pay 10 = .ok (.ifCond .eq 13, 3) := dk_153 0 13 (dk_at dksX4_pay_0 10 rfl rfl)
theorem dX4_pay_13 : decode cX4_pay 13 = .ok (.iload_n 2, 1) := dk_28 (dk_at dksX4_pay_0 13 rfl rfl)
theorem dX4_pay_14 : decode cX4_pay 14 = .ok (.iconst 0, 1) := dk_3 (dk_at dksX4_pay_0 14 rfl rfl)
theorem dX4_pay_15 : decode cX4_pay 15 = .ok (.bipush 29, 2) := dk_16 29 (dk_at dksX4_pay_0 15 rfl rfl)
theorem dX4_pay_17 : decode cX4_pay 17 = .ok (.invokestatic 242, 3) := dk_184 0 242 (dk_at dksX4_pay_0 17 rfl rfl)
theorem dX4_pay_20 : decode cX4_pay 20 = .ok (.ifCond .ne 5, 3) := dk_154 0 5 (dk_at dksX4_pay_0 20 rfl rfl)
theorem dX4_pay_23 : decode cX4_pay 23 = .ok (.iconst (-1), 1) := dk_2 (dk_at dksX4_pay_0 23 rfl rfl)
theorem dX4_pay_24 : decode cX4_pay 24 = .ok (.ireturn, 1) := dk_172 (dk_at dksX4_pay_1 0 rfl rfl)
theorem dX4_pay_25 : decode cX4_pay 25 = .ok (.aload_n 0, 1) := dk_42 (dk_at dksX4_pay_1 1 rfl rfl)
theorem dX4_pay_26 : decode cX4_pay 26 = .ok (.iload_n 3, 1) := dk_29 (dk_at dksX4_pay_1 2 rfl rfl)
theorem dX4_pay_27 : decode cX4_pay 27 = .ok (.invokevirtual 460, 3) := dk_182 1 204 (dk_at dksX4_pay_1 3 rfl rfl)
theorem dX4_pay_30 : decode cX4_pay 30 = .ok (.iconst 0, 1) := dk_3 (dk_at dksX4_pay_1 6 rfl rfl)
theorem dX4_pay_31 : decode cX4_pay 31 = .ok (.istore 4, 2) := dk_54 4 (dk_at dksX4_pay_1 7 rfl rfl)
theorem dX4_pay_33 : decode cX4_pay 33 = .ok (.iconst 0, 1) := dk_3 (dk_at dksX4_pay_1 9 rfl rfl)
theorem dX4_pay_34 : decode cX4_pay 34 = .ok (.istore 5, 2) := dk_54 5 (dk_at dksX4_pay_1 10 rfl rfl)
theorem dX4_pay_36 : decode cX4_pay 36 = .ok (.iload 5, 2) := dk_21 5 (dk_at dksX4_pay_1 12 rfl rfl)
theorem dX4_pay_38 : decode cX4_pay 38 = .ok (.aload_n 0, 1) := dk_42 (dk_at dksX4_pay_1 14 rfl rfl)
theorem dX4_pay_39 : decode cX4_pay 39 = .ok (.getfield 423, 3) := dk_180 1 167 (dk_at dksX4_pay_1 15 rfl rfl)
theorem dX4_pay_42 : decode cX4_pay 42 = .ok (.if_icmp .ge 36, 3) := dk_162 0 36 (dk_at dksX4_pay_1 18 rfl rfl)
theorem dX4_pay_45 : decode cX4_pay 45 = .ok (.iload 4, 2) := dk_21 4 (dk_at dksX4_pay_1 21 rfl rfl)
theorem dX4_pay_47 : decode cX4_pay 47 = .ok (.aload_n 0, 1) := dk_42 (dk_at dksX4_pay_1 23 rfl rfl)
theorem dX4_pay_48 : decode cX4_pay 48 = .ok (.getfield 136, 3) := dk_180 0 136 (dk_at dksX4_pay_2 0 rfl rfl)
theorem dX4_pay_51 : decode cX4_pay 51 = .ok (.iload 5, 2) := dk_21 5 (dk_at dksX4_pay_2 3 rfl rfl)
theorem dX4_pay_53 : decode cX4_pay 53 = .ok (.iaload, 1) := dk_46 (dk_at dksX4_pay_2 5 rfl rfl)
theorem dX4_pay_54 : decode cX4_pay 54 = .ok (.iload_n 2, 1) := dk_28 (dk_at dksX4_pay_2 6 rfl rfl)
theorem dX4_pay_55 : decode cX4_pay 55 = .ok (.if_icmp .gt 13, 3) := dk_163 0 13 (dk_at dksX4_pay_2 7 rfl rfl)
theorem dX4_pay_58 : decode cX4_pay 58 = .ok (.aload_n 0, 1) := dk_42 (dk_at dksX4_pay_2 10 rfl rfl)
theorem dX4_pay_59 : decode cX4_pay 59 = .ok (.iload_n 1, 1) := dk_27 (dk_at dksX4_pay_2 11 rfl rfl)
theorem dX4_pay_60 : decode cX4_pay 60 = .ok (.iload 5, 2) := dk_21 5 (dk_at dksX4_pay_2 12 rfl rfl)
theorem dX4_pay_62 : decode cX4_pay 62 = .ok (.invokevirtual 497, 3) := dk_182 1 241 (dk_at dksX4_pay_2 14 rfl rfl)
theorem dX4_pay_65 : decode cX4_pay 65 = .ok (.goto 4, 3) := dk_167 0 4 (dk_at dksX4_pay_2 17 rfl rfl)
theorem dX4_pay_68 : decode cX4_pay 68 = .ok (.iconst 0, 1) := dk_3 (dk_at dksX4_pay_2 20 rfl rfl)
theorem dX4_pay_69 : decode cX4_pay 69 = .ok (.iadd, 1) := dk_96 (dk_at dksX4_pay_2 21 rfl rfl)
theorem dX4_pay_70 : decode cX4_pay 70 = .ok (.istore 4, 2) := dk_54 4 (dk_at dksX4_pay_2 22 rfl rfl)
theorem dX4_pay_72 : decode cX4_pay 72 = .ok (.iinc 5 1, 3) := dk_132 5 1 (dk_at dksX4_pay_3 0 rfl rfl)
theorem dX4_pay_75 : decode cX4_pay 75 = .ok (.goto (-39), 3) := dk_167 255 217 (dk_at dksX4_pay_3 3 rfl rfl)
theorem dX4_pay_78 : decode cX4_pay 78 = .ok (.iload 4, 2) := dk_21 4 (dk_at dksX4_pay_3 6 rfl rfl)
theorem dX4_pay_80 : decode cX4_pay 80 = .ok (.ireturn, 1) := dk_172 (dk_at dksX4_pay_3 8 rfl rfl)
abbrev cX4_moves : ByteArray := prog_18_method_77_code
def yX4_moves : MethodName := ⟨RX4, "moves", "(II)I"⟩
def dkwX4_moves_2 : List UInt8 := [182, 2, 2, 154, 0, 5, 2, 172, 132, 3, 1, 167, 255, 229, 2, 172]
abbrev dktX4_moves_2 : List UInt8 := dkwX4_moves_2 ++ []
def dkwX4_moves_1 : List UInt8 := [2, 172, 42, 182, 1, 252, 3, 62, 29, 28, 163, 0, 28, 42, 27, 182, 1, 255, 153, 0, 5, 29, 172, 42]
abbrev dktX4_moves_1 : List UInt8 := dkwX4_moves_1 ++ dktX4_moves_2
def dkwX4_moves_0 : List UInt8 := [42, 3, 181, 0, 226, 27, 3, 6, 184, 0, 242, 153, 0, 13, 28, 3, 16, 40, 184, 0, 242, 154, 0, 5]
abbrev dktX4_moves_0 : List UInt8 := dkwX4_moves_0 ++ dktX4_moves_1
theorem dksX4_moves_0 : cX4_moves.data.toList.drop 0 = dktX4_moves_0 := by decide +kernel
theorem dksX4_moves_1 : cX4_moves.data.toList.drop 24 = dktX4_moves_1 := dk_seg dksX4_moves_0 24 rfl rfl
theorem dksX4_moves_2 : cX4_moves.data.toList.drop 48 = dktX4_moves_2 := dk_seg dksX4_moves_1 24 rfl rfl
theorem dX4_moves_0 : decode cX4_moves 0 = .ok (.aload_n 0, 1) := dk_42 (dk_at dksX4_moves_0 0 rfl rfl)
theorem dX4_moves_1 : decode cX4_moves 1 = .ok (.iconst 0, 1) := dk_3 (dk_at dksX4_moves_0 1 rfl rfl)
theorem dX4_moves_2 : decode cX4_moves 2 = .ok (.putfield 226, 3) := dk_181 0 226 (dk_at dksX4_moves_0 2 rfl rfl)
theorem dX4_moves_5 : decode cX4_moves 5 = .ok (.iload_n 1, 1) := dk_27 (dk_at dksX4_moves_0 5 rfl rfl)
theorem dX4_moves_6 : decode cX4_moves 6 = .ok (.iconst 0, 1) := dk_3 (dk_at dksX4_moves_0 6 rfl rfl)
theorem dX4_moves_7 : decode cX4_moves 7 = .ok (.iconst 3, 1) := dk_6 (dk_at dksX4_moves_0 7 rfl rfl)
theorem dX4_moves_8 : decode cX4_moves 8 = .ok (.invokestatic 242, 3) := dk_184 0 242 (dk_at dksX4_moves_0 8 rfl rfl)
theorem dX4_moves_11 : decode cX4_moves 11 = .ok (.ifCond .eq 13, 3) := dk_153 0 13 (dk_at dksX4_moves_0 11 rfl rfl)
theorem dX4_moves_14 : decode cX4_moves 14 = .ok (.iload_n 2, 1) := dk_28 (dk_at dksX4_moves_0 14 rfl rfl)
theorem dX4_moves_15 : decode cX4_moves 15 = .ok (.iconst 0, 1) := dk_3 (dk_at dksX4_moves_0 15 rfl rfl)
theorem dX4_moves_16 : decode cX4_moves 16 = .ok (.bipush 40, 2) := dk_16 40 (dk_at dksX4_moves_0 16 rfl rfl)
theorem dX4_moves_18 : decode cX4_moves 18 = .ok (.invokestatic 242, 3) := dk_184 0 242 (dk_at dksX4_moves_0 18 rfl rfl)
theorem dX4_moves_21 : decode cX4_moves 21 = .ok (.ifCond .ne 5, 3) := dk_154 0 5 (dk_at dksX4_moves_0 21 rfl rfl)
theorem dX4_moves_24 : decode cX4_moves 24 = .ok (.iconst (-1), 1) := dk_2 (dk_at dksX4_moves_1 0 rfl rfl)
theorem dX4_moves_25 : decode cX4_moves 25 = .ok (.ireturn, 1) := dk_172 (dk_at dksX4_moves_1 1 rfl rfl)
theorem dX4_moves_26 : decode cX4_moves 26 = .ok (.aload_n 0, 1) := dk_42 (dk_at dksX4_moves_1 2 rfl rfl)
theorem dX4_moves_27 : decode cX4_moves 27 = .ok (.invokevirtual 508, 3) := dk_182 1 252 (dk_at dksX4_moves_1 3 rfl rfl)
theorem dX4_moves_30 : decode cX4_moves 30 = .ok (.iconst 0, 1) := dk_3 (dk_at dksX4_moves_1 6 rfl rfl)
theorem dX4_moves_31 : decode cX4_moves 31 = .ok (.istore_n 3, 1) := dk_62 (dk_at dksX4_moves_1 7 rfl rfl)
theorem dX4_moves_32 : decode cX4_moves 32 = .ok (.iload_n 3, 1) := dk_29 (dk_at dksX4_moves_1 8 rfl rfl)
theorem dX4_moves_33 : decode cX4_moves 33 = .ok (.iload_n 2, 1) := dk_28 (dk_at dksX4_moves_1 9 rfl rfl)
theorem dX4_moves_34 : decode cX4_moves 34 = .ok (.if_icmp .gt 28, 3) := dk_163 0 28 (dk_at dksX4_moves_1 10 rfl rfl)
theorem dX4_moves_37 : decode cX4_moves 37 = .ok (.aload_n 0, 1) := dk_42 (dk_at dksX4_moves_1 13 rfl rfl)
theorem dX4_moves_38 : decode cX4_moves 38 = .ok (.iload_n 1, 1) := dk_27 (dk_at dksX4_moves_1 14 rfl rfl)
theorem dX4_moves_39 : decode cX4_moves 39 = .ok (.invokevirtual 511, 3) := dk_182 1 255 (dk_at dksX4_moves_1 15 rfl rfl)
theorem dX4_moves_42 : decode cX4_moves 42 = .ok (.ifCond .eq 5, 3) := dk_153 0 5 (dk_at dksX4_moves_1 18 rfl rfl)
theorem dX4_moves_45 : decode cX4_moves 45 = .ok (.iload_n 3, 1) := dk_29 (dk_at dksX4_moves_1 21 rfl rfl)
theorem dX4_moves_46 : decode cX4_moves 46 = .ok (.ireturn, 1) := dk_172 (dk_at dksX4_moves_1 22 rfl rfl)
theorem dX4_moves_47 : decode cX4_moves 47 = .ok (.aload_n 0, 1) := dk_42 (dk_at dksX4_moves_1 23 rfl rfl)
theorem dX4_moves_48 : decode cX4_moves 48 = .ok (.invokevirtual 514, 3) := dk_182 2 2 (dk_at dksX4_moves_2 0 rfl rfl)
theorem dX4_moves_51 : decode cX4_moves 51 = .ok (.ifCond .ne 5, 3) := dk_154 0 5 (dk_at dksX4_moves_2 3 rfl rfl)
theorem dX4_moves_54 : decode cX4_moves 54 = .ok (.iconst (-1), 1) := dk_2 (dk_at dksX4_moves_2 6 rfl rfl)
theorem dX4_moves_55 : decode cX4_moves 55 = .ok (.ireturn, 1) := dk_172 (dk_at dksX4_moves_2 7 rfl rfl)
theorem dX4_moves_56 : decode cX4_moves 56 = .ok (.iinc 3 1, 3) := dk_132 3 1 (dk_at dksX4_moves_2 8 rfl rfl)
theorem dX4_moves_59 : decode cX4_moves 59 = .ok (.goto (-27), 3) := dk_167 255 229 (dk_at dksX4_moves_2 11 rfl rfl)
theorem dX4_moves_62 : decode cX4_moves 62 = .ok (.iconst (-1), 1) := dk_2 (dk_at dksX4_moves_2 14 rfl rfl)
theorem dX4_moves_63 : decode cX4_moves 63 = .ok (.ireturn, 1) := dk_172 (dk_at dksX4_moves_2 15 rfl rfl)
abbrev cX4_atFirst : ByteArray := prog_18_method_74_code
def yX4_atFirst : MethodName := ⟨RX4, "atFirst", "()V"⟩
def dkwX4_atFirst_1 : List UInt8 := [180, 0, 178, 17, 1, 174, 4, 84, 177]
abbrev dktX4_atFirst_1 : List UInt8 := dkwX4_atFirst_1 ++ []
def dkwX4_atFirst_0 : List UInt8 := [3, 60, 27, 17, 2, 113, 162, 0, 16, 42, 180, 0, 178, 27, 3, 84, 132, 1, 1, 167, 255, 239, 42]
abbrev dktX4_atFirst_0 : List UInt8 := dkwX4_atFirst_0 ++ dktX4_atFirst_1
theorem dksX4_atFirst_0 : cX4_atFirst.data.toList.drop 0 = dktX4_atFirst_0 := by decide +kernel
theorem dksX4_atFirst_1 : cX4_atFirst.data.toList.drop 23 = dktX4_atFirst_1 := dk_seg dksX4_atFirst_0 23 rfl rfl
theorem dX4_atFirst_0 : decode cX4_atFirst 0 = .ok (.iconst 0, 1) := dk_3 (dk_at dksX4_atFirst_0 0 rfl rfl)
theorem dX4_atFirst_1 : decode cX4_atFirst 1 = .ok (.istore_n 1, 1) := dk_60 (dk_at dksX4_atFirst_0 1 rfl rfl)
theorem dX4_atFirst_2 : decode cX4_atFirst 2 = .ok (.iload_n 1, 1) := dk_27 (dk_at dksX4_atFirst_0 2 rfl rfl)
theorem dX4_atFirst_3 : decode cX4_atFirst 3 = .ok (.sipush 625, 3) := dk_17 2 113 (dk_at dksX4_atFirst_0 3 rfl rfl)
theorem dX4_atFirst_6 : decode cX4_atFirst 6 = .ok (.if_icmp .ge 16, 3) := dk_162 0 16 (dk_at dksX4_atFirst_0 6 rfl rfl)
theorem dX4_atFirst_9 : decode cX4_atFirst 9 = .ok (.aload_n 0, 1) := dk_42 (dk_at dksX4_atFirst_0 9 rfl rfl)
theorem dX4_atFirst_10 : decode cX4_atFirst 10 = .ok (.getfield 178, 3) := dk_180 0 178 (dk_at dksX4_atFirst_0 10 rfl rfl)
theorem dX4_atFirst_13 : decode cX4_atFirst 13 = .ok (.iload_n 1, 1) := dk_27 (dk_at dksX4_atFirst_0 13 rfl rfl)
theorem dX4_atFirst_14 : decode cX4_atFirst 14 = .ok (.iconst 0, 1) := dk_3 (dk_at dksX4_atFirst_0 14 rfl rfl)
theorem dX4_atFirst_15 : decode cX4_atFirst 15 = .ok (.bastore, 1) := dk_84 (dk_at dksX4_atFirst_0 15 rfl rfl)
theorem dX4_atFirst_16 : decode cX4_atFirst 16 = .ok (.iinc 1 1, 3) := dk_132 1 1 (dk_at dksX4_atFirst_0 16 rfl rfl)
theorem dX4_atFirst_19 : decode cX4_atFirst 19 = .ok (.goto (-17), 3) := dk_167 255 239 (dk_at dksX4_atFirst_0 19 rfl rfl)
theorem dX4_atFirst_22 : decode cX4_atFirst 22 = .ok (.aload_n 0, 1) := dk_42 (dk_at dksX4_atFirst_0 22 rfl rfl)
theorem dX4_atFirst_23 : decode cX4_atFirst 23 = .ok (.getfield 178, 3) := dk_180 0 178 (dk_at dksX4_atFirst_1 0 rfl rfl)
theorem dX4_atFirst_26 : decode cX4_atFirst 26 = .ok (.sipush 430, 3) := dk_17 1 174 (dk_at dksX4_atFirst_1 3 rfl rfl)
theorem dX4_atFirst_29 : decode cX4_atFirst 29 = .ok (.iconst 1, 1) := dk_4 (dk_at dksX4_atFirst_1 6 rfl rfl)
theorem dX4_atFirst_30 : decode cX4_atFirst 30 = .ok (.bastore, 1) := dk_84 (dk_at dksX4_atFirst_1 7 rfl rfl)
theorem dX4_atFirst_31 : decode cX4_atFirst 31 = .ok (.return_, 1) := dk_177 (dk_at dksX4_atFirst_1 8 rfl rfl)
abbrev cX4_canStand : ByteArray := prog_18_method_76_code
def yX4_canStand : MethodName := ⟨RX4, "canStand", "(I)Z"⟩
def dkwX4_canStand_1 : List UInt8 := [154, 0, 5, 4, 172, 132, 2, 1, 167, 255, 227, 3, 172]
abbrev dktX4_canStand_1 : List UInt8 := dkwX4_canStand_1 ++ []
def dkwX4_canStand_0 : List UInt8 := [3, 61, 28, 17, 2, 113, 162, 0, 28, 42, 180, 0, 178, 28, 51, 153, 0, 13, 28, 27, 184, 1, 243]
abbrev dktX4_canStand_0 : List UInt8 := dkwX4_canStand_0 ++ dktX4_canStand_1
theorem dksX4_canStand_0 : cX4_canStand.data.toList.drop 0 = dktX4_canStand_0 := by decide +kernel
theorem dksX4_canStand_1 : cX4_canStand.data.toList.drop 23 = dktX4_canStand_1 := dk_seg dksX4_canStand_0 23 rfl rfl
theorem dX4_canStand_0 : decode cX4_canStand 0 = .ok (.iconst 0, 1) := dk_3 (dk_at dksX4_canStand_0 0 rfl rfl)
theorem dX4_canStand_1 : decode cX4_canStand 1 = .ok (.istore_n 2, 1) := dk_61 (dk_at dksX4_canStand_0 1 rfl rfl)
theorem dX4_canStand_2 : decode cX4_canStand 2 = .ok (.iload_n 2, 1) := dk_28 (dk_at dksX4_canStand_0 2 rfl rfl)
theorem dX4_canStand_3 : decode cX4_canStand 3 = .ok (.sipush 625, 3) := dk_17 2 113 (dk_at dksX4_canStand_0 3 rfl rfl)
theorem dX4_canStand_6 : decode cX4_canStand 6 = .ok (.if_icmp .ge 28, 3) := dk_162 0 28 (dk_at dksX4_canStand_0 6 rfl rfl)
theorem dX4_canStand_9 : decode cX4_canStand 9 = .ok (.aload_n 0, 1) := dk_42 (dk_at dksX4_canStand_0 9 rfl rfl)
theorem dX4_canStand_10 : decode cX4_canStand 10 = .ok (.getfield 178, 3) := dk_180 0 178 (dk_at dksX4_canStand_0 10 rfl rfl)
theorem dX4_canStand_13 : decode cX4_canStand 13 = .ok (.iload_n 2, 1) := dk_28 (dk_at dksX4_canStand_0 13 rfl rfl)
theorem dX4_canStand_14 : decode cX4_canStand 14 = .ok (.baload, 1) := dk_51 (dk_at dksX4_canStand_0 14 rfl rfl)
theorem dX4_canStand_15 : decode cX4_canStand 15 = .ok (.ifCond .eq 13, 3) := dk_153 0 13 (dk_at dksX4_canStand_0 15 rfl rfl)
theorem dX4_canStand_18 : decode cX4_canStand 18 = .ok (.iload_n 2, 1) := dk_28 (dk_at dksX4_canStand_0 18 rfl rfl)
theorem dX4_canStand_19 : decode cX4_canStand 19 = .ok (.iload_n 1, 1) := dk_27 (dk_at dksX4_canStand_0 19 rfl rfl)
theorem dX4_canStand_20 : decode cX4_canStand 20 = .ok (.invokestatic 499, 3) := dk_184 1 243 (dk_at dksX4_canStand_0 20 rfl rfl)
theorem dX4_canStand_23 : decode cX4_canStand 23 = .ok (.ifCond .ne 5, 3) := dk_154 0 5 (dk_at dksX4_canStand_1 0 rfl rfl)
theorem dX4_canStand_26 : decode cX4_canStand 26 = .ok (.iconst 1, 1) := dk_4 (dk_at dksX4_canStand_1 3 rfl rfl)
theorem dX4_canStand_27 : decode cX4_canStand 27 = .ok (.ireturn, 1) := dk_172 (dk_at dksX4_canStand_1 4 rfl rfl)
theorem dX4_canStand_28 : decode cX4_canStand 28 = .ok (.iinc 2 1, 3) := dk_132 2 1 (dk_at dksX4_canStand_1 5 rfl rfl)
theorem dX4_canStand_31 : decode cX4_canStand 31 = .ok (.goto (-29), 3) := dk_167 255 227 (dk_at dksX4_canStand_1 8 rfl rfl)
theorem dX4_canStand_34 : decode cX4_canStand 34 = .ok (.iconst 0, 1) := dk_3 (dk_at dksX4_canStand_1 11 rfl rfl)
theorem dX4_canStand_35 : decode cX4_canStand 35 = .ok (.ireturn, 1) := dk_172 (dk_at dksX4_canStand_1 12 rfl rfl)
abbrev cX4_placeOf : ByteArray := prog_18_method_71_code
def yX4_placeOf : MethodName := ⟨RX4, "placeOf", "(II)I"⟩
def dkwX4_placeOf_1 : List UInt8 := [16, 25, 167, 0, 5, 16, 125, 108, 8, 112, 172]
abbrev dktX4_placeOf_1 : List UInt8 := dkwX4_placeOf_1 ++ []
def dkwX4_placeOf_0 : List UInt8 := [26, 27, 154, 0, 7, 4, 167, 0, 24, 27, 4, 160, 0, 7, 8, 167, 0, 15, 27, 5, 160, 0, 8]
abbrev dktX4_placeOf_0 : List UInt8 := dkwX4_placeOf_0 ++ dktX4_placeOf_1
theorem dksX4_placeOf_0 : cX4_placeOf.data.toList.drop 0 = dktX4_placeOf_0 := by decide +kernel
theorem dksX4_placeOf_1 : cX4_placeOf.data.toList.drop 23 = dktX4_placeOf_1 := dk_seg dksX4_placeOf_0 23 rfl rfl
theorem dX4_placeOf_0 : decode cX4_placeOf 0 = .ok (.iload_n 0, 1) := dk_26 (dk_at dksX4_placeOf_0 0 rfl rfl)
theorem dX4_placeOf_1 : decode cX4_placeOf 1 = .ok (.iload_n 1, 1) := dk_27 (dk_at dksX4_placeOf_0 1 rfl rfl)
theorem dX4_placeOf_2 : decode cX4_placeOf 2 = .ok (.ifCond .ne 7, 3) := dk_154 0 7 (dk_at dksX4_placeOf_0 2 rfl rfl)
theorem dX4_placeOf_5 : decode cX4_placeOf 5 = .ok (.iconst 1, 1) := dk_4 (dk_at dksX4_placeOf_0 5 rfl rfl)
theorem dX4_placeOf_6 : decode cX4_placeOf 6 = .ok (.goto 24, 3) := dk_167 0 24 (dk_at dksX4_placeOf_0 6 rfl rfl)
theorem dX4_placeOf_9 : decode cX4_placeOf 9 = .ok (.iload_n 1, 1) := dk_27 (dk_at dksX4_placeOf_0 9 rfl rfl)
theorem dX4_placeOf_10 : decode cX4_placeOf 10 = .ok (.iconst 1, 1) := dk_4 (dk_at dksX4_placeOf_0 10 rfl rfl)
theorem dX4_placeOf_11 : decode cX4_placeOf 11 = .ok (.if_icmp .ne 7, 3) := dk_160 0 7 (dk_at dksX4_placeOf_0 11 rfl rfl)
theorem dX4_placeOf_14 : decode cX4_placeOf 14 = .ok (.iconst 5, 1) := dk_8 (dk_at dksX4_placeOf_0 14 rfl rfl)
theorem dX4_placeOf_15 : decode cX4_placeOf 15 = .ok (.goto 15, 3) := dk_167 0 15 (dk_at dksX4_placeOf_0 15 rfl rfl)
theorem dX4_placeOf_18 : decode cX4_placeOf 18 = .ok (.iload_n 1, 1) := dk_27 (dk_at dksX4_placeOf_0 18 rfl rfl)
theorem dX4_placeOf_19 : decode cX4_placeOf 19 = .ok (.iconst 2, 1) := dk_5 (dk_at dksX4_placeOf_0 19 rfl rfl)
theorem dX4_placeOf_20 : decode cX4_placeOf 20 = .ok (.if_icmp .ne 8, 3) := dk_160 0 8 (dk_at dksX4_placeOf_0 20 rfl rfl)
theorem dX4_placeOf_23 : decode cX4_placeOf 23 = .ok (.bipush 25, 2) := dk_16 25 (dk_at dksX4_placeOf_1 0 rfl rfl)
theorem dX4_placeOf_25 : decode cX4_placeOf 25 = .ok (.goto 5, 3) := dk_167 0 5 (dk_at dksX4_placeOf_1 2 rfl rfl)
theorem dX4_placeOf_28 : decode cX4_placeOf 28 = .ok (.bipush 125, 2) := dk_16 125 (dk_at dksX4_placeOf_1 5 rfl rfl)
theorem dX4_placeOf_30 : decode cX4_placeOf 30 = .ok (.idiv, 1) := dk_108 (dk_at dksX4_placeOf_1 7 rfl rfl)
theorem dX4_placeOf_31 : decode cX4_placeOf 31 = .ok (.iconst 5, 1) := dk_8 (dk_at dksX4_placeOf_1 8 rfl rfl)
theorem dX4_placeOf_32 : decode cX4_placeOf 32 = .ok (.irem, 1) := dk_112 (dk_at dksX4_placeOf_1 9 rfl rfl)
theorem dX4_placeOf_33 : decode cX4_placeOf 33 = .ok (.ireturn, 1) := dk_172 (dk_at dksX4_placeOf_1 10 rfl rfl)
abbrev cX4_goOn : ByteArray := prog_18_method_75_code
def yX4_goOn : MethodName := ⟨RX4, "goOn", "()Z"⟩
def dkwX4_goOn_6 : List UInt8 := [167, 255, 146, 27, 172]
abbrev dktX4_goOn_6 : List UInt8 := dkwX4_goOn_6 ++ []
def dkwX4_goOn_5 : List UInt8 := [42, 180, 0, 178, 28, 21, 4, 29, 184, 1, 249, 4, 84, 4, 60, 132, 4, 1, 167, 255, 201, 132, 2, 1]
abbrev dktX4_goOn_5 : List UInt8 := dkwX4_goOn_5 ++ dktX4_goOn_6
def dkwX4_goOn_4 : List UInt8 := [184, 1, 246, 153, 0, 36, 42, 180, 0, 178, 28, 21, 4, 29, 184, 1, 249, 51, 153, 0, 6, 167, 0, 18]
abbrev dktX4_goOn_4 : List UInt8 := dkwX4_goOn_4 ++ dktX4_goOn_5
def dkwX4_goOn_3 : List UInt8 := [6, 184, 1, 243, 100, 62, 3, 54, 4, 21, 4, 7, 162, 0, 55, 28, 21, 4, 184, 1, 243, 29]
abbrev dktX4_goOn_3 : List UInt8 := dkwX4_goOn_3 ++ dktX4_goOn_4
def dkwX4_goOn_2 : List UInt8 := [167, 0, 91, 16, 10, 28, 3, 184, 1, 243, 100, 28, 4, 184, 1, 243, 100, 28, 5, 184, 1, 243, 100, 28]
abbrev dktX4_goOn_2 : List UInt8 := dkwX4_goOn_2 ++ dktX4_goOn_3
def dkwX4_goOn_1 : List UInt8 := [167, 255, 234, 3, 60, 3, 61, 28, 17, 2, 113, 162, 0, 109, 42, 180, 0, 181, 28, 51, 154, 0, 6]
abbrev dktX4_goOn_1 : List UInt8 := dkwX4_goOn_1 ++ dktX4_goOn_2
def dkwX4_goOn_0 : List UInt8 := [3, 60, 27, 17, 2, 113, 162, 0, 21, 42, 180, 0, 181, 27, 42, 180, 0, 178, 27, 51, 84, 132, 1, 1]
abbrev dktX4_goOn_0 : List UInt8 := dkwX4_goOn_0 ++ dktX4_goOn_1
theorem dksX4_goOn_0 : cX4_goOn.data.toList.drop 0 = dktX4_goOn_0 := by decide +kernel
theorem dksX4_goOn_1 : cX4_goOn.data.toList.drop 24 = dktX4_goOn_1 := dk_seg dksX4_goOn_0 24 rfl rfl
theorem dksX4_goOn_2 : cX4_goOn.data.toList.drop 47 = dktX4_goOn_2 := dk_seg dksX4_goOn_1 23 rfl rfl
theorem dksX4_goOn_3 : cX4_goOn.data.toList.drop 71 = dktX4_goOn_3 := dk_seg dksX4_goOn_2 24 rfl rfl
theorem dksX4_goOn_4 : cX4_goOn.data.toList.drop 93 = dktX4_goOn_4 := dk_seg dksX4_goOn_3 22 rfl rfl
theorem dksX4_goOn_5 : cX4_goOn.data.toList.drop 117 = dktX4_goOn_5 := dk_seg dksX4_goOn_4 24 rfl rfl
theorem dksX4_goOn_6 : cX4_goOn.data.toList.drop 141 = dktX4_goOn_6 := dk_seg dksX4_goOn_5 24 rfl rfl
theorem dX4_goOn_0 : decode cX4_goOn 0 = .ok (.iconst 0, 1) := dk_3 (dk_at dksX4_goOn_0 0 rfl rfl)
theorem dX4_goOn_1 : decode cX4_goOn 1 = .ok (.istore_n 1, 1) := dk_60 (dk_at dksX4_goOn_0 1 rfl rfl)
theorem dX4_goOn_2 : decode cX4_goOn 2 = .ok (.iload_n 1, 1) := dk_27 (dk_at dksX4_goOn_0 2 rfl rfl)
theorem dX4_goOn_3 : decode cX4_goOn 3 = .ok (.sipush 625, 3) := dk_17 2 113 (dk_at dksX4_goOn_0 3 rfl rfl)
theorem dX4_goOn_6 : decode cX4_goOn 6 = .ok (.if_icmp .ge 21, 3) := dk_162 0 21 (dk_at dksX4_goOn_0 6 rfl rfl)
theorem dX4_goOn_9 : decode cX4_goOn 9 = .ok (.aload_n 0, 1) := dk_42 (dk_at dksX4_goOn_0 9 rfl rfl)
theorem dX4_goOn_10 : decode cX4_goOn 10 = .ok (.getfield 181, 3) := dk_180 0 181 (dk_at dksX4_goOn_0 10 rfl rfl)
theorem dX4_goOn_13 : decode cX4_goOn 13 = .ok (.iload_n 1, 1) := dk_27 (dk_at dksX4_goOn_0 13 rfl rfl)
theorem dX4_goOn_14 : decode cX4_goOn 14 = .ok (.aload_n 0, 1) := dk_42 (dk_at dksX4_goOn_0 14 rfl rfl)
theorem dX4_goOn_15 : decode cX4_goOn 15 = .ok (.getfield 178, 3) := dk_180 0 178 (dk_at dksX4_goOn_0 15 rfl rfl)
theorem dX4_goOn_18 : decode cX4_goOn 18 = .ok (.iload_n 1, 1) := dk_27 (dk_at dksX4_goOn_0 18 rfl rfl)
theorem dX4_goOn_19 : decode cX4_goOn 19 = .ok (.baload, 1) := dk_51 (dk_at dksX4_goOn_0 19 rfl rfl)
theorem dX4_goOn_20 : decode cX4_goOn 20 = .ok (.bastore, 1) := dk_84 (dk_at dksX4_goOn_0 20 rfl rfl)
theorem dX4_goOn_21 : decode cX4_goOn 21 = .ok (.iinc 1 1, 3) := dk_132 1 1 (dk_at dksX4_goOn_0 21 rfl rfl)
theorem dX4_goOn_24 : decode cX4_goOn 24 = .ok (.goto (-22), 3) := dk_167 255 234 (dk_at dksX4_goOn_1 0 rfl rfl)
theorem dX4_goOn_27 : decode cX4_goOn 27 = .ok (.iconst 0, 1) := dk_3 (dk_at dksX4_goOn_1 3 rfl rfl)
theorem dX4_goOn_28 : decode cX4_goOn 28 = .ok (.istore_n 1, 1) := dk_60 (dk_at dksX4_goOn_1 4 rfl rfl)
theorem dX4_goOn_29 : decode cX4_goOn 29 = .ok (.iconst 0, 1) := dk_3 (dk_at dksX4_goOn_1 5 rfl rfl)
theorem dX4_goOn_30 : decode cX4_goOn 30 = .ok (.istore_n 2, 1) := dk_61 (dk_at dksX4_goOn_1 6 rfl rfl)
theorem dX4_goOn_31 : decode cX4_goOn 31 = .ok (.iload_n 2, 1) := dk_28 (dk_at dksX4_goOn_1 7 rfl rfl)
theorem dX4_goOn_32 : decode cX4_goOn 32 = .ok (.sipush 625, 3) := dk_17 2 113 (dk_at dksX4_goOn_1 8 rfl rfl)
theorem dX4_goOn_35 : decode cX4_goOn 35 = .ok (.if_icmp .ge 109, 3) := dk_162 0 109 (dk_at dksX4_goOn_1 11 rfl rfl)
theorem dX4_goOn_38 : decode cX4_goOn 38 = .ok (.aload_n 0, 1) := dk_42 (dk_at dksX4_goOn_1 14 rfl rfl)
theorem dX4_goOn_39 : decode cX4_goOn 39 = .ok (.getfield 181, 3) := dk_180 0 181 (dk_at dksX4_goOn_1 15 rfl rfl)
theorem dX4_goOn_42 : decode cX4_goOn 42 = .ok (.iload_n 2, 1) := dk_28 (dk_at dksX4_goOn_1 18 rfl rfl)
theorem dX4_goOn_43 : decode cX4_goOn 43 = .ok (.baload, 1) := dk_51 (dk_at dksX4_goOn_1 19 rfl rfl)
theorem dX4_goOn_44 : decode cX4_goOn 44 = .ok (.ifCond .ne 6, 3) := dk_154 0 6 (dk_at dksX4_goOn_1 20 rfl rfl)
theorem dX4_goOn_47 : decode cX4_goOn 47 = .ok (.goto 91, 3) := dk_167 0 91 (dk_at dksX4_goOn_2 0 rfl rfl)
theorem dX4_goOn_50 : decode cX4_goOn 50 = .ok (.bipush 10, 2) := dk_16 10 (dk_at dksX4_goOn_2 3 rfl rfl)
theorem dX4_goOn_52 : decode cX4_goOn 52 = .ok (.iload_n 2, 1) := dk_28 (dk_at dksX4_goOn_2 5 rfl rfl)
theorem dX4_goOn_53 : decode cX4_goOn 53 = .ok (.iconst 0, 1) := dk_3 (dk_at dksX4_goOn_2 6 rfl rfl)
theorem dX4_goOn_54 : decode cX4_goOn 54 = .ok (.invokestatic 499, 3) := dk_184 1 243 (dk_at dksX4_goOn_2 7 rfl rfl)
theorem dX4_goOn_57 : decode cX4_goOn 57 = .ok (.isub, 1) := dk_100 (dk_at dksX4_goOn_2 10 rfl rfl)
theorem dX4_goOn_58 : decode cX4_goOn 58 = .ok (.iload_n 2, 1) := dk_28 (dk_at dksX4_goOn_2 11 rfl rfl)
theorem dX4_goOn_59 : decode cX4_goOn 59 = .ok (.iconst 1, 1) := dk_4 (dk_at dksX4_goOn_2 12 rfl rfl)
theorem dX4_goOn_60 : decode cX4_goOn 60 = .ok (.invokestatic 499, 3) := dk_184 1 243 (dk_at dksX4_goOn_2 13 rfl rfl)
theorem dX4_goOn_63 : decode cX4_goOn 63 = .ok (.isub, 1) := dk_100 (dk_at dksX4_goOn_2 16 rfl rfl)
theorem dX4_goOn_64 : decode cX4_goOn 64 = .ok (.iload_n 2, 1) := dk_28 (dk_at dksX4_goOn_2 17 rfl rfl)
theorem dX4_goOn_65 : decode cX4_goOn 65 = .ok (.iconst 2, 1) := dk_5 (dk_at dksX4_goOn_2 18 rfl rfl)
theorem dX4_goOn_66 : decode cX4_goOn 66 = .ok (.invokestatic 499, 3) := dk_184 1 243 (dk_at dksX4_goOn_2 19 rfl rfl)
theorem dX4_goOn_69 : decode cX4_goOn 69 = .ok (.isub, 1) := dk_100 (dk_at dksX4_goOn_2 22 rfl rfl)
theorem dX4_goOn_70 : decode cX4_goOn 70 = .ok (.iload_n 2, 1) := dk_28 (dk_at dksX4_goOn_2 23 rfl rfl)
theorem dX4_goOn_71 : decode cX4_goOn 71 = .ok (.iconst 3, 1) := dk_6 (dk_at dksX4_goOn_3 0 rfl rfl)
theorem dX4_goOn_72 : decode cX4_goOn 72 = .ok (.invokestatic 499, 3) := dk_184 1 243 (dk_at dksX4_goOn_3 1 rfl rfl)
theorem dX4_goOn_75 : decode cX4_goOn 75 = .ok (.isub, 1) := dk_100 (dk_at dksX4_goOn_3 4 rfl rfl)
theorem dX4_goOn_76 : decode cX4_goOn 76 = .ok (.istore_n 3, 1) := dk_62 (dk_at dksX4_goOn_3 5 rfl rfl)
theorem dX4_goOn_77 : decode cX4_goOn 77 = .ok (.iconst 0, 1) := dk_3 (dk_at dksX4_goOn_3 6 rfl rfl)
theorem dX4_goOn_78 : decode cX4_goOn 78 = .ok (.istore 4, 2) := dk_54 4 (dk_at dksX4_goOn_3 7 rfl rfl)
theorem dX4_goOn_80 : decode cX4_goOn 80 = .ok (.iload 4, 2) := dk_21 4 (dk_at dksX4_goOn_3 9 rfl rfl)
theorem dX4_goOn_82 : decode cX4_goOn 82 = .ok (.iconst 4, 1) := dk_7 (dk_at dksX4_goOn_3 11 rfl rfl)
theorem dX4_goOn_83 : decode cX4_goOn 83 = .ok (.if_icmp .ge 55, 3) := dk_162 0 55 (dk_at dksX4_goOn_3 12 rfl rfl)
theorem dX4_goOn_86 : decode cX4_goOn 86 = .ok (.iload_n 2, 1) := dk_28 (dk_at dksX4_goOn_3 15 rfl rfl)
theorem dX4_goOn_87 : decode cX4_goOn 87 = .ok (.iload 4, 2) := dk_21 4 (dk_at dksX4_goOn_3 16 rfl rfl)
theorem dX4_goOn_89 : decode cX4_goOn 89 = .ok (.invokestatic 499, 3) := dk_184 1 243 (dk_at dksX4_goOn_3 18 rfl rfl)
theorem dX4_goOn_92 : decode cX4_goOn 92 = .ok (.iload_n 3, 1) := dk_29 (dk_at dksX4_goOn_3 21 rfl rfl)
theorem dX4_goOn_93 : decode cX4_goOn 93 = .ok (.invokestatic 502, 3) := dk_184 1 246 (dk_at dksX4_goOn_4 0 rfl rfl)
theorem dX4_goOn_96 : decode cX4_goOn 96 = .ok (.ifCond .eq 36, 3) := dk_153 0 36 (dk_at dksX4_goOn_4 3 rfl rfl)
theorem dX4_goOn_99 : decode cX4_goOn 99 = .ok (.aload_n 0, 1) := dk_42 (dk_at dksX4_goOn_4 6 rfl rfl)
theorem dX4_goOn_100 : decode cX4_goOn 100 = .ok (.getfield 178, 3) := dk_180 0 178 (dk_at dksX4_goOn_4 7 rfl rfl)
theorem dX4_goOn_103 : decode cX4_goOn 103 = .ok (.iload_n 2, 1) := dk_28 (dk_at dksX4_goOn_4 10 rfl rfl)
theorem dX4_goOn_104 : decode cX4_goOn 104 = .ok (.iload 4, 2) := dk_21 4 (dk_at dksX4_goOn_4 11 rfl rfl)
theorem dX4_goOn_106 : decode cX4_goOn 106 = .ok (.iload_n 3, 1) := dk_29 (dk_at dksX4_goOn_4 13 rfl rfl)
theorem dX4_goOn_107 : decode cX4_goOn 107 = .ok (.invokestatic 505, 3) := dk_184 1 249 (dk_at dksX4_goOn_4 14 rfl rfl)
theorem dX4_goOn_110 : decode cX4_goOn 110 = .ok (.baload, 1) := dk_51 (dk_at dksX4_goOn_4 17 rfl rfl)
theorem dX4_goOn_111 : decode cX4_goOn 111 = .ok (.ifCond .eq 6, 3) := dk_153 0 6 (dk_at dksX4_goOn_4 18 rfl rfl)
theorem dX4_goOn_114 : decode cX4_goOn 114 = .ok (.goto 18, 3) := dk_167 0 18 (dk_at dksX4_goOn_4 21 rfl rfl)
theorem dX4_goOn_117 : decode cX4_goOn 117 = .ok (.aload_n 0, 1) := dk_42 (dk_at dksX4_goOn_5 0 rfl rfl)
theorem dX4_goOn_118 : decode cX4_goOn 118 = .ok (.getfield 178, 3) := dk_180 0 178 (dk_at dksX4_goOn_5 1 rfl rfl)
theorem dX4_goOn_121 : decode cX4_goOn 121 = .ok (.iload_n 2, 1) := dk_28 (dk_at dksX4_goOn_5 4 rfl rfl)
theorem dX4_goOn_122 : decode cX4_goOn 122 = .ok (.iload 4, 2) := dk_21 4 (dk_at dksX4_goOn_5 5 rfl rfl)
theorem dX4_goOn_124 : decode cX4_goOn 124 = .ok (.iload_n 3, 1) := dk_29 (dk_at dksX4_goOn_5 7 rfl rfl)
theorem dX4_goOn_125 : decode cX4_goOn 125 = .ok (.invokestatic 505, 3) := dk_184 1 249 (dk_at dksX4_goOn_5 8 rfl rfl)
theorem dX4_goOn_128 : decode cX4_goOn 128 = .ok (.iconst 1, 1) := dk_4 (dk_at dksX4_goOn_5 11 rfl rfl)
theorem dX4_goOn_129 : decode cX4_goOn 129 = .ok (.bastore, 1) := dk_84 (dk_at dksX4_goOn_5 12 rfl rfl)
theorem dX4_goOn_130 : decode cX4_goOn 130 = .ok (.iconst 1, 1) := dk_4 (dk_at dksX4_goOn_5 13 rfl rfl)
theorem dX4_goOn_131 : decode cX4_goOn 131 = .ok (.istore_n 1, 1) := dk_60 (dk_at dksX4_goOn_5 14 rfl rfl)
theorem dX4_goOn_132 : decode cX4_goOn 132 = .ok (.iinc 4 1, 3) := dk_132 4 1 (dk_at dksX4_goOn_5 15 rfl rfl)
theorem dX4_goOn_135 : decode cX4_goOn 135 = .ok (.goto (-55), 3) := dk_167 255 201 (dk_at dksX4_goOn_5 18 rfl rfl)
theorem dX4_goOn_138 : decode cX4_goOn 138 = .ok (.iinc 2 1, 3) := dk_132 2 1 (dk_at dksX4_goOn_5 21 rfl rfl)
theorem dX4_goOn_141 : decode cX4_goOn 141 = .ok (.goto (-110), 3) := dk_167 255 146 (dk_at dksX4_goOn_6 0 rfl rfl)
theorem dX4_goOn_144 : decode cX4_goOn 144 = .ok (.iload_n 1, 1) := dk_27 (dk_at dksX4_goOn_6 3 rfl rfl)
theorem dX4_goOn_145 : decode cX4_goOn 145 = .ok (.ireturn, 1) := dk_172 (dk_at dksX4_goOn_6 4 rfl rfl)
abbrev cX4_areNext : ByteArray := prog_18_method_73_code
def yX4_areNext : MethodName := ⟨RX4, "areNext", "(II)Z"⟩
def dkwX4_areNext_2 : List UInt8 := [167, 0, 4, 3, 172]
abbrev dktX4_areNext_2 : List UInt8 := dkwX4_areNext_2 ++ []
def dkwX4_areNext_1 : List UInt8 := [154, 0, 8, 29, 7, 161, 0, 18, 29, 7, 160, 0, 17, 28, 4, 159, 0, 8, 28, 6, 160, 0, 7, 4]
abbrev dktX4_areNext_1 : List UInt8 := dkwX4_areNext_1 ++ dktX4_areNext_2
def dkwX4_areNext_0 : List UInt8 := [26, 27, 162, 0, 7, 26, 167, 0, 4, 27, 61, 26, 27, 162, 0, 7, 27, 167, 0, 4, 26, 62, 28]
abbrev dktX4_areNext_0 : List UInt8 := dkwX4_areNext_0 ++ dktX4_areNext_1
theorem dksX4_areNext_0 : cX4_areNext.data.toList.drop 0 = dktX4_areNext_0 := by decide +kernel
theorem dksX4_areNext_1 : cX4_areNext.data.toList.drop 23 = dktX4_areNext_1 := dk_seg dksX4_areNext_0 23 rfl rfl
theorem dksX4_areNext_2 : cX4_areNext.data.toList.drop 47 = dktX4_areNext_2 := dk_seg dksX4_areNext_1 24 rfl rfl
theorem dX4_areNext_0 : decode cX4_areNext 0 = .ok (.iload_n 0, 1) := dk_26 (dk_at dksX4_areNext_0 0 rfl rfl)
theorem dX4_areNext_1 : decode cX4_areNext 1 = .ok (.iload_n 1, 1) := dk_27 (dk_at dksX4_areNext_0 1 rfl rfl)
theorem dX4_areNext_2 : decode cX4_areNext 2 = .ok (.if_icmp .ge 7, 3) := dk_162 0 7 (dk_at dksX4_areNext_0 2 rfl rfl)
theorem dX4_areNext_5 : decode cX4_areNext 5 = .ok (.iload_n 0, 1) := dk_26 (dk_at dksX4_areNext_0 5 rfl rfl)
theorem dX4_areNext_6 : decode cX4_areNext 6 = .ok (.goto 4, 3) := dk_167 0 4 (dk_at dksX4_areNext_0 6 rfl rfl)
theorem dX4_areNext_9 : decode cX4_areNext 9 = .ok (.iload_n 1, 1) := dk_27 (dk_at dksX4_areNext_0 9 rfl rfl)
theorem dX4_areNext_10 : decode cX4_areNext 10 = .ok (.istore_n 2, 1) := dk_61 (dk_at dksX4_areNext_0 10 rfl rfl)
theorem dX4_areNext_11 : decode cX4_areNext 11 = .ok (.iload_n 0, 1) := dk_26 (dk_at dksX4_areNext_0 11 rfl rfl)
theorem dX4_areNext_12 : decode cX4_areNext 12 = .ok (.iload_n 1, 1) := dk_27 (dk_at dksX4_areNext_0 12 rfl rfl)
theorem dX4_areNext_13 : decode cX4_areNext 13 = .ok (.if_icmp .ge 7, 3) := dk_162 0 7 (dk_at dksX4_areNext_0 13 rfl rfl)
theorem dX4_areNext_16 : decode cX4_areNext 16 = .ok (.iload_n 1, 1) := dk_27 (dk_at dksX4_areNext_0 16 rfl rfl)
theorem dX4_areNext_17 : decode cX4_areNext 17 = .ok (.goto 4, 3) := dk_167 0 4 (dk_at dksX4_areNext_0 17 rfl rfl)
theorem dX4_areNext_20 : decode cX4_areNext 20 = .ok (.iload_n 0, 1) := dk_26 (dk_at dksX4_areNext_0 20 rfl rfl)
theorem dX4_areNext_21 : decode cX4_areNext 21 = .ok (.istore_n 3, 1) := dk_62 (dk_at dksX4_areNext_0 21 rfl rfl)
theorem dX4_areNext_22 : decode cX4_areNext 22 = .ok (.iload_n 2, 1) := dk_28 (dk_at dksX4_areNext_0 22 rfl rfl)
theorem dX4_areNext_23 : decode cX4_areNext 23 = .ok (.ifCond .ne 8, 3) := dk_154 0 8 (dk_at dksX4_areNext_1 0 rfl rfl)
theorem dX4_areNext_26 : decode cX4_areNext 26 = .ok (.iload_n 3, 1) := dk_29 (dk_at dksX4_areNext_1 3 rfl rfl)
theorem dX4_areNext_27 : decode cX4_areNext 27 = .ok (.iconst 4, 1) := dk_7 (dk_at dksX4_areNext_1 4 rfl rfl)
theorem dX4_areNext_28 : decode cX4_areNext 28 = .ok (.if_icmp .lt 18, 3) := dk_161 0 18 (dk_at dksX4_areNext_1 5 rfl rfl)
theorem dX4_areNext_31 : decode cX4_areNext 31 = .ok (.iload_n 3, 1) := dk_29 (dk_at dksX4_areNext_1 8 rfl rfl)
theorem dX4_areNext_32 : decode cX4_areNext 32 = .ok (.iconst 4, 1) := dk_7 (dk_at dksX4_areNext_1 9 rfl rfl)
theorem dX4_areNext_33 : decode cX4_areNext 33 = .ok (.if_icmp .ne 17, 3) := dk_160 0 17 (dk_at dksX4_areNext_1 10 rfl rfl)
theorem dX4_areNext_36 : decode cX4_areNext 36 = .ok (.iload_n 2, 1) := dk_28 (dk_at dksX4_areNext_1 13 rfl rfl)
theorem dX4_areNext_37 : decode cX4_areNext 37 = .ok (.iconst 1, 1) := dk_4 (dk_at dksX4_areNext_1 14 rfl rfl)
theorem dX4_areNext_38 : decode cX4_areNext 38 = .ok (.if_icmp .eq 8, 3) := dk_159 0 8 (dk_at dksX4_areNext_1 15 rfl rfl)
theorem dX4_areNext_41 : decode cX4_areNext 41 = .ok (.iload_n 2, 1) := dk_28 (dk_at dksX4_areNext_1 18 rfl rfl)
theorem dX4_areNext_42 : decode cX4_areNext 42 = .ok (.iconst 3, 1) := dk_6 (dk_at dksX4_areNext_1 19 rfl rfl)
theorem dX4_areNext_43 : decode cX4_areNext 43 = .ok (.if_icmp .ne 7, 3) := dk_160 0 7 (dk_at dksX4_areNext_1 20 rfl rfl)
theorem dX4_areNext_46 : decode cX4_areNext 46 = .ok (.iconst 1, 1) := dk_4 (dk_at dksX4_areNext_1 23 rfl rfl)
theorem dX4_areNext_47 : decode cX4_areNext 47 = .ok (.goto 4, 3) := dk_167 0 4 (dk_at dksX4_areNext_2 0 rfl rfl)
theorem dX4_areNext_50 : decode cX4_areNext 50 = .ok (.iconst 0, 1) := dk_3 (dk_at dksX4_areNext_2 3 rfl rfl)
theorem dX4_areNext_51 : decode cX4_areNext 51 = .ok (.ireturn, 1) := dk_172 (dk_at dksX4_areNext_2 4 rfl rfl)
abbrev cX4_moved : ByteArray := prog_18_method_72_code
def yX4_moved : MethodName := ⟨RX4, "moved", "(III)I"⟩
def dkwX4_moved_1 : List UInt8 := [167, 0, 15, 27, 5, 160, 0, 8, 16, 25, 167, 0, 5, 16, 125, 104, 96, 172]
abbrev dktX4_moved_1 : List UInt8 := dkwX4_moved_1 ++ []
def dkwX4_moved_0 : List UInt8 := [26, 28, 26, 27, 184, 1, 243, 100, 27, 154, 0, 7, 4, 167, 0, 24, 27, 4, 160, 0, 7, 8]
abbrev dktX4_moved_0 : List UInt8 := dkwX4_moved_0 ++ dktX4_moved_1
theorem dksX4_moved_0 : cX4_moved.data.toList.drop 0 = dktX4_moved_0 := by decide +kernel
theorem dksX4_moved_1 : cX4_moved.data.toList.drop 22 = dktX4_moved_1 := dk_seg dksX4_moved_0 22 rfl rfl
theorem dX4_moved_0 : decode cX4_moved 0 = .ok (.iload_n 0, 1) := dk_26 (dk_at dksX4_moved_0 0 rfl rfl)
theorem dX4_moved_1 : decode cX4_moved 1 = .ok (.iload_n 2, 1) := dk_28 (dk_at dksX4_moved_0 1 rfl rfl)
theorem dX4_moved_2 : decode cX4_moved 2 = .ok (.iload_n 0, 1) := dk_26 (dk_at dksX4_moved_0 2 rfl rfl)
theorem dX4_moved_3 : decode cX4_moved 3 = .ok (.iload_n 1, 1) := dk_27 (dk_at dksX4_moved_0 3 rfl rfl)
theorem dX4_moved_4 : decode cX4_moved 4 = .ok (.invokestatic 499, 3) := dk_184 1 243 (dk_at dksX4_moved_0 4 rfl rfl)
theorem dX4_moved_7 : decode cX4_moved 7 = .ok (.isub, 1) := dk_100 (dk_at dksX4_moved_0 7 rfl rfl)
theorem dX4_moved_8 : decode cX4_moved 8 = .ok (.iload_n 1, 1) := dk_27 (dk_at dksX4_moved_0 8 rfl rfl)
theorem dX4_moved_9 : decode cX4_moved 9 = .ok (.ifCond .ne 7, 3) := dk_154 0 7 (dk_at dksX4_moved_0 9 rfl rfl)
theorem dX4_moved_12 : decode cX4_moved 12 = .ok (.iconst 1, 1) := dk_4 (dk_at dksX4_moved_0 12 rfl rfl)
theorem dX4_moved_13 : decode cX4_moved 13 = .ok (.goto 24, 3) := dk_167 0 24 (dk_at dksX4_moved_0 13 rfl rfl)
theorem dX4_moved_16 : decode cX4_moved 16 = .ok (.iload_n 1, 1) := dk_27 (dk_at dksX4_moved_0 16 rfl rfl)
theorem dX4_moved_17 : decode cX4_moved 17 = .ok (.iconst 1, 1) := dk_4 (dk_at dksX4_moved_0 17 rfl rfl)
theorem dX4_moved_18 : decode cX4_moved 18 = .ok (.if_icmp .ne 7, 3) := dk_160 0 7 (dk_at dksX4_moved_0 18 rfl rfl)
theorem dX4_moved_21 : decode cX4_moved 21 = .ok (.iconst 5, 1) := dk_8 (dk_at dksX4_moved_0 21 rfl rfl)
theorem dX4_moved_22 : decode cX4_moved 22 = .ok (.goto 15, 3) := dk_167 0 15 (dk_at dksX4_moved_1 0 rfl rfl)
theorem dX4_moved_25 : decode cX4_moved 25 = .ok (.iload_n 1, 1) := dk_27 (dk_at dksX4_moved_1 3 rfl rfl)
theorem dX4_moved_26 : decode cX4_moved 26 = .ok (.iconst 2, 1) := dk_5 (dk_at dksX4_moved_1 4 rfl rfl)
theorem dX4_moved_27 : decode cX4_moved 27 = .ok (.if_icmp .ne 8, 3) := dk_160 0 8 (dk_at dksX4_moved_1 5 rfl rfl)
theorem dX4_moved_30 : decode cX4_moved 30 = .ok (.bipush 25, 2) := dk_16 25 (dk_at dksX4_moved_1 8 rfl rfl)
theorem dX4_moved_32 : decode cX4_moved 32 = .ok (.goto 5, 3) := dk_167 0 5 (dk_at dksX4_moved_1 10 rfl rfl)
theorem dX4_moved_35 : decode cX4_moved 35 = .ok (.bipush 125, 2) := dk_16 125 (dk_at dksX4_moved_1 13 rfl rfl)
theorem dX4_moved_37 : decode cX4_moved 37 = .ok (.imul, 1) := dk_104 (dk_at dksX4_moved_1 15 rfl rfl)
theorem dX4_moved_38 : decode cX4_moved 38 = .ok (.iadd, 1) := dk_96 (dk_at dksX4_moved_1 16 rfl rfl)
theorem dX4_moved_39 : decode cX4_moved 39 = .ok (.ireturn, 1) := dk_172 (dk_at dksX4_moved_1 17 rfl rfl)
abbrev cX4_wrong : ByteArray := prog_18_method_93_code
def yX4_wrong : MethodName := ⟨RX4, "wrong", "(I)I"⟩
def dkwX4_wrong_3 : List UInt8 := [167, 255, 209, 42, 180, 2, 39, 172]
abbrev dktX4_wrong_3 : List UInt8 := dkwX4_wrong_3 ++ []
def dkwX4_wrong_2 : List UInt8 := [28, 42, 180, 0, 193, 28, 46, 79, 42, 180, 0, 208, 28, 42, 180, 0, 196, 28, 46, 79, 132, 2, 1]
abbrev dktX4_wrong_2 : List UInt8 := dkwX4_wrong_2 ++ dktX4_wrong_3
def dkwX4_wrong_1 : List UInt8 := [28, 42, 180, 2, 39, 162, 0, 45, 42, 180, 0, 202, 28, 42, 180, 0, 190, 28, 46, 79, 42, 180, 0, 205]
abbrev dktX4_wrong_1 : List UInt8 := dkwX4_wrong_1 ++ dktX4_wrong_2
def dkwX4_wrong_0 : List UInt8 := [42, 3, 181, 0, 226, 42, 27, 182, 1, 204, 42, 182, 2, 55, 42, 42, 180, 2, 39, 181, 2, 58, 3, 61]
abbrev dktX4_wrong_0 : List UInt8 := dkwX4_wrong_0 ++ dktX4_wrong_1
theorem dksX4_wrong_0 : cX4_wrong.data.toList.drop 0 = dktX4_wrong_0 := by decide +kernel
theorem dksX4_wrong_1 : cX4_wrong.data.toList.drop 24 = dktX4_wrong_1 := dk_seg dksX4_wrong_0 24 rfl rfl
theorem dksX4_wrong_2 : cX4_wrong.data.toList.drop 48 = dktX4_wrong_2 := dk_seg dksX4_wrong_1 24 rfl rfl
theorem dksX4_wrong_3 : cX4_wrong.data.toList.drop 71 = dktX4_wrong_3 := dk_seg dksX4_wrong_2 23 rfl rfl
theorem dX4_wrong_0 : decode cX4_wrong 0 = .ok (.aload_n 0, 1) := dk_42 (dk_at dksX4_wrong_0 0 rfl rfl)
theorem dX4_wrong_1 : decode cX4_wrong 1 = .ok (.iconst 0, 1) := dk_3 (dk_at dksX4_wrong_0 1 rfl rfl)
theorem dX4_wrong_2 : decode cX4_wrong 2 = .ok (.putfield 226, 3) := dk_181 0 226 (dk_at dksX4_wrong_0 2 rfl rfl)
theorem dX4_wrong_5 : decode cX4_wrong 5 = .ok (.aload_n 0, 1) := dk_42 (dk_at dksX4_wrong_0 5 rfl rfl)
theorem dX4_wrong_6 : decode cX4_wrong 6 = .ok (.iload_n 1, 1) := dk_27 (dk_at dksX4_wrong_0 6 rfl rfl)
theorem dX4_wrong_7 : decode cX4_wrong 7 = .ok (.invokevirtual 460, 3) := dk_182 1 204 (dk_at dksX4_wrong_0 7 rfl rfl)
theorem dX4_wrong_10 : decode cX4_wrong 10 = .ok (.aload_n 0, 1) := dk_42 (dk_at dksX4_wrong_0 10 rfl rfl)
theorem dX4_wrong_11 : decode cX4_wrong 11 = .ok (.invokevirtual 567, 3) := dk_182 2 55 (dk_at dksX4_wrong_0 11 rfl rfl)
theorem dX4_wrong_14 : decode cX4_wrong 14 = .ok (.aload_n 0, 1) := dk_42 (dk_at dksX4_wrong_0 14 rfl rfl)
theorem dX4_wrong_15 : decode cX4_wrong 15 = .ok (.aload_n 0, 1) := dk_42 (dk_at dksX4_wrong_0 15 rfl rfl)
theorem dX4_wrong_16 : decode cX4_wrong 16 = .ok (.getfield 551, 3) := dk_180 2 39 (dk_at dksX4_wrong_0 16 rfl rfl)
theorem dX4_wrong_19 : decode cX4_wrong 19 = .ok (.putfield 570, 3) := dk_181 2 58 (dk_at dksX4_wrong_0 19 rfl rfl)
theorem dX4_wrong_22 : decode cX4_wrong 22 = .ok (.iconst 0, 1) := dk_3 (dk_at dksX4_wrong_0 22 rfl rfl)
theorem dX4_wrong_23 : decode cX4_wrong 23 = .ok (.istore_n 2, 1) := dk_61 (dk_at dksX4_wrong_0 23 rfl rfl)
theorem dX4_wrong_24 : decode cX4_wrong 24 = .ok (.iload_n 2, 1) := dk_28 (dk_at dksX4_wrong_1 0 rfl rfl)
theorem dX4_wrong_25 : decode cX4_wrong 25 = .ok (.aload_n 0, 1) := dk_42 (dk_at dksX4_wrong_1 1 rfl rfl)
theorem dX4_wrong_26 : decode cX4_wrong 26 = .ok (.getfield 551, 3) := dk_180 2 39 (dk_at dksX4_wrong_1 2 rfl rfl)
theorem dX4_wrong_29 : decode cX4_wrong 29 = .ok (.if_icmp .ge 45, 3) := dk_162 0 45 (dk_at dksX4_wrong_1 5 rfl rfl)
theorem dX4_wrong_32 : decode cX4_wrong 32 = .ok (.aload_n 0, 1) := dk_42 (dk_at dksX4_wrong_1 8 rfl rfl)
theorem dX4_wrong_33 : decode cX4_wrong 33 = .ok (.getfield 202, 3) := dk_180 0 202 (dk_at dksX4_wrong_1 9 rfl rfl)
theorem dX4_wrong_36 : decode cX4_wrong 36 = .ok (.iload_n 2, 1) := dk_28 (dk_at dksX4_wrong_1 12 rfl rfl)
theorem dX4_wrong_37 : decode cX4_wrong 37 = .ok (.aload_n 0, 1) := dk_42 (dk_at dksX4_wrong_1 13 rfl rfl)
theorem dX4_wrong_38 : decode cX4_wrong 38 = .ok (.getfield 190, 3) := dk_180 0 190 (dk_at dksX4_wrong_1 14 rfl rfl)
theorem dX4_wrong_41 : decode cX4_wrong 41 = .ok (.iload_n 2, 1) := dk_28 (dk_at dksX4_wrong_1 17 rfl rfl)
theorem dX4_wrong_42 : decode cX4_wrong 42 = .ok (.iaload, 1) := dk_46 (dk_at dksX4_wrong_1 18 rfl rfl)
theorem dX4_wrong_43 : decode cX4_wrong 43 = .ok (.iastore, 1) := dk_79 (dk_at dksX4_wrong_1 19 rfl rfl)
theorem dX4_wrong_44 : decode cX4_wrong 44 = .ok (.aload_n 0, 1) := dk_42 (dk_at dksX4_wrong_1 20 rfl rfl)
theorem dX4_wrong_45 : decode cX4_wrong 45 = .ok (.getfield 205, 3) := dk_180 0 205 (dk_at dksX4_wrong_1 21 rfl rfl)
theorem dX4_wrong_48 : decode cX4_wrong 48 = .ok (.iload_n 2, 1) := dk_28 (dk_at dksX4_wrong_2 0 rfl rfl)
theorem dX4_wrong_49 : decode cX4_wrong 49 = .ok (.aload_n 0, 1) := dk_42 (dk_at dksX4_wrong_2 1 rfl rfl)
theorem dX4_wrong_50 : decode cX4_wrong 50 = .ok (.getfield 193, 3) := dk_180 0 193 (dk_at dksX4_wrong_2 2 rfl rfl)
theorem dX4_wrong_53 : decode cX4_wrong 53 = .ok (.iload_n 2, 1) := dk_28 (dk_at dksX4_wrong_2 5 rfl rfl)
theorem dX4_wrong_54 : decode cX4_wrong 54 = .ok (.iaload, 1) := dk_46 (dk_at dksX4_wrong_2 6 rfl rfl)
theorem dX4_wrong_55 : decode cX4_wrong 55 = .ok (.iastore, 1) := dk_79 (dk_at dksX4_wrong_2 7 rfl rfl)
theorem dX4_wrong_56 : decode cX4_wrong 56 = .ok (.aload_n 0, 1) := dk_42 (dk_at dksX4_wrong_2 8 rfl rfl)
theorem dX4_wrong_57 : decode cX4_wrong 57 = .ok (.getfield 208, 3) := dk_180 0 208 (dk_at dksX4_wrong_2 9 rfl rfl)
theorem dX4_wrong_60 : decode cX4_wrong 60 = .ok (.iload_n 2, 1) := dk_28 (dk_at dksX4_wrong_2 12 rfl rfl)
theorem dX4_wrong_61 : decode cX4_wrong 61 = .ok (.aload_n 0, 1) := dk_42 (dk_at dksX4_wrong_2 13 rfl rfl)
theorem dX4_wrong_62 : decode cX4_wrong 62 = .ok (.getfield 196, 3) := dk_180 0 196 (dk_at dksX4_wrong_2 14 rfl rfl)
theorem dX4_wrong_65 : decode cX4_wrong 65 = .ok (.iload_n 2, 1) := dk_28 (dk_at dksX4_wrong_2 17 rfl rfl)
theorem dX4_wrong_66 : decode cX4_wrong 66 = .ok (.iaload, 1) := dk_46 (dk_at dksX4_wrong_2 18 rfl rfl)
theorem dX4_wrong_67 : decode cX4_wrong 67 = .ok (.iastore, 1) := dk_79 (dk_at dksX4_wrong_2 19 rfl rfl)
theorem dX4_wrong_68 : decode cX4_wrong 68 = .ok (.iinc 2 1, 3) := dk_132 2 1 (dk_at dksX4_wrong_2 20 rfl rfl)
theorem dX4_wrong_71 : decode cX4_wrong 71 = .ok (.goto (-47), 3) := dk_167 255 209 (dk_at dksX4_wrong_3 0 rfl rfl)
theorem dX4_wrong_74 : decode cX4_wrong 74 = .ok (.aload_n 0, 1) := dk_42 (dk_at dksX4_wrong_3 3 rfl rfl)
theorem dX4_wrong_75 : decode cX4_wrong 75 = .ok (.getfield 551, 3) := dk_180 2 39 (dk_at dksX4_wrong_3 4 rfl rfl)
theorem dX4_wrong_78 : decode cX4_wrong 78 = .ok (.ireturn, 1) := dk_172 (dk_at dksX4_wrong_3 7 rfl rfl)
abbrev cX4_judge : ByteArray := prog_18_method_91_code
def yX4_judge : MethodName := ⟨RX4, "judge", "()V"⟩
def dkwX4_judge_6 : List UInt8 := [167, 255, 183, 132, 3, 1, 167, 255, 168, 132, 1, 1, 167, 255, 114, 177]
abbrev dktX4_judge_6 : List UInt8 := dkwX4_judge_6 ++ []
def dkwX4_judge_5 : List UInt8 := [21, 5, 28, 21, 4, 182, 2, 51, 153, 0, 11, 42, 29, 28, 21, 4, 182, 2, 48, 132, 4, 1]
abbrev dktX4_judge_5 : List UInt8 := dkwX4_judge_5 ++ dktX4_judge_6
def dkwX4_judge_4 : List UInt8 := [46, 54, 5, 29, 16, 7, 160, 0, 11, 21, 5, 156, 0, 32, 167, 0, 21, 21, 5, 155, 0, 24, 42, 29]
abbrev dktX4_judge_4 : List UInt8 := dkwX4_judge_4 ++ dktX4_judge_5
def dkwX4_judge_3 : List UInt8 := [180, 0, 26, 42, 180, 0, 148, 28, 46, 46, 162, 0, 63, 42, 180, 0, 157, 16, 8, 28, 104, 21, 4, 96]
abbrev dktX4_judge_3 : List UInt8 := dkwX4_judge_3 ++ dktX4_judge_4
def dkwX4_judge_2 : List UInt8 := [182, 2, 48, 132, 3, 1, 167, 255, 231, 16, 7, 62, 29, 16, 15, 163, 0, 88, 3, 54, 4, 21, 4, 42]
abbrev dktX4_judge_2 : List UInt8 := dkwX4_judge_2 ++ dktX4_judge_3
def dkwX4_judge_1 : List UInt8 := [46, 61, 4, 62, 29, 16, 6, 163, 0, 25, 42, 29, 28, 182, 2, 45, 153, 0, 10, 42, 29, 28, 2]
abbrev dktX4_judge_1 : List UInt8 := dkwX4_judge_1 ++ dktX4_judge_2
def dkwX4_judge_0 : List UInt8 := [42, 3, 181, 2, 39, 42, 182, 2, 42, 3, 60, 27, 42, 180, 1, 190, 162, 0, 140, 42, 180, 0, 166, 27]
abbrev dktX4_judge_0 : List UInt8 := dkwX4_judge_0 ++ dktX4_judge_1
theorem dksX4_judge_0 : cX4_judge.data.toList.drop 0 = dktX4_judge_0 := by decide +kernel
theorem dksX4_judge_1 : cX4_judge.data.toList.drop 24 = dktX4_judge_1 := dk_seg dksX4_judge_0 24 rfl rfl
theorem dksX4_judge_2 : cX4_judge.data.toList.drop 47 = dktX4_judge_2 := dk_seg dksX4_judge_1 23 rfl rfl
theorem dksX4_judge_3 : cX4_judge.data.toList.drop 71 = dktX4_judge_3 := dk_seg dksX4_judge_2 24 rfl rfl
theorem dksX4_judge_4 : cX4_judge.data.toList.drop 95 = dktX4_judge_4 := dk_seg dksX4_judge_3 24 rfl rfl
theorem dksX4_judge_5 : cX4_judge.data.toList.drop 119 = dktX4_judge_5 := dk_seg dksX4_judge_4 24 rfl rfl
theorem dksX4_judge_6 : cX4_judge.data.toList.drop 141 = dktX4_judge_6 := dk_seg dksX4_judge_5 22 rfl rfl
theorem dX4_judge_0 : decode cX4_judge 0 = .ok (.aload_n 0, 1) := dk_42 (dk_at dksX4_judge_0 0 rfl rfl)
theorem dX4_judge_1 : decode cX4_judge 1 = .ok (.iconst 0, 1) := dk_3 (dk_at dksX4_judge_0 1 rfl rfl)
theorem dX4_judge_2 : decode cX4_judge 2 = .ok (.putfield 551, 3) := dk_181 2 39 (dk_at dksX4_judge_0 2 rfl rfl)
theorem dX4_judge_5 : decode cX4_judge 5 = .ok (.aload_n 0, 1) := dk_42 (dk_at dksX4_judge_0 5 rfl rfl)
theorem dX4_judge_6 : decode cX4_judge 6 = .ok (.invokevirtual 554, 3) := dk_182 2 42 (dk_at dksX4_judge_0 6 rfl rfl)
theorem dX4_judge_9 : decode cX4_judge 9 = .ok (.iconst 0, 1) := dk_3 (dk_at dksX4_judge_0 9 rfl rfl)
theorem dX4_judge_10 : decode cX4_judge 10 = .ok (.istore_n 1, 1) := dk_60 (dk_at dksX4_judge_0 10 rfl rfl)
theorem dX4_judge_11 : decode cX4_judge 11 = .ok (.iload_n 1, 1) := dk_27 (dk_at dksX4_judge_0 11 rfl rfl)
theorem dX4_judge_12 : decode cX4_judge 12 = .ok (.aload_n 0, 1) := dk_42 (dk_at dksX4_judge_0 12 rfl rfl)
theorem dX4_judge_13 : decode cX4_judge 13 = .ok (.getfield 446, 3) := dk_180 1 190 (dk_at dksX4_judge_0 13 rfl rfl)
theorem dX4_judge_16 : decode cX4_judge 16 = .ok (.if_icmp .ge 140, 3) := dk_162 0 140 (dk_at dksX4_judge_0 16 rfl rfl)
theorem dX4_judge_19 : decode cX4_judge 19 = .ok (.aload_n 0, 1) := dk_42 (dk_at dksX4_judge_0 19 rfl rfl)
theorem dX4_judge_20 : decode cX4_judge 20 = .ok (.getfield 166, 3) := dk_180 0 166 (dk_at dksX4_judge_0 20 rfl rfl)
theorem dX4_judge_23 : decode cX4_judge 23 = .ok (.iload_n 1, 1) := dk_27 (dk_at dksX4_judge_0 23 rfl rfl)
theorem dX4_judge_24 : decode cX4_judge 24 = .ok (.iaload, 1) := dk_46 (dk_at dksX4_judge_1 0 rfl rfl)
theorem dX4_judge_25 : decode cX4_judge 25 = .ok (.istore_n 2, 1) := dk_61 (dk_at dksX4_judge_1 1 rfl rfl)
theorem dX4_judge_26 : decode cX4_judge 26 = .ok (.iconst 1, 1) := dk_4 (dk_at dksX4_judge_1 2 rfl rfl)
theorem dX4_judge_27 : decode cX4_judge 27 = .ok (.istore_n 3, 1) := dk_62 (dk_at dksX4_judge_1 3 rfl rfl)
theorem dX4_judge_28 : decode cX4_judge 28 = .ok (.iload_n 3, 1) := dk_29 (dk_at dksX4_judge_1 4 rfl rfl)
theorem dX4_judge_29 : decode cX4_judge 29 = .ok (.bipush 6, 2) := dk_16 6 (dk_at dksX4_judge_1 5 rfl rfl)
theorem dX4_judge_31 : decode cX4_judge 31 = .ok (.if_icmp .gt 25, 3) := dk_163 0 25 (dk_at dksX4_judge_1 7 rfl rfl)
theorem dX4_judge_34 : decode cX4_judge 34 = .ok (.aload_n 0, 1) := dk_42 (dk_at dksX4_judge_1 10 rfl rfl)
theorem dX4_judge_35 : decode cX4_judge 35 = .ok (.iload_n 3, 1) := dk_29 (dk_at dksX4_judge_1 11 rfl rfl)
theorem dX4_judge_36 : decode cX4_judge 36 = .ok (.iload_n 2, 1) := dk_28 (dk_at dksX4_judge_1 12 rfl rfl)
theorem dX4_judge_37 : decode cX4_judge 37 = .ok (.invokevirtual 557, 3) := dk_182 2 45 (dk_at dksX4_judge_1 13 rfl rfl)
theorem dX4_judge_40 : decode cX4_judge 40 = .ok (.ifCond .eq 10, 3) := dk_153 0 10 (dk_at dksX4_judge_1 16 rfl rfl)
theorem dX4_judge_43 : decode cX4_judge 43 = .ok (.aload_n 0, 1) := dk_42 (dk_at dksX4_judge_1 19 rfl rfl)
theorem dX4_judge_44 : decode cX4_judge 44 = .ok (.iload_n 3, 1) := dk_29 (dk_at dksX4_judge_1 20 rfl rfl)
theorem dX4_judge_45 : decode cX4_judge 45 = .ok (.iload_n 2, 1) := dk_28 (dk_at dksX4_judge_1 21 rfl rfl)
theorem dX4_judge_46 : decode cX4_judge 46 = .ok (.iconst (-1), 1) := dk_2 (dk_at dksX4_judge_1 22 rfl rfl)
theorem dX4_judge_47 : decode cX4_judge 47 = .ok (.invokevirtual 560, 3) := dk_182 2 48 (dk_at dksX4_judge_2 0 rfl rfl)
theorem dX4_judge_50 : decode cX4_judge 50 = .ok (.iinc 3 1, 3) := dk_132 3 1 (dk_at dksX4_judge_2 3 rfl rfl)
theorem dX4_judge_53 : decode cX4_judge 53 = .ok (.goto (-25), 3) := dk_167 255 231 (dk_at dksX4_judge_2 6 rfl rfl)
theorem dX4_judge_56 : decode cX4_judge 56 = .ok (.bipush 7, 2) := dk_16 7 (dk_at dksX4_judge_2 9 rfl rfl)
theorem dX4_judge_58 : decode cX4_judge 58 = .ok (.istore_n 3, 1) := dk_62 (dk_at dksX4_judge_2 11 rfl rfl)
theorem dX4_judge_59 : decode cX4_judge 59 = .ok (.iload_n 3, 1) := dk_29 (dk_at dksX4_judge_2 12 rfl rfl)
theorem dX4_judge_60 : decode cX4_judge 60 = .ok (.bipush 15, 2) := dk_16 15 (dk_at dksX4_judge_2 13 rfl rfl)
theorem dX4_judge_62 : decode cX4_judge 62 = .ok (.if_icmp .gt 88, 3) := dk_163 0 88 (dk_at dksX4_judge_2 15 rfl rfl)
theorem dX4_judge_65 : decode cX4_judge 65 = .ok (.iconst 0, 1) := dk_3 (dk_at dksX4_judge_2 18 rfl rfl)
theorem dX4_judge_66 : decode cX4_judge 66 = .ok (.istore 4, 2) := dk_54 4 (dk_at dksX4_judge_2 19 rfl rfl)
theorem dX4_judge_68 : decode cX4_judge 68 = .ok (.iload 4, 2) := dk_21 4 (dk_at dksX4_judge_2 21 rfl rfl)
theorem dX4_judge_70 : decode cX4_judge 70 = .ok (.aload_n 0, 1) := dk_42 (dk_at dksX4_judge_2 23 rfl rfl)
theorem dX4_judge_71 : decode cX4_judge 71 = .ok (.getfield 26, 3) := dk_180 0 26 (dk_at dksX4_judge_3 0 rfl rfl)
theorem dX4_judge_74 : decode cX4_judge 74 = .ok (.aload_n 0, 1) := dk_42 (dk_at dksX4_judge_3 3 rfl rfl)
theorem dX4_judge_75 : decode cX4_judge 75 = .ok (.getfield 148, 3) := dk_180 0 148 (dk_at dksX4_judge_3 4 rfl rfl)
theorem dX4_judge_78 : decode cX4_judge 78 = .ok (.iload_n 2, 1) := dk_28 (dk_at dksX4_judge_3 7 rfl rfl)
theorem dX4_judge_79 : decode cX4_judge 79 = .ok (.iaload, 1) := dk_46 (dk_at dksX4_judge_3 8 rfl rfl)
theorem dX4_judge_80 : decode cX4_judge 80 = .ok (.iaload, 1) := dk_46 (dk_at dksX4_judge_3 9 rfl rfl)
theorem dX4_judge_81 : decode cX4_judge 81 = .ok (.if_icmp .ge 63, 3) := dk_162 0 63 (dk_at dksX4_judge_3 10 rfl rfl)
theorem dX4_judge_84 : decode cX4_judge 84 = .ok (.aload_n 0, 1) := dk_42 (dk_at dksX4_judge_3 13 rfl rfl)
theorem dX4_judge_85 : decode cX4_judge 85 = .ok (.getfield 157, 3) := dk_180 0 157 (dk_at dksX4_judge_3 14 rfl rfl)
theorem dX4_judge_88 : decode cX4_judge 88 = .ok (.bipush 8, 2) := dk_16 8 (dk_at dksX4_judge_3 17 rfl rfl)
theorem dX4_judge_90 : decode cX4_judge 90 = .ok (.iload_n 2, 1) := dk_28 (dk_at dksX4_judge_3 19 rfl rfl)
theorem dX4_judge_91 : decode cX4_judge 91 = .ok (.imul, 1) := dk_104 (dk_at dksX4_judge_3 20 rfl rfl)
theorem dX4_judge_92 : decode cX4_judge 92 = .ok (.iload 4, 2) := dk_21 4 (dk_at dksX4_judge_3 21 rfl rfl)
theorem dX4_judge_94 : decode cX4_judge 94 = .ok (.iadd, 1) := dk_96 (dk_at dksX4_judge_3 23 rfl rfl)
theorem dX4_judge_95 : decode cX4_judge 95 = .ok (.iaload, 1) := dk_46 (dk_at dksX4_judge_4 0 rfl rfl)
theorem dX4_judge_96 : decode cX4_judge 96 = .ok (.istore 5, 2) := dk_54 5 (dk_at dksX4_judge_4 1 rfl rfl)
theorem dX4_judge_98 : decode cX4_judge 98 = .ok (.iload_n 3, 1) := dk_29 (dk_at dksX4_judge_4 3 rfl rfl)
theorem dX4_judge_99 : decode cX4_judge 99 = .ok (.bipush 7, 2) := dk_16 7 (dk_at dksX4_judge_4 4 rfl rfl)
theorem dX4_judge_101 : decode cX4_judge 101 = .ok (.if_icmp .ne 11, 3) := dk_160 0 11 (dk_at dksX4_judge_4 6 rfl rfl)
theorem dX4_judge_104 : decode cX4_judge 104 = .ok (.iload 5, 2) := dk_21 5 (dk_at dksX4_judge_4 9 rfl rfl)
theorem dX4_judge_106 : decode cX4_judge 106 = .ok (.ifCond .ge 32, 3) := dk_156 0 32 (dk_at dksX4_judge_4 11 rfl rfl)
theorem dX4_judge_109 : decode cX4_judge 109 = .ok (.goto 21, 3) := dk_167 0 21 (dk_at dksX4_judge_4 14 rfl rfl)
theorem dX4_judge_112 : decode cX4_judge 112 = .ok (.iload 5, 2) := dk_21 5 (dk_at dksX4_judge_4 17 rfl rfl)
theorem dX4_judge_114 : decode cX4_judge 114 = .ok (.ifCond .lt 24, 3) := dk_155 0 24 (dk_at dksX4_judge_4 19 rfl rfl)
theorem dX4_judge_117 : decode cX4_judge 117 = .ok (.aload_n 0, 1) := dk_42 (dk_at dksX4_judge_4 22 rfl rfl)
theorem dX4_judge_118 : decode cX4_judge 118 = .ok (.iload_n 3, 1) := dk_29 (dk_at dksX4_judge_4 23 rfl rfl)
theorem dX4_judge_119 : decode cX4_judge 119 = .ok (.iload 5, 2) := dk_21 5 (dk_at dksX4_judge_5 0 rfl rfl)
theorem dX4_judge_121 : decode cX4_judge 121 = .ok (.iload_n 2, 1) := dk_28 (dk_at dksX4_judge_5 2 rfl rfl)
theorem dX4_judge_122 : decode cX4_judge 122 = .ok (.iload 4, 2) := dk_21 4 (dk_at dksX4_judge_5 3 rfl rfl)
theorem dX4_judge_124 : decode cX4_judge 124 = .ok (.invokevirtual 563, 3) := dk_182 2 51 (dk_at dksX4_judge_5 5 rfl rfl)
theorem dX4_judge_127 : decode cX4_judge 127 = .ok (.ifCond .eq 11, 3) := dk_153 0 11 (dk_at dksX4_judge_5 8 rfl rfl)
theorem dX4_judge_130 : decode cX4_judge 130 = .ok (.aload_n 0, 1) := dk_42 (dk_at dksX4_judge_5 11 rfl rfl)
theorem dX4_judge_131 : decode cX4_judge 131 = .ok (.iload_n 3, 1) := dk_29 (dk_at dksX4_judge_5 12 rfl rfl)
theorem dX4_judge_132 : decode cX4_judge 132 = .ok (.iload_n 2, 1) := dk_28 (dk_at dksX4_judge_5 13 rfl rfl)
theorem dX4_judge_133 : decode cX4_judge 133 = .ok (.iload 4, 2) := dk_21 4 (dk_at dksX4_judge_5 14 rfl rfl)
theorem dX4_judge_135 : decode cX4_judge 135 = .ok (.invokevirtual 560, 3) := dk_182 2 48 (dk_at dksX4_judge_5 16 rfl rfl)
theorem dX4_judge_138 : decode cX4_judge 138 = .ok (.iinc 4 1, 3) := dk_132 4 1 (dk_at dksX4_judge_5 19 rfl rfl)
theorem dX4_judge_141 : decode cX4_judge 141 = .ok (.goto (-73), 3) := dk_167 255 183 (dk_at dksX4_judge_6 0 rfl rfl)
theorem dX4_judge_144 : decode cX4_judge 144 = .ok (.iinc 3 1, 3) := dk_132 3 1 (dk_at dksX4_judge_6 3 rfl rfl)
theorem dX4_judge_147 : decode cX4_judge 147 = .ok (.goto (-88), 3) := dk_167 255 168 (dk_at dksX4_judge_6 6 rfl rfl)
theorem dX4_judge_150 : decode cX4_judge 150 = .ok (.iinc 1 1, 3) := dk_132 1 1 (dk_at dksX4_judge_6 9 rfl rfl)
theorem dX4_judge_153 : decode cX4_judge 153 = .ok (.goto (-142), 3) := dk_167 255 114 (dk_at dksX4_judge_6 12 rfl rfl)
theorem dX4_judge_156 : decode cX4_judge 156 = .ok (.return_, 1) := dk_177 (dk_at dksX4_judge_6 15 rfl rfl)
abbrev cX4_roll : ByteArray := prog_18_method_78_code
def yX4_roll : MethodName := ⟨RX4, "roll", "()V"⟩
def dkwX4_roll_11 : List UInt8 := [167, 255, 88, 177]
abbrev dktX4_roll_11 : List UInt8 := dkwX4_roll_11 ++ []
def dkwX4_roll_10 : List UInt8 := [21, 5, 184, 1, 243, 154, 0, 7, 4, 167, 0, 4, 3, 84, 132, 6, 1, 167, 255, 204, 132, 2, 1]
abbrev dktX4_roll_10 : List UInt8 := dkwX4_roll_10 ++ dktX4_roll_11
def dkwX4_roll_9 : List UInt8 := [29, 51, 154, 0, 41, 42, 180, 0, 178, 21, 6, 42, 180, 0, 178, 21, 6, 51, 153, 0, 17, 21, 6]
abbrev dktX4_roll_9 : List UInt8 := dkwX4_roll_9 ++ dktX4_roll_10
def dkwX4_roll_8 : List UInt8 := [154, 0, 7, 4, 167, 0, 4, 3, 84, 3, 54, 6, 21, 6, 17, 2, 113, 162, 0, 50, 42, 180, 0, 187]
abbrev dktX4_roll_8 : List UInt8 := dkwX4_roll_8 ++ dktX4_roll_9
def dkwX4_roll_7 : List UInt8 := [180, 0, 17, 42, 180, 0, 148, 29, 46, 46, 54, 5, 42, 180, 0, 187, 29, 42, 21, 5, 182, 1, 255]
abbrev dktX4_roll_7 : List UInt8 := dkwX4_roll_7 ++ dktX4_roll_8
def dkwX4_roll_6 : List UInt8 := [51, 154, 0, 14, 21, 4, 153, 0, 9, 42, 182, 2, 2, 54, 4, 132, 1, 1, 167, 255, 223, 42]
abbrev dktX4_roll_6 : List UInt8 := dkwX4_roll_6 ++ dktX4_roll_7
def dkwX4_roll_5 : List UInt8 := [162, 0, 6, 167, 0, 133, 4, 54, 4, 27, 42, 180, 0, 139, 29, 46, 162, 0, 29, 42, 180, 0, 184, 27]
abbrev dktX4_roll_5 : List UInt8 := dkwX4_roll_5 ++ dktX4_roll_6
def dkwX4_roll_4 : List UInt8 := [162, 0, 166, 42, 180, 0, 166, 28, 46, 62, 42, 180, 0, 187, 29, 3, 84, 42, 180, 0, 145, 29, 46, 5]
abbrev dktX4_roll_4 : List UInt8 := dkwX4_roll_4 ++ dktX4_roll_5
def dkwX4_roll_3 : List UInt8 := [167, 255, 227, 132, 1, 1, 167, 255, 206, 42, 182, 1, 252, 3, 60, 3, 61, 28, 42, 180, 1, 190]
abbrev dktX4_roll_3 : List UInt8 := dkwX4_roll_3 ++ dktX4_roll_4
def dkwX4_roll_2 : List UInt8 := [162, 0, 25, 42, 180, 0, 145, 27, 46, 153, 0, 16, 42, 180, 0, 184, 28, 4, 84, 132, 2, 1]
abbrev dktX4_roll_2 : List UInt8 := dkwX4_roll_2 ++ dktX4_roll_3
def dkwX4_roll_1 : List UInt8 := [27, 42, 180, 1, 190, 162, 0, 48, 42, 180, 0, 139, 27, 46, 61, 28, 42, 180, 0, 142, 27, 46]
abbrev dktX4_roll_1 : List UInt8 := dkwX4_roll_1 ++ dktX4_roll_2
def dkwX4_roll_0 : List UInt8 := [3, 60, 27, 17, 2, 209, 162, 0, 16, 42, 180, 0, 184, 27, 3, 84, 132, 1, 1, 167, 255, 239, 3, 60]
abbrev dktX4_roll_0 : List UInt8 := dkwX4_roll_0 ++ dktX4_roll_1
theorem dksX4_roll_0 : cX4_roll.data.toList.drop 0 = dktX4_roll_0 := by decide +kernel
theorem dksX4_roll_1 : cX4_roll.data.toList.drop 24 = dktX4_roll_1 := dk_seg dksX4_roll_0 24 rfl rfl
theorem dksX4_roll_2 : cX4_roll.data.toList.drop 46 = dktX4_roll_2 := dk_seg dksX4_roll_1 22 rfl rfl
theorem dksX4_roll_3 : cX4_roll.data.toList.drop 68 = dktX4_roll_3 := dk_seg dksX4_roll_2 22 rfl rfl
theorem dksX4_roll_4 : cX4_roll.data.toList.drop 90 = dktX4_roll_4 := dk_seg dksX4_roll_3 22 rfl rfl
theorem dksX4_roll_5 : cX4_roll.data.toList.drop 114 = dktX4_roll_5 := dk_seg dksX4_roll_4 24 rfl rfl
theorem dksX4_roll_6 : cX4_roll.data.toList.drop 138 = dktX4_roll_6 := dk_seg dksX4_roll_5 24 rfl rfl
theorem dksX4_roll_7 : cX4_roll.data.toList.drop 160 = dktX4_roll_7 := dk_seg dksX4_roll_6 22 rfl rfl
theorem dksX4_roll_8 : cX4_roll.data.toList.drop 183 = dktX4_roll_8 := dk_seg dksX4_roll_7 23 rfl rfl
theorem dksX4_roll_9 : cX4_roll.data.toList.drop 207 = dktX4_roll_9 := dk_seg dksX4_roll_8 24 rfl rfl
theorem dksX4_roll_10 : cX4_roll.data.toList.drop 230 = dktX4_roll_10 := dk_seg dksX4_roll_9 23 rfl rfl
theorem dksX4_roll_11 : cX4_roll.data.toList.drop 253 = dktX4_roll_11 := dk_seg dksX4_roll_10 23 rfl rfl
theorem dX4_roll_0 : decode cX4_roll 0 = .ok (.iconst 0, 1) := dk_3 (dk_at dksX4_roll_0 0 rfl rfl)
theorem dX4_roll_1 : decode cX4_roll 1 = .ok (.istore_n 1, 1) := dk_60 (dk_at dksX4_roll_0 1 rfl rfl)
theorem dX4_roll_2 : decode cX4_roll 2 = .ok (.iload_n 1, 1) := dk_27 (dk_at dksX4_roll_0 2 rfl rfl)
theorem dX4_roll_3 : decode cX4_roll 3 = .ok (.sipush 721, 3) := dk_17 2 209 (dk_at dksX4_roll_0 3 rfl rfl)
theorem dX4_roll_6 : decode cX4_roll 6 = .ok (.if_icmp .ge 16, 3) := dk_162 0 16 (dk_at dksX4_roll_0 6 rfl rfl)
theorem dX4_roll_9 : decode cX4_roll 9 = .ok (.aload_n 0, 1) := dk_42 (dk_at dksX4_roll_0 9 rfl rfl)
theorem dX4_roll_10 : decode cX4_roll 10 = .ok (.getfield 184, 3) := dk_180 0 184 (dk_at dksX4_roll_0 10 rfl rfl)
theorem dX4_roll_13 : decode cX4_roll 13 = .ok (.iload_n 1, 1) := dk_27 (dk_at dksX4_roll_0 13 rfl rfl)
theorem dX4_roll_14 : decode cX4_roll 14 = .ok (.iconst 0, 1) := dk_3 (dk_at dksX4_roll_0 14 rfl rfl)
theorem dX4_roll_15 : decode cX4_roll 15 = .ok (.bastore, 1) := dk_84 (dk_at dksX4_roll_0 15 rfl rfl)
theorem dX4_roll_16 : decode cX4_roll 16 = .ok (.iinc 1 1, 3) := dk_132 1 1 (dk_at dksX4_roll_0 16 rfl rfl)
theorem dX4_roll_19 : decode cX4_roll 19 = .ok (.goto (-17), 3) := dk_167 255 239 (dk_at dksX4_roll_0 19 rfl rfl)
theorem dX4_roll_22 : decode cX4_roll 22 = .ok (.iconst 0, 1) := dk_3 (dk_at dksX4_roll_0 22 rfl rfl)
theorem dX4_roll_23 : decode cX4_roll 23 = .ok (.istore_n 1, 1) := dk_60 (dk_at dksX4_roll_0 23 rfl rfl)
theorem dX4_roll_24 : decode cX4_roll 24 = .ok (.iload_n 1, 1) := dk_27 (dk_at dksX4_roll_1 0 rfl rfl)
theorem dX4_roll_25 : decode cX4_roll 25 = .ok (.aload_n 0, 1) := dk_42 (dk_at dksX4_roll_1 1 rfl rfl)
theorem dX4_roll_26 : decode cX4_roll 26 = .ok (.getfield 446, 3) := dk_180 1 190 (dk_at dksX4_roll_1 2 rfl rfl)
theorem dX4_roll_29 : decode cX4_roll 29 = .ok (.if_icmp .ge 48, 3) := dk_162 0 48 (dk_at dksX4_roll_1 5 rfl rfl)
theorem dX4_roll_32 : decode cX4_roll 32 = .ok (.aload_n 0, 1) := dk_42 (dk_at dksX4_roll_1 8 rfl rfl)
theorem dX4_roll_33 : decode cX4_roll 33 = .ok (.getfield 139, 3) := dk_180 0 139 (dk_at dksX4_roll_1 9 rfl rfl)
theorem dX4_roll_36 : decode cX4_roll 36 = .ok (.iload_n 1, 1) := dk_27 (dk_at dksX4_roll_1 12 rfl rfl)
theorem dX4_roll_37 : decode cX4_roll 37 = .ok (.iaload, 1) := dk_46 (dk_at dksX4_roll_1 13 rfl rfl)
theorem dX4_roll_38 : decode cX4_roll 38 = .ok (.istore_n 2, 1) := dk_61 (dk_at dksX4_roll_1 14 rfl rfl)
theorem dX4_roll_39 : decode cX4_roll 39 = .ok (.iload_n 2, 1) := dk_28 (dk_at dksX4_roll_1 15 rfl rfl)
theorem dX4_roll_40 : decode cX4_roll 40 = .ok (.aload_n 0, 1) := dk_42 (dk_at dksX4_roll_1 16 rfl rfl)
theorem dX4_roll_41 : decode cX4_roll 41 = .ok (.getfield 142, 3) := dk_180 0 142 (dk_at dksX4_roll_1 17 rfl rfl)
theorem dX4_roll_44 : decode cX4_roll 44 = .ok (.iload_n 1, 1) := dk_27 (dk_at dksX4_roll_1 20 rfl rfl)
theorem dX4_roll_45 : decode cX4_roll 45 = .ok (.iaload, 1) := dk_46 (dk_at dksX4_roll_1 21 rfl rfl)
theorem dX4_roll_46 : decode cX4_roll 46 = .ok (.if_icmp .ge 25, 3) := dk_162 0 25 (dk_at dksX4_roll_2 0 rfl rfl)
theorem dX4_roll_49 : decode cX4_roll 49 = .ok (.aload_n 0, 1) := dk_42 (dk_at dksX4_roll_2 3 rfl rfl)
theorem dX4_roll_50 : decode cX4_roll 50 = .ok (.getfield 145, 3) := dk_180 0 145 (dk_at dksX4_roll_2 4 rfl rfl)
theorem dX4_roll_53 : decode cX4_roll 53 = .ok (.iload_n 1, 1) := dk_27 (dk_at dksX4_roll_2 7 rfl rfl)
theorem dX4_roll_54 : decode cX4_roll 54 = .ok (.iaload, 1) := dk_46 (dk_at dksX4_roll_2 8 rfl rfl)
theorem dX4_roll_55 : decode cX4_roll 55 = .ok (.ifCond .eq 16, 3) := dk_153 0 16 (dk_at dksX4_roll_2 9 rfl rfl)
theorem dX4_roll_58 : decode cX4_roll 58 = .ok (.aload_n 0, 1) := dk_42 (dk_at dksX4_roll_2 12 rfl rfl)
theorem dX4_roll_59 : decode cX4_roll 59 = .ok (.getfield 184, 3) := dk_180 0 184 (dk_at dksX4_roll_2 13 rfl rfl)
theorem dX4_roll_62 : decode cX4_roll 62 = .ok (.iload_n 2, 1) := dk_28 (dk_at dksX4_roll_2 16 rfl rfl)
theorem dX4_roll_63 : decode cX4_roll 63 = .ok (.iconst 1, 1) := dk_4 (dk_at dksX4_roll_2 17 rfl rfl)
theorem dX4_roll_64 : decode cX4_roll 64 = .ok (.bastore, 1) := dk_84 (dk_at dksX4_roll_2 18 rfl rfl)
theorem dX4_roll_65 : decode cX4_roll 65 = .ok (.iinc 2 1, 3) := dk_132 2 1 (dk_at dksX4_roll_2 19 rfl rfl)
theorem dX4_roll_68 : decode cX4_roll 68 = .ok (.goto (-29), 3) := dk_167 255 227 (dk_at dksX4_roll_3 0 rfl rfl)
theorem dX4_roll_71 : decode cX4_roll 71 = .ok (.iinc 1 1, 3) := dk_132 1 1 (dk_at dksX4_roll_3 3 rfl rfl)
theorem dX4_roll_74 : decode cX4_roll 74 = .ok (.goto (-50), 3) := dk_167 255 206 (dk_at dksX4_roll_3 6 rfl rfl)
theorem dX4_roll_77 : decode cX4_roll 77 = .ok (.aload_n 0, 1) := dk_42 (dk_at dksX4_roll_3 9 rfl rfl)
theorem dX4_roll_78 : decode cX4_roll 78 = .ok (.invokevirtual 508, 3) := dk_182 1 252 (dk_at dksX4_roll_3 10 rfl rfl)
theorem dX4_roll_81 : decode cX4_roll 81 = .ok (.iconst 0, 1) := dk_3 (dk_at dksX4_roll_3 13 rfl rfl)
theorem dX4_roll_82 : decode cX4_roll 82 = .ok (.istore_n 1, 1) := dk_60 (dk_at dksX4_roll_3 14 rfl rfl)
theorem dX4_roll_83 : decode cX4_roll 83 = .ok (.iconst 0, 1) := dk_3 (dk_at dksX4_roll_3 15 rfl rfl)
theorem dX4_roll_84 : decode cX4_roll 84 = .ok (.istore_n 2, 1) := dk_61 (dk_at dksX4_roll_3 16 rfl rfl)
theorem dX4_roll_85 : decode cX4_roll 85 = .ok (.iload_n 2, 1) := dk_28 (dk_at dksX4_roll_3 17 rfl rfl)
theorem dX4_roll_86 : decode cX4_roll 86 = .ok (.aload_n 0, 1) := dk_42 (dk_at dksX4_roll_3 18 rfl rfl)
theorem dX4_roll_87 : decode cX4_roll 87 = .ok (.getfield 446, 3) := dk_180 1 190 (dk_at dksX4_roll_3 19 rfl rfl)
theorem dX4_roll_90 : decode cX4_roll 90 = .ok (.if_icmp .ge 166, 3) := dk_162 0 166 (dk_at dksX4_roll_4 0 rfl rfl)
theorem dX4_roll_93 : decode cX4_roll 93 = .ok (.aload_n 0, 1) := dk_42 (dk_at dksX4_roll_4 3 rfl rfl)
theorem dX4_roll_94 : decode cX4_roll 94 = .ok (.getfield 166, 3) := dk_180 0 166 (dk_at dksX4_roll_4 4 rfl rfl)
theorem dX4_roll_97 : decode cX4_roll 97 = .ok (.iload_n 2, 1) := dk_28 (dk_at dksX4_roll_4 7 rfl rfl)
theorem dX4_roll_98 : decode cX4_roll 98 = .ok (.iaload, 1) := dk_46 (dk_at dksX4_roll_4 8 rfl rfl)
theorem dX4_roll_99 : decode cX4_roll 99 = .ok (.istore_n 3, 1) := dk_62 (dk_at dksX4_roll_4 9 rfl rfl)
theorem dX4_roll_100 : decode cX4_roll 100 = .ok (.aload_n 0, 1) := dk_42 (dk_at dksX4_roll_4 10 rfl rfl)
theorem dX4_roll_101 : decode cX4_roll 101 = .ok (.getfield 187, 3) := dk_180 0 187 (dk_at dksX4_roll_4 11 rfl rfl)
theorem dX4_roll_104 : decode cX4_roll 104 = .ok (.iload_n 3, 1) := dk_29 (dk_at dksX4_roll_4 14 rfl rfl)
theorem dX4_roll_105 : decode cX4_roll 105 = .ok (.iconst 0, 1) := dk_3 (dk_at dksX4_roll_4 15 rfl rfl)
theorem dX4_roll_106 : decode cX4_roll 106 = .ok (.bastore, 1) := dk_84 (dk_at dksX4_roll_4 16 rfl rfl)
theorem dX4_roll_107 : decode cX4_roll 107 = .ok (.aload_n 0, 1) := dk_42 (dk_at dksX4_roll_4 17 rfl rfl)
theorem dX4_roll_108 : decode cX4_roll 108 = .ok (.getfield 145, 3) := dk_180 0 145 (dk_at dksX4_roll_4 18 rfl rfl)
theorem dX4_roll_111 : decode cX4_roll 111 = .ok (.iload_n 3, 1) := dk_29 (dk_at dksX4_roll_4 21 rfl rfl)
theorem dX4_roll_112 : decode cX4_roll 112 = .ok (.iaload, 1) := dk_46 (dk_at dksX4_roll_4 22 rfl rfl)
theorem dX4_roll_113 : decode cX4_roll 113 = .ok (.iconst 2, 1) := dk_5 (dk_at dksX4_roll_4 23 rfl rfl)
theorem dX4_roll_114 : decode cX4_roll 114 = .ok (.if_icmp .ge 6, 3) := dk_162 0 6 (dk_at dksX4_roll_5 0 rfl rfl)
theorem dX4_roll_117 : decode cX4_roll 117 = .ok (.goto 133, 3) := dk_167 0 133 (dk_at dksX4_roll_5 3 rfl rfl)
theorem dX4_roll_120 : decode cX4_roll 120 = .ok (.iconst 1, 1) := dk_4 (dk_at dksX4_roll_5 6 rfl rfl)
theorem dX4_roll_121 : decode cX4_roll 121 = .ok (.istore 4, 2) := dk_54 4 (dk_at dksX4_roll_5 7 rfl rfl)
theorem dX4_roll_123 : decode cX4_roll 123 = .ok (.iload_n 1, 1) := dk_27 (dk_at dksX4_roll_5 9 rfl rfl)
theorem dX4_roll_124 : decode cX4_roll 124 = .ok (.aload_n 0, 1) := dk_42 (dk_at dksX4_roll_5 10 rfl rfl)
theorem dX4_roll_125 : decode cX4_roll 125 = .ok (.getfield 139, 3) := dk_180 0 139 (dk_at dksX4_roll_5 11 rfl rfl)
theorem dX4_roll_128 : decode cX4_roll 128 = .ok (.iload_n 3, 1) := dk_29 (dk_at dksX4_roll_5 14 rfl rfl)
theorem dX4_roll_129 : decode cX4_roll 129 = .ok (.iaload, 1) := dk_46 (dk_at dksX4_roll_5 15 rfl rfl)
theorem dX4_roll_130 : decode cX4_roll 130 = .ok (.if_icmp .ge 29, 3) := dk_162 0 29 (dk_at dksX4_roll_5 16 rfl rfl)
theorem dX4_roll_133 : decode cX4_roll 133 = .ok (.aload_n 0, 1) := dk_42 (dk_at dksX4_roll_5 19 rfl rfl)
theorem dX4_roll_134 : decode cX4_roll 134 = .ok (.getfield 184, 3) := dk_180 0 184 (dk_at dksX4_roll_5 20 rfl rfl)
theorem dX4_roll_137 : decode cX4_roll 137 = .ok (.iload_n 1, 1) := dk_27 (dk_at dksX4_roll_5 23 rfl rfl)
theorem dX4_roll_138 : decode cX4_roll 138 = .ok (.baload, 1) := dk_51 (dk_at dksX4_roll_6 0 rfl rfl)
theorem dX4_roll_139 : decode cX4_roll 139 = .ok (.ifCond .ne 14, 3) := dk_154 0 14 (dk_at dksX4_roll_6 1 rfl rfl)
theorem dX4_roll_142 : decode cX4_roll 142 = .ok (.iload 4, 2) := dk_21 4 (dk_at dksX4_roll_6 4 rfl rfl)
theorem dX4_roll_144 : decode cX4_roll 144 = .ok (.ifCond .eq 9, 3) := dk_153 0 9 (dk_at dksX4_roll_6 6 rfl rfl)
theorem dX4_roll_147 : decode cX4_roll 147 = .ok (.aload_n 0, 1) := dk_42 (dk_at dksX4_roll_6 9 rfl rfl)
theorem dX4_roll_148 : decode cX4_roll 148 = .ok (.invokevirtual 514, 3) := dk_182 2 2 (dk_at dksX4_roll_6 10 rfl rfl)
theorem dX4_roll_151 : decode cX4_roll 151 = .ok (.istore 4, 2) := dk_54 4 (dk_at dksX4_roll_6 13 rfl rfl)
theorem dX4_roll_153 : decode cX4_roll 153 = .ok (.iinc 1 1, 3) := dk_132 1 1 (dk_at dksX4_roll_6 15 rfl rfl)
theorem dX4_roll_156 : decode cX4_roll 156 = .ok (.goto (-33), 3) := dk_167 255 223 (dk_at dksX4_roll_6 18 rfl rfl)
theorem dX4_roll_159 : decode cX4_roll 159 = .ok (.aload_n 0, 1) := dk_42 (dk_at dksX4_roll_6 21 rfl rfl)
theorem dX4_roll_160 : decode cX4_roll 160 = .ok (.getfield 17, 3) := dk_180 0 17 (dk_at dksX4_roll_7 0 rfl rfl)
theorem dX4_roll_163 : decode cX4_roll 163 = .ok (.aload_n 0, 1) := dk_42 (dk_at dksX4_roll_7 3 rfl rfl)
theorem dX4_roll_164 : decode cX4_roll 164 = .ok (.getfield 148, 3) := dk_180 0 148 (dk_at dksX4_roll_7 4 rfl rfl)
theorem dX4_roll_167 : decode cX4_roll 167 = .ok (.iload_n 3, 1) := dk_29 (dk_at dksX4_roll_7 7 rfl rfl)
theorem dX4_roll_168 : decode cX4_roll 168 = .ok (.iaload, 1) := dk_46 (dk_at dksX4_roll_7 8 rfl rfl)
theorem dX4_roll_169 : decode cX4_roll 169 = .ok (.iaload, 1) := dk_46 (dk_at dksX4_roll_7 9 rfl rfl)
theorem dX4_roll_170 : decode cX4_roll 170 = .ok (.istore 5, 2) := dk_54 5 (dk_at dksX4_roll_7 10 rfl rfl)
theorem dX4_roll_172 : decode cX4_roll 172 = .ok (.aload_n 0, 1) := dk_42 (dk_at dksX4_roll_7 12 rfl rfl)
theorem dX4_roll_173 : decode cX4_roll 173 = .ok (.getfield 187, 3) := dk_180 0 187 (dk_at dksX4_roll_7 13 rfl rfl)
theorem dX4_roll_176 : decode cX4_roll 176 = .ok (.iload_n 3, 1) := dk_29 (dk_at dksX4_roll_7 16 rfl rfl)
theorem dX4_roll_177 : decode cX4_roll 177 = .ok (.aload_n 0, 1) := dk_42 (dk_at dksX4_roll_7 17 rfl rfl)
theorem dX4_roll_178 : decode cX4_roll 178 = .ok (.iload 5, 2) := dk_21 5 (dk_at dksX4_roll_7 18 rfl rfl)
theorem dX4_roll_180 : decode cX4_roll 180 = .ok (.invokevirtual 511, 3) := dk_182 1 255 (dk_at dksX4_roll_7 20 rfl rfl)
theorem dX4_roll_183 : decode cX4_roll 183 = .ok (.ifCond .ne 7, 3) := dk_154 0 7 (dk_at dksX4_roll_8 0 rfl rfl)
theorem dX4_roll_186 : decode cX4_roll 186 = .ok (.iconst 1, 1) := dk_4 (dk_at dksX4_roll_8 3 rfl rfl)
theorem dX4_roll_187 : decode cX4_roll 187 = .ok (.goto 4, 3) := dk_167 0 4 (dk_at dksX4_roll_8 4 rfl rfl)
theorem dX4_roll_190 : decode cX4_roll 190 = .ok (.iconst 0, 1) := dk_3 (dk_at dksX4_roll_8 7 rfl rfl)
theorem dX4_roll_191 : decode cX4_roll 191 = .ok (.bastore, 1) := dk_84 (dk_at dksX4_roll_8 8 rfl rfl)
theorem dX4_roll_192 : decode cX4_roll 192 = .ok (.iconst 0, 1) := dk_3 (dk_at dksX4_roll_8 9 rfl rfl)
theorem dX4_roll_193 : decode cX4_roll 193 = .ok (.istore 6, 2) := dk_54 6 (dk_at dksX4_roll_8 10 rfl rfl)
theorem dX4_roll_195 : decode cX4_roll 195 = .ok (.iload 6, 2) := dk_21 6 (dk_at dksX4_roll_8 12 rfl rfl)
theorem dX4_roll_197 : decode cX4_roll 197 = .ok (.sipush 625, 3) := dk_17 2 113 (dk_at dksX4_roll_8 14 rfl rfl)
theorem dX4_roll_200 : decode cX4_roll 200 = .ok (.if_icmp .ge 50, 3) := dk_162 0 50 (dk_at dksX4_roll_8 17 rfl rfl)
theorem dX4_roll_203 : decode cX4_roll 203 = .ok (.aload_n 0, 1) := dk_42 (dk_at dksX4_roll_8 20 rfl rfl)
theorem dX4_roll_204 : decode cX4_roll 204 = .ok (.getfield 187, 3) := dk_180 0 187 (dk_at dksX4_roll_8 21 rfl rfl)
theorem dX4_roll_207 : decode cX4_roll 207 = .ok (.iload_n 3, 1) := dk_29 (dk_at dksX4_roll_9 0 rfl rfl)
theorem dX4_roll_208 : decode cX4_roll 208 = .ok (.baload, 1) := dk_51 (dk_at dksX4_roll_9 1 rfl rfl)
theorem dX4_roll_209 : decode cX4_roll 209 = .ok (.ifCond .ne 41, 3) := dk_154 0 41 (dk_at dksX4_roll_9 2 rfl rfl)
theorem dX4_roll_212 : decode cX4_roll 212 = .ok (.aload_n 0, 1) := dk_42 (dk_at dksX4_roll_9 5 rfl rfl)
theorem dX4_roll_213 : decode cX4_roll 213 = .ok (.getfield 178, 3) := dk_180 0 178 (dk_at dksX4_roll_9 6 rfl rfl)
theorem dX4_roll_216 : decode cX4_roll 216 = .ok (.iload 6, 2) := dk_21 6 (dk_at dksX4_roll_9 9 rfl rfl)
theorem dX4_roll_218 : decode cX4_roll 218 = .ok (.aload_n 0, 1) := dk_42 (dk_at dksX4_roll_9 11 rfl rfl)
theorem dX4_roll_219 : decode cX4_roll 219 = .ok (.getfield 178, 3) := dk_180 0 178 (dk_at dksX4_roll_9 12 rfl rfl)
theorem dX4_roll_222 : decode cX4_roll 222 = .ok (.iload 6, 2) := dk_21 6 (dk_at dksX4_roll_9 15 rfl rfl)
theorem dX4_roll_224 : decode cX4_roll 224 = .ok (.baload, 1) := dk_51 (dk_at dksX4_roll_9 17 rfl rfl)
theorem dX4_roll_225 : decode cX4_roll 225 = .ok (.ifCond .eq 17, 3) := dk_153 0 17 (dk_at dksX4_roll_9 18 rfl rfl)
theorem dX4_roll_228 : decode cX4_roll 228 = .ok (.iload 6, 2) := dk_21 6 (dk_at dksX4_roll_9 21 rfl rfl)
theorem dX4_roll_230 : decode cX4_roll 230 = .ok (.iload 5, 2) := dk_21 5 (dk_at dksX4_roll_10 0 rfl rfl)
theorem dX4_roll_232 : decode cX4_roll 232 = .ok (.invokestatic 499, 3) := dk_184 1 243 (dk_at dksX4_roll_10 2 rfl rfl)
theorem dX4_roll_235 : decode cX4_roll 235 = .ok (.ifCond .ne 7, 3) := dk_154 0 7 (dk_at dksX4_roll_10 5 rfl rfl)
theorem dX4_roll_238 : decode cX4_roll 238 = .ok (.iconst 1, 1) := dk_4 (dk_at dksX4_roll_10 8 rfl rfl)
theorem dX4_roll_239 : decode cX4_roll 239 = .ok (.goto 4, 3) := dk_167 0 4 (dk_at dksX4_roll_10 9 rfl rfl)
theorem dX4_roll_242 : decode cX4_roll 242 = .ok (.iconst 0, 1) := dk_3 (dk_at dksX4_roll_10 12 rfl rfl)
theorem dX4_roll_243 : decode cX4_roll 243 = .ok (.bastore, 1) := dk_84 (dk_at dksX4_roll_10 13 rfl rfl)
theorem dX4_roll_244 : decode cX4_roll 244 = .ok (.iinc 6 1, 3) := dk_132 6 1 (dk_at dksX4_roll_10 14 rfl rfl)
theorem dX4_roll_247 : decode cX4_roll 247 = .ok (.goto (-52), 3) := dk_167 255 204 (dk_at dksX4_roll_10 17 rfl rfl)
theorem dX4_roll_250 : decode cX4_roll 250 = .ok (.iinc 2 1, 3) := dk_132 2 1 (dk_at dksX4_roll_10 20 rfl rfl)
theorem dX4_roll_253 : decode cX4_roll 253 = .ok (.goto (-168), 3) := dk_167 255 88 (dk_at dksX4_roll_11 0 rfl rfl)
theorem dX4_roll_256 : decode cX4_roll 256 = .ok (.return_, 1) := dk_177 (dk_at dksX4_roll_11 3 rfl rfl)
abbrev cX4_isCallWrong : ByteArray := prog_18_method_89_code
def yX4_isCallWrong : MethodName := ⟨RX4, "isCallWrong", "(II)Z"⟩
def dkwX4_isCallWrong_4 : List UInt8 := [182, 2, 33, 172, 42, 28, 182, 2, 36, 172]
abbrev dktX4_isCallWrong_4 : List UInt8 := dkwX4_isCallWrong_4 ++ []
def dkwX4_isCallWrong_3 : List UInt8 := [153, 0, 7, 4, 167, 0, 4, 3, 172, 42, 28, 182, 2, 27, 172, 42, 28, 182, 2, 30, 172, 42, 28]
abbrev dktX4_isCallWrong_3 : List UInt8 := dkwX4_isCallWrong_3 ++ dktX4_isCallWrong_4
def dkwX4_isCallWrong_2 : List UInt8 := [42, 28, 182, 2, 24, 172, 42, 180, 0, 145, 28, 46, 5, 161, 0, 16, 42, 180, 0, 187, 28, 51]
abbrev dktX4_isCallWrong_2 : List UInt8 := dkwX4_isCallWrong_2 ++ dktX4_isCallWrong_3
def dkwX4_isCallWrong_1 : List UInt8 := [170, 0, 0, 0, 0, 0, 84, 0, 0, 0, 1, 0, 0, 0, 5, 0, 0, 0, 35, 0, 0, 0, 41, 0, 0, 0, 66, 0, 0, 0, 72, 0, 0, 0, 78]
abbrev dktX4_isCallWrong_1 : List UInt8 := dkwX4_isCallWrong_1 ++ dktX4_isCallWrong_2
def dkwX4_isCallWrong_0 : List UInt8 := [27]
abbrev dktX4_isCallWrong_0 : List UInt8 := dkwX4_isCallWrong_0 ++ dktX4_isCallWrong_1
theorem dksX4_isCallWrong_0 : cX4_isCallWrong.data.toList.drop 0 = dktX4_isCallWrong_0 := by decide +kernel
theorem dksX4_isCallWrong_1 : cX4_isCallWrong.data.toList.drop 1 = dktX4_isCallWrong_1 := dk_seg dksX4_isCallWrong_0 1 rfl rfl
theorem dksX4_isCallWrong_2 : cX4_isCallWrong.data.toList.drop 36 = dktX4_isCallWrong_2 := dk_seg dksX4_isCallWrong_1 35 rfl rfl
theorem dksX4_isCallWrong_3 : cX4_isCallWrong.data.toList.drop 58 = dktX4_isCallWrong_3 := dk_seg dksX4_isCallWrong_2 22 rfl rfl
theorem dksX4_isCallWrong_4 : cX4_isCallWrong.data.toList.drop 81 = dktX4_isCallWrong_4 := dk_seg dksX4_isCallWrong_3 23 rfl rfl
theorem dX4_isCallWrong_0 : decode cX4_isCallWrong 0 = .ok (.iload_n 1, 1) := dk_27 (dk_at dksX4_isCallWrong_0 0 rfl rfl)
theorem dX4_isCallWrong_1 : decode cX4_isCallWrong 1 = .ok (.tableswitch 84 1 5 #[35, 41, 66, 72, 78], 35) := by decide +kernel
theorem dX4_isCallWrong_36 : decode cX4_isCallWrong 36 = .ok (.aload_n 0, 1) := dk_42 (dk_at dksX4_isCallWrong_2 0 rfl rfl)
theorem dX4_isCallWrong_37 : decode cX4_isCallWrong 37 = .ok (.iload_n 2, 1) := dk_28 (dk_at dksX4_isCallWrong_2 1 rfl rfl)
theorem dX4_isCallWrong_38 : decode cX4_isCallWrong 38 = .ok (.invokevirtual 536, 3) := dk_182 2 24 (dk_at dksX4_isCallWrong_2 2 rfl rfl)
theorem dX4_isCallWrong_41 : decode cX4_isCallWrong 41 = .ok (.ireturn, 1) := dk_172 (dk_at dksX4_isCallWrong_2 5 rfl rfl)
theorem dX4_isCallWrong_42 : decode cX4_isCallWrong 42 = .ok (.aload_n 0, 1) := dk_42 (dk_at dksX4_isCallWrong_2 6 rfl rfl)
theorem dX4_isCallWrong_43 : decode cX4_isCallWrong 43 = .ok (.getfield 145, 3) := dk_180 0 145 (dk_at dksX4_isCallWrong_2 7 rfl rfl)
theorem dX4_isCallWrong_46 : decode cX4_isCallWrong 46 = .ok (.iload_n 2, 1) := dk_28 (dk_at dksX4_isCallWrong_2 10 rfl rfl)
theorem dX4_isCallWrong_47 : decode cX4_isCallWrong 47 = .ok (.iaload, 1) := dk_46 (dk_at dksX4_isCallWrong_2 11 rfl rfl)
theorem dX4_isCallWrong_48 : decode cX4_isCallWrong 48 = .ok (.iconst 2, 1) := dk_5 (dk_at dksX4_isCallWrong_2 12 rfl rfl)
theorem dX4_isCallWrong_49 : decode cX4_isCallWrong 49 = .ok (.if_icmp .lt 16, 3) := dk_161 0 16 (dk_at dksX4_isCallWrong_2 13 rfl rfl)
theorem dX4_isCallWrong_52 : decode cX4_isCallWrong 52 = .ok (.aload_n 0, 1) := dk_42 (dk_at dksX4_isCallWrong_2 16 rfl rfl)
theorem dX4_isCallWrong_53 : decode cX4_isCallWrong 53 = .ok (.getfield 187, 3) := dk_180 0 187 (dk_at dksX4_isCallWrong_2 17 rfl rfl)
theorem dX4_isCallWrong_56 : decode cX4_isCallWrong 56 = .ok (.iload_n 2, 1) := dk_28 (dk_at dksX4_isCallWrong_2 20 rfl rfl)
theorem dX4_isCallWrong_57 : decode cX4_isCallWrong 57 = .ok (.baload, 1) := dk_51 (dk_at dksX4_isCallWrong_2 21 rfl rfl)
theorem dX4_isCallWrong_58 : decode cX4_isCallWrong 58 = .ok (.ifCond .eq 7, 3) := dk_153 0 7 (dk_at dksX4_isCallWrong_3 0 rfl rfl)
theorem dX4_isCallWrong_61 : decode cX4_isCallWrong 61 = .ok (.iconst 1, 1) := dk_4 (dk_at dksX4_isCallWrong_3 3 rfl rfl)
theorem dX4_isCallWrong_62 : decode cX4_isCallWrong 62 = .ok (.goto 4, 3) := dk_167 0 4 (dk_at dksX4_isCallWrong_3 4 rfl rfl)
theorem dX4_isCallWrong_65 : decode cX4_isCallWrong 65 = .ok (.iconst 0, 1) := dk_3 (dk_at dksX4_isCallWrong_3 7 rfl rfl)
theorem dX4_isCallWrong_66 : decode cX4_isCallWrong 66 = .ok (.ireturn, 1) := dk_172 (dk_at dksX4_isCallWrong_3 8 rfl rfl)
theorem dX4_isCallWrong_67 : decode cX4_isCallWrong 67 = .ok (.aload_n 0, 1) := dk_42 (dk_at dksX4_isCallWrong_3 9 rfl rfl)
theorem dX4_isCallWrong_68 : decode cX4_isCallWrong 68 = .ok (.iload_n 2, 1) := dk_28 (dk_at dksX4_isCallWrong_3 10 rfl rfl)
theorem dX4_isCallWrong_69 : decode cX4_isCallWrong 69 = .ok (.invokevirtual 539, 3) := dk_182 2 27 (dk_at dksX4_isCallWrong_3 11 rfl rfl)
theorem dX4_isCallWrong_72 : decode cX4_isCallWrong 72 = .ok (.ireturn, 1) := dk_172 (dk_at dksX4_isCallWrong_3 14 rfl rfl)
theorem dX4_isCallWrong_73 : decode cX4_isCallWrong 73 = .ok (.aload_n 0, 1) := dk_42 (dk_at dksX4_isCallWrong_3 15 rfl rfl)
theorem dX4_isCallWrong_74 : decode cX4_isCallWrong 74 = .ok (.iload_n 2, 1) := dk_28 (dk_at dksX4_isCallWrong_3 16 rfl rfl)
theorem dX4_isCallWrong_75 : decode cX4_isCallWrong 75 = .ok (.invokevirtual 542, 3) := dk_182 2 30 (dk_at dksX4_isCallWrong_3 17 rfl rfl)
theorem dX4_isCallWrong_78 : decode cX4_isCallWrong 78 = .ok (.ireturn, 1) := dk_172 (dk_at dksX4_isCallWrong_3 20 rfl rfl)
theorem dX4_isCallWrong_79 : decode cX4_isCallWrong 79 = .ok (.aload_n 0, 1) := dk_42 (dk_at dksX4_isCallWrong_3 21 rfl rfl)
theorem dX4_isCallWrong_80 : decode cX4_isCallWrong 80 = .ok (.iload_n 2, 1) := dk_28 (dk_at dksX4_isCallWrong_3 22 rfl rfl)
theorem dX4_isCallWrong_81 : decode cX4_isCallWrong 81 = .ok (.invokevirtual 545, 3) := dk_182 2 33 (dk_at dksX4_isCallWrong_4 0 rfl rfl)
theorem dX4_isCallWrong_84 : decode cX4_isCallWrong 84 = .ok (.ireturn, 1) := dk_172 (dk_at dksX4_isCallWrong_4 3 rfl rfl)
theorem dX4_isCallWrong_85 : decode cX4_isCallWrong 85 = .ok (.aload_n 0, 1) := dk_42 (dk_at dksX4_isCallWrong_4 4 rfl rfl)
theorem dX4_isCallWrong_86 : decode cX4_isCallWrong 86 = .ok (.iload_n 2, 1) := dk_28 (dk_at dksX4_isCallWrong_4 5 rfl rfl)
theorem dX4_isCallWrong_87 : decode cX4_isCallWrong 87 = .ok (.invokevirtual 548, 3) := dk_182 2 36 (dk_at dksX4_isCallWrong_4 6 rfl rfl)
theorem dX4_isCallWrong_90 : decode cX4_isCallWrong 90 = .ok (.ireturn, 1) := dk_172 (dk_at dksX4_isCallWrong_4 9 rfl rfl)
abbrev cX4_isFullStage : ByteArray := prog_18_method_80_code
def yX4_isFullStage : MethodName := ⟨RX4, "isFullStage", "(I)Z"⟩
def dkwX4_isFullStage_5 : List UInt8 := [167, 0, 4, 3, 172]
abbrev dktX4_isFullStage_5 : List UInt8 := dkwX4_isFullStage_5 ++ []
def dkwX4_isFullStage_4 : List UInt8 := [157, 0, 22, 28, 42, 180, 0, 145, 27, 46, 4, 160, 0, 7, 4, 167, 0, 4, 3, 164, 0, 7, 4]
abbrev dktX4_isFullStage_4 : List UInt8 := dkwX4_isFullStage_4 ++ dktX4_isFullStage_5
def dkwX4_isFullStage_3 : List UInt8 := [180, 0, 145, 21, 4, 46, 4, 160, 0, 7, 3, 167, 0, 4, 4, 96, 62, 132, 4, 1, 167, 255, 183, 29]
abbrev dktX4_isFullStage_3 : List UInt8 := dkwX4_isFullStage_3 ++ dktX4_isFullStage_4
def dkwX4_isFullStage_2 : List UInt8 := [167, 0, 41, 28, 42, 180, 0, 145, 21, 4, 46, 4, 160, 0, 7, 4, 167, 0, 4, 3, 96, 61, 29, 42]
abbrev dktX4_isFullStage_2 : List UInt8 := dkwX4_isFullStage_2 ++ dktX4_isFullStage_3
def dkwX4_isFullStage_1 : List UInt8 := [162, 0, 70, 42, 180, 0, 145, 21, 4, 46, 153, 0, 54, 42, 21, 4, 27, 182, 2, 5, 154, 0, 6]
abbrev dktX4_isFullStage_1 : List UInt8 := dkwX4_isFullStage_1 ++ dktX4_isFullStage_2
def dkwX4_isFullStage_0 : List UInt8 := [42, 180, 0, 145, 27, 46, 154, 0, 5, 3, 172, 3, 61, 3, 62, 3, 54, 4, 21, 4, 42, 180, 1, 190]
abbrev dktX4_isFullStage_0 : List UInt8 := dkwX4_isFullStage_0 ++ dktX4_isFullStage_1
theorem dksX4_isFullStage_0 : cX4_isFullStage.data.toList.drop 0 = dktX4_isFullStage_0 := by decide +kernel
theorem dksX4_isFullStage_1 : cX4_isFullStage.data.toList.drop 24 = dktX4_isFullStage_1 := dk_seg dksX4_isFullStage_0 24 rfl rfl
theorem dksX4_isFullStage_2 : cX4_isFullStage.data.toList.drop 47 = dktX4_isFullStage_2 := dk_seg dksX4_isFullStage_1 23 rfl rfl
theorem dksX4_isFullStage_3 : cX4_isFullStage.data.toList.drop 71 = dktX4_isFullStage_3 := dk_seg dksX4_isFullStage_2 24 rfl rfl
theorem dksX4_isFullStage_4 : cX4_isFullStage.data.toList.drop 95 = dktX4_isFullStage_4 := dk_seg dksX4_isFullStage_3 24 rfl rfl
theorem dksX4_isFullStage_5 : cX4_isFullStage.data.toList.drop 118 = dktX4_isFullStage_5 := dk_seg dksX4_isFullStage_4 23 rfl rfl
theorem dX4_isFullStage_0 : decode cX4_isFullStage 0 = .ok (.aload_n 0, 1) := dk_42 (dk_at dksX4_isFullStage_0 0 rfl rfl)
theorem dX4_isFullStage_1 : decode cX4_isFullStage 1 = .ok (.getfield 145, 3) := dk_180 0 145 (dk_at dksX4_isFullStage_0 1 rfl rfl)
theorem dX4_isFullStage_4 : decode cX4_isFullStage 4 = .ok (.iload_n 1, 1) := dk_27 (dk_at dksX4_isFullStage_0 4 rfl rfl)
theorem dX4_isFullStage_5 : decode cX4_isFullStage 5 = .ok (.iaload, 1) := dk_46 (dk_at dksX4_isFullStage_0 5 rfl rfl)
theorem dX4_isFullStage_6 : decode cX4_isFullStage 6 = .ok (.ifCond .ne 5, 3) := dk_154 0 5 (dk_at dksX4_isFullStage_0 6 rfl rfl)
theorem dX4_isFullStage_9 : decode cX4_isFullStage 9 = .ok (.iconst 0, 1) := dk_3 (dk_at dksX4_isFullStage_0 9 rfl rfl)
theorem dX4_isFullStage_10 : decode cX4_isFullStage 10 = .ok (.ireturn, 1) := dk_172 (dk_at dksX4_isFullStage_0 10 rfl rfl)
theorem dX4_isFullStage_11 : decode cX4_isFullStage 11 = .ok (.iconst 0, 1) := dk_3 (dk_at dksX4_isFullStage_0 11 rfl rfl)
theorem dX4_isFullStage_12 : decode cX4_isFullStage 12 = .ok (.istore_n 2, 1) := dk_61 (dk_at dksX4_isFullStage_0 12 rfl rfl)
theorem dX4_isFullStage_13 : decode cX4_isFullStage 13 = .ok (.iconst 0, 1) := dk_3 (dk_at dksX4_isFullStage_0 13 rfl rfl)
theorem dX4_isFullStage_14 : decode cX4_isFullStage 14 = .ok (.istore_n 3, 1) := dk_62 (dk_at dksX4_isFullStage_0 14 rfl rfl)
theorem dX4_isFullStage_15 : decode cX4_isFullStage 15 = .ok (.iconst 0, 1) := dk_3 (dk_at dksX4_isFullStage_0 15 rfl rfl)
theorem dX4_isFullStage_16 : decode cX4_isFullStage 16 = .ok (.istore 4, 2) := dk_54 4 (dk_at dksX4_isFullStage_0 16 rfl rfl)
theorem dX4_isFullStage_18 : decode cX4_isFullStage 18 = .ok (.iload 4, 2) := dk_21 4 (dk_at dksX4_isFullStage_0 18 rfl rfl)
theorem dX4_isFullStage_20 : decode cX4_isFullStage 20 = .ok (.aload_n 0, 1) := dk_42 (dk_at dksX4_isFullStage_0 20 rfl rfl)
theorem dX4_isFullStage_21 : decode cX4_isFullStage 21 = .ok (.getfield 446, 3) := dk_180 1 190 (dk_at dksX4_isFullStage_0 21 rfl rfl)
theorem dX4_isFullStage_24 : decode cX4_isFullStage 24 = .ok (.if_icmp .ge 70, 3) := dk_162 0 70 (dk_at dksX4_isFullStage_1 0 rfl rfl)
theorem dX4_isFullStage_27 : decode cX4_isFullStage 27 = .ok (.aload_n 0, 1) := dk_42 (dk_at dksX4_isFullStage_1 3 rfl rfl)
theorem dX4_isFullStage_28 : decode cX4_isFullStage 28 = .ok (.getfield 145, 3) := dk_180 0 145 (dk_at dksX4_isFullStage_1 4 rfl rfl)
theorem dX4_isFullStage_31 : decode cX4_isFullStage 31 = .ok (.iload 4, 2) := dk_21 4 (dk_at dksX4_isFullStage_1 7 rfl rfl)
theorem dX4_isFullStage_33 : decode cX4_isFullStage 33 = .ok (.iaload, 1) := dk_46 (dk_at dksX4_isFullStage_1 9 rfl rfl)
theorem dX4_isFullStage_34 : decode cX4_isFullStage 34 = .ok (.ifCond .eq 54, 3) := dk_153 0 54 (dk_at dksX4_isFullStage_1 10 rfl rfl)
theorem dX4_isFullStage_37 : decode cX4_isFullStage 37 = .ok (.aload_n 0, 1) := dk_42 (dk_at dksX4_isFullStage_1 13 rfl rfl)
theorem dX4_isFullStage_38 : decode cX4_isFullStage 38 = .ok (.iload 4, 2) := dk_21 4 (dk_at dksX4_isFullStage_1 14 rfl rfl)
theorem dX4_isFullStage_40 : decode cX4_isFullStage 40 = .ok (.iload_n 1, 1) := dk_27 (dk_at dksX4_isFullStage_1 16 rfl rfl)
theorem dX4_isFullStage_41 : decode cX4_isFullStage 41 = .ok (.invokevirtual 517, 3) := dk_182 2 5 (dk_at dksX4_isFullStage_1 17 rfl rfl)
theorem dX4_isFullStage_44 : decode cX4_isFullStage 44 = .ok (.ifCond .ne 6, 3) := dk_154 0 6 (dk_at dksX4_isFullStage_1 20 rfl rfl)
theorem dX4_isFullStage_47 : decode cX4_isFullStage 47 = .ok (.goto 41, 3) := dk_167 0 41 (dk_at dksX4_isFullStage_2 0 rfl rfl)
theorem dX4_isFullStage_50 : decode cX4_isFullStage 50 = .ok (.iload_n 2, 1) := dk_28 (dk_at dksX4_isFullStage_2 3 rfl rfl)
theorem dX4_isFullStage_51 : decode cX4_isFullStage 51 = .ok (.aload_n 0, 1) := dk_42 (dk_at dksX4_isFullStage_2 4 rfl rfl)
theorem dX4_isFullStage_52 : decode cX4_isFullStage 52 = .ok (.getfield 145, 3) := dk_180 0 145 (dk_at dksX4_isFullStage_2 5 rfl rfl)
theorem dX4_isFullStage_55 : decode cX4_isFullStage 55 = .ok (.iload 4, 2) := dk_21 4 (dk_at dksX4_isFullStage_2 8 rfl rfl)
theorem dX4_isFullStage_57 : decode cX4_isFullStage 57 = .ok (.iaload, 1) := dk_46 (dk_at dksX4_isFullStage_2 10 rfl rfl)
theorem dX4_isFullStage_58 : decode cX4_isFullStage 58 = .ok (.iconst 1, 1) := dk_4 (dk_at dksX4_isFullStage_2 11 rfl rfl)
theorem dX4_isFullStage_59 : decode cX4_isFullStage 59 = .ok (.if_icmp .ne 7, 3) := dk_160 0 7 (dk_at dksX4_isFullStage_2 12 rfl rfl)
theorem dX4_isFullStage_62 : decode cX4_isFullStage 62 = .ok (.iconst 1, 1) := dk_4 (dk_at dksX4_isFullStage_2 15 rfl rfl)
theorem dX4_isFullStage_63 : decode cX4_isFullStage 63 = .ok (.goto 4, 3) := dk_167 0 4 (dk_at dksX4_isFullStage_2 16 rfl rfl)
theorem dX4_isFullStage_66 : decode cX4_isFullStage 66 = .ok (.iconst 0, 1) := dk_3 (dk_at dksX4_isFullStage_2 19 rfl rfl)
theorem dX4_isFullStage_67 : decode cX4_isFullStage 67 = .ok (.iadd, 1) := dk_96 (dk_at dksX4_isFullStage_2 20 rfl rfl)
theorem dX4_isFullStage_68 : decode cX4_isFullStage 68 = .ok (.istore_n 2, 1) := dk_61 (dk_at dksX4_isFullStage_2 21 rfl rfl)
theorem dX4_isFullStage_69 : decode cX4_isFullStage 69 = .ok (.iload_n 3, 1) := dk_29 (dk_at dksX4_isFullStage_2 22 rfl rfl)
theorem dX4_isFullStage_70 : decode cX4_isFullStage 70 = .ok (.aload_n 0, 1) := dk_42 (dk_at dksX4_isFullStage_2 23 rfl rfl)
theorem dX4_isFullStage_71 : decode cX4_isFullStage 71 = .ok (.getfield 145, 3) := dk_180 0 145 (dk_at dksX4_isFullStage_3 0 rfl rfl)
theorem dX4_isFullStage_74 : decode cX4_isFullStage 74 = .ok (.iload 4, 2) := dk_21 4 (dk_at dksX4_isFullStage_3 3 rfl rfl)
theorem dX4_isFullStage_76 : decode cX4_isFullStage 76 = .ok (.iaload, 1) := dk_46 (dk_at dksX4_isFullStage_3 5 rfl rfl)
theorem dX4_isFullStage_77 : decode cX4_isFullStage 77 = .ok (.iconst 1, 1) := dk_4 (dk_at dksX4_isFullStage_3 6 rfl rfl)
theorem dX4_isFullStage_78 : decode cX4_isFullStage 78 = .ok (.if_icmp .ne 7, 3) := dk_160 0 7 (dk_at dksX4_isFullStage_3 7 rfl rfl)
theorem dX4_isFullStage_81 : decode cX4_isFullStage 81 = .ok (.iconst 0, 1) := dk_3 (dk_at dksX4_isFullStage_3 10 rfl rfl)
theorem dX4_isFullStage_82 : decode cX4_isFullStage 82 = .ok (.goto 4, 3) := dk_167 0 4 (dk_at dksX4_isFullStage_3 11 rfl rfl)
theorem dX4_isFullStage_85 : decode cX4_isFullStage 85 = .ok (.iconst 1, 1) := dk_4 (dk_at dksX4_isFullStage_3 14 rfl rfl)
theorem dX4_isFullStage_86 : decode cX4_isFullStage 86 = .ok (.iadd, 1) := dk_96 (dk_at dksX4_isFullStage_3 15 rfl rfl)
theorem dX4_isFullStage_87 : decode cX4_isFullStage 87 = .ok (.istore_n 3, 1) := dk_62 (dk_at dksX4_isFullStage_3 16 rfl rfl)
theorem dX4_isFullStage_88 : decode cX4_isFullStage 88 = .ok (.iinc 4 1, 3) := dk_132 4 1 (dk_at dksX4_isFullStage_3 17 rfl rfl)
theorem dX4_isFullStage_91 : decode cX4_isFullStage 91 = .ok (.goto (-73), 3) := dk_167 255 183 (dk_at dksX4_isFullStage_3 20 rfl rfl)
theorem dX4_isFullStage_94 : decode cX4_isFullStage 94 = .ok (.iload_n 3, 1) := dk_29 (dk_at dksX4_isFullStage_3 23 rfl rfl)
theorem dX4_isFullStage_95 : decode cX4_isFullStage 95 = .ok (.ifCond .gt 22, 3) := dk_157 0 22 (dk_at dksX4_isFullStage_4 0 rfl rfl)
theorem dX4_isFullStage_98 : decode cX4_isFullStage 98 = .ok (.iload_n 2, 1) := dk_28 (dk_at dksX4_isFullStage_4 3 rfl rfl)
theorem dX4_isFullStage_99 : decode cX4_isFullStage 99 = .ok (.aload_n 0, 1) := dk_42 (dk_at dksX4_isFullStage_4 4 rfl rfl)
theorem dX4_isFullStage_100 : decode cX4_isFullStage 100 = .ok (.getfield 145, 3) := dk_180 0 145 (dk_at dksX4_isFullStage_4 5 rfl rfl)
theorem dX4_isFullStage_103 : decode cX4_isFullStage 103 = .ok (.iload_n 1, 1) := dk_27 (dk_at dksX4_isFullStage_4 8 rfl rfl)
theorem dX4_isFullStage_104 : decode cX4_isFullStage 104 = .ok (.iaload, 1) := dk_46 (dk_at dksX4_isFullStage_4 9 rfl rfl)
theorem dX4_isFullStage_105 : decode cX4_isFullStage 105 = .ok (.iconst 1, 1) := dk_4 (dk_at dksX4_isFullStage_4 10 rfl rfl)
theorem dX4_isFullStage_106 : decode cX4_isFullStage 106 = .ok (.if_icmp .ne 7, 3) := dk_160 0 7 (dk_at dksX4_isFullStage_4 11 rfl rfl)
theorem dX4_isFullStage_109 : decode cX4_isFullStage 109 = .ok (.iconst 1, 1) := dk_4 (dk_at dksX4_isFullStage_4 14 rfl rfl)
theorem dX4_isFullStage_110 : decode cX4_isFullStage 110 = .ok (.goto 4, 3) := dk_167 0 4 (dk_at dksX4_isFullStage_4 15 rfl rfl)
theorem dX4_isFullStage_113 : decode cX4_isFullStage 113 = .ok (.iconst 0, 1) := dk_3 (dk_at dksX4_isFullStage_4 18 rfl rfl)
theorem dX4_isFullStage_114 : decode cX4_isFullStage 114 = .ok (.if_icmp .le 7, 3) := dk_164 0 7 (dk_at dksX4_isFullStage_4 19 rfl rfl)
theorem dX4_isFullStage_117 : decode cX4_isFullStage 117 = .ok (.iconst 1, 1) := dk_4 (dk_at dksX4_isFullStage_4 22 rfl rfl)
theorem dX4_isFullStage_118 : decode cX4_isFullStage 118 = .ok (.goto 4, 3) := dk_167 0 4 (dk_at dksX4_isFullStage_5 0 rfl rfl)
theorem dX4_isFullStage_121 : decode cX4_isFullStage 121 = .ok (.iconst 0, 1) := dk_3 (dk_at dksX4_isFullStage_5 3 rfl rfl)
theorem dX4_isFullStage_122 : decode cX4_isFullStage 122 = .ok (.ireturn, 1) := dk_172 (dk_at dksX4_isFullStage_5 4 rfl rfl)
abbrev cX4_isOn : ByteArray := prog_18_method_79_code
def yX4_isOn : MethodName := ⟨RX4, "isOn", "(II)Z"⟩
def dkwX4_isOn_1 : List UInt8 := [180, 0, 139, 28, 46, 164, 0, 7, 4, 167, 0, 4, 3, 172]
abbrev dktX4_isOn_1 : List UInt8 := dkwX4_isOn_1 ++ []
def dkwX4_isOn_0 : List UInt8 := [42, 180, 0, 169, 27, 46, 42, 180, 0, 169, 28, 46, 162, 0, 22, 42, 180, 0, 142, 27, 46, 42]
abbrev dktX4_isOn_0 : List UInt8 := dkwX4_isOn_0 ++ dktX4_isOn_1
theorem dksX4_isOn_0 : cX4_isOn.data.toList.drop 0 = dktX4_isOn_0 := by decide +kernel
theorem dksX4_isOn_1 : cX4_isOn.data.toList.drop 22 = dktX4_isOn_1 := dk_seg dksX4_isOn_0 22 rfl rfl
theorem dX4_isOn_0 : decode cX4_isOn 0 = .ok (.aload_n 0, 1) := dk_42 (dk_at dksX4_isOn_0 0 rfl rfl)
theorem dX4_isOn_1 : decode cX4_isOn 1 = .ok (.getfield 169, 3) := dk_180 0 169 (dk_at dksX4_isOn_0 1 rfl rfl)
theorem dX4_isOn_4 : decode cX4_isOn 4 = .ok (.iload_n 1, 1) := dk_27 (dk_at dksX4_isOn_0 4 rfl rfl)
theorem dX4_isOn_5 : decode cX4_isOn 5 = .ok (.iaload, 1) := dk_46 (dk_at dksX4_isOn_0 5 rfl rfl)
theorem dX4_isOn_6 : decode cX4_isOn 6 = .ok (.aload_n 0, 1) := dk_42 (dk_at dksX4_isOn_0 6 rfl rfl)
theorem dX4_isOn_7 : decode cX4_isOn 7 = .ok (.getfield 169, 3) := dk_180 0 169 (dk_at dksX4_isOn_0 7 rfl rfl)
theorem dX4_isOn_10 : decode cX4_isOn 10 = .ok (.iload_n 2, 1) := dk_28 (dk_at dksX4_isOn_0 10 rfl rfl)
theorem dX4_isOn_11 : decode cX4_isOn 11 = .ok (.iaload, 1) := dk_46 (dk_at dksX4_isOn_0 11 rfl rfl)
theorem dX4_isOn_12 : decode cX4_isOn 12 = .ok (.if_icmp .ge 22, 3) := dk_162 0 22 (dk_at dksX4_isOn_0 12 rfl rfl)
theorem dX4_isOn_15 : decode cX4_isOn 15 = .ok (.aload_n 0, 1) := dk_42 (dk_at dksX4_isOn_0 15 rfl rfl)
theorem dX4_isOn_16 : decode cX4_isOn 16 = .ok (.getfield 142, 3) := dk_180 0 142 (dk_at dksX4_isOn_0 16 rfl rfl)
theorem dX4_isOn_19 : decode cX4_isOn 19 = .ok (.iload_n 1, 1) := dk_27 (dk_at dksX4_isOn_0 19 rfl rfl)
theorem dX4_isOn_20 : decode cX4_isOn 20 = .ok (.iaload, 1) := dk_46 (dk_at dksX4_isOn_0 20 rfl rfl)
theorem dX4_isOn_21 : decode cX4_isOn 21 = .ok (.aload_n 0, 1) := dk_42 (dk_at dksX4_isOn_0 21 rfl rfl)
theorem dX4_isOn_22 : decode cX4_isOn 22 = .ok (.getfield 139, 3) := dk_180 0 139 (dk_at dksX4_isOn_1 0 rfl rfl)
theorem dX4_isOn_25 : decode cX4_isOn 25 = .ok (.iload_n 2, 1) := dk_28 (dk_at dksX4_isOn_1 3 rfl rfl)
theorem dX4_isOn_26 : decode cX4_isOn 26 = .ok (.iaload, 1) := dk_46 (dk_at dksX4_isOn_1 4 rfl rfl)
theorem dX4_isOn_27 : decode cX4_isOn 27 = .ok (.if_icmp .le 7, 3) := dk_164 0 7 (dk_at dksX4_isOn_1 5 rfl rfl)
theorem dX4_isOn_30 : decode cX4_isOn 30 = .ok (.iconst 1, 1) := dk_4 (dk_at dksX4_isOn_1 8 rfl rfl)
theorem dX4_isOn_31 : decode cX4_isOn 31 = .ok (.goto 4, 3) := dk_167 0 4 (dk_at dksX4_isOn_1 9 rfl rfl)
theorem dX4_isOn_34 : decode cX4_isOn 34 = .ok (.iconst 0, 1) := dk_3 (dk_at dksX4_isOn_1 12 rfl rfl)
theorem dX4_isOn_35 : decode cX4_isOn 35 = .ok (.ireturn, 1) := dk_172 (dk_at dksX4_isOn_1 13 rfl rfl)
abbrev cX4_isUnready : ByteArray := prog_18_method_82_code
def yX4_isUnready : MethodName := ⟨RX4, "isUnready", "(I)Z"⟩
def dkwX4_isUnready_2 : List UInt8 := [27, 46, 164, 0, 7, 4, 167, 0, 4, 3, 172]
abbrev dktX4_isUnready_2 : List UInt8 := dkwX4_isUnready_2 ++ []
def dkwX4_isUnready_1 : List UInt8 := [46, 4, 42, 42, 180, 0, 148, 27, 46, 3, 3, 182, 2, 9, 182, 2, 9, 182, 2, 9, 42, 180, 0, 139]
abbrev dktX4_isUnready_1 : List UInt8 := dkwX4_isUnready_1 ++ dktX4_isUnready_2
def dkwX4_isUnready_0 : List UInt8 := [42, 180, 0, 145, 27, 46, 6, 160, 0, 50, 42, 42, 180, 0, 148, 27, 46, 5, 42, 42, 180, 0, 148, 27]
abbrev dktX4_isUnready_0 : List UInt8 := dkwX4_isUnready_0 ++ dktX4_isUnready_1
theorem dksX4_isUnready_0 : cX4_isUnready.data.toList.drop 0 = dktX4_isUnready_0 := by decide +kernel
theorem dksX4_isUnready_1 : cX4_isUnready.data.toList.drop 24 = dktX4_isUnready_1 := dk_seg dksX4_isUnready_0 24 rfl rfl
theorem dksX4_isUnready_2 : cX4_isUnready.data.toList.drop 48 = dktX4_isUnready_2 := dk_seg dksX4_isUnready_1 24 rfl rfl
theorem dX4_isUnready_0 : decode cX4_isUnready 0 = .ok (.aload_n 0, 1) := dk_42 (dk_at dksX4_isUnready_0 0 rfl rfl)
theorem dX4_isUnready_1 : decode cX4_isUnready 1 = .ok (.getfield 145, 3) := dk_180 0 145 (dk_at dksX4_isUnready_0 1 rfl rfl)
theorem dX4_isUnready_4 : decode cX4_isUnready 4 = .ok (.iload_n 1, 1) := dk_27 (dk_at dksX4_isUnready_0 4 rfl rfl)
theorem dX4_isUnready_5 : decode cX4_isUnready 5 = .ok (.iaload, 1) := dk_46 (dk_at dksX4_isUnready_0 5 rfl rfl)
theorem dX4_isUnready_6 : decode cX4_isUnready 6 = .ok (.iconst 3, 1) := dk_6 (dk_at dksX4_isUnready_0 6 rfl rfl)
theorem dX4_isUnready_7 : decode cX4_isUnready 7 = .ok (.if_icmp .ne 50, 3) := dk_160 0 50 (dk_at dksX4_isUnready_0 7 rfl rfl)
theorem dX4_isUnready_10 : decode cX4_isUnready 10 = .ok (.aload_n 0, 1) := dk_42 (dk_at dksX4_isUnready_0 10 rfl rfl)
theorem dX4_isUnready_11 : decode cX4_isUnready 11 = .ok (.aload_n 0, 1) := dk_42 (dk_at dksX4_isUnready_0 11 rfl rfl)
theorem dX4_isUnready_12 : decode cX4_isUnready 12 = .ok (.getfield 148, 3) := dk_180 0 148 (dk_at dksX4_isUnready_0 12 rfl rfl)
theorem dX4_isUnready_15 : decode cX4_isUnready 15 = .ok (.iload_n 1, 1) := dk_27 (dk_at dksX4_isUnready_0 15 rfl rfl)
theorem dX4_isUnready_16 : decode cX4_isUnready 16 = .ok (.iaload, 1) := dk_46 (dk_at dksX4_isUnready_0 16 rfl rfl)
theorem dX4_isUnready_17 : decode cX4_isUnready 17 = .ok (.iconst 2, 1) := dk_5 (dk_at dksX4_isUnready_0 17 rfl rfl)
theorem dX4_isUnready_18 : decode cX4_isUnready 18 = .ok (.aload_n 0, 1) := dk_42 (dk_at dksX4_isUnready_0 18 rfl rfl)
theorem dX4_isUnready_19 : decode cX4_isUnready 19 = .ok (.aload_n 0, 1) := dk_42 (dk_at dksX4_isUnready_0 19 rfl rfl)
theorem dX4_isUnready_20 : decode cX4_isUnready 20 = .ok (.getfield 148, 3) := dk_180 0 148 (dk_at dksX4_isUnready_0 20 rfl rfl)
theorem dX4_isUnready_23 : decode cX4_isUnready 23 = .ok (.iload_n 1, 1) := dk_27 (dk_at dksX4_isUnready_0 23 rfl rfl)
theorem dX4_isUnready_24 : decode cX4_isUnready 24 = .ok (.iaload, 1) := dk_46 (dk_at dksX4_isUnready_1 0 rfl rfl)
theorem dX4_isUnready_25 : decode cX4_isUnready 25 = .ok (.iconst 1, 1) := dk_4 (dk_at dksX4_isUnready_1 1 rfl rfl)
theorem dX4_isUnready_26 : decode cX4_isUnready 26 = .ok (.aload_n 0, 1) := dk_42 (dk_at dksX4_isUnready_1 2 rfl rfl)
theorem dX4_isUnready_27 : decode cX4_isUnready 27 = .ok (.aload_n 0, 1) := dk_42 (dk_at dksX4_isUnready_1 3 rfl rfl)
theorem dX4_isUnready_28 : decode cX4_isUnready 28 = .ok (.getfield 148, 3) := dk_180 0 148 (dk_at dksX4_isUnready_1 4 rfl rfl)
theorem dX4_isUnready_31 : decode cX4_isUnready 31 = .ok (.iload_n 1, 1) := dk_27 (dk_at dksX4_isUnready_1 7 rfl rfl)
theorem dX4_isUnready_32 : decode cX4_isUnready 32 = .ok (.iaload, 1) := dk_46 (dk_at dksX4_isUnready_1 8 rfl rfl)
theorem dX4_isUnready_33 : decode cX4_isUnready 33 = .ok (.iconst 0, 1) := dk_3 (dk_at dksX4_isUnready_1 9 rfl rfl)
theorem dX4_isUnready_34 : decode cX4_isUnready 34 = .ok (.iconst 0, 1) := dk_3 (dk_at dksX4_isUnready_1 10 rfl rfl)
theorem dX4_isUnready_35 : decode cX4_isUnready 35 = .ok (.invokevirtual 521, 3) := dk_182 2 9 (dk_at dksX4_isUnready_1 11 rfl rfl)
theorem dX4_isUnready_38 : decode cX4_isUnready 38 = .ok (.invokevirtual 521, 3) := dk_182 2 9 (dk_at dksX4_isUnready_1 14 rfl rfl)
theorem dX4_isUnready_41 : decode cX4_isUnready 41 = .ok (.invokevirtual 521, 3) := dk_182 2 9 (dk_at dksX4_isUnready_1 17 rfl rfl)
theorem dX4_isUnready_44 : decode cX4_isUnready 44 = .ok (.aload_n 0, 1) := dk_42 (dk_at dksX4_isUnready_1 20 rfl rfl)
theorem dX4_isUnready_45 : decode cX4_isUnready 45 = .ok (.getfield 139, 3) := dk_180 0 139 (dk_at dksX4_isUnready_1 21 rfl rfl)
theorem dX4_isUnready_48 : decode cX4_isUnready 48 = .ok (.iload_n 1, 1) := dk_27 (dk_at dksX4_isUnready_2 0 rfl rfl)
theorem dX4_isUnready_49 : decode cX4_isUnready 49 = .ok (.iaload, 1) := dk_46 (dk_at dksX4_isUnready_2 1 rfl rfl)
theorem dX4_isUnready_50 : decode cX4_isUnready 50 = .ok (.if_icmp .le 7, 3) := dk_164 0 7 (dk_at dksX4_isUnready_2 2 rfl rfl)
theorem dX4_isUnready_53 : decode cX4_isUnready 53 = .ok (.iconst 1, 1) := dk_4 (dk_at dksX4_isUnready_2 5 rfl rfl)
theorem dX4_isUnready_54 : decode cX4_isUnready 54 = .ok (.goto 4, 3) := dk_167 0 4 (dk_at dksX4_isUnready_2 6 rfl rfl)
theorem dX4_isUnready_57 : decode cX4_isUnready 57 = .ok (.iconst 0, 1) := dk_3 (dk_at dksX4_isUnready_2 9 rfl rfl)
theorem dX4_isUnready_58 : decode cX4_isUnready 58 = .ok (.ireturn, 1) := dk_172 (dk_at dksX4_isUnready_2 10 rfl rfl)
abbrev cX4_firstEnd : ByteArray := prog_18_method_81_code
def yX4_firstEnd : MethodName := ⟨RX4, "firstEnd", "(III)I"⟩
def dkwX4_firstEnd_3 : List UInt8 := [132, 5, 1, 167, 255, 190, 21, 4, 172]
abbrev dktX4_firstEnd_3 : List UInt8 := dkwX4_firstEnd_3 ++ []
def dkwX4_firstEnd_2 : List UInt8 := [161, 0, 24, 42, 180, 0, 142, 21, 5, 46, 21, 4, 162, 0, 12, 42, 180, 0, 142, 21, 5, 46, 54, 4]
abbrev dktX4_firstEnd_2 : List UInt8 := dkwX4_firstEnd_2 ++ dktX4_firstEnd_3
def dkwX4_firstEnd_1 : List UInt8 := [27, 160, 0, 46, 42, 180, 0, 145, 21, 5, 46, 28, 160, 0, 35, 42, 180, 0, 139, 21, 5, 46, 29]
abbrev dktX4_firstEnd_1 : List UInt8 := dkwX4_firstEnd_1 ++ dktX4_firstEnd_2
def dkwX4_firstEnd_0 : List UInt8 := [19, 2, 8, 54, 4, 3, 54, 5, 21, 5, 42, 180, 1, 190, 162, 0, 63, 42, 180, 0, 148, 21, 5, 46]
abbrev dktX4_firstEnd_0 : List UInt8 := dkwX4_firstEnd_0 ++ dktX4_firstEnd_1
theorem dksX4_firstEnd_0 : cX4_firstEnd.data.toList.drop 0 = dktX4_firstEnd_0 := by decide +kernel
theorem dksX4_firstEnd_1 : cX4_firstEnd.data.toList.drop 24 = dktX4_firstEnd_1 := dk_seg dksX4_firstEnd_0 24 rfl rfl
theorem dksX4_firstEnd_2 : cX4_firstEnd.data.toList.drop 47 = dktX4_firstEnd_2 := dk_seg dksX4_firstEnd_1 23 rfl rfl
theorem dksX4_firstEnd_3 : cX4_firstEnd.data.toList.drop 71 = dktX4_firstEnd_3 := dk_seg dksX4_firstEnd_2 24 rfl rfl
theorem dX4_firstEnd_0 : decode cX4_firstEnd 0 = .ok (.ldc_w 520, 3) := dk_19 2 8 (dk_at dksX4_firstEnd_0 0 rfl rfl)
theorem dX4_firstEnd_3 : decode cX4_firstEnd 3 = .ok (.istore 4, 2) := dk_54 4 (dk_at dksX4_firstEnd_0 3 rfl rfl)
theorem dX4_firstEnd_5 : decode cX4_firstEnd 5 = .ok (.iconst 0, 1) := dk_3 (dk_at dksX4_firstEnd_0 5 rfl rfl)
theorem dX4_firstEnd_6 : decode cX4_firstEnd 6 = .ok (.istore 5, 2) := dk_54 5 (dk_at dksX4_firstEnd_0 6 rfl rfl)
theorem dX4_firstEnd_8 : decode cX4_firstEnd 8 = .ok (.iload 5, 2) := dk_21 5 (dk_at dksX4_firstEnd_0 8 rfl rfl)
theorem dX4_firstEnd_10 : decode cX4_firstEnd 10 = .ok (.aload_n 0, 1) := dk_42 (dk_at dksX4_firstEnd_0 10 rfl rfl)
theorem dX4_firstEnd_11 : decode cX4_firstEnd 11 = .ok (.getfield 446, 3) := dk_180 1 190 (dk_at dksX4_firstEnd_0 11 rfl rfl)
theorem dX4_firstEnd_14 : decode cX4_firstEnd 14 = .ok (.if_icmp .ge 63, 3) := dk_162 0 63 (dk_at dksX4_firstEnd_0 14 rfl rfl)
theorem dX4_firstEnd_17 : decode cX4_firstEnd 17 = .ok (.aload_n 0, 1) := dk_42 (dk_at dksX4_firstEnd_0 17 rfl rfl)
theorem dX4_firstEnd_18 : decode cX4_firstEnd 18 = .ok (.getfield 148, 3) := dk_180 0 148 (dk_at dksX4_firstEnd_0 18 rfl rfl)
theorem dX4_firstEnd_21 : decode cX4_firstEnd 21 = .ok (.iload 5, 2) := dk_21 5 (dk_at dksX4_firstEnd_0 21 rfl rfl)
theorem dX4_firstEnd_23 : decode cX4_firstEnd 23 = .ok (.iaload, 1) := dk_46 (dk_at dksX4_firstEnd_0 23 rfl rfl)
theorem dX4_firstEnd_24 : decode cX4_firstEnd 24 = .ok (.iload_n 1, 1) := dk_27 (dk_at dksX4_firstEnd_1 0 rfl rfl)
theorem dX4_firstEnd_25 : decode cX4_firstEnd 25 = .ok (.if_icmp .ne 46, 3) := dk_160 0 46 (dk_at dksX4_firstEnd_1 1 rfl rfl)
theorem dX4_firstEnd_28 : decode cX4_firstEnd 28 = .ok (.aload_n 0, 1) := dk_42 (dk_at dksX4_firstEnd_1 4 rfl rfl)
theorem dX4_firstEnd_29 : decode cX4_firstEnd 29 = .ok (.getfield 145, 3) := dk_180 0 145 (dk_at dksX4_firstEnd_1 5 rfl rfl)
theorem dX4_firstEnd_32 : decode cX4_firstEnd 32 = .ok (.iload 5, 2) := dk_21 5 (dk_at dksX4_firstEnd_1 8 rfl rfl)
theorem dX4_firstEnd_34 : decode cX4_firstEnd 34 = .ok (.iaload, 1) := dk_46 (dk_at dksX4_firstEnd_1 10 rfl rfl)
theorem dX4_firstEnd_35 : decode cX4_firstEnd 35 = .ok (.iload_n 2, 1) := dk_28 (dk_at dksX4_firstEnd_1 11 rfl rfl)
theorem dX4_firstEnd_36 : decode cX4_firstEnd 36 = .ok (.if_icmp .ne 35, 3) := dk_160 0 35 (dk_at dksX4_firstEnd_1 12 rfl rfl)
theorem dX4_firstEnd_39 : decode cX4_firstEnd 39 = .ok (.aload_n 0, 1) := dk_42 (dk_at dksX4_firstEnd_1 15 rfl rfl)
theorem dX4_firstEnd_40 : decode cX4_firstEnd 40 = .ok (.getfield 139, 3) := dk_180 0 139 (dk_at dksX4_firstEnd_1 16 rfl rfl)
theorem dX4_firstEnd_43 : decode cX4_firstEnd 43 = .ok (.iload 5, 2) := dk_21 5 (dk_at dksX4_firstEnd_1 19 rfl rfl)
theorem dX4_firstEnd_45 : decode cX4_firstEnd 45 = .ok (.iaload, 1) := dk_46 (dk_at dksX4_firstEnd_1 21 rfl rfl)
theorem dX4_firstEnd_46 : decode cX4_firstEnd 46 = .ok (.iload_n 3, 1) := dk_29 (dk_at dksX4_firstEnd_1 22 rfl rfl)
theorem dX4_firstEnd_47 : decode cX4_firstEnd 47 = .ok (.if_icmp .lt 24, 3) := dk_161 0 24 (dk_at dksX4_firstEnd_2 0 rfl rfl)
theorem dX4_firstEnd_50 : decode cX4_firstEnd 50 = .ok (.aload_n 0, 1) := dk_42 (dk_at dksX4_firstEnd_2 3 rfl rfl)
theorem dX4_firstEnd_51 : decode cX4_firstEnd 51 = .ok (.getfield 142, 3) := dk_180 0 142 (dk_at dksX4_firstEnd_2 4 rfl rfl)
theorem dX4_firstEnd_54 : decode cX4_firstEnd 54 = .ok (.iload 5, 2) := dk_21 5 (dk_at dksX4_firstEnd_2 7 rfl rfl)
theorem dX4_firstEnd_56 : decode cX4_firstEnd 56 = .ok (.iaload, 1) := dk_46 (dk_at dksX4_firstEnd_2 9 rfl rfl)
theorem dX4_firstEnd_57 : decode cX4_firstEnd 57 = .ok (.iload 4, 2) := dk_21 4 (dk_at dksX4_firstEnd_2 10 rfl rfl)
theorem dX4_firstEnd_59 : decode cX4_firstEnd 59 = .ok (.if_icmp .ge 12, 3) := dk_162 0 12 (dk_at dksX4_firstEnd_2 12 rfl rfl)
theorem dX4_firstEnd_62 : decode cX4_firstEnd 62 = .ok (.aload_n 0, 1) := dk_42 (dk_at dksX4_firstEnd_2 15 rfl rfl)
theorem dX4_firstEnd_63 : decode cX4_firstEnd 63 = .ok (.getfield 142, 3) := dk_180 0 142 (dk_at dksX4_firstEnd_2 16 rfl rfl)
theorem dX4_firstEnd_66 : decode cX4_firstEnd 66 = .ok (.iload 5, 2) := dk_21 5 (dk_at dksX4_firstEnd_2 19 rfl rfl)
theorem dX4_firstEnd_68 : decode cX4_firstEnd 68 = .ok (.iaload, 1) := dk_46 (dk_at dksX4_firstEnd_2 21 rfl rfl)
theorem dX4_firstEnd_69 : decode cX4_firstEnd 69 = .ok (.istore 4, 2) := dk_54 4 (dk_at dksX4_firstEnd_2 22 rfl rfl)
theorem dX4_firstEnd_71 : decode cX4_firstEnd 71 = .ok (.iinc 5 1, 3) := dk_132 5 1 (dk_at dksX4_firstEnd_3 0 rfl rfl)
theorem dX4_firstEnd_74 : decode cX4_firstEnd 74 = .ok (.goto (-66), 3) := dk_167 255 190 (dk_at dksX4_firstEnd_3 3 rfl rfl)
theorem dX4_firstEnd_77 : decode cX4_firstEnd 77 = .ok (.iload 4, 2) := dk_21 4 (dk_at dksX4_firstEnd_3 6 rfl rfl)
theorem dX4_firstEnd_79 : decode cX4_firstEnd 79 = .ok (.ireturn, 1) := dk_172 (dk_at dksX4_firstEnd_3 8 rfl rfl)
abbrev cX4_lacksPlayers : ByteArray := prog_18_method_83_code
def yX4_lacksPlayers : MethodName := ⟨RX4, "lacksPlayers", "(I)Z"⟩
def dkwX4_lacksPlayers_3 : List UInt8 := [180, 0, 148, 27, 46, 104, 28, 96, 46, 162, 0, 5, 4, 172, 132, 2, 1, 167, 255, 169, 3, 172]
abbrev dktX4_lacksPlayers_3 : List UInt8 := dkwX4_lacksPlayers_3 ++ []
def dkwX4_lacksPlayers_2 : List UInt8 := [160, 0, 14, 42, 180, 0, 54, 7, 28, 96, 46, 167, 0, 4, 3, 96, 62, 29, 42, 180, 0, 23, 7, 42]
abbrev dktX4_lacksPlayers_2 : List UInt8 := dkwX4_lacksPlayers_2 ++ dktX4_lacksPlayers_3
def dkwX4_lacksPlayers_1 : List UInt8 := [126, 4, 160, 0, 12, 42, 180, 0, 54, 28, 46, 167, 0, 4, 3, 42, 180, 0, 151, 27, 46, 5, 126, 5]
abbrev dktX4_lacksPlayers_1 : List UInt8 := dkwX4_lacksPlayers_1 ++ dktX4_lacksPlayers_2
def dkwX4_lacksPlayers_0 : List UInt8 := [3, 61, 28, 7, 162, 0, 88, 42, 180, 0, 145, 27, 46, 5, 161, 0, 78, 42, 180, 0, 151, 27, 46, 4]
abbrev dktX4_lacksPlayers_0 : List UInt8 := dkwX4_lacksPlayers_0 ++ dktX4_lacksPlayers_1
theorem dksX4_lacksPlayers_0 : cX4_lacksPlayers.data.toList.drop 0 = dktX4_lacksPlayers_0 := by decide +kernel
theorem dksX4_lacksPlayers_1 : cX4_lacksPlayers.data.toList.drop 24 = dktX4_lacksPlayers_1 := dk_seg dksX4_lacksPlayers_0 24 rfl rfl
theorem dksX4_lacksPlayers_2 : cX4_lacksPlayers.data.toList.drop 48 = dktX4_lacksPlayers_2 := dk_seg dksX4_lacksPlayers_1 24 rfl rfl
theorem dksX4_lacksPlayers_3 : cX4_lacksPlayers.data.toList.drop 72 = dktX4_lacksPlayers_3 := dk_seg dksX4_lacksPlayers_2 24 rfl rfl
theorem dX4_lacksPlayers_0 : decode cX4_lacksPlayers 0 = .ok (.iconst 0, 1) := dk_3 (dk_at dksX4_lacksPlayers_0 0 rfl rfl)
theorem dX4_lacksPlayers_1 : decode cX4_lacksPlayers 1 = .ok (.istore_n 2, 1) := dk_61 (dk_at dksX4_lacksPlayers_0 1 rfl rfl)
theorem dX4_lacksPlayers_2 : decode cX4_lacksPlayers 2 = .ok (.iload_n 2, 1) := dk_28 (dk_at dksX4_lacksPlayers_0 2 rfl rfl)
theorem dX4_lacksPlayers_3 : decode cX4_lacksPlayers 3 = .ok (.iconst 4, 1) := dk_7 (dk_at dksX4_lacksPlayers_0 3 rfl rfl)
theorem dX4_lacksPlayers_4 : decode cX4_lacksPlayers 4 = .ok (.if_icmp .ge 88, 3) := dk_162 0 88 (dk_at dksX4_lacksPlayers_0 4 rfl rfl)
theorem dX4_lacksPlayers_7 : decode cX4_lacksPlayers 7 = .ok (.aload_n 0, 1) := dk_42 (dk_at dksX4_lacksPlayers_0 7 rfl rfl)
theorem dX4_lacksPlayers_8 : decode cX4_lacksPlayers 8 = .ok (.getfield 145, 3) := dk_180 0 145 (dk_at dksX4_lacksPlayers_0 8 rfl rfl)
theorem dX4_lacksPlayers_11 : decode cX4_lacksPlayers 11 = .ok (.iload_n 1, 1) := dk_27 (dk_at dksX4_lacksPlayers_0 11 rfl rfl)
theorem dX4_lacksPlayers_12 : decode cX4_lacksPlayers 12 = .ok (.iaload, 1) := dk_46 (dk_at dksX4_lacksPlayers_0 12 rfl rfl)
theorem dX4_lacksPlayers_13 : decode cX4_lacksPlayers 13 = .ok (.iconst 2, 1) := dk_5 (dk_at dksX4_lacksPlayers_0 13 rfl rfl)
theorem dX4_lacksPlayers_14 : decode cX4_lacksPlayers 14 = .ok (.if_icmp .lt 78, 3) := dk_161 0 78 (dk_at dksX4_lacksPlayers_0 14 rfl rfl)
theorem dX4_lacksPlayers_17 : decode cX4_lacksPlayers 17 = .ok (.aload_n 0, 1) := dk_42 (dk_at dksX4_lacksPlayers_0 17 rfl rfl)
theorem dX4_lacksPlayers_18 : decode cX4_lacksPlayers 18 = .ok (.getfield 151, 3) := dk_180 0 151 (dk_at dksX4_lacksPlayers_0 18 rfl rfl)
theorem dX4_lacksPlayers_21 : decode cX4_lacksPlayers 21 = .ok (.iload_n 1, 1) := dk_27 (dk_at dksX4_lacksPlayers_0 21 rfl rfl)
theorem dX4_lacksPlayers_22 : decode cX4_lacksPlayers 22 = .ok (.iaload, 1) := dk_46 (dk_at dksX4_lacksPlayers_0 22 rfl rfl)
theorem dX4_lacksPlayers_23 : decode cX4_lacksPlayers 23 = .ok (.iconst 1, 1) := dk_4 (dk_at dksX4_lacksPlayers_0 23 rfl rfl)
theorem dX4_lacksPlayers_24 : decode cX4_lacksPlayers 24 = .ok (.iand, 1) := dk_126 (dk_at dksX4_lacksPlayers_1 0 rfl rfl)
theorem dX4_lacksPlayers_25 : decode cX4_lacksPlayers 25 = .ok (.iconst 1, 1) := dk_4 (dk_at dksX4_lacksPlayers_1 1 rfl rfl)
theorem dX4_lacksPlayers_26 : decode cX4_lacksPlayers 26 = .ok (.if_icmp .ne 12, 3) := dk_160 0 12 (dk_at dksX4_lacksPlayers_1 2 rfl rfl)
theorem dX4_lacksPlayers_29 : decode cX4_lacksPlayers 29 = .ok (.aload_n 0, 1) := dk_42 (dk_at dksX4_lacksPlayers_1 5 rfl rfl)
theorem dX4_lacksPlayers_30 : decode cX4_lacksPlayers 30 = .ok (.getfield 54, 3) := dk_180 0 54 (dk_at dksX4_lacksPlayers_1 6 rfl rfl)
theorem dX4_lacksPlayers_33 : decode cX4_lacksPlayers 33 = .ok (.iload_n 2, 1) := dk_28 (dk_at dksX4_lacksPlayers_1 9 rfl rfl)
theorem dX4_lacksPlayers_34 : decode cX4_lacksPlayers 34 = .ok (.iaload, 1) := dk_46 (dk_at dksX4_lacksPlayers_1 10 rfl rfl)
theorem dX4_lacksPlayers_35 : decode cX4_lacksPlayers 35 = .ok (.goto 4, 3) := dk_167 0 4 (dk_at dksX4_lacksPlayers_1 11 rfl rfl)
theorem dX4_lacksPlayers_38 : decode cX4_lacksPlayers 38 = .ok (.iconst 0, 1) := dk_3 (dk_at dksX4_lacksPlayers_1 14 rfl rfl)
theorem dX4_lacksPlayers_39 : decode cX4_lacksPlayers 39 = .ok (.aload_n 0, 1) := dk_42 (dk_at dksX4_lacksPlayers_1 15 rfl rfl)
theorem dX4_lacksPlayers_40 : decode cX4_lacksPlayers 40 = .ok (.getfield 151, 3) := dk_180 0 151 (dk_at dksX4_lacksPlayers_1 16 rfl rfl)
theorem dX4_lacksPlayers_43 : decode cX4_lacksPlayers 43 = .ok (.iload_n 1, 1) := dk_27 (dk_at dksX4_lacksPlayers_1 19 rfl rfl)
theorem dX4_lacksPlayers_44 : decode cX4_lacksPlayers 44 = .ok (.iaload, 1) := dk_46 (dk_at dksX4_lacksPlayers_1 20 rfl rfl)
theorem dX4_lacksPlayers_45 : decode cX4_lacksPlayers 45 = .ok (.iconst 2, 1) := dk_5 (dk_at dksX4_lacksPlayers_1 21 rfl rfl)
theorem dX4_lacksPlayers_46 : decode cX4_lacksPlayers 46 = .ok (.iand, 1) := dk_126 (dk_at dksX4_lacksPlayers_1 22 rfl rfl)
theorem dX4_lacksPlayers_47 : decode cX4_lacksPlayers 47 = .ok (.iconst 2, 1) := dk_5 (dk_at dksX4_lacksPlayers_1 23 rfl rfl)
theorem dX4_lacksPlayers_48 : decode cX4_lacksPlayers 48 = .ok (.if_icmp .ne 14, 3) := dk_160 0 14 (dk_at dksX4_lacksPlayers_2 0 rfl rfl)
theorem dX4_lacksPlayers_51 : decode cX4_lacksPlayers 51 = .ok (.aload_n 0, 1) := dk_42 (dk_at dksX4_lacksPlayers_2 3 rfl rfl)
theorem dX4_lacksPlayers_52 : decode cX4_lacksPlayers 52 = .ok (.getfield 54, 3) := dk_180 0 54 (dk_at dksX4_lacksPlayers_2 4 rfl rfl)
theorem dX4_lacksPlayers_55 : decode cX4_lacksPlayers 55 = .ok (.iconst 4, 1) := dk_7 (dk_at dksX4_lacksPlayers_2 7 rfl rfl)
theorem dX4_lacksPlayers_56 : decode cX4_lacksPlayers 56 = .ok (.iload_n 2, 1) := dk_28 (dk_at dksX4_lacksPlayers_2 8 rfl rfl)
theorem dX4_lacksPlayers_57 : decode cX4_lacksPlayers 57 = .ok (.iadd, 1) := dk_96 (dk_at dksX4_lacksPlayers_2 9 rfl rfl)
theorem dX4_lacksPlayers_58 : decode cX4_lacksPlayers 58 = .ok (.iaload, 1) := dk_46 (dk_at dksX4_lacksPlayers_2 10 rfl rfl)
theorem dX4_lacksPlayers_59 : decode cX4_lacksPlayers 59 = .ok (.goto 4, 3) := dk_167 0 4 (dk_at dksX4_lacksPlayers_2 11 rfl rfl)
theorem dX4_lacksPlayers_62 : decode cX4_lacksPlayers 62 = .ok (.iconst 0, 1) := dk_3 (dk_at dksX4_lacksPlayers_2 14 rfl rfl)
theorem dX4_lacksPlayers_63 : decode cX4_lacksPlayers 63 = .ok (.iadd, 1) := dk_96 (dk_at dksX4_lacksPlayers_2 15 rfl rfl)
theorem dX4_lacksPlayers_64 : decode cX4_lacksPlayers 64 = .ok (.istore_n 3, 1) := dk_62 (dk_at dksX4_lacksPlayers_2 16 rfl rfl)
theorem dX4_lacksPlayers_65 : decode cX4_lacksPlayers 65 = .ok (.iload_n 3, 1) := dk_29 (dk_at dksX4_lacksPlayers_2 17 rfl rfl)
theorem dX4_lacksPlayers_66 : decode cX4_lacksPlayers 66 = .ok (.aload_n 0, 1) := dk_42 (dk_at dksX4_lacksPlayers_2 18 rfl rfl)
theorem dX4_lacksPlayers_67 : decode cX4_lacksPlayers 67 = .ok (.getfield 23, 3) := dk_180 0 23 (dk_at dksX4_lacksPlayers_2 19 rfl rfl)
theorem dX4_lacksPlayers_70 : decode cX4_lacksPlayers 70 = .ok (.iconst 4, 1) := dk_7 (dk_at dksX4_lacksPlayers_2 22 rfl rfl)
theorem dX4_lacksPlayers_71 : decode cX4_lacksPlayers 71 = .ok (.aload_n 0, 1) := dk_42 (dk_at dksX4_lacksPlayers_2 23 rfl rfl)
theorem dX4_lacksPlayers_72 : decode cX4_lacksPlayers 72 = .ok (.getfield 148, 3) := dk_180 0 148 (dk_at dksX4_lacksPlayers_3 0 rfl rfl)
theorem dX4_lacksPlayers_75 : decode cX4_lacksPlayers 75 = .ok (.iload_n 1, 1) := dk_27 (dk_at dksX4_lacksPlayers_3 3 rfl rfl)
theorem dX4_lacksPlayers_76 : decode cX4_lacksPlayers 76 = .ok (.iaload, 1) := dk_46 (dk_at dksX4_lacksPlayers_3 4 rfl rfl)
theorem dX4_lacksPlayers_77 : decode cX4_lacksPlayers 77 = .ok (.imul, 1) := dk_104 (dk_at dksX4_lacksPlayers_3 5 rfl rfl)
theorem dX4_lacksPlayers_78 : decode cX4_lacksPlayers 78 = .ok (.iload_n 2, 1) := dk_28 (dk_at dksX4_lacksPlayers_3 6 rfl rfl)
theorem dX4_lacksPlayers_79 : decode cX4_lacksPlayers 79 = .ok (.iadd, 1) := dk_96 (dk_at dksX4_lacksPlayers_3 7 rfl rfl)
theorem dX4_lacksPlayers_80 : decode cX4_lacksPlayers 80 = .ok (.iaload, 1) := dk_46 (dk_at dksX4_lacksPlayers_3 8 rfl rfl)
theorem dX4_lacksPlayers_81 : decode cX4_lacksPlayers 81 = .ok (.if_icmp .ge 5, 3) := dk_162 0 5 (dk_at dksX4_lacksPlayers_3 9 rfl rfl)
theorem dX4_lacksPlayers_84 : decode cX4_lacksPlayers 84 = .ok (.iconst 1, 1) := dk_4 (dk_at dksX4_lacksPlayers_3 12 rfl rfl)
theorem dX4_lacksPlayers_85 : decode cX4_lacksPlayers 85 = .ok (.ireturn, 1) := dk_172 (dk_at dksX4_lacksPlayers_3 13 rfl rfl)
theorem dX4_lacksPlayers_86 : decode cX4_lacksPlayers 86 = .ok (.iinc 2 1, 3) := dk_132 2 1 (dk_at dksX4_lacksPlayers_3 14 rfl rfl)
theorem dX4_lacksPlayers_89 : decode cX4_lacksPlayers 89 = .ok (.goto (-87), 3) := dk_167 255 169 (dk_at dksX4_lacksPlayers_3 17 rfl rfl)
theorem dX4_lacksPlayers_92 : decode cX4_lacksPlayers 92 = .ok (.iconst 0, 1) := dk_3 (dk_at dksX4_lacksPlayers_3 20 rfl rfl)
theorem dX4_lacksPlayers_93 : decode cX4_lacksPlayers 93 = .ok (.ireturn, 1) := dk_172 (dk_at dksX4_lacksPlayers_3 21 rfl rfl)
abbrev cX4_playsTwice : ByteArray := prog_18_method_84_code
def yX4_playsTwice : MethodName := ⟨RX4, "playsTwice", "(I)Z"⟩
def dkwX4_playsTwice_1 : List UInt8 := [153, 0, 14, 42, 28, 27, 182, 2, 5, 153, 0, 5, 4, 172, 132, 2, 1, 167, 255, 218, 3, 172]
abbrev dktX4_playsTwice_1 : List UInt8 := dkwX4_playsTwice_1 ++ []
def dkwX4_playsTwice_0 : List UInt8 := [3, 61, 28, 42, 180, 1, 190, 162, 0, 36, 42, 180, 0, 151, 28, 46, 42, 180, 0, 151, 27, 46, 126]
abbrev dktX4_playsTwice_0 : List UInt8 := dkwX4_playsTwice_0 ++ dktX4_playsTwice_1
theorem dksX4_playsTwice_0 : cX4_playsTwice.data.toList.drop 0 = dktX4_playsTwice_0 := by decide +kernel
theorem dksX4_playsTwice_1 : cX4_playsTwice.data.toList.drop 23 = dktX4_playsTwice_1 := dk_seg dksX4_playsTwice_0 23 rfl rfl
theorem dX4_playsTwice_0 : decode cX4_playsTwice 0 = .ok (.iconst 0, 1) := dk_3 (dk_at dksX4_playsTwice_0 0 rfl rfl)
theorem dX4_playsTwice_1 : decode cX4_playsTwice 1 = .ok (.istore_n 2, 1) := dk_61 (dk_at dksX4_playsTwice_0 1 rfl rfl)
theorem dX4_playsTwice_2 : decode cX4_playsTwice 2 = .ok (.iload_n 2, 1) := dk_28 (dk_at dksX4_playsTwice_0 2 rfl rfl)
theorem dX4_playsTwice_3 : decode cX4_playsTwice 3 = .ok (.aload_n 0, 1) := dk_42 (dk_at dksX4_playsTwice_0 3 rfl rfl)
theorem dX4_playsTwice_4 : decode cX4_playsTwice 4 = .ok (.getfield 446, 3) := dk_180 1 190 (dk_at dksX4_playsTwice_0 4 rfl rfl)
theorem dX4_playsTwice_7 : decode cX4_playsTwice 7 = .ok (.if_icmp .ge 36, 3) := dk_162 0 36 (dk_at dksX4_playsTwice_0 7 rfl rfl)
theorem dX4_playsTwice_10 : decode cX4_playsTwice 10 = .ok (.aload_n 0, 1) := dk_42 (dk_at dksX4_playsTwice_0 10 rfl rfl)
theorem dX4_playsTwice_11 : decode cX4_playsTwice 11 = .ok (.getfield 151, 3) := dk_180 0 151 (dk_at dksX4_playsTwice_0 11 rfl rfl)
theorem dX4_playsTwice_14 : decode cX4_playsTwice 14 = .ok (.iload_n 2, 1) := dk_28 (dk_at dksX4_playsTwice_0 14 rfl rfl)
theorem dX4_playsTwice_15 : decode cX4_playsTwice 15 = .ok (.iaload, 1) := dk_46 (dk_at dksX4_playsTwice_0 15 rfl rfl)
theorem dX4_playsTwice_16 : decode cX4_playsTwice 16 = .ok (.aload_n 0, 1) := dk_42 (dk_at dksX4_playsTwice_0 16 rfl rfl)
theorem dX4_playsTwice_17 : decode cX4_playsTwice 17 = .ok (.getfield 151, 3) := dk_180 0 151 (dk_at dksX4_playsTwice_0 17 rfl rfl)
theorem dX4_playsTwice_20 : decode cX4_playsTwice 20 = .ok (.iload_n 1, 1) := dk_27 (dk_at dksX4_playsTwice_0 20 rfl rfl)
theorem dX4_playsTwice_21 : decode cX4_playsTwice 21 = .ok (.iaload, 1) := dk_46 (dk_at dksX4_playsTwice_0 21 rfl rfl)
theorem dX4_playsTwice_22 : decode cX4_playsTwice 22 = .ok (.iand, 1) := dk_126 (dk_at dksX4_playsTwice_0 22 rfl rfl)
theorem dX4_playsTwice_23 : decode cX4_playsTwice 23 = .ok (.ifCond .eq 14, 3) := dk_153 0 14 (dk_at dksX4_playsTwice_1 0 rfl rfl)
theorem dX4_playsTwice_26 : decode cX4_playsTwice 26 = .ok (.aload_n 0, 1) := dk_42 (dk_at dksX4_playsTwice_1 3 rfl rfl)
theorem dX4_playsTwice_27 : decode cX4_playsTwice 27 = .ok (.iload_n 2, 1) := dk_28 (dk_at dksX4_playsTwice_1 4 rfl rfl)
theorem dX4_playsTwice_28 : decode cX4_playsTwice 28 = .ok (.iload_n 1, 1) := dk_27 (dk_at dksX4_playsTwice_1 5 rfl rfl)
theorem dX4_playsTwice_29 : decode cX4_playsTwice 29 = .ok (.invokevirtual 517, 3) := dk_182 2 5 (dk_at dksX4_playsTwice_1 6 rfl rfl)
theorem dX4_playsTwice_32 : decode cX4_playsTwice 32 = .ok (.ifCond .eq 5, 3) := dk_153 0 5 (dk_at dksX4_playsTwice_1 9 rfl rfl)
theorem dX4_playsTwice_35 : decode cX4_playsTwice 35 = .ok (.iconst 1, 1) := dk_4 (dk_at dksX4_playsTwice_1 12 rfl rfl)
theorem dX4_playsTwice_36 : decode cX4_playsTwice 36 = .ok (.ireturn, 1) := dk_172 (dk_at dksX4_playsTwice_1 13 rfl rfl)
theorem dX4_playsTwice_37 : decode cX4_playsTwice 37 = .ok (.iinc 2 1, 3) := dk_132 2 1 (dk_at dksX4_playsTwice_1 14 rfl rfl)
theorem dX4_playsTwice_40 : decode cX4_playsTwice 40 = .ok (.goto (-38), 3) := dk_167 255 218 (dk_at dksX4_playsTwice_1 17 rfl rfl)
theorem dX4_playsTwice_43 : decode cX4_playsTwice 43 = .ok (.iconst 0, 1) := dk_3 (dk_at dksX4_playsTwice_1 20 rfl rfl)
theorem dX4_playsTwice_44 : decode cX4_playsTwice 44 = .ok (.ireturn, 1) := dk_172 (dk_at dksX4_playsTwice_1 21 rfl rfl)
abbrev cX4_tiresChorus : ByteArray := prog_18_method_85_code
def yX4_tiresChorus : MethodName := ⟨RX4, "tiresChorus", "(I)Z"⟩
def dkwX4_tiresChorus_7 : List UInt8 := [167, 0, 4, 3, 172]
abbrev dktX4_tiresChorus_7 : List UInt8 := dkwX4_tiresChorus_7 ++ []
def dkwX4_tiresChorus_6 : List UInt8 := [132, 4, 1, 167, 255, 144, 28, 42, 180, 0, 57, 163, 0, 11, 29, 42, 180, 0, 61, 164, 0, 7, 4]
abbrev dktX4_tiresChorus_6 : List UInt8 := dkwX4_tiresChorus_6 ++ dktX4_tiresChorus_7
def dkwX4_tiresChorus_5 : List UInt8 := [180, 0, 136, 27, 46, 16, 7, 100, 164, 0, 12, 42, 21, 5, 182, 1, 199, 167, 0, 4, 3, 96, 62]
abbrev dktX4_tiresChorus_5 : List UInt8 := dkwX4_tiresChorus_5 ++ dktX4_tiresChorus_6
def dkwX4_tiresChorus_4 : List UInt8 := [160, 0, 12, 42, 21, 5, 182, 1, 199, 167, 0, 4, 3, 96, 61, 29, 42, 180, 0, 136, 21, 5, 46, 42]
abbrev dktX4_tiresChorus_4 : List UInt8 := dkwX4_tiresChorus_4 ++ dktX4_tiresChorus_5
def dkwX4_tiresChorus_3 : List UInt8 := [21, 5, 46, 51, 154, 0, 6, 167, 0, 64, 28, 42, 180, 0, 136, 21, 5, 46, 42, 180, 0, 136, 27, 46]
abbrev dktX4_tiresChorus_3 : List UInt8 := dkwX4_tiresChorus_3 ++ dktX4_tiresChorus_4
def dkwX4_tiresChorus_2 : List UInt8 := [21, 4, 46, 54, 5, 42, 180, 0, 145, 21, 5, 46, 153, 0, 82, 42, 180, 0, 41, 42, 180, 0, 148]
abbrev dktX4_tiresChorus_2 : List UInt8 := dkwX4_tiresChorus_2 ++ dktX4_tiresChorus_3
def dkwX4_tiresChorus_1 : List UInt8 := [172, 3, 61, 3, 62, 3, 54, 4, 21, 4, 42, 180, 0, 169, 27, 46, 163, 0, 107, 42, 180, 0, 166]
abbrev dktX4_tiresChorus_1 : List UInt8 := dkwX4_tiresChorus_1 ++ dktX4_tiresChorus_2
def dkwX4_tiresChorus_0 : List UInt8 := [42, 180, 0, 145, 27, 46, 153, 0, 17, 42, 180, 0, 41, 42, 180, 0, 148, 27, 46, 51, 154, 0, 5, 3]
abbrev dktX4_tiresChorus_0 : List UInt8 := dkwX4_tiresChorus_0 ++ dktX4_tiresChorus_1
theorem dksX4_tiresChorus_0 : cX4_tiresChorus.data.toList.drop 0 = dktX4_tiresChorus_0 := by decide +kernel
theorem dksX4_tiresChorus_1 : cX4_tiresChorus.data.toList.drop 24 = dktX4_tiresChorus_1 := dk_seg dksX4_tiresChorus_0 24 rfl rfl
theorem dksX4_tiresChorus_2 : cX4_tiresChorus.data.toList.drop 47 = dktX4_tiresChorus_2 := dk_seg dksX4_tiresChorus_1 23 rfl rfl
theorem dksX4_tiresChorus_3 : cX4_tiresChorus.data.toList.drop 70 = dktX4_tiresChorus_3 := dk_seg dksX4_tiresChorus_2 23 rfl rfl
theorem dksX4_tiresChorus_4 : cX4_tiresChorus.data.toList.drop 94 = dktX4_tiresChorus_4 := dk_seg dksX4_tiresChorus_3 24 rfl rfl
theorem dksX4_tiresChorus_5 : cX4_tiresChorus.data.toList.drop 118 = dktX4_tiresChorus_5 := dk_seg dksX4_tiresChorus_4 24 rfl rfl
theorem dksX4_tiresChorus_6 : cX4_tiresChorus.data.toList.drop 141 = dktX4_tiresChorus_6 := dk_seg dksX4_tiresChorus_5 23 rfl rfl
theorem dksX4_tiresChorus_7 : cX4_tiresChorus.data.toList.drop 164 = dktX4_tiresChorus_7 := dk_seg dksX4_tiresChorus_6 23 rfl rfl
theorem dX4_tiresChorus_0 : decode cX4_tiresChorus 0 = .ok (.aload_n 0, 1) := dk_42 (dk_at dksX4_tiresChorus_0 0 rfl rfl)
theorem dX4_tiresChorus_1 : decode cX4_tiresChorus 1 = .ok (.getfield 145, 3) := dk_180 0 145 (dk_at dksX4_tiresChorus_0 1 rfl rfl)
theorem dX4_tiresChorus_4 : decode cX4_tiresChorus 4 = .ok (.iload_n 1, 1) := dk_27 (dk_at dksX4_tiresChorus_0 4 rfl rfl)
theorem dX4_tiresChorus_5 : decode cX4_tiresChorus 5 = .ok (.iaload, 1) := dk_46 (dk_at dksX4_tiresChorus_0 5 rfl rfl)
theorem dX4_tiresChorus_6 : decode cX4_tiresChorus 6 = .ok (.ifCond .eq 17, 3) := dk_153 0 17 (dk_at dksX4_tiresChorus_0 6 rfl rfl)
theorem dX4_tiresChorus_9 : decode cX4_tiresChorus 9 = .ok (.aload_n 0, 1) := dk_42 (dk_at dksX4_tiresChorus_0 9 rfl rfl)
theorem dX4_tiresChorus_10 : decode cX4_tiresChorus 10 = .ok (.getfield 41, 3) := dk_180 0 41 (dk_at dksX4_tiresChorus_0 10 rfl rfl)
theorem dX4_tiresChorus_13 : decode cX4_tiresChorus 13 = .ok (.aload_n 0, 1) := dk_42 (dk_at dksX4_tiresChorus_0 13 rfl rfl)
theorem dX4_tiresChorus_14 : decode cX4_tiresChorus 14 = .ok (.getfield 148, 3) := dk_180 0 148 (dk_at dksX4_tiresChorus_0 14 rfl rfl)
theorem dX4_tiresChorus_17 : decode cX4_tiresChorus 17 = .ok (.iload_n 1, 1) := dk_27 (dk_at dksX4_tiresChorus_0 17 rfl rfl)
theorem dX4_tiresChorus_18 : decode cX4_tiresChorus 18 = .ok (.iaload, 1) := dk_46 (dk_at dksX4_tiresChorus_0 18 rfl rfl)
theorem dX4_tiresChorus_19 : decode cX4_tiresChorus 19 = .ok (.baload, 1) := dk_51 (dk_at dksX4_tiresChorus_0 19 rfl rfl)
theorem dX4_tiresChorus_20 : decode cX4_tiresChorus 20 = .ok (.ifCond .ne 5, 3) := dk_154 0 5 (dk_at dksX4_tiresChorus_0 20 rfl rfl)
theorem dX4_tiresChorus_23 : decode cX4_tiresChorus 23 = .ok (.iconst 0, 1) := dk_3 (dk_at dksX4_tiresChorus_0 23 rfl rfl)
theorem dX4_tiresChorus_24 : decode cX4_tiresChorus 24 = .ok (.ireturn, 1) := dk_172 (dk_at dksX4_tiresChorus_1 0 rfl rfl)
theorem dX4_tiresChorus_25 : decode cX4_tiresChorus 25 = .ok (.iconst 0, 1) := dk_3 (dk_at dksX4_tiresChorus_1 1 rfl rfl)
theorem dX4_tiresChorus_26 : decode cX4_tiresChorus 26 = .ok (.istore_n 2, 1) := dk_61 (dk_at dksX4_tiresChorus_1 2 rfl rfl)
theorem dX4_tiresChorus_27 : decode cX4_tiresChorus 27 = .ok (.iconst 0, 1) := dk_3 (dk_at dksX4_tiresChorus_1 3 rfl rfl)
theorem dX4_tiresChorus_28 : decode cX4_tiresChorus 28 = .ok (.istore_n 3, 1) := dk_62 (dk_at dksX4_tiresChorus_1 4 rfl rfl)
theorem dX4_tiresChorus_29 : decode cX4_tiresChorus 29 = .ok (.iconst 0, 1) := dk_3 (dk_at dksX4_tiresChorus_1 5 rfl rfl)
theorem dX4_tiresChorus_30 : decode cX4_tiresChorus 30 = .ok (.istore 4, 2) := dk_54 4 (dk_at dksX4_tiresChorus_1 6 rfl rfl)
theorem dX4_tiresChorus_32 : decode cX4_tiresChorus 32 = .ok (.iload 4, 2) := dk_21 4 (dk_at dksX4_tiresChorus_1 8 rfl rfl)
theorem dX4_tiresChorus_34 : decode cX4_tiresChorus 34 = .ok (.aload_n 0, 1) := dk_42 (dk_at dksX4_tiresChorus_1 10 rfl rfl)
theorem dX4_tiresChorus_35 : decode cX4_tiresChorus 35 = .ok (.getfield 169, 3) := dk_180 0 169 (dk_at dksX4_tiresChorus_1 11 rfl rfl)
theorem dX4_tiresChorus_38 : decode cX4_tiresChorus 38 = .ok (.iload_n 1, 1) := dk_27 (dk_at dksX4_tiresChorus_1 14 rfl rfl)
theorem dX4_tiresChorus_39 : decode cX4_tiresChorus 39 = .ok (.iaload, 1) := dk_46 (dk_at dksX4_tiresChorus_1 15 rfl rfl)
theorem dX4_tiresChorus_40 : decode cX4_tiresChorus 40 = .ok (.if_icmp .gt 107, 3) := dk_163 0 107 (dk_at dksX4_tiresChorus_1 16 rfl rfl)
theorem dX4_tiresChorus_43 : decode cX4_tiresChorus 43 = .ok (.aload_n 0, 1) := dk_42 (dk_at dksX4_tiresChorus_1 19 rfl rfl)
theorem dX4_tiresChorus_44 : decode cX4_tiresChorus 44 = .ok (.getfield 166, 3) := dk_180 0 166 (dk_at dksX4_tiresChorus_1 20 rfl rfl)
theorem dX4_tiresChorus_47 : decode cX4_tiresChorus 47 = .ok (.iload 4, 2) := dk_21 4 (dk_at dksX4_tiresChorus_2 0 rfl rfl)
theorem dX4_tiresChorus_49 : decode cX4_tiresChorus 49 = .ok (.iaload, 1) := dk_46 (dk_at dksX4_tiresChorus_2 2 rfl rfl)
theorem dX4_tiresChorus_50 : decode cX4_tiresChorus 50 = .ok (.istore 5, 2) := dk_54 5 (dk_at dksX4_tiresChorus_2 3 rfl rfl)
theorem dX4_tiresChorus_52 : decode cX4_tiresChorus 52 = .ok (.aload_n 0, 1) := dk_42 (dk_at dksX4_tiresChorus_2 5 rfl rfl)
theorem dX4_tiresChorus_53 : decode cX4_tiresChorus 53 = .ok (.getfield 145, 3) := dk_180 0 145 (dk_at dksX4_tiresChorus_2 6 rfl rfl)
theorem dX4_tiresChorus_56 : decode cX4_tiresChorus 56 = .ok (.iload 5, 2) := dk_21 5 (dk_at dksX4_tiresChorus_2 9 rfl rfl)
theorem dX4_tiresChorus_58 : decode cX4_tiresChorus 58 = .ok (.iaload, 1) := dk_46 (dk_at dksX4_tiresChorus_2 11 rfl rfl)
theorem dX4_tiresChorus_59 : decode cX4_tiresChorus 59 = .ok (.ifCond .eq 82, 3) := dk_153 0 82 (dk_at dksX4_tiresChorus_2 12 rfl rfl)
theorem dX4_tiresChorus_62 : decode cX4_tiresChorus 62 = .ok (.aload_n 0, 1) := dk_42 (dk_at dksX4_tiresChorus_2 15 rfl rfl)
theorem dX4_tiresChorus_63 : decode cX4_tiresChorus 63 = .ok (.getfield 41, 3) := dk_180 0 41 (dk_at dksX4_tiresChorus_2 16 rfl rfl)
theorem dX4_tiresChorus_66 : decode cX4_tiresChorus 66 = .ok (.aload_n 0, 1) := dk_42 (dk_at dksX4_tiresChorus_2 19 rfl rfl)
theorem dX4_tiresChorus_67 : decode cX4_tiresChorus 67 = .ok (.getfield 148, 3) := dk_180 0 148 (dk_at dksX4_tiresChorus_2 20 rfl rfl)
theorem dX4_tiresChorus_70 : decode cX4_tiresChorus 70 = .ok (.iload 5, 2) := dk_21 5 (dk_at dksX4_tiresChorus_3 0 rfl rfl)
theorem dX4_tiresChorus_72 : decode cX4_tiresChorus 72 = .ok (.iaload, 1) := dk_46 (dk_at dksX4_tiresChorus_3 2 rfl rfl)
theorem dX4_tiresChorus_73 : decode cX4_tiresChorus 73 = .ok (.baload, 1) := dk_51 (dk_at dksX4_tiresChorus_3 3 rfl rfl)
theorem dX4_tiresChorus_74 : decode cX4_tiresChorus 74 = .ok (.ifCond .ne 6, 3) := dk_154 0 6 (dk_at dksX4_tiresChorus_3 4 rfl rfl)
theorem dX4_tiresChorus_77 : decode cX4_tiresChorus 77 = .ok (.goto 64, 3) := dk_167 0 64 (dk_at dksX4_tiresChorus_3 7 rfl rfl)
theorem dX4_tiresChorus_80 : decode cX4_tiresChorus 80 = .ok (.iload_n 2, 1) := dk_28 (dk_at dksX4_tiresChorus_3 10 rfl rfl)
theorem dX4_tiresChorus_81 : decode cX4_tiresChorus 81 = .ok (.aload_n 0, 1) := dk_42 (dk_at dksX4_tiresChorus_3 11 rfl rfl)
theorem dX4_tiresChorus_82 : decode cX4_tiresChorus 82 = .ok (.getfield 136, 3) := dk_180 0 136 (dk_at dksX4_tiresChorus_3 12 rfl rfl)
theorem dX4_tiresChorus_85 : decode cX4_tiresChorus 85 = .ok (.iload 5, 2) := dk_21 5 (dk_at dksX4_tiresChorus_3 15 rfl rfl)
theorem dX4_tiresChorus_87 : decode cX4_tiresChorus 87 = .ok (.iaload, 1) := dk_46 (dk_at dksX4_tiresChorus_3 17 rfl rfl)
theorem dX4_tiresChorus_88 : decode cX4_tiresChorus 88 = .ok (.aload_n 0, 1) := dk_42 (dk_at dksX4_tiresChorus_3 18 rfl rfl)
theorem dX4_tiresChorus_89 : decode cX4_tiresChorus 89 = .ok (.getfield 136, 3) := dk_180 0 136 (dk_at dksX4_tiresChorus_3 19 rfl rfl)
theorem dX4_tiresChorus_92 : decode cX4_tiresChorus 92 = .ok (.iload_n 1, 1) := dk_27 (dk_at dksX4_tiresChorus_3 22 rfl rfl)
theorem dX4_tiresChorus_93 : decode cX4_tiresChorus 93 = .ok (.iaload, 1) := dk_46 (dk_at dksX4_tiresChorus_3 23 rfl rfl)
theorem dX4_tiresChorus_94 : decode cX4_tiresChorus 94 = .ok (.if_icmp .ne 12, 3) := dk_160 0 12 (dk_at dksX4_tiresChorus_4 0 rfl rfl)
theorem dX4_tiresChorus_97 : decode cX4_tiresChorus 97 = .ok (.aload_n 0, 1) := dk_42 (dk_at dksX4_tiresChorus_4 3 rfl rfl)
theorem dX4_tiresChorus_98 : decode cX4_tiresChorus 98 = .ok (.iload 5, 2) := dk_21 5 (dk_at dksX4_tiresChorus_4 4 rfl rfl)
theorem dX4_tiresChorus_100 : decode cX4_tiresChorus 100 = .ok (.invokevirtual 455, 3) := dk_182 1 199 (dk_at dksX4_tiresChorus_4 6 rfl rfl)
theorem dX4_tiresChorus_103 : decode cX4_tiresChorus 103 = .ok (.goto 4, 3) := dk_167 0 4 (dk_at dksX4_tiresChorus_4 9 rfl rfl)
theorem dX4_tiresChorus_106 : decode cX4_tiresChorus 106 = .ok (.iconst 0, 1) := dk_3 (dk_at dksX4_tiresChorus_4 12 rfl rfl)
theorem dX4_tiresChorus_107 : decode cX4_tiresChorus 107 = .ok (.iadd, 1) := dk_96 (dk_at dksX4_tiresChorus_4 13 rfl rfl)
theorem dX4_tiresChorus_108 : decode cX4_tiresChorus 108 = .ok (.istore_n 2, 1) := dk_61 (dk_at dksX4_tiresChorus_4 14 rfl rfl)
theorem dX4_tiresChorus_109 : decode cX4_tiresChorus 109 = .ok (.iload_n 3, 1) := dk_29 (dk_at dksX4_tiresChorus_4 15 rfl rfl)
theorem dX4_tiresChorus_110 : decode cX4_tiresChorus 110 = .ok (.aload_n 0, 1) := dk_42 (dk_at dksX4_tiresChorus_4 16 rfl rfl)
theorem dX4_tiresChorus_111 : decode cX4_tiresChorus 111 = .ok (.getfield 136, 3) := dk_180 0 136 (dk_at dksX4_tiresChorus_4 17 rfl rfl)
theorem dX4_tiresChorus_114 : decode cX4_tiresChorus 114 = .ok (.iload 5, 2) := dk_21 5 (dk_at dksX4_tiresChorus_4 20 rfl rfl)
theorem dX4_tiresChorus_116 : decode cX4_tiresChorus 116 = .ok (.iaload, 1) := dk_46 (dk_at dksX4_tiresChorus_4 22 rfl rfl)
theorem dX4_tiresChorus_117 : decode cX4_tiresChorus 117 = .ok (.aload_n 0, 1) := dk_42 (dk_at dksX4_tiresChorus_4 23 rfl rfl)
theorem dX4_tiresChorus_118 : decode cX4_tiresChorus 118 = .ok (.getfield 136, 3) := dk_180 0 136 (dk_at dksX4_tiresChorus_5 0 rfl rfl)
theorem dX4_tiresChorus_121 : decode cX4_tiresChorus 121 = .ok (.iload_n 1, 1) := dk_27 (dk_at dksX4_tiresChorus_5 3 rfl rfl)
theorem dX4_tiresChorus_122 : decode cX4_tiresChorus 122 = .ok (.iaload, 1) := dk_46 (dk_at dksX4_tiresChorus_5 4 rfl rfl)
theorem dX4_tiresChorus_123 : decode cX4_tiresChorus 123 = .ok (.bipush 7, 2) := dk_16 7 (dk_at dksX4_tiresChorus_5 5 rfl rfl)
theorem dX4_tiresChorus_125 : decode cX4_tiresChorus 125 = .ok (.isub, 1) := dk_100 (dk_at dksX4_tiresChorus_5 7 rfl rfl)
theorem dX4_tiresChorus_126 : decode cX4_tiresChorus 126 = .ok (.if_icmp .le 12, 3) := dk_164 0 12 (dk_at dksX4_tiresChorus_5 8 rfl rfl)
theorem dX4_tiresChorus_129 : decode cX4_tiresChorus 129 = .ok (.aload_n 0, 1) := dk_42 (dk_at dksX4_tiresChorus_5 11 rfl rfl)
theorem dX4_tiresChorus_130 : decode cX4_tiresChorus 130 = .ok (.iload 5, 2) := dk_21 5 (dk_at dksX4_tiresChorus_5 12 rfl rfl)
theorem dX4_tiresChorus_132 : decode cX4_tiresChorus 132 = .ok (.invokevirtual 455, 3) := dk_182 1 199 (dk_at dksX4_tiresChorus_5 14 rfl rfl)
theorem dX4_tiresChorus_135 : decode cX4_tiresChorus 135 = .ok (.goto 4, 3) := dk_167 0 4 (dk_at dksX4_tiresChorus_5 17 rfl rfl)
theorem dX4_tiresChorus_138 : decode cX4_tiresChorus 138 = .ok (.iconst 0, 1) := dk_3 (dk_at dksX4_tiresChorus_5 20 rfl rfl)
theorem dX4_tiresChorus_139 : decode cX4_tiresChorus 139 = .ok (.iadd, 1) := dk_96 (dk_at dksX4_tiresChorus_5 21 rfl rfl)
theorem dX4_tiresChorus_140 : decode cX4_tiresChorus 140 = .ok (.istore_n 3, 1) := dk_62 (dk_at dksX4_tiresChorus_5 22 rfl rfl)
theorem dX4_tiresChorus_141 : decode cX4_tiresChorus 141 = .ok (.iinc 4 1, 3) := dk_132 4 1 (dk_at dksX4_tiresChorus_6 0 rfl rfl)
theorem dX4_tiresChorus_144 : decode cX4_tiresChorus 144 = .ok (.goto (-112), 3) := dk_167 255 144 (dk_at dksX4_tiresChorus_6 3 rfl rfl)
theorem dX4_tiresChorus_147 : decode cX4_tiresChorus 147 = .ok (.iload_n 2, 1) := dk_28 (dk_at dksX4_tiresChorus_6 6 rfl rfl)
theorem dX4_tiresChorus_148 : decode cX4_tiresChorus 148 = .ok (.aload_n 0, 1) := dk_42 (dk_at dksX4_tiresChorus_6 7 rfl rfl)
theorem dX4_tiresChorus_149 : decode cX4_tiresChorus 149 = .ok (.getfield 57, 3) := dk_180 0 57 (dk_at dksX4_tiresChorus_6 8 rfl rfl)
theorem dX4_tiresChorus_152 : decode cX4_tiresChorus 152 = .ok (.if_icmp .gt 11, 3) := dk_163 0 11 (dk_at dksX4_tiresChorus_6 11 rfl rfl)
theorem dX4_tiresChorus_155 : decode cX4_tiresChorus 155 = .ok (.iload_n 3, 1) := dk_29 (dk_at dksX4_tiresChorus_6 14 rfl rfl)
theorem dX4_tiresChorus_156 : decode cX4_tiresChorus 156 = .ok (.aload_n 0, 1) := dk_42 (dk_at dksX4_tiresChorus_6 15 rfl rfl)
theorem dX4_tiresChorus_157 : decode cX4_tiresChorus 157 = .ok (.getfield 61, 3) := dk_180 0 61 (dk_at dksX4_tiresChorus_6 16 rfl rfl)
theorem dX4_tiresChorus_160 : decode cX4_tiresChorus 160 = .ok (.if_icmp .le 7, 3) := dk_164 0 7 (dk_at dksX4_tiresChorus_6 19 rfl rfl)
theorem dX4_tiresChorus_163 : decode cX4_tiresChorus 163 = .ok (.iconst 1, 1) := dk_4 (dk_at dksX4_tiresChorus_6 22 rfl rfl)
theorem dX4_tiresChorus_164 : decode cX4_tiresChorus 164 = .ok (.goto 4, 3) := dk_167 0 4 (dk_at dksX4_tiresChorus_7 0 rfl rfl)
theorem dX4_tiresChorus_167 : decode cX4_tiresChorus 167 = .ok (.iconst 0, 1) := dk_3 (dk_at dksX4_tiresChorus_7 3 rfl rfl)
theorem dX4_tiresChorus_168 : decode cX4_tiresChorus 168 = .ok (.ireturn, 1) := dk_172 (dk_at dksX4_tiresChorus_7 4 rfl rfl)
abbrev cX4_note : ByteArray := prog_18_method_90_code
def yX4_note : MethodName := ⟨RX4, "note", "(III)V"⟩
def dkwX4_note_1 : List UInt8 := [42, 180, 2, 39, 29, 79, 42, 89, 180, 2, 39, 4, 96, 181, 2, 39, 177]
abbrev dktX4_note_1 : List UInt8 := dkwX4_note_1 ++ []
def dkwX4_note_0 : List UInt8 := [42, 180, 0, 190, 42, 180, 2, 39, 27, 79, 42, 180, 0, 193, 42, 180, 2, 39, 28, 79, 42, 180, 0, 196]
abbrev dktX4_note_0 : List UInt8 := dkwX4_note_0 ++ dktX4_note_1
theorem dksX4_note_0 : cX4_note.data.toList.drop 0 = dktX4_note_0 := by decide +kernel
theorem dksX4_note_1 : cX4_note.data.toList.drop 24 = dktX4_note_1 := dk_seg dksX4_note_0 24 rfl rfl
theorem dX4_note_0 : decode cX4_note 0 = .ok (.aload_n 0, 1) := dk_42 (dk_at dksX4_note_0 0 rfl rfl)
theorem dX4_note_1 : decode cX4_note 1 = .ok (.getfield 190, 3) := dk_180 0 190 (dk_at dksX4_note_0 1 rfl rfl)
theorem dX4_note_4 : decode cX4_note 4 = .ok (.aload_n 0, 1) := dk_42 (dk_at dksX4_note_0 4 rfl rfl)
theorem dX4_note_5 : decode cX4_note 5 = .ok (.getfield 551, 3) := dk_180 2 39 (dk_at dksX4_note_0 5 rfl rfl)
theorem dX4_note_8 : decode cX4_note 8 = .ok (.iload_n 1, 1) := dk_27 (dk_at dksX4_note_0 8 rfl rfl)
theorem dX4_note_9 : decode cX4_note 9 = .ok (.iastore, 1) := dk_79 (dk_at dksX4_note_0 9 rfl rfl)
theorem dX4_note_10 : decode cX4_note 10 = .ok (.aload_n 0, 1) := dk_42 (dk_at dksX4_note_0 10 rfl rfl)
theorem dX4_note_11 : decode cX4_note 11 = .ok (.getfield 193, 3) := dk_180 0 193 (dk_at dksX4_note_0 11 rfl rfl)
theorem dX4_note_14 : decode cX4_note 14 = .ok (.aload_n 0, 1) := dk_42 (dk_at dksX4_note_0 14 rfl rfl)
theorem dX4_note_15 : decode cX4_note 15 = .ok (.getfield 551, 3) := dk_180 2 39 (dk_at dksX4_note_0 15 rfl rfl)
theorem dX4_note_18 : decode cX4_note 18 = .ok (.iload_n 2, 1) := dk_28 (dk_at dksX4_note_0 18 rfl rfl)
theorem dX4_note_19 : decode cX4_note 19 = .ok (.iastore, 1) := dk_79 (dk_at dksX4_note_0 19 rfl rfl)
theorem dX4_note_20 : decode cX4_note 20 = .ok (.aload_n 0, 1) := dk_42 (dk_at dksX4_note_0 20 rfl rfl)
theorem dX4_note_21 : decode cX4_note 21 = .ok (.getfield 196, 3) := dk_180 0 196 (dk_at dksX4_note_0 21 rfl rfl)
theorem dX4_note_24 : decode cX4_note 24 = .ok (.aload_n 0, 1) := dk_42 (dk_at dksX4_note_1 0 rfl rfl)
theorem dX4_note_25 : decode cX4_note 25 = .ok (.getfield 551, 3) := dk_180 2 39 (dk_at dksX4_note_1 1 rfl rfl)
theorem dX4_note_28 : decode cX4_note 28 = .ok (.iload_n 3, 1) := dk_29 (dk_at dksX4_note_1 4 rfl rfl)
theorem dX4_note_29 : decode cX4_note 29 = .ok (.iastore, 1) := dk_79 (dk_at dksX4_note_1 5 rfl rfl)
theorem dX4_note_30 : decode cX4_note 30 = .ok (.aload_n 0, 1) := dk_42 (dk_at dksX4_note_1 6 rfl rfl)
theorem dX4_note_31 : decode cX4_note 31 = .ok (.dup, 1) := dk_89 (dk_at dksX4_note_1 7 rfl rfl)
theorem dX4_note_32 : decode cX4_note 32 = .ok (.getfield 551, 3) := dk_180 2 39 (dk_at dksX4_note_1 8 rfl rfl)
theorem dX4_note_35 : decode cX4_note 35 = .ok (.iconst 1, 1) := dk_4 (dk_at dksX4_note_1 11 rfl rfl)
theorem dX4_note_36 : decode cX4_note 36 = .ok (.iadd, 1) := dk_96 (dk_at dksX4_note_1 12 rfl rfl)
theorem dX4_note_37 : decode cX4_note 37 = .ok (.putfield 551, 3) := dk_181 2 39 (dk_at dksX4_note_1 13 rfl rfl)
theorem dX4_note_40 : decode cX4_note 40 = .ok (.return_, 1) := dk_177 (dk_at dksX4_note_1 16 rfl rfl)
abbrev cX4_isWrong : ByteArray := prog_18_method_88_code
def yX4_isWrong : MethodName := ⟨RX4, "isWrong", "(IIII)Z"⟩
def dkwX4_isWrong_10 : List UInt8 := [104, 6, 96, 46, 164, 0, 7, 4, 167, 0, 4, 3, 172]
abbrev dktX4_isWrong_10 : List UInt8 := dkwX4_isWrong_10 ++ []
def dkwX4_isWrong_9 : List UInt8 := [5, 96, 46, 164, 0, 7, 4, 167, 0, 4, 3, 172, 42, 28, 29, 182, 1, 211, 42, 180, 0, 64, 7, 28]
abbrev dktX4_isWrong_9 : List UInt8 := dkwX4_isWrong_9 ++ dktX4_isWrong_10
def dkwX4_isWrong_8 : List UInt8 := [180, 0, 145, 29, 46, 6, 160, 0, 28, 42, 28, 29, 16, 7, 182, 1, 220, 42, 180, 0, 64, 7, 28, 104]
abbrev dktX4_isWrong_8 : List UInt8 := dkwX4_isWrong_8 ++ dktX4_isWrong_9
def dkwX4_isWrong_7 : List UInt8 := [42, 180, 0, 64, 7, 28, 104, 4, 96, 46, 7, 96, 164, 0, 7, 4, 167, 0, 4, 3, 172, 42]
abbrev dktX4_isWrong_7 : List UInt8 := dkwX4_isWrong_7 ++ dktX4_isWrong_8
def dkwX4_isWrong_6 : List UInt8 := [3, 172, 42, 28, 29, 21, 4, 182, 2, 18, 172, 42, 28, 29, 182, 2, 21, 172, 42, 28, 29, 182, 1, 223]
abbrev dktX4_isWrong_6 : List UInt8 := dkwX4_isWrong_6 ++ dktX4_isWrong_7
def dkwX4_isWrong_5 : List UInt8 := [182, 2, 15, 154, 0, 17, 42, 28, 42, 180, 0, 136, 29, 46, 182, 1, 234, 153, 0, 7, 4, 167, 0, 4]
abbrev dktX4_isWrong_5 : List UInt8 := dkwX4_isWrong_5 ++ dktX4_isWrong_6
def dkwX4_isWrong_4 : List UInt8 := [180, 0, 148, 29, 46, 46, 162, 0, 7, 4, 167, 0, 4, 3, 172, 42, 28, 42, 180, 0, 136, 29, 46]
abbrev dktX4_isWrong_4 : List UInt8 := dkwX4_isWrong_4 ++ dktX4_isWrong_5
def dkwX4_isWrong_3 : List UInt8 := [180, 0, 145, 29, 46, 6, 160, 0, 29, 42, 28, 29, 21, 4, 182, 1, 207, 42, 180, 0, 20, 42]
abbrev dktX4_isWrong_3 : List UInt8 := dkwX4_isWrong_3 ++ dktX4_isWrong_4
def dkwX4_isWrong_2 : List UInt8 := [42, 28, 42, 180, 0, 148, 29, 46, 21, 4, 182, 2, 12, 154, 0, 7, 4, 167, 0, 4, 3, 172, 42]
abbrev dktX4_isWrong_2 : List UInt8 := dkwX4_isWrong_2 ++ dktX4_isWrong_3
def dkwX4_isWrong_1 : List UInt8 := [170, 0, 0, 0, 0, 0, 217, 0, 0, 0, 8, 0, 0, 0, 14, 0, 0, 0, 43, 0, 0, 0, 65, 0, 0, 0, 103, 0, 0, 0, 137, 0, 0, 0, 146, 0, 0, 0, 153, 0, 0, 0, 180]
abbrev dktX4_isWrong_1 : List UInt8 := dkwX4_isWrong_1 ++ dktX4_isWrong_2
def dkwX4_isWrong_0 : List UInt8 := [27]
abbrev dktX4_isWrong_0 : List UInt8 := dkwX4_isWrong_0 ++ dktX4_isWrong_1
theorem dksX4_isWrong_0 : cX4_isWrong.data.toList.drop 0 = dktX4_isWrong_0 := by decide +kernel
theorem dksX4_isWrong_1 : cX4_isWrong.data.toList.drop 1 = dktX4_isWrong_1 := dk_seg dksX4_isWrong_0 1 rfl rfl
theorem dksX4_isWrong_2 : cX4_isWrong.data.toList.drop 44 = dktX4_isWrong_2 := dk_seg dksX4_isWrong_1 43 rfl rfl
theorem dksX4_isWrong_3 : cX4_isWrong.data.toList.drop 67 = dktX4_isWrong_3 := dk_seg dksX4_isWrong_2 23 rfl rfl
theorem dksX4_isWrong_4 : cX4_isWrong.data.toList.drop 89 = dktX4_isWrong_4 := dk_seg dksX4_isWrong_3 22 rfl rfl
theorem dksX4_isWrong_5 : cX4_isWrong.data.toList.drop 112 = dktX4_isWrong_5 := dk_seg dksX4_isWrong_4 23 rfl rfl
theorem dksX4_isWrong_6 : cX4_isWrong.data.toList.drop 136 = dktX4_isWrong_6 := dk_seg dksX4_isWrong_5 24 rfl rfl
theorem dksX4_isWrong_7 : cX4_isWrong.data.toList.drop 160 = dktX4_isWrong_7 := dk_seg dksX4_isWrong_6 24 rfl rfl
theorem dksX4_isWrong_8 : cX4_isWrong.data.toList.drop 182 = dktX4_isWrong_8 := dk_seg dksX4_isWrong_7 22 rfl rfl
theorem dksX4_isWrong_9 : cX4_isWrong.data.toList.drop 206 = dktX4_isWrong_9 := dk_seg dksX4_isWrong_8 24 rfl rfl
theorem dksX4_isWrong_10 : cX4_isWrong.data.toList.drop 230 = dktX4_isWrong_10 := dk_seg dksX4_isWrong_9 24 rfl rfl
theorem dX4_isWrong_0 : decode cX4_isWrong 0 = .ok (.iload_n 1, 1) := dk_27 (dk_at dksX4_isWrong_0 0 rfl rfl)
theorem dX4_isWrong_1 : decode cX4_isWrong 1 = .ok (.tableswitch 217 8 14 #[43, 65, 103, 137, 146, 153, 180], 43) := by decide +kernel
theorem dX4_isWrong_44 : decode cX4_isWrong 44 = .ok (.aload_n 0, 1) := dk_42 (dk_at dksX4_isWrong_2 0 rfl rfl)
theorem dX4_isWrong_45 : decode cX4_isWrong 45 = .ok (.iload_n 2, 1) := dk_28 (dk_at dksX4_isWrong_2 1 rfl rfl)
theorem dX4_isWrong_46 : decode cX4_isWrong 46 = .ok (.aload_n 0, 1) := dk_42 (dk_at dksX4_isWrong_2 2 rfl rfl)
theorem dX4_isWrong_47 : decode cX4_isWrong 47 = .ok (.getfield 148, 3) := dk_180 0 148 (dk_at dksX4_isWrong_2 3 rfl rfl)
theorem dX4_isWrong_50 : decode cX4_isWrong 50 = .ok (.iload_n 3, 1) := dk_29 (dk_at dksX4_isWrong_2 6 rfl rfl)
theorem dX4_isWrong_51 : decode cX4_isWrong 51 = .ok (.iaload, 1) := dk_46 (dk_at dksX4_isWrong_2 7 rfl rfl)
theorem dX4_isWrong_52 : decode cX4_isWrong 52 = .ok (.iload 4, 2) := dk_21 4 (dk_at dksX4_isWrong_2 8 rfl rfl)
theorem dX4_isWrong_54 : decode cX4_isWrong 54 = .ok (.invokevirtual 524, 3) := dk_182 2 12 (dk_at dksX4_isWrong_2 10 rfl rfl)
theorem dX4_isWrong_57 : decode cX4_isWrong 57 = .ok (.ifCond .ne 7, 3) := dk_154 0 7 (dk_at dksX4_isWrong_2 13 rfl rfl)
theorem dX4_isWrong_60 : decode cX4_isWrong 60 = .ok (.iconst 1, 1) := dk_4 (dk_at dksX4_isWrong_2 16 rfl rfl)
theorem dX4_isWrong_61 : decode cX4_isWrong 61 = .ok (.goto 4, 3) := dk_167 0 4 (dk_at dksX4_isWrong_2 17 rfl rfl)
theorem dX4_isWrong_64 : decode cX4_isWrong 64 = .ok (.iconst 0, 1) := dk_3 (dk_at dksX4_isWrong_2 20 rfl rfl)
theorem dX4_isWrong_65 : decode cX4_isWrong 65 = .ok (.ireturn, 1) := dk_172 (dk_at dksX4_isWrong_2 21 rfl rfl)
theorem dX4_isWrong_66 : decode cX4_isWrong 66 = .ok (.aload_n 0, 1) := dk_42 (dk_at dksX4_isWrong_2 22 rfl rfl)
theorem dX4_isWrong_67 : decode cX4_isWrong 67 = .ok (.getfield 145, 3) := dk_180 0 145 (dk_at dksX4_isWrong_3 0 rfl rfl)
theorem dX4_isWrong_70 : decode cX4_isWrong 70 = .ok (.iload_n 3, 1) := dk_29 (dk_at dksX4_isWrong_3 3 rfl rfl)
theorem dX4_isWrong_71 : decode cX4_isWrong 71 = .ok (.iaload, 1) := dk_46 (dk_at dksX4_isWrong_3 4 rfl rfl)
theorem dX4_isWrong_72 : decode cX4_isWrong 72 = .ok (.iconst 3, 1) := dk_6 (dk_at dksX4_isWrong_3 5 rfl rfl)
theorem dX4_isWrong_73 : decode cX4_isWrong 73 = .ok (.if_icmp .ne 29, 3) := dk_160 0 29 (dk_at dksX4_isWrong_3 6 rfl rfl)
theorem dX4_isWrong_76 : decode cX4_isWrong 76 = .ok (.aload_n 0, 1) := dk_42 (dk_at dksX4_isWrong_3 9 rfl rfl)
theorem dX4_isWrong_77 : decode cX4_isWrong 77 = .ok (.iload_n 2, 1) := dk_28 (dk_at dksX4_isWrong_3 10 rfl rfl)
theorem dX4_isWrong_78 : decode cX4_isWrong 78 = .ok (.iload_n 3, 1) := dk_29 (dk_at dksX4_isWrong_3 11 rfl rfl)
theorem dX4_isWrong_79 : decode cX4_isWrong 79 = .ok (.iload 4, 2) := dk_21 4 (dk_at dksX4_isWrong_3 12 rfl rfl)
theorem dX4_isWrong_81 : decode cX4_isWrong 81 = .ok (.invokevirtual 463, 3) := dk_182 1 207 (dk_at dksX4_isWrong_3 14 rfl rfl)
theorem dX4_isWrong_84 : decode cX4_isWrong 84 = .ok (.aload_n 0, 1) := dk_42 (dk_at dksX4_isWrong_3 17 rfl rfl)
theorem dX4_isWrong_85 : decode cX4_isWrong 85 = .ok (.getfield 20, 3) := dk_180 0 20 (dk_at dksX4_isWrong_3 18 rfl rfl)
theorem dX4_isWrong_88 : decode cX4_isWrong 88 = .ok (.aload_n 0, 1) := dk_42 (dk_at dksX4_isWrong_3 21 rfl rfl)
theorem dX4_isWrong_89 : decode cX4_isWrong 89 = .ok (.getfield 148, 3) := dk_180 0 148 (dk_at dksX4_isWrong_4 0 rfl rfl)
theorem dX4_isWrong_92 : decode cX4_isWrong 92 = .ok (.iload_n 3, 1) := dk_29 (dk_at dksX4_isWrong_4 3 rfl rfl)
theorem dX4_isWrong_93 : decode cX4_isWrong 93 = .ok (.iaload, 1) := dk_46 (dk_at dksX4_isWrong_4 4 rfl rfl)
theorem dX4_isWrong_94 : decode cX4_isWrong 94 = .ok (.iaload, 1) := dk_46 (dk_at dksX4_isWrong_4 5 rfl rfl)
theorem dX4_isWrong_95 : decode cX4_isWrong 95 = .ok (.if_icmp .ge 7, 3) := dk_162 0 7 (dk_at dksX4_isWrong_4 6 rfl rfl)
theorem dX4_isWrong_98 : decode cX4_isWrong 98 = .ok (.iconst 1, 1) := dk_4 (dk_at dksX4_isWrong_4 9 rfl rfl)
theorem dX4_isWrong_99 : decode cX4_isWrong 99 = .ok (.goto 4, 3) := dk_167 0 4 (dk_at dksX4_isWrong_4 10 rfl rfl)
theorem dX4_isWrong_102 : decode cX4_isWrong 102 = .ok (.iconst 0, 1) := dk_3 (dk_at dksX4_isWrong_4 13 rfl rfl)
theorem dX4_isWrong_103 : decode cX4_isWrong 103 = .ok (.ireturn, 1) := dk_172 (dk_at dksX4_isWrong_4 14 rfl rfl)
theorem dX4_isWrong_104 : decode cX4_isWrong 104 = .ok (.aload_n 0, 1) := dk_42 (dk_at dksX4_isWrong_4 15 rfl rfl)
theorem dX4_isWrong_105 : decode cX4_isWrong 105 = .ok (.iload_n 2, 1) := dk_28 (dk_at dksX4_isWrong_4 16 rfl rfl)
theorem dX4_isWrong_106 : decode cX4_isWrong 106 = .ok (.aload_n 0, 1) := dk_42 (dk_at dksX4_isWrong_4 17 rfl rfl)
theorem dX4_isWrong_107 : decode cX4_isWrong 107 = .ok (.getfield 136, 3) := dk_180 0 136 (dk_at dksX4_isWrong_4 18 rfl rfl)
theorem dX4_isWrong_110 : decode cX4_isWrong 110 = .ok (.iload_n 3, 1) := dk_29 (dk_at dksX4_isWrong_4 21 rfl rfl)
theorem dX4_isWrong_111 : decode cX4_isWrong 111 = .ok (.iaload, 1) := dk_46 (dk_at dksX4_isWrong_4 22 rfl rfl)
theorem dX4_isWrong_112 : decode cX4_isWrong 112 = .ok (.invokevirtual 527, 3) := dk_182 2 15 (dk_at dksX4_isWrong_5 0 rfl rfl)
theorem dX4_isWrong_115 : decode cX4_isWrong 115 = .ok (.ifCond .ne 17, 3) := dk_154 0 17 (dk_at dksX4_isWrong_5 3 rfl rfl)
theorem dX4_isWrong_118 : decode cX4_isWrong 118 = .ok (.aload_n 0, 1) := dk_42 (dk_at dksX4_isWrong_5 6 rfl rfl)
theorem dX4_isWrong_119 : decode cX4_isWrong 119 = .ok (.iload_n 2, 1) := dk_28 (dk_at dksX4_isWrong_5 7 rfl rfl)
theorem dX4_isWrong_120 : decode cX4_isWrong 120 = .ok (.aload_n 0, 1) := dk_42 (dk_at dksX4_isWrong_5 8 rfl rfl)
theorem dX4_isWrong_121 : decode cX4_isWrong 121 = .ok (.getfield 136, 3) := dk_180 0 136 (dk_at dksX4_isWrong_5 9 rfl rfl)
theorem dX4_isWrong_124 : decode cX4_isWrong 124 = .ok (.iload_n 3, 1) := dk_29 (dk_at dksX4_isWrong_5 12 rfl rfl)
theorem dX4_isWrong_125 : decode cX4_isWrong 125 = .ok (.iaload, 1) := dk_46 (dk_at dksX4_isWrong_5 13 rfl rfl)
theorem dX4_isWrong_126 : decode cX4_isWrong 126 = .ok (.invokevirtual 490, 3) := dk_182 1 234 (dk_at dksX4_isWrong_5 14 rfl rfl)
theorem dX4_isWrong_129 : decode cX4_isWrong 129 = .ok (.ifCond .eq 7, 3) := dk_153 0 7 (dk_at dksX4_isWrong_5 17 rfl rfl)
theorem dX4_isWrong_132 : decode cX4_isWrong 132 = .ok (.iconst 1, 1) := dk_4 (dk_at dksX4_isWrong_5 20 rfl rfl)
theorem dX4_isWrong_133 : decode cX4_isWrong 133 = .ok (.goto 4, 3) := dk_167 0 4 (dk_at dksX4_isWrong_5 21 rfl rfl)
theorem dX4_isWrong_136 : decode cX4_isWrong 136 = .ok (.iconst 0, 1) := dk_3 (dk_at dksX4_isWrong_6 0 rfl rfl)
theorem dX4_isWrong_137 : decode cX4_isWrong 137 = .ok (.ireturn, 1) := dk_172 (dk_at dksX4_isWrong_6 1 rfl rfl)
theorem dX4_isWrong_138 : decode cX4_isWrong 138 = .ok (.aload_n 0, 1) := dk_42 (dk_at dksX4_isWrong_6 2 rfl rfl)
theorem dX4_isWrong_139 : decode cX4_isWrong 139 = .ok (.iload_n 2, 1) := dk_28 (dk_at dksX4_isWrong_6 3 rfl rfl)
theorem dX4_isWrong_140 : decode cX4_isWrong 140 = .ok (.iload_n 3, 1) := dk_29 (dk_at dksX4_isWrong_6 4 rfl rfl)
theorem dX4_isWrong_141 : decode cX4_isWrong 141 = .ok (.iload 4, 2) := dk_21 4 (dk_at dksX4_isWrong_6 5 rfl rfl)
theorem dX4_isWrong_143 : decode cX4_isWrong 143 = .ok (.invokevirtual 530, 3) := dk_182 2 18 (dk_at dksX4_isWrong_6 7 rfl rfl)
theorem dX4_isWrong_146 : decode cX4_isWrong 146 = .ok (.ireturn, 1) := dk_172 (dk_at dksX4_isWrong_6 10 rfl rfl)
theorem dX4_isWrong_147 : decode cX4_isWrong 147 = .ok (.aload_n 0, 1) := dk_42 (dk_at dksX4_isWrong_6 11 rfl rfl)
theorem dX4_isWrong_148 : decode cX4_isWrong 148 = .ok (.iload_n 2, 1) := dk_28 (dk_at dksX4_isWrong_6 12 rfl rfl)
theorem dX4_isWrong_149 : decode cX4_isWrong 149 = .ok (.iload_n 3, 1) := dk_29 (dk_at dksX4_isWrong_6 13 rfl rfl)
theorem dX4_isWrong_150 : decode cX4_isWrong 150 = .ok (.invokevirtual 533, 3) := dk_182 2 21 (dk_at dksX4_isWrong_6 14 rfl rfl)
theorem dX4_isWrong_153 : decode cX4_isWrong 153 = .ok (.ireturn, 1) := dk_172 (dk_at dksX4_isWrong_6 17 rfl rfl)
theorem dX4_isWrong_154 : decode cX4_isWrong 154 = .ok (.aload_n 0, 1) := dk_42 (dk_at dksX4_isWrong_6 18 rfl rfl)
theorem dX4_isWrong_155 : decode cX4_isWrong 155 = .ok (.iload_n 2, 1) := dk_28 (dk_at dksX4_isWrong_6 19 rfl rfl)
theorem dX4_isWrong_156 : decode cX4_isWrong 156 = .ok (.iload_n 3, 1) := dk_29 (dk_at dksX4_isWrong_6 20 rfl rfl)
theorem dX4_isWrong_157 : decode cX4_isWrong 157 = .ok (.invokevirtual 479, 3) := dk_182 1 223 (dk_at dksX4_isWrong_6 21 rfl rfl)
theorem dX4_isWrong_160 : decode cX4_isWrong 160 = .ok (.aload_n 0, 1) := dk_42 (dk_at dksX4_isWrong_7 0 rfl rfl)
theorem dX4_isWrong_161 : decode cX4_isWrong 161 = .ok (.getfield 64, 3) := dk_180 0 64 (dk_at dksX4_isWrong_7 1 rfl rfl)
theorem dX4_isWrong_164 : decode cX4_isWrong 164 = .ok (.iconst 4, 1) := dk_7 (dk_at dksX4_isWrong_7 4 rfl rfl)
theorem dX4_isWrong_165 : decode cX4_isWrong 165 = .ok (.iload_n 2, 1) := dk_28 (dk_at dksX4_isWrong_7 5 rfl rfl)
theorem dX4_isWrong_166 : decode cX4_isWrong 166 = .ok (.imul, 1) := dk_104 (dk_at dksX4_isWrong_7 6 rfl rfl)
theorem dX4_isWrong_167 : decode cX4_isWrong 167 = .ok (.iconst 1, 1) := dk_4 (dk_at dksX4_isWrong_7 7 rfl rfl)
theorem dX4_isWrong_168 : decode cX4_isWrong 168 = .ok (.iadd, 1) := dk_96 (dk_at dksX4_isWrong_7 8 rfl rfl)
theorem dX4_isWrong_169 : decode cX4_isWrong 169 = .ok (.iaload, 1) := dk_46 (dk_at dksX4_isWrong_7 9 rfl rfl)
theorem dX4_isWrong_170 : decode cX4_isWrong 170 = .ok (.iconst 4, 1) := dk_7 (dk_at dksX4_isWrong_7 10 rfl rfl)
theorem dX4_isWrong_171 : decode cX4_isWrong 171 = .ok (.iadd, 1) := dk_96 (dk_at dksX4_isWrong_7 11 rfl rfl)
theorem dX4_isWrong_172 : decode cX4_isWrong 172 = .ok (.if_icmp .le 7, 3) := dk_164 0 7 (dk_at dksX4_isWrong_7 12 rfl rfl)
theorem dX4_isWrong_175 : decode cX4_isWrong 175 = .ok (.iconst 1, 1) := dk_4 (dk_at dksX4_isWrong_7 15 rfl rfl)
theorem dX4_isWrong_176 : decode cX4_isWrong 176 = .ok (.goto 4, 3) := dk_167 0 4 (dk_at dksX4_isWrong_7 16 rfl rfl)
theorem dX4_isWrong_179 : decode cX4_isWrong 179 = .ok (.iconst 0, 1) := dk_3 (dk_at dksX4_isWrong_7 19 rfl rfl)
theorem dX4_isWrong_180 : decode cX4_isWrong 180 = .ok (.ireturn, 1) := dk_172 (dk_at dksX4_isWrong_7 20 rfl rfl)
theorem dX4_isWrong_181 : decode cX4_isWrong 181 = .ok (.aload_n 0, 1) := dk_42 (dk_at dksX4_isWrong_7 21 rfl rfl)
theorem dX4_isWrong_182 : decode cX4_isWrong 182 = .ok (.getfield 145, 3) := dk_180 0 145 (dk_at dksX4_isWrong_8 0 rfl rfl)
theorem dX4_isWrong_185 : decode cX4_isWrong 185 = .ok (.iload_n 3, 1) := dk_29 (dk_at dksX4_isWrong_8 3 rfl rfl)
theorem dX4_isWrong_186 : decode cX4_isWrong 186 = .ok (.iaload, 1) := dk_46 (dk_at dksX4_isWrong_8 4 rfl rfl)
theorem dX4_isWrong_187 : decode cX4_isWrong 187 = .ok (.iconst 3, 1) := dk_6 (dk_at dksX4_isWrong_8 5 rfl rfl)
theorem dX4_isWrong_188 : decode cX4_isWrong 188 = .ok (.if_icmp .ne 28, 3) := dk_160 0 28 (dk_at dksX4_isWrong_8 6 rfl rfl)
theorem dX4_isWrong_191 : decode cX4_isWrong 191 = .ok (.aload_n 0, 1) := dk_42 (dk_at dksX4_isWrong_8 9 rfl rfl)
theorem dX4_isWrong_192 : decode cX4_isWrong 192 = .ok (.iload_n 2, 1) := dk_28 (dk_at dksX4_isWrong_8 10 rfl rfl)
theorem dX4_isWrong_193 : decode cX4_isWrong 193 = .ok (.iload_n 3, 1) := dk_29 (dk_at dksX4_isWrong_8 11 rfl rfl)
theorem dX4_isWrong_194 : decode cX4_isWrong 194 = .ok (.bipush 7, 2) := dk_16 7 (dk_at dksX4_isWrong_8 12 rfl rfl)
theorem dX4_isWrong_196 : decode cX4_isWrong 196 = .ok (.invokevirtual 476, 3) := dk_182 1 220 (dk_at dksX4_isWrong_8 14 rfl rfl)
theorem dX4_isWrong_199 : decode cX4_isWrong 199 = .ok (.aload_n 0, 1) := dk_42 (dk_at dksX4_isWrong_8 17 rfl rfl)
theorem dX4_isWrong_200 : decode cX4_isWrong 200 = .ok (.getfield 64, 3) := dk_180 0 64 (dk_at dksX4_isWrong_8 18 rfl rfl)
theorem dX4_isWrong_203 : decode cX4_isWrong 203 = .ok (.iconst 4, 1) := dk_7 (dk_at dksX4_isWrong_8 21 rfl rfl)
theorem dX4_isWrong_204 : decode cX4_isWrong 204 = .ok (.iload_n 2, 1) := dk_28 (dk_at dksX4_isWrong_8 22 rfl rfl)
theorem dX4_isWrong_205 : decode cX4_isWrong 205 = .ok (.imul, 1) := dk_104 (dk_at dksX4_isWrong_8 23 rfl rfl)
theorem dX4_isWrong_206 : decode cX4_isWrong 206 = .ok (.iconst 2, 1) := dk_5 (dk_at dksX4_isWrong_9 0 rfl rfl)
theorem dX4_isWrong_207 : decode cX4_isWrong 207 = .ok (.iadd, 1) := dk_96 (dk_at dksX4_isWrong_9 1 rfl rfl)
theorem dX4_isWrong_208 : decode cX4_isWrong 208 = .ok (.iaload, 1) := dk_46 (dk_at dksX4_isWrong_9 2 rfl rfl)
theorem dX4_isWrong_209 : decode cX4_isWrong 209 = .ok (.if_icmp .le 7, 3) := dk_164 0 7 (dk_at dksX4_isWrong_9 3 rfl rfl)
theorem dX4_isWrong_212 : decode cX4_isWrong 212 = .ok (.iconst 1, 1) := dk_4 (dk_at dksX4_isWrong_9 6 rfl rfl)
theorem dX4_isWrong_213 : decode cX4_isWrong 213 = .ok (.goto 4, 3) := dk_167 0 4 (dk_at dksX4_isWrong_9 7 rfl rfl)
theorem dX4_isWrong_216 : decode cX4_isWrong 216 = .ok (.iconst 0, 1) := dk_3 (dk_at dksX4_isWrong_9 10 rfl rfl)
theorem dX4_isWrong_217 : decode cX4_isWrong 217 = .ok (.ireturn, 1) := dk_172 (dk_at dksX4_isWrong_9 11 rfl rfl)
theorem dX4_isWrong_218 : decode cX4_isWrong 218 = .ok (.aload_n 0, 1) := dk_42 (dk_at dksX4_isWrong_9 12 rfl rfl)
theorem dX4_isWrong_219 : decode cX4_isWrong 219 = .ok (.iload_n 2, 1) := dk_28 (dk_at dksX4_isWrong_9 13 rfl rfl)
theorem dX4_isWrong_220 : decode cX4_isWrong 220 = .ok (.iload_n 3, 1) := dk_29 (dk_at dksX4_isWrong_9 14 rfl rfl)
theorem dX4_isWrong_221 : decode cX4_isWrong 221 = .ok (.invokevirtual 467, 3) := dk_182 1 211 (dk_at dksX4_isWrong_9 15 rfl rfl)
theorem dX4_isWrong_224 : decode cX4_isWrong 224 = .ok (.aload_n 0, 1) := dk_42 (dk_at dksX4_isWrong_9 18 rfl rfl)
theorem dX4_isWrong_225 : decode cX4_isWrong 225 = .ok (.getfield 64, 3) := dk_180 0 64 (dk_at dksX4_isWrong_9 19 rfl rfl)
theorem dX4_isWrong_228 : decode cX4_isWrong 228 = .ok (.iconst 4, 1) := dk_7 (dk_at dksX4_isWrong_9 22 rfl rfl)
theorem dX4_isWrong_229 : decode cX4_isWrong 229 = .ok (.iload_n 2, 1) := dk_28 (dk_at dksX4_isWrong_9 23 rfl rfl)
theorem dX4_isWrong_230 : decode cX4_isWrong 230 = .ok (.imul, 1) := dk_104 (dk_at dksX4_isWrong_10 0 rfl rfl)
theorem dX4_isWrong_231 : decode cX4_isWrong 231 = .ok (.iconst 3, 1) := dk_6 (dk_at dksX4_isWrong_10 1 rfl rfl)
theorem dX4_isWrong_232 : decode cX4_isWrong 232 = .ok (.iadd, 1) := dk_96 (dk_at dksX4_isWrong_10 2 rfl rfl)
theorem dX4_isWrong_233 : decode cX4_isWrong 233 = .ok (.iaload, 1) := dk_46 (dk_at dksX4_isWrong_10 3 rfl rfl)
theorem dX4_isWrong_234 : decode cX4_isWrong 234 = .ok (.if_icmp .le 7, 3) := dk_164 0 7 (dk_at dksX4_isWrong_10 4 rfl rfl)
theorem dX4_isWrong_237 : decode cX4_isWrong 237 = .ok (.iconst 1, 1) := dk_4 (dk_at dksX4_isWrong_10 7 rfl rfl)
theorem dX4_isWrong_238 : decode cX4_isWrong 238 = .ok (.goto 4, 3) := dk_167 0 4 (dk_at dksX4_isWrong_10 8 rfl rfl)
theorem dX4_isWrong_241 : decode cX4_isWrong 241 = .ok (.iconst 0, 1) := dk_3 (dk_at dksX4_isWrong_10 11 rfl rfl)
theorem dX4_isWrong_242 : decode cX4_isWrong 242 = .ok (.ireturn, 1) := dk_172 (dk_at dksX4_isWrong_10 12 rfl rfl)
abbrev cX4_suits : ByteArray := prog_18_method_17_code
def yX4_suits : MethodName := ⟨RX4, "suits", "(III)Z"⟩
def dkwX4_suits_3 : List UInt8 := [3, 172]
abbrev dktX4_suits_3 : List UInt8 := dkwX4_suits_3 ++ []
def dkwX4_suits_2 : List UInt8 := [42, 180, 0, 51, 27, 46, 42, 180, 0, 38, 21, 4, 46, 184, 1, 8, 4, 163, 0, 7, 4, 167, 0, 4]
abbrev dktX4_suits_2 : List UInt8 := dkwX4_suits_2 ++ dktX4_suits_3
def dkwX4_suits_1 : List UInt8 := [4, 160, 0, 47, 42, 180, 0, 48, 27, 46, 42, 180, 0, 35, 21, 4, 46, 122, 4, 126, 4, 160, 0, 27]
abbrev dktX4_suits_1 : List UInt8 := dkwX4_suits_1 ++ dktX4_suits_2
def dkwX4_suits_0 : List UInt8 := [16, 8, 28, 104, 29, 96, 54, 4, 42, 180, 0, 45, 27, 46, 42, 180, 0, 29, 21, 4, 46, 122, 4, 126]
abbrev dktX4_suits_0 : List UInt8 := dkwX4_suits_0 ++ dktX4_suits_1
theorem dksX4_suits_0 : cX4_suits.data.toList.drop 0 = dktX4_suits_0 := by decide +kernel
theorem dksX4_suits_1 : cX4_suits.data.toList.drop 24 = dktX4_suits_1 := dk_seg dksX4_suits_0 24 rfl rfl
theorem dksX4_suits_2 : cX4_suits.data.toList.drop 48 = dktX4_suits_2 := dk_seg dksX4_suits_1 24 rfl rfl
theorem dksX4_suits_3 : cX4_suits.data.toList.drop 72 = dktX4_suits_3 := dk_seg dksX4_suits_2 24 rfl rfl
theorem dX4_suits_0 : decode cX4_suits 0 = .ok (.bipush 8, 2) := dk_16 8 (dk_at dksX4_suits_0 0 rfl rfl)
theorem dX4_suits_2 : decode cX4_suits 2 = .ok (.iload_n 2, 1) := dk_28 (dk_at dksX4_suits_0 2 rfl rfl)
theorem dX4_suits_3 : decode cX4_suits 3 = .ok (.imul, 1) := dk_104 (dk_at dksX4_suits_0 3 rfl rfl)
theorem dX4_suits_4 : decode cX4_suits 4 = .ok (.iload_n 3, 1) := dk_29 (dk_at dksX4_suits_0 4 rfl rfl)
theorem dX4_suits_5 : decode cX4_suits 5 = .ok (.iadd, 1) := dk_96 (dk_at dksX4_suits_0 5 rfl rfl)
theorem dX4_suits_6 : decode cX4_suits 6 = .ok (.istore 4, 2) := dk_54 4 (dk_at dksX4_suits_0 6 rfl rfl)
theorem dX4_suits_8 : decode cX4_suits 8 = .ok (.aload_n 0, 1) := dk_42 (dk_at dksX4_suits_0 8 rfl rfl)
theorem dX4_suits_9 : decode cX4_suits 9 = .ok (.getfield 45, 3) := dk_180 0 45 (dk_at dksX4_suits_0 9 rfl rfl)
theorem dX4_suits_12 : decode cX4_suits 12 = .ok (.iload_n 1, 1) := dk_27 (dk_at dksX4_suits_0 12 rfl rfl)
theorem dX4_suits_13 : decode cX4_suits 13 = .ok (.iaload, 1) := dk_46 (dk_at dksX4_suits_0 13 rfl rfl)
theorem dX4_suits_14 : decode cX4_suits 14 = .ok (.aload_n 0, 1) := dk_42 (dk_at dksX4_suits_0 14 rfl rfl)
theorem dX4_suits_15 : decode cX4_suits 15 = .ok (.getfield 29, 3) := dk_180 0 29 (dk_at dksX4_suits_0 15 rfl rfl)
theorem dX4_suits_18 : decode cX4_suits 18 = .ok (.iload 4, 2) := dk_21 4 (dk_at dksX4_suits_0 18 rfl rfl)
theorem dX4_suits_20 : decode cX4_suits 20 = .ok (.iaload, 1) := dk_46 (dk_at dksX4_suits_0 20 rfl rfl)
theorem dX4_suits_21 : decode cX4_suits 21 = .ok (.ishr, 1) := dk_122 (dk_at dksX4_suits_0 21 rfl rfl)
theorem dX4_suits_22 : decode cX4_suits 22 = .ok (.iconst 1, 1) := dk_4 (dk_at dksX4_suits_0 22 rfl rfl)
theorem dX4_suits_23 : decode cX4_suits 23 = .ok (.iand, 1) := dk_126 (dk_at dksX4_suits_0 23 rfl rfl)
theorem dX4_suits_24 : decode cX4_suits 24 = .ok (.iconst 1, 1) := dk_4 (dk_at dksX4_suits_1 0 rfl rfl)
theorem dX4_suits_25 : decode cX4_suits 25 = .ok (.if_icmp .ne 47, 3) := dk_160 0 47 (dk_at dksX4_suits_1 1 rfl rfl)
theorem dX4_suits_28 : decode cX4_suits 28 = .ok (.aload_n 0, 1) := dk_42 (dk_at dksX4_suits_1 4 rfl rfl)
theorem dX4_suits_29 : decode cX4_suits 29 = .ok (.getfield 48, 3) := dk_180 0 48 (dk_at dksX4_suits_1 5 rfl rfl)
theorem dX4_suits_32 : decode cX4_suits 32 = .ok (.iload_n 1, 1) := dk_27 (dk_at dksX4_suits_1 8 rfl rfl)
theorem dX4_suits_33 : decode cX4_suits 33 = .ok (.iaload, 1) := dk_46 (dk_at dksX4_suits_1 9 rfl rfl)
theorem dX4_suits_34 : decode cX4_suits 34 = .ok (.aload_n 0, 1) := dk_42 (dk_at dksX4_suits_1 10 rfl rfl)
theorem dX4_suits_35 : decode cX4_suits 35 = .ok (.getfield 35, 3) := dk_180 0 35 (dk_at dksX4_suits_1 11 rfl rfl)
theorem dX4_suits_38 : decode cX4_suits 38 = .ok (.iload 4, 2) := dk_21 4 (dk_at dksX4_suits_1 14 rfl rfl)
theorem dX4_suits_40 : decode cX4_suits 40 = .ok (.iaload, 1) := dk_46 (dk_at dksX4_suits_1 16 rfl rfl)
theorem dX4_suits_41 : decode cX4_suits 41 = .ok (.ishr, 1) := dk_122 (dk_at dksX4_suits_1 17 rfl rfl)
theorem dX4_suits_42 : decode cX4_suits 42 = .ok (.iconst 1, 1) := dk_4 (dk_at dksX4_suits_1 18 rfl rfl)
theorem dX4_suits_43 : decode cX4_suits 43 = .ok (.iand, 1) := dk_126 (dk_at dksX4_suits_1 19 rfl rfl)
theorem dX4_suits_44 : decode cX4_suits 44 = .ok (.iconst 1, 1) := dk_4 (dk_at dksX4_suits_1 20 rfl rfl)
theorem dX4_suits_45 : decode cX4_suits 45 = .ok (.if_icmp .ne 27, 3) := dk_160 0 27 (dk_at dksX4_suits_1 21 rfl rfl)
theorem dX4_suits_48 : decode cX4_suits 48 = .ok (.aload_n 0, 1) := dk_42 (dk_at dksX4_suits_2 0 rfl rfl)
theorem dX4_suits_49 : decode cX4_suits 49 = .ok (.getfield 51, 3) := dk_180 0 51 (dk_at dksX4_suits_2 1 rfl rfl)
theorem dX4_suits_52 : decode cX4_suits 52 = .ok (.iload_n 1, 1) := dk_27 (dk_at dksX4_suits_2 4 rfl rfl)
theorem dX4_suits_53 : decode cX4_suits 53 = .ok (.iaload, 1) := dk_46 (dk_at dksX4_suits_2 5 rfl rfl)
theorem dX4_suits_54 : decode cX4_suits 54 = .ok (.aload_n 0, 1) := dk_42 (dk_at dksX4_suits_2 6 rfl rfl)
theorem dX4_suits_55 : decode cX4_suits 55 = .ok (.getfield 38, 3) := dk_180 0 38 (dk_at dksX4_suits_2 7 rfl rfl)
theorem dX4_suits_58 : decode cX4_suits 58 = .ok (.iload 4, 2) := dk_21 4 (dk_at dksX4_suits_2 10 rfl rfl)
theorem dX4_suits_60 : decode cX4_suits 60 = .ok (.iaload, 1) := dk_46 (dk_at dksX4_suits_2 12 rfl rfl)
theorem dX4_suits_61 : decode cX4_suits 61 = .ok (.invokestatic 264, 3) := dk_184 1 8 (dk_at dksX4_suits_2 13 rfl rfl)
theorem dX4_suits_64 : decode cX4_suits 64 = .ok (.iconst 1, 1) := dk_4 (dk_at dksX4_suits_2 16 rfl rfl)
theorem dX4_suits_65 : decode cX4_suits 65 = .ok (.if_icmp .gt 7, 3) := dk_163 0 7 (dk_at dksX4_suits_2 17 rfl rfl)
theorem dX4_suits_68 : decode cX4_suits 68 = .ok (.iconst 1, 1) := dk_4 (dk_at dksX4_suits_2 20 rfl rfl)
theorem dX4_suits_69 : decode cX4_suits 69 = .ok (.goto 4, 3) := dk_167 0 4 (dk_at dksX4_suits_2 21 rfl rfl)
theorem dX4_suits_72 : decode cX4_suits 72 = .ok (.iconst 0, 1) := dk_3 (dk_at dksX4_suits_3 0 rfl rfl)
theorem dX4_suits_73 : decode cX4_suits 73 = .ok (.ireturn, 1) := dk_172 (dk_at dksX4_suits_3 1 rfl rfl)
abbrev cX4_apart : ByteArray := prog_18_method_16_code
def yX4_apart : MethodName := ⟨RX4, "apart", "(II)I"⟩
def dkwX4_apart_0 : List UInt8 := [26, 27, 162, 0, 9, 27, 26, 100, 167, 0, 6, 26, 27, 100, 172]
abbrev dktX4_apart_0 : List UInt8 := dkwX4_apart_0 ++ []
theorem dksX4_apart_0 : cX4_apart.data.toList.drop 0 = dktX4_apart_0 := by decide +kernel
theorem dX4_apart_0 : decode cX4_apart 0 = .ok (.iload_n 0, 1) := dk_26 (dk_at dksX4_apart_0 0 rfl rfl)
theorem dX4_apart_1 : decode cX4_apart 1 = .ok (.iload_n 1, 1) := dk_27 (dk_at dksX4_apart_0 1 rfl rfl)
theorem dX4_apart_2 : decode cX4_apart 2 = .ok (.if_icmp .ge 9, 3) := dk_162 0 9 (dk_at dksX4_apart_0 2 rfl rfl)
theorem dX4_apart_5 : decode cX4_apart 5 = .ok (.iload_n 1, 1) := dk_27 (dk_at dksX4_apart_0 5 rfl rfl)
theorem dX4_apart_6 : decode cX4_apart 6 = .ok (.iload_n 0, 1) := dk_26 (dk_at dksX4_apart_0 6 rfl rfl)
theorem dX4_apart_7 : decode cX4_apart 7 = .ok (.isub, 1) := dk_100 (dk_at dksX4_apart_0 7 rfl rfl)
theorem dX4_apart_8 : decode cX4_apart 8 = .ok (.goto 6, 3) := dk_167 0 6 (dk_at dksX4_apart_0 8 rfl rfl)
theorem dX4_apart_11 : decode cX4_apart 11 = .ok (.iload_n 0, 1) := dk_26 (dk_at dksX4_apart_0 11 rfl rfl)
theorem dX4_apart_12 : decode cX4_apart 12 = .ok (.iload_n 1, 1) := dk_27 (dk_at dksX4_apart_0 12 rfl rfl)
theorem dX4_apart_13 : decode cX4_apart 13 = .ok (.isub, 1) := dk_100 (dk_at dksX4_apart_0 13 rfl rfl)
theorem dX4_apart_14 : decode cX4_apart 14 = .ok (.ireturn, 1) := dk_172 (dk_at dksX4_apart_0 14 rfl rfl)
abbrev cX4_isAway : ByteArray := prog_18_method_41_code
def yX4_isAway : MethodName := ⟨RX4, "isAway", "(II)Z"⟩
def dkwX4_isAway_2 : List UInt8 := [167, 255, 212, 3, 172]
abbrev dktX4_isAway_2 : List UInt8 := dkwX4_isAway_2 ++ []
def dkwX4_isAway_1 : List UInt8 := [42, 180, 0, 73, 16, 6, 27, 104, 29, 96, 46, 184, 0, 242, 153, 0, 5, 4, 172, 132, 3, 1]
abbrev dktX4_isAway_1 : List UInt8 := dkwX4_isAway_1 ++ dktX4_isAway_2
def dkwX4_isAway_0 : List UInt8 := [3, 62, 29, 42, 180, 0, 67, 27, 46, 162, 0, 40, 28, 42, 180, 0, 70, 16, 6, 27, 104, 29, 96, 46]
abbrev dktX4_isAway_0 : List UInt8 := dkwX4_isAway_0 ++ dktX4_isAway_1
theorem dksX4_isAway_0 : cX4_isAway.data.toList.drop 0 = dktX4_isAway_0 := by decide +kernel
theorem dksX4_isAway_1 : cX4_isAway.data.toList.drop 24 = dktX4_isAway_1 := dk_seg dksX4_isAway_0 24 rfl rfl
theorem dksX4_isAway_2 : cX4_isAway.data.toList.drop 46 = dktX4_isAway_2 := dk_seg dksX4_isAway_1 22 rfl rfl
theorem dX4_isAway_0 : decode cX4_isAway 0 = .ok (.iconst 0, 1) := dk_3 (dk_at dksX4_isAway_0 0 rfl rfl)
theorem dX4_isAway_1 : decode cX4_isAway 1 = .ok (.istore_n 3, 1) := dk_62 (dk_at dksX4_isAway_0 1 rfl rfl)
theorem dX4_isAway_2 : decode cX4_isAway 2 = .ok (.iload_n 3, 1) := dk_29 (dk_at dksX4_isAway_0 2 rfl rfl)
theorem dX4_isAway_3 : decode cX4_isAway 3 = .ok (.aload_n 0, 1) := dk_42 (dk_at dksX4_isAway_0 3 rfl rfl)
theorem dX4_isAway_4 : decode cX4_isAway 4 = .ok (.getfield 67, 3) := dk_180 0 67 (dk_at dksX4_isAway_0 4 rfl rfl)
theorem dX4_isAway_7 : decode cX4_isAway 7 = .ok (.iload_n 1, 1) := dk_27 (dk_at dksX4_isAway_0 7 rfl rfl)
theorem dX4_isAway_8 : decode cX4_isAway 8 = .ok (.iaload, 1) := dk_46 (dk_at dksX4_isAway_0 8 rfl rfl)
theorem dX4_isAway_9 : decode cX4_isAway 9 = .ok (.if_icmp .ge 40, 3) := dk_162 0 40 (dk_at dksX4_isAway_0 9 rfl rfl)
theorem dX4_isAway_12 : decode cX4_isAway 12 = .ok (.iload_n 2, 1) := dk_28 (dk_at dksX4_isAway_0 12 rfl rfl)
theorem dX4_isAway_13 : decode cX4_isAway 13 = .ok (.aload_n 0, 1) := dk_42 (dk_at dksX4_isAway_0 13 rfl rfl)
theorem dX4_isAway_14 : decode cX4_isAway 14 = .ok (.getfield 70, 3) := dk_180 0 70 (dk_at dksX4_isAway_0 14 rfl rfl)
theorem dX4_isAway_17 : decode cX4_isAway 17 = .ok (.bipush 6, 2) := dk_16 6 (dk_at dksX4_isAway_0 17 rfl rfl)
theorem dX4_isAway_19 : decode cX4_isAway 19 = .ok (.iload_n 1, 1) := dk_27 (dk_at dksX4_isAway_0 19 rfl rfl)
theorem dX4_isAway_20 : decode cX4_isAway 20 = .ok (.imul, 1) := dk_104 (dk_at dksX4_isAway_0 20 rfl rfl)
theorem dX4_isAway_21 : decode cX4_isAway 21 = .ok (.iload_n 3, 1) := dk_29 (dk_at dksX4_isAway_0 21 rfl rfl)
theorem dX4_isAway_22 : decode cX4_isAway 22 = .ok (.iadd, 1) := dk_96 (dk_at dksX4_isAway_0 22 rfl rfl)
theorem dX4_isAway_23 : decode cX4_isAway 23 = .ok (.iaload, 1) := dk_46 (dk_at dksX4_isAway_0 23 rfl rfl)
theorem dX4_isAway_24 : decode cX4_isAway 24 = .ok (.aload_n 0, 1) := dk_42 (dk_at dksX4_isAway_1 0 rfl rfl)
theorem dX4_isAway_25 : decode cX4_isAway 25 = .ok (.getfield 73, 3) := dk_180 0 73 (dk_at dksX4_isAway_1 1 rfl rfl)
theorem dX4_isAway_28 : decode cX4_isAway 28 = .ok (.bipush 6, 2) := dk_16 6 (dk_at dksX4_isAway_1 4 rfl rfl)
theorem dX4_isAway_30 : decode cX4_isAway 30 = .ok (.iload_n 1, 1) := dk_27 (dk_at dksX4_isAway_1 6 rfl rfl)
theorem dX4_isAway_31 : decode cX4_isAway 31 = .ok (.imul, 1) := dk_104 (dk_at dksX4_isAway_1 7 rfl rfl)
theorem dX4_isAway_32 : decode cX4_isAway 32 = .ok (.iload_n 3, 1) := dk_29 (dk_at dksX4_isAway_1 8 rfl rfl)
theorem dX4_isAway_33 : decode cX4_isAway 33 = .ok (.iadd, 1) := dk_96 (dk_at dksX4_isAway_1 9 rfl rfl)
theorem dX4_isAway_34 : decode cX4_isAway 34 = .ok (.iaload, 1) := dk_46 (dk_at dksX4_isAway_1 10 rfl rfl)
theorem dX4_isAway_35 : decode cX4_isAway 35 = .ok (.invokestatic 242, 3) := dk_184 0 242 (dk_at dksX4_isAway_1 11 rfl rfl)
theorem dX4_isAway_38 : decode cX4_isAway 38 = .ok (.ifCond .eq 5, 3) := dk_153 0 5 (dk_at dksX4_isAway_1 14 rfl rfl)
theorem dX4_isAway_41 : decode cX4_isAway 41 = .ok (.iconst 1, 1) := dk_4 (dk_at dksX4_isAway_1 17 rfl rfl)
theorem dX4_isAway_42 : decode cX4_isAway 42 = .ok (.ireturn, 1) := dk_172 (dk_at dksX4_isAway_1 18 rfl rfl)
theorem dX4_isAway_43 : decode cX4_isAway 43 = .ok (.iinc 3 1, 3) := dk_132 3 1 (dk_at dksX4_isAway_1 19 rfl rfl)
theorem dX4_isAway_46 : decode cX4_isAway 46 = .ok (.goto (-44), 3) := dk_167 255 212 (dk_at dksX4_isAway_2 0 rfl rfl)
theorem dX4_isAway_49 : decode cX4_isAway 49 = .ok (.iconst 0, 1) := dk_3 (dk_at dksX4_isAway_2 3 rfl rfl)
theorem dX4_isAway_50 : decode cX4_isAway 50 = .ok (.ireturn, 1) := dk_172 (dk_at dksX4_isAway_2 4 rfl rfl)
abbrev cX4_isBusy : ByteArray := prog_18_method_86_code
def yX4_isBusy : MethodName := ⟨RX4, "isBusy", "(III)Z"⟩
def dkwX4_isBusy_3 : List UInt8 := [167, 255, 222, 3, 172]
abbrev dktX4_isBusy_3 : List UInt8 := dkwX4_isBusy_3 ++ []
def dkwX4_isBusy_2 : List UInt8 := [21, 4, 28, 182, 2, 5, 153, 0, 15, 42, 27, 21, 4, 182, 1, 202, 153, 0, 5, 4, 172, 132, 4, 1]
abbrev dktX4_isBusy_2 : List UInt8 := dkwX4_isBusy_2 ++ dktX4_isBusy_3
def dkwX4_isBusy_1 : List UInt8 := [160, 0, 5, 4, 172, 132, 4, 1, 167, 255, 229, 3, 54, 4, 21, 4, 42, 180, 1, 190, 162, 0, 31, 42]
abbrev dktX4_isBusy_1 : List UInt8 := dkwX4_isBusy_1 ++ dktX4_isBusy_2
def dkwX4_isBusy_0 : List UInt8 := [3, 54, 4, 21, 4, 29, 162, 0, 27, 42, 180, 0, 157, 16, 8, 28, 104, 21, 4, 96, 46, 27]
abbrev dktX4_isBusy_0 : List UInt8 := dkwX4_isBusy_0 ++ dktX4_isBusy_1
theorem dksX4_isBusy_0 : cX4_isBusy.data.toList.drop 0 = dktX4_isBusy_0 := by decide +kernel
theorem dksX4_isBusy_1 : cX4_isBusy.data.toList.drop 22 = dktX4_isBusy_1 := dk_seg dksX4_isBusy_0 22 rfl rfl
theorem dksX4_isBusy_2 : cX4_isBusy.data.toList.drop 46 = dktX4_isBusy_2 := dk_seg dksX4_isBusy_1 24 rfl rfl
theorem dksX4_isBusy_3 : cX4_isBusy.data.toList.drop 70 = dktX4_isBusy_3 := dk_seg dksX4_isBusy_2 24 rfl rfl
theorem dX4_isBusy_0 : decode cX4_isBusy 0 = .ok (.iconst 0, 1) := dk_3 (dk_at dksX4_isBusy_0 0 rfl rfl)
theorem dX4_isBusy_1 : decode cX4_isBusy 1 = .ok (.istore 4, 2) := dk_54 4 (dk_at dksX4_isBusy_0 1 rfl rfl)
theorem dX4_isBusy_3 : decode cX4_isBusy 3 = .ok (.iload 4, 2) := dk_21 4 (dk_at dksX4_isBusy_0 3 rfl rfl)
theorem dX4_isBusy_5 : decode cX4_isBusy 5 = .ok (.iload_n 3, 1) := dk_29 (dk_at dksX4_isBusy_0 5 rfl rfl)
theorem dX4_isBusy_6 : decode cX4_isBusy 6 = .ok (.if_icmp .ge 27, 3) := dk_162 0 27 (dk_at dksX4_isBusy_0 6 rfl rfl)
theorem dX4_isBusy_9 : decode cX4_isBusy 9 = .ok (.aload_n 0, 1) := dk_42 (dk_at dksX4_isBusy_0 9 rfl rfl)
theorem dX4_isBusy_10 : decode cX4_isBusy 10 = .ok (.getfield 157, 3) := dk_180 0 157 (dk_at dksX4_isBusy_0 10 rfl rfl)
theorem dX4_isBusy_13 : decode cX4_isBusy 13 = .ok (.bipush 8, 2) := dk_16 8 (dk_at dksX4_isBusy_0 13 rfl rfl)
theorem dX4_isBusy_15 : decode cX4_isBusy 15 = .ok (.iload_n 2, 1) := dk_28 (dk_at dksX4_isBusy_0 15 rfl rfl)
theorem dX4_isBusy_16 : decode cX4_isBusy 16 = .ok (.imul, 1) := dk_104 (dk_at dksX4_isBusy_0 16 rfl rfl)
theorem dX4_isBusy_17 : decode cX4_isBusy 17 = .ok (.iload 4, 2) := dk_21 4 (dk_at dksX4_isBusy_0 17 rfl rfl)
theorem dX4_isBusy_19 : decode cX4_isBusy 19 = .ok (.iadd, 1) := dk_96 (dk_at dksX4_isBusy_0 19 rfl rfl)
theorem dX4_isBusy_20 : decode cX4_isBusy 20 = .ok (.iaload, 1) := dk_46 (dk_at dksX4_isBusy_0 20 rfl rfl)
theorem dX4_isBusy_21 : decode cX4_isBusy 21 = .ok (.iload_n 1, 1) := dk_27 (dk_at dksX4_isBusy_0 21 rfl rfl)
theorem dX4_isBusy_22 : decode cX4_isBusy 22 = .ok (.if_icmp .ne 5, 3) := dk_160 0 5 (dk_at dksX4_isBusy_1 0 rfl rfl)
theorem dX4_isBusy_25 : decode cX4_isBusy 25 = .ok (.iconst 1, 1) := dk_4 (dk_at dksX4_isBusy_1 3 rfl rfl)
theorem dX4_isBusy_26 : decode cX4_isBusy 26 = .ok (.ireturn, 1) := dk_172 (dk_at dksX4_isBusy_1 4 rfl rfl)
theorem dX4_isBusy_27 : decode cX4_isBusy 27 = .ok (.iinc 4 1, 3) := dk_132 4 1 (dk_at dksX4_isBusy_1 5 rfl rfl)
theorem dX4_isBusy_30 : decode cX4_isBusy 30 = .ok (.goto (-27), 3) := dk_167 255 229 (dk_at dksX4_isBusy_1 8 rfl rfl)
theorem dX4_isBusy_33 : decode cX4_isBusy 33 = .ok (.iconst 0, 1) := dk_3 (dk_at dksX4_isBusy_1 11 rfl rfl)
theorem dX4_isBusy_34 : decode cX4_isBusy 34 = .ok (.istore 4, 2) := dk_54 4 (dk_at dksX4_isBusy_1 12 rfl rfl)
theorem dX4_isBusy_36 : decode cX4_isBusy 36 = .ok (.iload 4, 2) := dk_21 4 (dk_at dksX4_isBusy_1 14 rfl rfl)
theorem dX4_isBusy_38 : decode cX4_isBusy 38 = .ok (.aload_n 0, 1) := dk_42 (dk_at dksX4_isBusy_1 16 rfl rfl)
theorem dX4_isBusy_39 : decode cX4_isBusy 39 = .ok (.getfield 446, 3) := dk_180 1 190 (dk_at dksX4_isBusy_1 17 rfl rfl)
theorem dX4_isBusy_42 : decode cX4_isBusy 42 = .ok (.if_icmp .ge 31, 3) := dk_162 0 31 (dk_at dksX4_isBusy_1 20 rfl rfl)
theorem dX4_isBusy_45 : decode cX4_isBusy 45 = .ok (.aload_n 0, 1) := dk_42 (dk_at dksX4_isBusy_1 23 rfl rfl)
theorem dX4_isBusy_46 : decode cX4_isBusy 46 = .ok (.iload 4, 2) := dk_21 4 (dk_at dksX4_isBusy_2 0 rfl rfl)
theorem dX4_isBusy_48 : decode cX4_isBusy 48 = .ok (.iload_n 2, 1) := dk_28 (dk_at dksX4_isBusy_2 2 rfl rfl)
theorem dX4_isBusy_49 : decode cX4_isBusy 49 = .ok (.invokevirtual 517, 3) := dk_182 2 5 (dk_at dksX4_isBusy_2 3 rfl rfl)
theorem dX4_isBusy_52 : decode cX4_isBusy 52 = .ok (.ifCond .eq 15, 3) := dk_153 0 15 (dk_at dksX4_isBusy_2 6 rfl rfl)
theorem dX4_isBusy_55 : decode cX4_isBusy 55 = .ok (.aload_n 0, 1) := dk_42 (dk_at dksX4_isBusy_2 9 rfl rfl)
theorem dX4_isBusy_56 : decode cX4_isBusy 56 = .ok (.iload_n 1, 1) := dk_27 (dk_at dksX4_isBusy_2 10 rfl rfl)
theorem dX4_isBusy_57 : decode cX4_isBusy 57 = .ok (.iload 4, 2) := dk_21 4 (dk_at dksX4_isBusy_2 11 rfl rfl)
theorem dX4_isBusy_59 : decode cX4_isBusy 59 = .ok (.invokevirtual 458, 3) := dk_182 1 202 (dk_at dksX4_isBusy_2 13 rfl rfl)
theorem dX4_isBusy_62 : decode cX4_isBusy 62 = .ok (.ifCond .eq 5, 3) := dk_153 0 5 (dk_at dksX4_isBusy_2 16 rfl rfl)
theorem dX4_isBusy_65 : decode cX4_isBusy 65 = .ok (.iconst 1, 1) := dk_4 (dk_at dksX4_isBusy_2 19 rfl rfl)
theorem dX4_isBusy_66 : decode cX4_isBusy 66 = .ok (.ireturn, 1) := dk_172 (dk_at dksX4_isBusy_2 20 rfl rfl)
theorem dX4_isBusy_67 : decode cX4_isBusy 67 = .ok (.iinc 4 1, 3) := dk_132 4 1 (dk_at dksX4_isBusy_2 21 rfl rfl)
theorem dX4_isBusy_70 : decode cX4_isBusy 70 = .ok (.goto (-34), 3) := dk_167 255 222 (dk_at dksX4_isBusy_3 0 rfl rfl)
theorem dX4_isBusy_73 : decode cX4_isBusy 73 = .ok (.iconst 0, 1) := dk_3 (dk_at dksX4_isBusy_3 3 rfl rfl)
theorem dX4_isBusy_74 : decode cX4_isBusy 74 = .ok (.ireturn, 1) := dk_172 (dk_at dksX4_isBusy_3 4 rfl rfl)
abbrev cX4_lacksRest : ByteArray := prog_18_method_87_code
def yX4_lacksRest : MethodName := ⟨RX4, "lacksRest", "(II)Z"⟩
def dkwX4_lacksRest_4 : List UInt8 := [167, 255, 171, 3, 172]
abbrev dktX4_lacksRest_4 : List UInt8 := dkwX4_lacksRest_4 ++ []
def dkwX4_lacksRest_3 : List UInt8 := [46, 100, 42, 180, 0, 64, 7, 27, 104, 3, 96, 46, 162, 0, 7, 4, 167, 0, 4, 3, 172, 132, 3, 255]
abbrev dktX4_lacksRest_3 : List UInt8 := dkwX4_lacksRest_3 ++ dktX4_lacksRest_4
def dkwX4_lacksRest_2 : List UInt8 := [21, 4, 46, 42, 180, 0, 136, 28, 46, 159, 0, 34, 42, 180, 0, 139, 28, 46, 42, 180, 0, 142, 21, 4]
abbrev dktX4_lacksRest_2 : List UInt8 := dkwX4_lacksRest_2 ++ dktX4_lacksRest_3
def dkwX4_lacksRest_1 : List UInt8 := [180, 0, 145, 21, 4, 46, 5, 161, 0, 62, 42, 27, 21, 4, 182, 1, 202, 153, 0, 52, 42, 180, 0, 136]
abbrev dktX4_lacksRest_1 : List UInt8 := dkwX4_lacksRest_1 ++ dktX4_lacksRest_2
def dkwX4_lacksRest_0 : List UInt8 := [42, 180, 0, 169, 28, 46, 4, 100, 62, 29, 155, 0, 87, 42, 180, 0, 166, 29, 46, 54, 4, 42]
abbrev dktX4_lacksRest_0 : List UInt8 := dkwX4_lacksRest_0 ++ dktX4_lacksRest_1
theorem dksX4_lacksRest_0 : cX4_lacksRest.data.toList.drop 0 = dktX4_lacksRest_0 := by decide +kernel
theorem dksX4_lacksRest_1 : cX4_lacksRest.data.toList.drop 22 = dktX4_lacksRest_1 := dk_seg dksX4_lacksRest_0 22 rfl rfl
theorem dksX4_lacksRest_2 : cX4_lacksRest.data.toList.drop 46 = dktX4_lacksRest_2 := dk_seg dksX4_lacksRest_1 24 rfl rfl
theorem dksX4_lacksRest_3 : cX4_lacksRest.data.toList.drop 70 = dktX4_lacksRest_3 := dk_seg dksX4_lacksRest_2 24 rfl rfl
theorem dksX4_lacksRest_4 : cX4_lacksRest.data.toList.drop 94 = dktX4_lacksRest_4 := dk_seg dksX4_lacksRest_3 24 rfl rfl
theorem dX4_lacksRest_0 : decode cX4_lacksRest 0 = .ok (.aload_n 0, 1) := dk_42 (dk_at dksX4_lacksRest_0 0 rfl rfl)
theorem dX4_lacksRest_1 : decode cX4_lacksRest 1 = .ok (.getfield 169, 3) := dk_180 0 169 (dk_at dksX4_lacksRest_0 1 rfl rfl)
theorem dX4_lacksRest_4 : decode cX4_lacksRest 4 = .ok (.iload_n 2, 1) := dk_28 (dk_at dksX4_lacksRest_0 4 rfl rfl)
theorem dX4_lacksRest_5 : decode cX4_lacksRest 5 = .ok (.iaload, 1) := dk_46 (dk_at dksX4_lacksRest_0 5 rfl rfl)
theorem dX4_lacksRest_6 : decode cX4_lacksRest 6 = .ok (.iconst 1, 1) := dk_4 (dk_at dksX4_lacksRest_0 6 rfl rfl)
theorem dX4_lacksRest_7 : decode cX4_lacksRest 7 = .ok (.isub, 1) := dk_100 (dk_at dksX4_lacksRest_0 7 rfl rfl)
theorem dX4_lacksRest_8 : decode cX4_lacksRest 8 = .ok (.istore_n 3, 1) := dk_62 (dk_at dksX4_lacksRest_0 8 rfl rfl)
theorem dX4_lacksRest_9 : decode cX4_lacksRest 9 = .ok (.iload_n 3, 1) := dk_29 (dk_at dksX4_lacksRest_0 9 rfl rfl)
theorem dX4_lacksRest_10 : decode cX4_lacksRest 10 = .ok (.ifCond .lt 87, 3) := dk_155 0 87 (dk_at dksX4_lacksRest_0 10 rfl rfl)
theorem dX4_lacksRest_13 : decode cX4_lacksRest 13 = .ok (.aload_n 0, 1) := dk_42 (dk_at dksX4_lacksRest_0 13 rfl rfl)
theorem dX4_lacksRest_14 : decode cX4_lacksRest 14 = .ok (.getfield 166, 3) := dk_180 0 166 (dk_at dksX4_lacksRest_0 14 rfl rfl)
theorem dX4_lacksRest_17 : decode cX4_lacksRest 17 = .ok (.iload_n 3, 1) := dk_29 (dk_at dksX4_lacksRest_0 17 rfl rfl)
theorem dX4_lacksRest_18 : decode cX4_lacksRest 18 = .ok (.iaload, 1) := dk_46 (dk_at dksX4_lacksRest_0 18 rfl rfl)
theorem dX4_lacksRest_19 : decode cX4_lacksRest 19 = .ok (.istore 4, 2) := dk_54 4 (dk_at dksX4_lacksRest_0 19 rfl rfl)
theorem dX4_lacksRest_21 : decode cX4_lacksRest 21 = .ok (.aload_n 0, 1) := dk_42 (dk_at dksX4_lacksRest_0 21 rfl rfl)
theorem dX4_lacksRest_22 : decode cX4_lacksRest 22 = .ok (.getfield 145, 3) := dk_180 0 145 (dk_at dksX4_lacksRest_1 0 rfl rfl)
theorem dX4_lacksRest_25 : decode cX4_lacksRest 25 = .ok (.iload 4, 2) := dk_21 4 (dk_at dksX4_lacksRest_1 3 rfl rfl)
theorem dX4_lacksRest_27 : decode cX4_lacksRest 27 = .ok (.iaload, 1) := dk_46 (dk_at dksX4_lacksRest_1 5 rfl rfl)
theorem dX4_lacksRest_28 : decode cX4_lacksRest 28 = .ok (.iconst 2, 1) := dk_5 (dk_at dksX4_lacksRest_1 6 rfl rfl)
theorem dX4_lacksRest_29 : decode cX4_lacksRest 29 = .ok (.if_icmp .lt 62, 3) := dk_161 0 62 (dk_at dksX4_lacksRest_1 7 rfl rfl)
theorem dX4_lacksRest_32 : decode cX4_lacksRest 32 = .ok (.aload_n 0, 1) := dk_42 (dk_at dksX4_lacksRest_1 10 rfl rfl)
theorem dX4_lacksRest_33 : decode cX4_lacksRest 33 = .ok (.iload_n 1, 1) := dk_27 (dk_at dksX4_lacksRest_1 11 rfl rfl)
theorem dX4_lacksRest_34 : decode cX4_lacksRest 34 = .ok (.iload 4, 2) := dk_21 4 (dk_at dksX4_lacksRest_1 12 rfl rfl)
theorem dX4_lacksRest_36 : decode cX4_lacksRest 36 = .ok (.invokevirtual 458, 3) := dk_182 1 202 (dk_at dksX4_lacksRest_1 14 rfl rfl)
theorem dX4_lacksRest_39 : decode cX4_lacksRest 39 = .ok (.ifCond .eq 52, 3) := dk_153 0 52 (dk_at dksX4_lacksRest_1 17 rfl rfl)
theorem dX4_lacksRest_42 : decode cX4_lacksRest 42 = .ok (.aload_n 0, 1) := dk_42 (dk_at dksX4_lacksRest_1 20 rfl rfl)
theorem dX4_lacksRest_43 : decode cX4_lacksRest 43 = .ok (.getfield 136, 3) := dk_180 0 136 (dk_at dksX4_lacksRest_1 21 rfl rfl)
theorem dX4_lacksRest_46 : decode cX4_lacksRest 46 = .ok (.iload 4, 2) := dk_21 4 (dk_at dksX4_lacksRest_2 0 rfl rfl)
theorem dX4_lacksRest_48 : decode cX4_lacksRest 48 = .ok (.iaload, 1) := dk_46 (dk_at dksX4_lacksRest_2 2 rfl rfl)
theorem dX4_lacksRest_49 : decode cX4_lacksRest 49 = .ok (.aload_n 0, 1) := dk_42 (dk_at dksX4_lacksRest_2 3 rfl rfl)
theorem dX4_lacksRest_50 : decode cX4_lacksRest 50 = .ok (.getfield 136, 3) := dk_180 0 136 (dk_at dksX4_lacksRest_2 4 rfl rfl)
theorem dX4_lacksRest_53 : decode cX4_lacksRest 53 = .ok (.iload_n 2, 1) := dk_28 (dk_at dksX4_lacksRest_2 7 rfl rfl)
theorem dX4_lacksRest_54 : decode cX4_lacksRest 54 = .ok (.iaload, 1) := dk_46 (dk_at dksX4_lacksRest_2 8 rfl rfl)
theorem dX4_lacksRest_55 : decode cX4_lacksRest 55 = .ok (.if_icmp .eq 34, 3) := dk_159 0 34 (dk_at dksX4_lacksRest_2 9 rfl rfl)
theorem dX4_lacksRest_58 : decode cX4_lacksRest 58 = .ok (.aload_n 0, 1) := dk_42 (dk_at dksX4_lacksRest_2 12 rfl rfl)
theorem dX4_lacksRest_59 : decode cX4_lacksRest 59 = .ok (.getfield 139, 3) := dk_180 0 139 (dk_at dksX4_lacksRest_2 13 rfl rfl)
theorem dX4_lacksRest_62 : decode cX4_lacksRest 62 = .ok (.iload_n 2, 1) := dk_28 (dk_at dksX4_lacksRest_2 16 rfl rfl)
theorem dX4_lacksRest_63 : decode cX4_lacksRest 63 = .ok (.iaload, 1) := dk_46 (dk_at dksX4_lacksRest_2 17 rfl rfl)
theorem dX4_lacksRest_64 : decode cX4_lacksRest 64 = .ok (.aload_n 0, 1) := dk_42 (dk_at dksX4_lacksRest_2 18 rfl rfl)
theorem dX4_lacksRest_65 : decode cX4_lacksRest 65 = .ok (.getfield 142, 3) := dk_180 0 142 (dk_at dksX4_lacksRest_2 19 rfl rfl)
theorem dX4_lacksRest_68 : decode cX4_lacksRest 68 = .ok (.iload 4, 2) := dk_21 4 (dk_at dksX4_lacksRest_2 22 rfl rfl)
theorem dX4_lacksRest_70 : decode cX4_lacksRest 70 = .ok (.iaload, 1) := dk_46 (dk_at dksX4_lacksRest_3 0 rfl rfl)
theorem dX4_lacksRest_71 : decode cX4_lacksRest 71 = .ok (.isub, 1) := dk_100 (dk_at dksX4_lacksRest_3 1 rfl rfl)
theorem dX4_lacksRest_72 : decode cX4_lacksRest 72 = .ok (.aload_n 0, 1) := dk_42 (dk_at dksX4_lacksRest_3 2 rfl rfl)
theorem dX4_lacksRest_73 : decode cX4_lacksRest 73 = .ok (.getfield 64, 3) := dk_180 0 64 (dk_at dksX4_lacksRest_3 3 rfl rfl)
theorem dX4_lacksRest_76 : decode cX4_lacksRest 76 = .ok (.iconst 4, 1) := dk_7 (dk_at dksX4_lacksRest_3 6 rfl rfl)
theorem dX4_lacksRest_77 : decode cX4_lacksRest 77 = .ok (.iload_n 1, 1) := dk_27 (dk_at dksX4_lacksRest_3 7 rfl rfl)
theorem dX4_lacksRest_78 : decode cX4_lacksRest 78 = .ok (.imul, 1) := dk_104 (dk_at dksX4_lacksRest_3 8 rfl rfl)
theorem dX4_lacksRest_79 : decode cX4_lacksRest 79 = .ok (.iconst 0, 1) := dk_3 (dk_at dksX4_lacksRest_3 9 rfl rfl)
theorem dX4_lacksRest_80 : decode cX4_lacksRest 80 = .ok (.iadd, 1) := dk_96 (dk_at dksX4_lacksRest_3 10 rfl rfl)
theorem dX4_lacksRest_81 : decode cX4_lacksRest 81 = .ok (.iaload, 1) := dk_46 (dk_at dksX4_lacksRest_3 11 rfl rfl)
theorem dX4_lacksRest_82 : decode cX4_lacksRest 82 = .ok (.if_icmp .ge 7, 3) := dk_162 0 7 (dk_at dksX4_lacksRest_3 12 rfl rfl)
theorem dX4_lacksRest_85 : decode cX4_lacksRest 85 = .ok (.iconst 1, 1) := dk_4 (dk_at dksX4_lacksRest_3 15 rfl rfl)
theorem dX4_lacksRest_86 : decode cX4_lacksRest 86 = .ok (.goto 4, 3) := dk_167 0 4 (dk_at dksX4_lacksRest_3 16 rfl rfl)
theorem dX4_lacksRest_89 : decode cX4_lacksRest 89 = .ok (.iconst 0, 1) := dk_3 (dk_at dksX4_lacksRest_3 19 rfl rfl)
theorem dX4_lacksRest_90 : decode cX4_lacksRest 90 = .ok (.ireturn, 1) := dk_172 (dk_at dksX4_lacksRest_3 20 rfl rfl)
theorem dX4_lacksRest_91 : decode cX4_lacksRest 91 = .ok (.iinc 3 (-1), 3) := dk_132 3 255 (dk_at dksX4_lacksRest_3 21 rfl rfl)
theorem dX4_lacksRest_94 : decode cX4_lacksRest 94 = .ok (.goto (-85), 3) := dk_167 255 171 (dk_at dksX4_lacksRest_4 0 rfl rfl)
theorem dX4_lacksRest_97 : decode cX4_lacksRest 97 = .ok (.iconst 0, 1) := dk_3 (dk_at dksX4_lacksRest_4 3 rfl rfl)
theorem dX4_lacksRest_98 : decode cX4_lacksRest 98 = .ok (.ireturn, 1) := dk_172 (dk_at dksX4_lacksRest_4 4 rfl rfl)
abbrev cX4_told : ByteArray := prog_18_method_94_code
def yX4_told : MethodName := ⟨RX4, "told", "(II)I"⟩
def dkwX4_told_2 : List UInt8 := [167, 0, 23, 28, 4, 160, 0, 12, 42, 180, 0, 205, 27, 46, 167, 0, 9, 42, 180, 0, 208, 27, 46, 172]
abbrev dktX4_told_2 : List UInt8 := dkwX4_told_2 ++ []
def dkwX4_told_1 : List UInt8 := [167, 0, 4, 3, 182, 2, 61, 153, 0, 5, 3, 172, 28, 154, 0, 12, 42, 180, 0, 202, 27, 46]
abbrev dktX4_told_1 : List UInt8 := dkwX4_told_1 ++ dktX4_told_2
def dkwX4_told_0 : List UInt8 := [42, 27, 155, 0, 20, 27, 42, 180, 2, 58, 162, 0, 12, 28, 155, 0, 8, 28, 5, 164, 0, 7, 4]
abbrev dktX4_told_0 : List UInt8 := dkwX4_told_0 ++ dktX4_told_1
theorem dksX4_told_0 : cX4_told.data.toList.drop 0 = dktX4_told_0 := by decide +kernel
theorem dksX4_told_1 : cX4_told.data.toList.drop 23 = dktX4_told_1 := dk_seg dksX4_told_0 23 rfl rfl
theorem dksX4_told_2 : cX4_told.data.toList.drop 45 = dktX4_told_2 := dk_seg dksX4_told_1 22 rfl rfl
theorem dX4_told_0 : decode cX4_told 0 = .ok (.aload_n 0, 1) := dk_42 (dk_at dksX4_told_0 0 rfl rfl)
theorem dX4_told_1 : decode cX4_told 1 = .ok (.iload_n 1, 1) := dk_27 (dk_at dksX4_told_0 1 rfl rfl)
theorem dX4_told_2 : decode cX4_told 2 = .ok (.ifCond .lt 20, 3) := dk_155 0 20 (dk_at dksX4_told_0 2 rfl rfl)
theorem dX4_told_5 : decode cX4_told 5 = .ok (.iload_n 1, 1) := dk_27 (dk_at dksX4_told_0 5 rfl rfl)
theorem dX4_told_6 : decode cX4_told 6 = .ok (.aload_n 0, 1) := dk_42 (dk_at dksX4_told_0 6 rfl rfl)
theorem dX4_told_7 : decode cX4_told 7 = .ok (.getfield 570, 3) := dk_180 2 58 (dk_at dksX4_told_0 7 rfl rfl)
theorem dX4_told_10 : decode cX4_told 10 = .ok (.if_icmp .ge 12, 3) := dk_162 0 12 (dk_at dksX4_told_0 10 rfl rfl)
theorem dX4_told_13 : decode cX4_told 13 = .ok (.iload_n 2, 1) := dk_28 (dk_at dksX4_told_0 13 rfl rfl)
theorem dX4_told_14 : decode cX4_told 14 = .ok (.ifCond .lt 8, 3) := dk_155 0 8 (dk_at dksX4_told_0 14 rfl rfl)
theorem dX4_told_17 : decode cX4_told 17 = .ok (.iload_n 2, 1) := dk_28 (dk_at dksX4_told_0 17 rfl rfl)
theorem dX4_told_18 : decode cX4_told 18 = .ok (.iconst 2, 1) := dk_5 (dk_at dksX4_told_0 18 rfl rfl)
theorem dX4_told_19 : decode cX4_told 19 = .ok (.if_icmp .le 7, 3) := dk_164 0 7 (dk_at dksX4_told_0 19 rfl rfl)
theorem dX4_told_22 : decode cX4_told 22 = .ok (.iconst 1, 1) := dk_4 (dk_at dksX4_told_0 22 rfl rfl)
theorem dX4_told_23 : decode cX4_told 23 = .ok (.goto 4, 3) := dk_167 0 4 (dk_at dksX4_told_1 0 rfl rfl)
theorem dX4_told_26 : decode cX4_told 26 = .ok (.iconst 0, 1) := dk_3 (dk_at dksX4_told_1 3 rfl rfl)
theorem dX4_told_27 : decode cX4_told 27 = .ok (.invokevirtual 573, 3) := dk_182 2 61 (dk_at dksX4_told_1 4 rfl rfl)
theorem dX4_told_30 : decode cX4_told 30 = .ok (.ifCond .eq 5, 3) := dk_153 0 5 (dk_at dksX4_told_1 7 rfl rfl)
theorem dX4_told_33 : decode cX4_told 33 = .ok (.iconst 0, 1) := dk_3 (dk_at dksX4_told_1 10 rfl rfl)
theorem dX4_told_34 : decode cX4_told 34 = .ok (.ireturn, 1) := dk_172 (dk_at dksX4_told_1 11 rfl rfl)
theorem dX4_told_35 : decode cX4_told 35 = .ok (.iload_n 2, 1) := dk_28 (dk_at dksX4_told_1 12 rfl rfl)
theorem dX4_told_36 : decode cX4_told 36 = .ok (.ifCond .ne 12, 3) := dk_154 0 12 (dk_at dksX4_told_1 13 rfl rfl)
theorem dX4_told_39 : decode cX4_told 39 = .ok (.aload_n 0, 1) := dk_42 (dk_at dksX4_told_1 16 rfl rfl)
theorem dX4_told_40 : decode cX4_told 40 = .ok (.getfield 202, 3) := dk_180 0 202 (dk_at dksX4_told_1 17 rfl rfl)
theorem dX4_told_43 : decode cX4_told 43 = .ok (.iload_n 1, 1) := dk_27 (dk_at dksX4_told_1 20 rfl rfl)
theorem dX4_told_44 : decode cX4_told 44 = .ok (.iaload, 1) := dk_46 (dk_at dksX4_told_1 21 rfl rfl)
theorem dX4_told_45 : decode cX4_told 45 = .ok (.goto 23, 3) := dk_167 0 23 (dk_at dksX4_told_2 0 rfl rfl)
theorem dX4_told_48 : decode cX4_told 48 = .ok (.iload_n 2, 1) := dk_28 (dk_at dksX4_told_2 3 rfl rfl)
theorem dX4_told_49 : decode cX4_told 49 = .ok (.iconst 1, 1) := dk_4 (dk_at dksX4_told_2 4 rfl rfl)
theorem dX4_told_50 : decode cX4_told 50 = .ok (.if_icmp .ne 12, 3) := dk_160 0 12 (dk_at dksX4_told_2 5 rfl rfl)
theorem dX4_told_53 : decode cX4_told 53 = .ok (.aload_n 0, 1) := dk_42 (dk_at dksX4_told_2 8 rfl rfl)
theorem dX4_told_54 : decode cX4_told 54 = .ok (.getfield 205, 3) := dk_180 0 205 (dk_at dksX4_told_2 9 rfl rfl)
theorem dX4_told_57 : decode cX4_told 57 = .ok (.iload_n 1, 1) := dk_27 (dk_at dksX4_told_2 12 rfl rfl)
theorem dX4_told_58 : decode cX4_told 58 = .ok (.iaload, 1) := dk_46 (dk_at dksX4_told_2 13 rfl rfl)
theorem dX4_told_59 : decode cX4_told 59 = .ok (.goto 9, 3) := dk_167 0 9 (dk_at dksX4_told_2 14 rfl rfl)
theorem dX4_told_62 : decode cX4_told 62 = .ok (.aload_n 0, 1) := dk_42 (dk_at dksX4_told_2 17 rfl rfl)
theorem dX4_told_63 : decode cX4_told 63 = .ok (.getfield 208, 3) := dk_180 0 208 (dk_at dksX4_told_2 18 rfl rfl)
theorem dX4_told_66 : decode cX4_told 66 = .ok (.iload_n 1, 1) := dk_27 (dk_at dksX4_told_2 21 rfl rfl)
theorem dX4_told_67 : decode cX4_told 67 = .ok (.iaload, 1) := dk_46 (dk_at dksX4_told_2 22 rfl rfl)
theorem dX4_told_68 : decode cX4_told 68 = .ok (.ireturn, 1) := dk_172 (dk_at dksX4_told_2 23 rfl rfl)
abbrev cX4_throwsIf : ByteArray := prog_18_method_3_code
def yX4_throwsIf : MethodName := ⟨RX4, "throwsIf", "(Z)Z"⟩
def dkwX4_throwsIf_0 : List UInt8 := [42, 27, 153, 0, 7, 4, 167, 0, 4, 3, 181, 0, 226, 27, 172]
abbrev dktX4_throwsIf_0 : List UInt8 := dkwX4_throwsIf_0 ++ []
theorem dksX4_throwsIf_0 : cX4_throwsIf.data.toList.drop 0 = dktX4_throwsIf_0 := by decide +kernel
theorem dX4_throwsIf_0 : decode cX4_throwsIf 0 = .ok (.aload_n 0, 1) := dk_42 (dk_at dksX4_throwsIf_0 0 rfl rfl)
theorem dX4_throwsIf_1 : decode cX4_throwsIf 1 = .ok (.iload_n 1, 1) := dk_27 (dk_at dksX4_throwsIf_0 1 rfl rfl)
theorem dX4_throwsIf_2 : decode cX4_throwsIf 2 = .ok (.ifCond .eq 7, 3) := dk_153 0 7 (dk_at dksX4_throwsIf_0 2 rfl rfl)
theorem dX4_throwsIf_5 : decode cX4_throwsIf 5 = .ok (.iconst 1, 1) := dk_4 (dk_at dksX4_throwsIf_0 5 rfl rfl)
theorem dX4_throwsIf_6 : decode cX4_throwsIf 6 = .ok (.goto 4, 3) := dk_167 0 4 (dk_at dksX4_throwsIf_0 6 rfl rfl)
theorem dX4_throwsIf_9 : decode cX4_throwsIf 9 = .ok (.iconst 0, 1) := dk_3 (dk_at dksX4_throwsIf_0 9 rfl rfl)
theorem dX4_throwsIf_10 : decode cX4_throwsIf 10 = .ok (.putfield 226, 3) := dk_181 0 226 (dk_at dksX4_throwsIf_0 10 rfl rfl)
theorem dX4_throwsIf_13 : decode cX4_throwsIf 13 = .ok (.iload_n 1, 1) := dk_27 (dk_at dksX4_throwsIf_0 13 rfl rfl)
theorem dX4_throwsIf_14 : decode cX4_throwsIf 14 = .ok (.ireturn, 1) := dk_172 (dk_at dksX4_throwsIf_0 14 rfl rfl)
abbrev cX4_may : ByteArray := prog_18_method_100_code
def yX4_may : MethodName := ⟨RX4, "may", "(III)Z"⟩
def dkwX4_may_1 : List UInt8 := [28, 29, 182, 2, 78, 153, 0, 7, 4, 167, 0, 4, 3, 172]
abbrev dktX4_may_1 : List UInt8 := dkwX4_may_1 ++ []
def dkwX4_may_0 : List UInt8 := [42, 3, 181, 0, 226, 42, 27, 182, 1, 54, 153, 0, 26, 42, 28, 29, 182, 1, 177, 153, 0, 17, 42, 27]
abbrev dktX4_may_0 : List UInt8 := dkwX4_may_0 ++ dktX4_may_1
theorem dksX4_may_0 : cX4_may.data.toList.drop 0 = dktX4_may_0 := by decide +kernel
theorem dksX4_may_1 : cX4_may.data.toList.drop 24 = dktX4_may_1 := dk_seg dksX4_may_0 24 rfl rfl
theorem dX4_may_0 : decode cX4_may 0 = .ok (.aload_n 0, 1) := dk_42 (dk_at dksX4_may_0 0 rfl rfl)
theorem dX4_may_1 : decode cX4_may 1 = .ok (.iconst 0, 1) := dk_3 (dk_at dksX4_may_0 1 rfl rfl)
theorem dX4_may_2 : decode cX4_may 2 = .ok (.putfield 226, 3) := dk_181 0 226 (dk_at dksX4_may_0 2 rfl rfl)
theorem dX4_may_5 : decode cX4_may 5 = .ok (.aload_n 0, 1) := dk_42 (dk_at dksX4_may_0 5 rfl rfl)
theorem dX4_may_6 : decode cX4_may 6 = .ok (.iload_n 1, 1) := dk_27 (dk_at dksX4_may_0 6 rfl rfl)
theorem dX4_may_7 : decode cX4_may 7 = .ok (.invokevirtual 310, 3) := dk_182 1 54 (dk_at dksX4_may_0 7 rfl rfl)
theorem dX4_may_10 : decode cX4_may 10 = .ok (.ifCond .eq 26, 3) := dk_153 0 26 (dk_at dksX4_may_0 10 rfl rfl)
theorem dX4_may_13 : decode cX4_may 13 = .ok (.aload_n 0, 1) := dk_42 (dk_at dksX4_may_0 13 rfl rfl)
theorem dX4_may_14 : decode cX4_may 14 = .ok (.iload_n 2, 1) := dk_28 (dk_at dksX4_may_0 14 rfl rfl)
theorem dX4_may_15 : decode cX4_may 15 = .ok (.iload_n 3, 1) := dk_29 (dk_at dksX4_may_0 15 rfl rfl)
theorem dX4_may_16 : decode cX4_may 16 = .ok (.invokevirtual 433, 3) := dk_182 1 177 (dk_at dksX4_may_0 16 rfl rfl)
theorem dX4_may_19 : decode cX4_may 19 = .ok (.ifCond .eq 17, 3) := dk_153 0 17 (dk_at dksX4_may_0 19 rfl rfl)
theorem dX4_may_22 : decode cX4_may 22 = .ok (.aload_n 0, 1) := dk_42 (dk_at dksX4_may_0 22 rfl rfl)
theorem dX4_may_23 : decode cX4_may 23 = .ok (.iload_n 1, 1) := dk_27 (dk_at dksX4_may_0 23 rfl rfl)
theorem dX4_may_24 : decode cX4_may 24 = .ok (.iload_n 2, 1) := dk_28 (dk_at dksX4_may_1 0 rfl rfl)
theorem dX4_may_25 : decode cX4_may 25 = .ok (.iload_n 3, 1) := dk_29 (dk_at dksX4_may_1 1 rfl rfl)
theorem dX4_may_26 : decode cX4_may 26 = .ok (.invokevirtual 590, 3) := dk_182 2 78 (dk_at dksX4_may_1 2 rfl rfl)
theorem dX4_may_29 : decode cX4_may 29 = .ok (.ifCond .eq 7, 3) := dk_153 0 7 (dk_at dksX4_may_1 5 rfl rfl)
theorem dX4_may_32 : decode cX4_may 32 = .ok (.iconst 1, 1) := dk_4 (dk_at dksX4_may_1 8 rfl rfl)
theorem dX4_may_33 : decode cX4_may 33 = .ok (.goto 4, 3) := dk_167 0 4 (dk_at dksX4_may_1 9 rfl rfl)
theorem dX4_may_36 : decode cX4_may 36 = .ok (.iconst 0, 1) := dk_3 (dk_at dksX4_may_1 12 rfl rfl)
theorem dX4_may_37 : decode cX4_may 37 = .ok (.ireturn, 1) := dk_172 (dk_at dksX4_may_1 13 rfl rfl)
abbrev cX4_mayHave : ByteArray := prog_18_method_98_code
def yX4_mayHave : MethodName := ⟨RX4, "mayHave", "(III)Z"⟩
def dkwX4_mayHave_2 : List UInt8 := [182, 2, 75, 42, 27, 3, 182, 2, 71, 172]
abbrev dktX4_mayHave_2 : List UInt8 := dkwX4_mayHave_2 ++ []
def dkwX4_mayHave_1 : List UInt8 := [182, 1, 202, 153, 0, 5, 3, 172, 42, 182, 2, 68, 42, 27, 4, 182, 2, 71, 87, 42, 27, 28, 29]
abbrev dktX4_mayHave_1 : List UInt8 := dkwX4_mayHave_1 ++ dktX4_mayHave_2
def dkwX4_mayHave_0 : List UInt8 := [42, 42, 180, 0, 246, 182, 1, 204, 42, 180, 0, 136, 28, 46, 42, 180, 0, 246, 161, 0, 12, 42, 27, 28]
abbrev dktX4_mayHave_0 : List UInt8 := dkwX4_mayHave_0 ++ dktX4_mayHave_1
theorem dksX4_mayHave_0 : cX4_mayHave.data.toList.drop 0 = dktX4_mayHave_0 := by decide +kernel
theorem dksX4_mayHave_1 : cX4_mayHave.data.toList.drop 24 = dktX4_mayHave_1 := dk_seg dksX4_mayHave_0 24 rfl rfl
theorem dksX4_mayHave_2 : cX4_mayHave.data.toList.drop 47 = dktX4_mayHave_2 := dk_seg dksX4_mayHave_1 23 rfl rfl
theorem dX4_mayHave_0 : decode cX4_mayHave 0 = .ok (.aload_n 0, 1) := dk_42 (dk_at dksX4_mayHave_0 0 rfl rfl)
theorem dX4_mayHave_1 : decode cX4_mayHave 1 = .ok (.aload_n 0, 1) := dk_42 (dk_at dksX4_mayHave_0 1 rfl rfl)
theorem dX4_mayHave_2 : decode cX4_mayHave 2 = .ok (.getfield 246, 3) := dk_180 0 246 (dk_at dksX4_mayHave_0 2 rfl rfl)
theorem dX4_mayHave_5 : decode cX4_mayHave 5 = .ok (.invokevirtual 460, 3) := dk_182 1 204 (dk_at dksX4_mayHave_0 5 rfl rfl)
theorem dX4_mayHave_8 : decode cX4_mayHave 8 = .ok (.aload_n 0, 1) := dk_42 (dk_at dksX4_mayHave_0 8 rfl rfl)
theorem dX4_mayHave_9 : decode cX4_mayHave 9 = .ok (.getfield 136, 3) := dk_180 0 136 (dk_at dksX4_mayHave_0 9 rfl rfl)
theorem dX4_mayHave_12 : decode cX4_mayHave 12 = .ok (.iload_n 2, 1) := dk_28 (dk_at dksX4_mayHave_0 12 rfl rfl)
theorem dX4_mayHave_13 : decode cX4_mayHave 13 = .ok (.iaload, 1) := dk_46 (dk_at dksX4_mayHave_0 13 rfl rfl)
theorem dX4_mayHave_14 : decode cX4_mayHave 14 = .ok (.aload_n 0, 1) := dk_42 (dk_at dksX4_mayHave_0 14 rfl rfl)
theorem dX4_mayHave_15 : decode cX4_mayHave 15 = .ok (.getfield 246, 3) := dk_180 0 246 (dk_at dksX4_mayHave_0 15 rfl rfl)
theorem dX4_mayHave_18 : decode cX4_mayHave 18 = .ok (.if_icmp .lt 12, 3) := dk_161 0 12 (dk_at dksX4_mayHave_0 18 rfl rfl)
theorem dX4_mayHave_21 : decode cX4_mayHave 21 = .ok (.aload_n 0, 1) := dk_42 (dk_at dksX4_mayHave_0 21 rfl rfl)
theorem dX4_mayHave_22 : decode cX4_mayHave 22 = .ok (.iload_n 1, 1) := dk_27 (dk_at dksX4_mayHave_0 22 rfl rfl)
theorem dX4_mayHave_23 : decode cX4_mayHave 23 = .ok (.iload_n 2, 1) := dk_28 (dk_at dksX4_mayHave_0 23 rfl rfl)
theorem dX4_mayHave_24 : decode cX4_mayHave 24 = .ok (.invokevirtual 458, 3) := dk_182 1 202 (dk_at dksX4_mayHave_1 0 rfl rfl)
theorem dX4_mayHave_27 : decode cX4_mayHave 27 = .ok (.ifCond .eq 5, 3) := dk_153 0 5 (dk_at dksX4_mayHave_1 3 rfl rfl)
theorem dX4_mayHave_30 : decode cX4_mayHave 30 = .ok (.iconst 0, 1) := dk_3 (dk_at dksX4_mayHave_1 6 rfl rfl)
theorem dX4_mayHave_31 : decode cX4_mayHave 31 = .ok (.ireturn, 1) := dk_172 (dk_at dksX4_mayHave_1 7 rfl rfl)
theorem dX4_mayHave_32 : decode cX4_mayHave 32 = .ok (.aload_n 0, 1) := dk_42 (dk_at dksX4_mayHave_1 8 rfl rfl)
theorem dX4_mayHave_33 : decode cX4_mayHave 33 = .ok (.invokevirtual 580, 3) := dk_182 2 68 (dk_at dksX4_mayHave_1 9 rfl rfl)
theorem dX4_mayHave_36 : decode cX4_mayHave 36 = .ok (.aload_n 0, 1) := dk_42 (dk_at dksX4_mayHave_1 12 rfl rfl)
theorem dX4_mayHave_37 : decode cX4_mayHave 37 = .ok (.iload_n 1, 1) := dk_27 (dk_at dksX4_mayHave_1 13 rfl rfl)
theorem dX4_mayHave_38 : decode cX4_mayHave 38 = .ok (.iconst 1, 1) := dk_4 (dk_at dksX4_mayHave_1 14 rfl rfl)
theorem dX4_mayHave_39 : decode cX4_mayHave 39 = .ok (.invokevirtual 583, 3) := dk_182 2 71 (dk_at dksX4_mayHave_1 15 rfl rfl)
theorem dX4_mayHave_42 : decode cX4_mayHave 42 = .ok (.pop, 1) := dk_87 (dk_at dksX4_mayHave_1 18 rfl rfl)
theorem dX4_mayHave_43 : decode cX4_mayHave 43 = .ok (.aload_n 0, 1) := dk_42 (dk_at dksX4_mayHave_1 19 rfl rfl)
theorem dX4_mayHave_44 : decode cX4_mayHave 44 = .ok (.iload_n 1, 1) := dk_27 (dk_at dksX4_mayHave_1 20 rfl rfl)
theorem dX4_mayHave_45 : decode cX4_mayHave 45 = .ok (.iload_n 2, 1) := dk_28 (dk_at dksX4_mayHave_1 21 rfl rfl)
theorem dX4_mayHave_46 : decode cX4_mayHave 46 = .ok (.iload_n 3, 1) := dk_29 (dk_at dksX4_mayHave_1 22 rfl rfl)
theorem dX4_mayHave_47 : decode cX4_mayHave 47 = .ok (.invokevirtual 587, 3) := dk_182 2 75 (dk_at dksX4_mayHave_2 0 rfl rfl)
theorem dX4_mayHave_50 : decode cX4_mayHave 50 = .ok (.aload_n 0, 1) := dk_42 (dk_at dksX4_mayHave_2 3 rfl rfl)
theorem dX4_mayHave_51 : decode cX4_mayHave 51 = .ok (.iload_n 1, 1) := dk_27 (dk_at dksX4_mayHave_2 4 rfl rfl)
theorem dX4_mayHave_52 : decode cX4_mayHave 52 = .ok (.iconst 0, 1) := dk_3 (dk_at dksX4_mayHave_2 5 rfl rfl)
theorem dX4_mayHave_53 : decode cX4_mayHave 53 = .ok (.invokevirtual 583, 3) := dk_182 2 71 (dk_at dksX4_mayHave_2 6 rfl rfl)
theorem dX4_mayHave_56 : decode cX4_mayHave 56 = .ok (.ireturn, 1) := dk_172 (dk_at dksX4_mayHave_2 9 rfl rfl)
abbrev cX4_unmark : ByteArray := prog_18_method_96_code
def yX4_unmark : MethodName := ⟨RX4, "unmark", "()V"⟩
def dkwX4_unmark_0 : List UInt8 := [3, 60, 27, 17, 37, 32, 162, 0, 16, 42, 180, 0, 199, 27, 3, 84, 132, 1, 1, 167, 255, 239, 177]
abbrev dktX4_unmark_0 : List UInt8 := dkwX4_unmark_0 ++ []
theorem dksX4_unmark_0 : cX4_unmark.data.toList.drop 0 = dktX4_unmark_0 := by decide +kernel
theorem dX4_unmark_0 : decode cX4_unmark 0 = .ok (.iconst 0, 1) := dk_3 (dk_at dksX4_unmark_0 0 rfl rfl)
theorem dX4_unmark_1 : decode cX4_unmark 1 = .ok (.istore_n 1, 1) := dk_60 (dk_at dksX4_unmark_0 1 rfl rfl)
theorem dX4_unmark_2 : decode cX4_unmark 2 = .ok (.iload_n 1, 1) := dk_27 (dk_at dksX4_unmark_0 2 rfl rfl)
theorem dX4_unmark_3 : decode cX4_unmark 3 = .ok (.sipush 9504, 3) := dk_17 37 32 (dk_at dksX4_unmark_0 3 rfl rfl)
theorem dX4_unmark_6 : decode cX4_unmark 6 = .ok (.if_icmp .ge 16, 3) := dk_162 0 16 (dk_at dksX4_unmark_0 6 rfl rfl)
theorem dX4_unmark_9 : decode cX4_unmark 9 = .ok (.aload_n 0, 1) := dk_42 (dk_at dksX4_unmark_0 9 rfl rfl)
theorem dX4_unmark_10 : decode cX4_unmark 10 = .ok (.getfield 199, 3) := dk_180 0 199 (dk_at dksX4_unmark_0 10 rfl rfl)
theorem dX4_unmark_13 : decode cX4_unmark 13 = .ok (.iload_n 1, 1) := dk_27 (dk_at dksX4_unmark_0 13 rfl rfl)
theorem dX4_unmark_14 : decode cX4_unmark 14 = .ok (.iconst 0, 1) := dk_3 (dk_at dksX4_unmark_0 14 rfl rfl)
theorem dX4_unmark_15 : decode cX4_unmark 15 = .ok (.bastore, 1) := dk_84 (dk_at dksX4_unmark_0 15 rfl rfl)
theorem dX4_unmark_16 : decode cX4_unmark 16 = .ok (.iinc 1 1, 3) := dk_132 1 1 (dk_at dksX4_unmark_0 16 rfl rfl)
theorem dX4_unmark_19 : decode cX4_unmark 19 = .ok (.goto (-17), 3) := dk_167 255 239 (dk_at dksX4_unmark_0 19 rfl rfl)
theorem dX4_unmark_22 : decode cX4_unmark 22 = .ok (.return_, 1) := dk_177 (dk_at dksX4_unmark_0 22 rfl rfl)
abbrev cX4_marks : ByteArray := prog_18_method_95_code
def yX4_marks : MethodName := ⟨RX4, "marks", "(IZ)Z"⟩
def dkwX4_marks_6 : List UInt8 := [167, 255, 129, 132, 3, 1, 167, 255, 112, 4, 172]
abbrev dktX4_marks_6 : List UInt8 := dkwX4_marks_6 ++ []
def dkwX4_marks_5 : List UInt8 := [21, 5, 29, 21, 4, 184, 2, 65, 51, 154, 0, 5, 3, 172, 132, 5, 1, 167, 255, 174, 132, 4, 1]
abbrev dktX4_marks_5 : List UInt8 := dkwX4_marks_5 ++ dktX4_marks_6
def dkwX4_marks_4 : List UInt8 := [21, 5, 29, 21, 4, 184, 2, 65, 21, 6, 84, 167, 0, 26, 21, 6, 153, 0, 21, 42, 180, 0, 199]
abbrev dktX4_marks_4 : List UInt8 := dkwX4_marks_4 ++ dktX4_marks_5
def dkwX4_marks_3 : List UInt8 := [21, 4, 182, 2, 51, 153, 0, 7, 4, 167, 0, 4, 3, 54, 6, 28, 153, 0, 21, 42, 180, 0, 199]
abbrev dktX4_marks_3 : List UInt8 := dkwX4_marks_3 ++ dktX4_marks_4
def dkwX4_marks_2 : List UInt8 := [16, 8, 54, 5, 21, 5, 16, 15, 163, 0, 81, 21, 5, 16, 9, 159, 0, 20, 42, 21, 5, 27, 29]
abbrev dktX4_marks_2 : List UInt8 := dkwX4_marks_2 ++ dktX4_marks_3
def dkwX4_marks_1 : List UInt8 := [46, 46, 162, 0, 117, 42, 180, 0, 157, 16, 8, 29, 104, 21, 4, 96, 46, 27, 159, 0, 6, 167, 0, 92]
abbrev dktX4_marks_1 : List UInt8 := dkwX4_marks_1 ++ dktX4_marks_2
def dkwX4_marks_0 : List UInt8 := [3, 62, 29, 42, 180, 1, 190, 162, 0, 142, 3, 54, 4, 21, 4, 42, 180, 0, 26, 42, 180, 0, 148, 29]
abbrev dktX4_marks_0 : List UInt8 := dkwX4_marks_0 ++ dktX4_marks_1
theorem dksX4_marks_0 : cX4_marks.data.toList.drop 0 = dktX4_marks_0 := by decide +kernel
theorem dksX4_marks_1 : cX4_marks.data.toList.drop 24 = dktX4_marks_1 := dk_seg dksX4_marks_0 24 rfl rfl
theorem dksX4_marks_2 : cX4_marks.data.toList.drop 48 = dktX4_marks_2 := dk_seg dksX4_marks_1 24 rfl rfl
theorem dksX4_marks_3 : cX4_marks.data.toList.drop 71 = dktX4_marks_3 := dk_seg dksX4_marks_2 23 rfl rfl
theorem dksX4_marks_4 : cX4_marks.data.toList.drop 94 = dktX4_marks_4 := dk_seg dksX4_marks_3 23 rfl rfl
theorem dksX4_marks_5 : cX4_marks.data.toList.drop 117 = dktX4_marks_5 := dk_seg dksX4_marks_4 23 rfl rfl
theorem dksX4_marks_6 : cX4_marks.data.toList.drop 140 = dktX4_marks_6 := dk_seg dksX4_marks_5 23 rfl rfl
theorem dX4_marks_0 : decode cX4_marks 0 = .ok (.iconst 0, 1) := dk_3 (dk_at dksX4_marks_0 0 rfl rfl)
theorem dX4_marks_1 : decode cX4_marks 1 = .ok (.istore_n 3, 1) := dk_62 (dk_at dksX4_marks_0 1 rfl rfl)
theorem dX4_marks_2 : decode cX4_marks 2 = .ok (.iload_n 3, 1) := dk_29 (dk_at dksX4_marks_0 2 rfl rfl)
theorem dX4_marks_3 : decode cX4_marks 3 = .ok (.aload_n 0, 1) := dk_42 (dk_at dksX4_marks_0 3 rfl rfl)
theorem dX4_marks_4 : decode cX4_marks 4 = .ok (.getfield 446, 3) := dk_180 1 190 (dk_at dksX4_marks_0 4 rfl rfl)
theorem dX4_marks_7 : decode cX4_marks 7 = .ok (.if_icmp .ge 142, 3) := dk_162 0 142 (dk_at dksX4_marks_0 7 rfl rfl)
theorem dX4_marks_10 : decode cX4_marks 10 = .ok (.iconst 0, 1) := dk_3 (dk_at dksX4_marks_0 10 rfl rfl)
theorem dX4_marks_11 : decode cX4_marks 11 = .ok (.istore 4, 2) := dk_54 4 (dk_at dksX4_marks_0 11 rfl rfl)
theorem dX4_marks_13 : decode cX4_marks 13 = .ok (.iload 4, 2) := dk_21 4 (dk_at dksX4_marks_0 13 rfl rfl)
theorem dX4_marks_15 : decode cX4_marks 15 = .ok (.aload_n 0, 1) := dk_42 (dk_at dksX4_marks_0 15 rfl rfl)
theorem dX4_marks_16 : decode cX4_marks 16 = .ok (.getfield 26, 3) := dk_180 0 26 (dk_at dksX4_marks_0 16 rfl rfl)
theorem dX4_marks_19 : decode cX4_marks 19 = .ok (.aload_n 0, 1) := dk_42 (dk_at dksX4_marks_0 19 rfl rfl)
theorem dX4_marks_20 : decode cX4_marks 20 = .ok (.getfield 148, 3) := dk_180 0 148 (dk_at dksX4_marks_0 20 rfl rfl)
theorem dX4_marks_23 : decode cX4_marks 23 = .ok (.iload_n 3, 1) := dk_29 (dk_at dksX4_marks_0 23 rfl rfl)
theorem dX4_marks_24 : decode cX4_marks 24 = .ok (.iaload, 1) := dk_46 (dk_at dksX4_marks_1 0 rfl rfl)
theorem dX4_marks_25 : decode cX4_marks 25 = .ok (.iaload, 1) := dk_46 (dk_at dksX4_marks_1 1 rfl rfl)
theorem dX4_marks_26 : decode cX4_marks 26 = .ok (.if_icmp .ge 117, 3) := dk_162 0 117 (dk_at dksX4_marks_1 2 rfl rfl)
theorem dX4_marks_29 : decode cX4_marks 29 = .ok (.aload_n 0, 1) := dk_42 (dk_at dksX4_marks_1 5 rfl rfl)
theorem dX4_marks_30 : decode cX4_marks 30 = .ok (.getfield 157, 3) := dk_180 0 157 (dk_at dksX4_marks_1 6 rfl rfl)
theorem dX4_marks_33 : decode cX4_marks 33 = .ok (.bipush 8, 2) := dk_16 8 (dk_at dksX4_marks_1 9 rfl rfl)
theorem dX4_marks_35 : decode cX4_marks 35 = .ok (.iload_n 3, 1) := dk_29 (dk_at dksX4_marks_1 11 rfl rfl)
theorem dX4_marks_36 : decode cX4_marks 36 = .ok (.imul, 1) := dk_104 (dk_at dksX4_marks_1 12 rfl rfl)
theorem dX4_marks_37 : decode cX4_marks 37 = .ok (.iload 4, 2) := dk_21 4 (dk_at dksX4_marks_1 13 rfl rfl)
theorem dX4_marks_39 : decode cX4_marks 39 = .ok (.iadd, 1) := dk_96 (dk_at dksX4_marks_1 15 rfl rfl)
theorem dX4_marks_40 : decode cX4_marks 40 = .ok (.iaload, 1) := dk_46 (dk_at dksX4_marks_1 16 rfl rfl)
theorem dX4_marks_41 : decode cX4_marks 41 = .ok (.iload_n 1, 1) := dk_27 (dk_at dksX4_marks_1 17 rfl rfl)
theorem dX4_marks_42 : decode cX4_marks 42 = .ok (.if_icmp .eq 6, 3) := dk_159 0 6 (dk_at dksX4_marks_1 18 rfl rfl)
theorem dX4_marks_45 : decode cX4_marks 45 = .ok (.goto 92, 3) := dk_167 0 92 (dk_at dksX4_marks_1 21 rfl rfl)
theorem dX4_marks_48 : decode cX4_marks 48 = .ok (.bipush 8, 2) := dk_16 8 (dk_at dksX4_marks_2 0 rfl rfl)
theorem dX4_marks_50 : decode cX4_marks 50 = .ok (.istore 5, 2) := dk_54 5 (dk_at dksX4_marks_2 2 rfl rfl)
theorem dX4_marks_52 : decode cX4_marks 52 = .ok (.iload 5, 2) := dk_21 5 (dk_at dksX4_marks_2 4 rfl rfl)
theorem dX4_marks_54 : decode cX4_marks 54 = .ok (.bipush 15, 2) := dk_16 15 (dk_at dksX4_marks_2 6 rfl rfl)
theorem dX4_marks_56 : decode cX4_marks 56 = .ok (.if_icmp .gt 81, 3) := dk_163 0 81 (dk_at dksX4_marks_2 8 rfl rfl)
theorem dX4_marks_59 : decode cX4_marks 59 = .ok (.iload 5, 2) := dk_21 5 (dk_at dksX4_marks_2 11 rfl rfl)
theorem dX4_marks_61 : decode cX4_marks 61 = .ok (.bipush 9, 2) := dk_16 9 (dk_at dksX4_marks_2 13 rfl rfl)
theorem dX4_marks_63 : decode cX4_marks 63 = .ok (.if_icmp .eq 20, 3) := dk_159 0 20 (dk_at dksX4_marks_2 15 rfl rfl)
theorem dX4_marks_66 : decode cX4_marks 66 = .ok (.aload_n 0, 1) := dk_42 (dk_at dksX4_marks_2 18 rfl rfl)
theorem dX4_marks_67 : decode cX4_marks 67 = .ok (.iload 5, 2) := dk_21 5 (dk_at dksX4_marks_2 19 rfl rfl)
theorem dX4_marks_69 : decode cX4_marks 69 = .ok (.iload_n 1, 1) := dk_27 (dk_at dksX4_marks_2 21 rfl rfl)
theorem dX4_marks_70 : decode cX4_marks 70 = .ok (.iload_n 3, 1) := dk_29 (dk_at dksX4_marks_2 22 rfl rfl)
theorem dX4_marks_71 : decode cX4_marks 71 = .ok (.iload 4, 2) := dk_21 4 (dk_at dksX4_marks_3 0 rfl rfl)
theorem dX4_marks_73 : decode cX4_marks 73 = .ok (.invokevirtual 563, 3) := dk_182 2 51 (dk_at dksX4_marks_3 2 rfl rfl)
theorem dX4_marks_76 : decode cX4_marks 76 = .ok (.ifCond .eq 7, 3) := dk_153 0 7 (dk_at dksX4_marks_3 5 rfl rfl)
theorem dX4_marks_79 : decode cX4_marks 79 = .ok (.iconst 1, 1) := dk_4 (dk_at dksX4_marks_3 8 rfl rfl)
theorem dX4_marks_80 : decode cX4_marks 80 = .ok (.goto 4, 3) := dk_167 0 4 (dk_at dksX4_marks_3 9 rfl rfl)
theorem dX4_marks_83 : decode cX4_marks 83 = .ok (.iconst 0, 1) := dk_3 (dk_at dksX4_marks_3 12 rfl rfl)
theorem dX4_marks_84 : decode cX4_marks 84 = .ok (.istore 6, 2) := dk_54 6 (dk_at dksX4_marks_3 13 rfl rfl)
theorem dX4_marks_86 : decode cX4_marks 86 = .ok (.iload_n 2, 1) := dk_28 (dk_at dksX4_marks_3 15 rfl rfl)
theorem dX4_marks_87 : decode cX4_marks 87 = .ok (.ifCond .eq 21, 3) := dk_153 0 21 (dk_at dksX4_marks_3 16 rfl rfl)
theorem dX4_marks_90 : decode cX4_marks 90 = .ok (.aload_n 0, 1) := dk_42 (dk_at dksX4_marks_3 19 rfl rfl)
theorem dX4_marks_91 : decode cX4_marks 91 = .ok (.getfield 199, 3) := dk_180 0 199 (dk_at dksX4_marks_3 20 rfl rfl)
theorem dX4_marks_94 : decode cX4_marks 94 = .ok (.iload 5, 2) := dk_21 5 (dk_at dksX4_marks_4 0 rfl rfl)
theorem dX4_marks_96 : decode cX4_marks 96 = .ok (.iload_n 3, 1) := dk_29 (dk_at dksX4_marks_4 2 rfl rfl)
theorem dX4_marks_97 : decode cX4_marks 97 = .ok (.iload 4, 2) := dk_21 4 (dk_at dksX4_marks_4 3 rfl rfl)
theorem dX4_marks_99 : decode cX4_marks 99 = .ok (.invokestatic 577, 3) := dk_184 2 65 (dk_at dksX4_marks_4 5 rfl rfl)
theorem dX4_marks_102 : decode cX4_marks 102 = .ok (.iload 6, 2) := dk_21 6 (dk_at dksX4_marks_4 8 rfl rfl)
theorem dX4_marks_104 : decode cX4_marks 104 = .ok (.bastore, 1) := dk_84 (dk_at dksX4_marks_4 10 rfl rfl)
theorem dX4_marks_105 : decode cX4_marks 105 = .ok (.goto 26, 3) := dk_167 0 26 (dk_at dksX4_marks_4 11 rfl rfl)
theorem dX4_marks_108 : decode cX4_marks 108 = .ok (.iload 6, 2) := dk_21 6 (dk_at dksX4_marks_4 14 rfl rfl)
theorem dX4_marks_110 : decode cX4_marks 110 = .ok (.ifCond .eq 21, 3) := dk_153 0 21 (dk_at dksX4_marks_4 16 rfl rfl)
theorem dX4_marks_113 : decode cX4_marks 113 = .ok (.aload_n 0, 1) := dk_42 (dk_at dksX4_marks_4 19 rfl rfl)
theorem dX4_marks_114 : decode cX4_marks 114 = .ok (.getfield 199, 3) := dk_180 0 199 (dk_at dksX4_marks_4 20 rfl rfl)
theorem dX4_marks_117 : decode cX4_marks 117 = .ok (.iload 5, 2) := dk_21 5 (dk_at dksX4_marks_5 0 rfl rfl)
theorem dX4_marks_119 : decode cX4_marks 119 = .ok (.iload_n 3, 1) := dk_29 (dk_at dksX4_marks_5 2 rfl rfl)
theorem dX4_marks_120 : decode cX4_marks 120 = .ok (.iload 4, 2) := dk_21 4 (dk_at dksX4_marks_5 3 rfl rfl)
theorem dX4_marks_122 : decode cX4_marks 122 = .ok (.invokestatic 577, 3) := dk_184 2 65 (dk_at dksX4_marks_5 5 rfl rfl)
theorem dX4_marks_125 : decode cX4_marks 125 = .ok (.baload, 1) := dk_51 (dk_at dksX4_marks_5 8 rfl rfl)
theorem dX4_marks_126 : decode cX4_marks 126 = .ok (.ifCond .ne 5, 3) := dk_154 0 5 (dk_at dksX4_marks_5 9 rfl rfl)
theorem dX4_marks_129 : decode cX4_marks 129 = .ok (.iconst 0, 1) := dk_3 (dk_at dksX4_marks_5 12 rfl rfl)
theorem dX4_marks_130 : decode cX4_marks 130 = .ok (.ireturn, 1) := dk_172 (dk_at dksX4_marks_5 13 rfl rfl)
theorem dX4_marks_131 : decode cX4_marks 131 = .ok (.iinc 5 1, 3) := dk_132 5 1 (dk_at dksX4_marks_5 14 rfl rfl)
theorem dX4_marks_134 : decode cX4_marks 134 = .ok (.goto (-82), 3) := dk_167 255 174 (dk_at dksX4_marks_5 17 rfl rfl)
theorem dX4_marks_137 : decode cX4_marks 137 = .ok (.iinc 4 1, 3) := dk_132 4 1 (dk_at dksX4_marks_5 20 rfl rfl)
theorem dX4_marks_140 : decode cX4_marks 140 = .ok (.goto (-127), 3) := dk_167 255 129 (dk_at dksX4_marks_6 0 rfl rfl)
theorem dX4_marks_143 : decode cX4_marks 143 = .ok (.iinc 3 1, 3) := dk_132 3 1 (dk_at dksX4_marks_6 3 rfl rfl)
theorem dX4_marks_146 : decode cX4_marks 146 = .ok (.goto (-144), 3) := dk_167 255 112 (dk_at dksX4_marks_6 6 rfl rfl)
theorem dX4_marks_149 : decode cX4_marks 149 = .ok (.iconst 1, 1) := dk_4 (dk_at dksX4_marks_6 9 rfl rfl)
theorem dX4_marks_150 : decode cX4_marks 150 = .ok (.ireturn, 1) := dk_172 (dk_at dksX4_marks_6 10 rfl rfl)
abbrev cX4_markOf : ByteArray := prog_18_method_92_code
def yX4_markOf : MethodName := ⟨RX4, "markOf", "(III)I"⟩
def dkwX4_markOf_0 : List UInt8 := [26, 16, 66, 104, 27, 96, 16, 9, 104, 28, 156, 0, 8, 16, 8, 167, 0, 4, 28, 96, 172]
abbrev dktX4_markOf_0 : List UInt8 := dkwX4_markOf_0 ++ []
theorem dksX4_markOf_0 : cX4_markOf.data.toList.drop 0 = dktX4_markOf_0 := by decide +kernel
theorem dX4_markOf_0 : decode cX4_markOf 0 = .ok (.iload_n 0, 1) := dk_26 (dk_at dksX4_markOf_0 0 rfl rfl)
theorem dX4_markOf_1 : decode cX4_markOf 1 = .ok (.bipush 66, 2) := dk_16 66 (dk_at dksX4_markOf_0 1 rfl rfl)
theorem dX4_markOf_3 : decode cX4_markOf 3 = .ok (.imul, 1) := dk_104 (dk_at dksX4_markOf_0 3 rfl rfl)
theorem dX4_markOf_4 : decode cX4_markOf 4 = .ok (.iload_n 1, 1) := dk_27 (dk_at dksX4_markOf_0 4 rfl rfl)
theorem dX4_markOf_5 : decode cX4_markOf 5 = .ok (.iadd, 1) := dk_96 (dk_at dksX4_markOf_0 5 rfl rfl)
theorem dX4_markOf_6 : decode cX4_markOf 6 = .ok (.bipush 9, 2) := dk_16 9 (dk_at dksX4_markOf_0 6 rfl rfl)
theorem dX4_markOf_8 : decode cX4_markOf 8 = .ok (.imul, 1) := dk_104 (dk_at dksX4_markOf_0 8 rfl rfl)
theorem dX4_markOf_9 : decode cX4_markOf 9 = .ok (.iload_n 2, 1) := dk_28 (dk_at dksX4_markOf_0 9 rfl rfl)
theorem dX4_markOf_10 : decode cX4_markOf 10 = .ok (.ifCond .ge 8, 3) := dk_156 0 8 (dk_at dksX4_markOf_0 10 rfl rfl)
theorem dX4_markOf_13 : decode cX4_markOf 13 = .ok (.bipush 8, 2) := dk_16 8 (dk_at dksX4_markOf_0 13 rfl rfl)
theorem dX4_markOf_15 : decode cX4_markOf 15 = .ok (.goto 4, 3) := dk_167 0 4 (dk_at dksX4_markOf_0 15 rfl rfl)
theorem dX4_markOf_18 : decode cX4_markOf 18 = .ok (.iload_n 2, 1) := dk_28 (dk_at dksX4_markOf_0 18 rfl rfl)
theorem dX4_markOf_19 : decode cX4_markOf 19 = .ok (.iadd, 1) := dk_96 (dk_at dksX4_markOf_0 19 rfl rfl)
theorem dX4_markOf_20 : decode cX4_markOf 20 = .ok (.ireturn, 1) := dk_172 (dk_at dksX4_markOf_0 20 rfl rfl)
abbrev cX4_put : ByteArray := prog_18_method_97_code
def yX4_put : MethodName := ⟨RX4, "put", "(III)V"⟩
def dkwX4_put_1 : List UInt8 := [180, 0, 157, 16, 8, 28, 104, 29, 96, 27, 79, 42, 28, 182, 1, 196, 177]
abbrev dktX4_put_1 : List UInt8 := dkwX4_put_1 ++ []
def dkwX4_put_0 : List UInt8 := [42, 180, 0, 163, 16, 8, 28, 104, 29, 96, 42, 180, 0, 157, 16, 8, 28, 104, 29, 96, 46, 79, 42]
abbrev dktX4_put_0 : List UInt8 := dkwX4_put_0 ++ dktX4_put_1
theorem dksX4_put_0 : cX4_put.data.toList.drop 0 = dktX4_put_0 := by decide +kernel
theorem dksX4_put_1 : cX4_put.data.toList.drop 23 = dktX4_put_1 := dk_seg dksX4_put_0 23 rfl rfl
theorem dX4_put_0 : decode cX4_put 0 = .ok (.aload_n 0, 1) := dk_42 (dk_at dksX4_put_0 0 rfl rfl)
theorem dX4_put_1 : decode cX4_put 1 = .ok (.getfield 163, 3) := dk_180 0 163 (dk_at dksX4_put_0 1 rfl rfl)
theorem dX4_put_4 : decode cX4_put 4 = .ok (.bipush 8, 2) := dk_16 8 (dk_at dksX4_put_0 4 rfl rfl)
theorem dX4_put_6 : decode cX4_put 6 = .ok (.iload_n 2, 1) := dk_28 (dk_at dksX4_put_0 6 rfl rfl)
theorem dX4_put_7 : decode cX4_put 7 = .ok (.imul, 1) := dk_104 (dk_at dksX4_put_0 7 rfl rfl)
theorem dX4_put_8 : decode cX4_put 8 = .ok (.iload_n 3, 1) := dk_29 (dk_at dksX4_put_0 8 rfl rfl)
theorem dX4_put_9 : decode cX4_put 9 = .ok (.iadd, 1) := dk_96 (dk_at dksX4_put_0 9 rfl rfl)
theorem dX4_put_10 : decode cX4_put 10 = .ok (.aload_n 0, 1) := dk_42 (dk_at dksX4_put_0 10 rfl rfl)
theorem dX4_put_11 : decode cX4_put 11 = .ok (.getfield 157, 3) := dk_180 0 157 (dk_at dksX4_put_0 11 rfl rfl)
theorem dX4_put_14 : decode cX4_put 14 = .ok (.bipush 8, 2) := dk_16 8 (dk_at dksX4_put_0 14 rfl rfl)
theorem dX4_put_16 : decode cX4_put 16 = .ok (.iload_n 2, 1) := dk_28 (dk_at dksX4_put_0 16 rfl rfl)
theorem dX4_put_17 : decode cX4_put 17 = .ok (.imul, 1) := dk_104 (dk_at dksX4_put_0 17 rfl rfl)
theorem dX4_put_18 : decode cX4_put 18 = .ok (.iload_n 3, 1) := dk_29 (dk_at dksX4_put_0 18 rfl rfl)
theorem dX4_put_19 : decode cX4_put 19 = .ok (.iadd, 1) := dk_96 (dk_at dksX4_put_0 19 rfl rfl)
theorem dX4_put_20 : decode cX4_put 20 = .ok (.iaload, 1) := dk_46 (dk_at dksX4_put_0 20 rfl rfl)
theorem dX4_put_21 : decode cX4_put 21 = .ok (.iastore, 1) := dk_79 (dk_at dksX4_put_0 21 rfl rfl)
theorem dX4_put_22 : decode cX4_put 22 = .ok (.aload_n 0, 1) := dk_42 (dk_at dksX4_put_0 22 rfl rfl)
theorem dX4_put_23 : decode cX4_put 23 = .ok (.getfield 157, 3) := dk_180 0 157 (dk_at dksX4_put_1 0 rfl rfl)
theorem dX4_put_26 : decode cX4_put 26 = .ok (.bipush 8, 2) := dk_16 8 (dk_at dksX4_put_1 3 rfl rfl)
theorem dX4_put_28 : decode cX4_put 28 = .ok (.iload_n 2, 1) := dk_28 (dk_at dksX4_put_1 5 rfl rfl)
theorem dX4_put_29 : decode cX4_put 29 = .ok (.imul, 1) := dk_104 (dk_at dksX4_put_1 6 rfl rfl)
theorem dX4_put_30 : decode cX4_put 30 = .ok (.iload_n 3, 1) := dk_29 (dk_at dksX4_put_1 7 rfl rfl)
theorem dX4_put_31 : decode cX4_put 31 = .ok (.iadd, 1) := dk_96 (dk_at dksX4_put_1 8 rfl rfl)
theorem dX4_put_32 : decode cX4_put 32 = .ok (.iload_n 1, 1) := dk_27 (dk_at dksX4_put_1 9 rfl rfl)
theorem dX4_put_33 : decode cX4_put 33 = .ok (.iastore, 1) := dk_79 (dk_at dksX4_put_1 10 rfl rfl)
theorem dX4_put_34 : decode cX4_put 34 = .ok (.aload_n 0, 1) := dk_42 (dk_at dksX4_put_1 11 rfl rfl)
theorem dX4_put_35 : decode cX4_put 35 = .ok (.iload_n 2, 1) := dk_28 (dk_at dksX4_put_1 12 rfl rfl)
theorem dX4_put_36 : decode cX4_put 36 = .ok (.invokevirtual 452, 3) := dk_182 1 196 (dk_at dksX4_put_1 13 rfl rfl)
theorem dX4_put_39 : decode cX4_put 39 = .ok (.return_, 1) := dk_177 (dk_at dksX4_put_1 16 rfl rfl)
abbrev cX4_harm : ByteArray := prog_18_method_101_code
def yX4_harm : MethodName := ⟨RX4, "harm", "(III)I"⟩
def dkwX4_harm_1 : List UInt8 := [28, 29, 182, 2, 81, 167, 0, 4, 2, 172]
abbrev dktX4_harm_1 : List UInt8 := dkwX4_harm_1 ++ []
def dkwX4_harm_0 : List UInt8 := [42, 3, 181, 0, 226, 42, 27, 182, 1, 54, 153, 0, 22, 42, 28, 29, 182, 1, 177, 153, 0, 13, 42, 27]
abbrev dktX4_harm_0 : List UInt8 := dkwX4_harm_0 ++ dktX4_harm_1
theorem dksX4_harm_0 : cX4_harm.data.toList.drop 0 = dktX4_harm_0 := by decide +kernel
theorem dksX4_harm_1 : cX4_harm.data.toList.drop 24 = dktX4_harm_1 := dk_seg dksX4_harm_0 24 rfl rfl
theorem dX4_harm_0 : decode cX4_harm 0 = .ok (.aload_n 0, 1) := dk_42 (dk_at dksX4_harm_0 0 rfl rfl)
theorem dX4_harm_1 : decode cX4_harm 1 = .ok (.iconst 0, 1) := dk_3 (dk_at dksX4_harm_0 1 rfl rfl)
theorem dX4_harm_2 : decode cX4_harm 2 = .ok (.putfield 226, 3) := dk_181 0 226 (dk_at dksX4_harm_0 2 rfl rfl)
theorem dX4_harm_5 : decode cX4_harm 5 = .ok (.aload_n 0, 1) := dk_42 (dk_at dksX4_harm_0 5 rfl rfl)
theorem dX4_harm_6 : decode cX4_harm 6 = .ok (.iload_n 1, 1) := dk_27 (dk_at dksX4_harm_0 6 rfl rfl)
theorem dX4_harm_7 : decode cX4_harm 7 = .ok (.invokevirtual 310, 3) := dk_182 1 54 (dk_at dksX4_harm_0 7 rfl rfl)
theorem dX4_harm_10 : decode cX4_harm 10 = .ok (.ifCond .eq 22, 3) := dk_153 0 22 (dk_at dksX4_harm_0 10 rfl rfl)
theorem dX4_harm_13 : decode cX4_harm 13 = .ok (.aload_n 0, 1) := dk_42 (dk_at dksX4_harm_0 13 rfl rfl)
theorem dX4_harm_14 : decode cX4_harm 14 = .ok (.iload_n 2, 1) := dk_28 (dk_at dksX4_harm_0 14 rfl rfl)
theorem dX4_harm_15 : decode cX4_harm 15 = .ok (.iload_n 3, 1) := dk_29 (dk_at dksX4_harm_0 15 rfl rfl)
theorem dX4_harm_16 : decode cX4_harm 16 = .ok (.invokevirtual 433, 3) := dk_182 1 177 (dk_at dksX4_harm_0 16 rfl rfl)
theorem dX4_harm_19 : decode cX4_harm 19 = .ok (.ifCond .eq 13, 3) := dk_153 0 13 (dk_at dksX4_harm_0 19 rfl rfl)
theorem dX4_harm_22 : decode cX4_harm 22 = .ok (.aload_n 0, 1) := dk_42 (dk_at dksX4_harm_0 22 rfl rfl)
theorem dX4_harm_23 : decode cX4_harm 23 = .ok (.iload_n 1, 1) := dk_27 (dk_at dksX4_harm_0 23 rfl rfl)
theorem dX4_harm_24 : decode cX4_harm 24 = .ok (.iload_n 2, 1) := dk_28 (dk_at dksX4_harm_1 0 rfl rfl)
theorem dX4_harm_25 : decode cX4_harm 25 = .ok (.iload_n 3, 1) := dk_29 (dk_at dksX4_harm_1 1 rfl rfl)
theorem dX4_harm_26 : decode cX4_harm 26 = .ok (.invokevirtual 593, 3) := dk_182 2 81 (dk_at dksX4_harm_1 2 rfl rfl)
theorem dX4_harm_29 : decode cX4_harm 29 = .ok (.goto 4, 3) := dk_167 0 4 (dk_at dksX4_harm_1 5 rfl rfl)
theorem dX4_harm_32 : decode cX4_harm 32 = .ok (.iconst (-1), 1) := dk_2 (dk_at dksX4_harm_1 8 rfl rfl)
theorem dX4_harm_33 : decode cX4_harm 33 = .ok (.ireturn, 1) := dk_172 (dk_at dksX4_harm_1 9 rfl rfl)
abbrev cX4_harmOf : ByteArray := prog_18_method_99_code
def yX4_harmOf : MethodName := ⟨RX4, "harmOf", "(III)I"⟩
def dkwX4_harmOf_5 : List UInt8 := [28, 29, 182, 2, 75, 21, 4, 42, 27, 28, 182, 1, 241, 16, 100, 108, 96, 172]
abbrev dktX4_harmOf_5 : List UInt8 := dkwX4_harmOf_5 ++ []
def dkwX4_harmOf_4 : List UInt8 := [180, 0, 38, 16, 8, 42, 180, 0, 148, 28, 46, 104, 29, 96, 46, 184, 1, 8, 104, 96, 54, 4, 42, 27]
abbrev dktX4_harmOf_4 : List UInt8 := dkwX4_harmOf_4 ++ dktX4_harmOf_5
def dkwX4_harmOf_3 : List UInt8 := [16, 10, 21, 5, 104, 167, 0, 4, 3, 96, 54, 4, 21, 4, 6, 42, 180, 0, 51, 27, 46, 42]
abbrev dktX4_harmOf_3 : List UInt8 := dkwX4_harmOf_3 ++ dktX4_harmOf_4
def dkwX4_harmOf_2 : List UInt8 := [180, 0, 148, 28, 46, 46, 42, 27, 28, 29, 182, 1, 207, 100, 54, 5, 21, 4, 21, 5, 158, 0, 11]
abbrev dktX4_harmOf_2 : List UInt8 := dkwX4_harmOf_2 ++ dktX4_harmOf_3
def dkwX4_harmOf_1 : List UInt8 := [16, 8, 28, 104, 29, 96, 46, 27, 160, 0, 7, 3, 167, 0, 5, 16, 100, 54, 4, 42, 180, 0, 20, 42]
abbrev dktX4_harmOf_1 : List UInt8 := dkwX4_harmOf_1 ++ dktX4_harmOf_2
def dkwX4_harmOf_0 : List UInt8 := [42, 42, 180, 0, 246, 182, 1, 204, 42, 27, 28, 182, 1, 202, 153, 0, 5, 2, 172, 42, 180, 0, 160]
abbrev dktX4_harmOf_0 : List UInt8 := dkwX4_harmOf_0 ++ dktX4_harmOf_1
theorem dksX4_harmOf_0 : cX4_harmOf.data.toList.drop 0 = dktX4_harmOf_0 := by decide +kernel
theorem dksX4_harmOf_1 : cX4_harmOf.data.toList.drop 23 = dktX4_harmOf_1 := dk_seg dksX4_harmOf_0 23 rfl rfl
theorem dksX4_harmOf_2 : cX4_harmOf.data.toList.drop 47 = dktX4_harmOf_2 := dk_seg dksX4_harmOf_1 24 rfl rfl
theorem dksX4_harmOf_3 : cX4_harmOf.data.toList.drop 70 = dktX4_harmOf_3 := dk_seg dksX4_harmOf_2 23 rfl rfl
theorem dksX4_harmOf_4 : cX4_harmOf.data.toList.drop 92 = dktX4_harmOf_4 := dk_seg dksX4_harmOf_3 22 rfl rfl
theorem dksX4_harmOf_5 : cX4_harmOf.data.toList.drop 116 = dktX4_harmOf_5 := dk_seg dksX4_harmOf_4 24 rfl rfl
theorem dX4_harmOf_0 : decode cX4_harmOf 0 = .ok (.aload_n 0, 1) := dk_42 (dk_at dksX4_harmOf_0 0 rfl rfl)
theorem dX4_harmOf_1 : decode cX4_harmOf 1 = .ok (.aload_n 0, 1) := dk_42 (dk_at dksX4_harmOf_0 1 rfl rfl)
theorem dX4_harmOf_2 : decode cX4_harmOf 2 = .ok (.getfield 246, 3) := dk_180 0 246 (dk_at dksX4_harmOf_0 2 rfl rfl)
theorem dX4_harmOf_5 : decode cX4_harmOf 5 = .ok (.invokevirtual 460, 3) := dk_182 1 204 (dk_at dksX4_harmOf_0 5 rfl rfl)
theorem dX4_harmOf_8 : decode cX4_harmOf 8 = .ok (.aload_n 0, 1) := dk_42 (dk_at dksX4_harmOf_0 8 rfl rfl)
theorem dX4_harmOf_9 : decode cX4_harmOf 9 = .ok (.iload_n 1, 1) := dk_27 (dk_at dksX4_harmOf_0 9 rfl rfl)
theorem dX4_harmOf_10 : decode cX4_harmOf 10 = .ok (.iload_n 2, 1) := dk_28 (dk_at dksX4_harmOf_0 10 rfl rfl)
theorem dX4_harmOf_11 : decode cX4_harmOf 11 = .ok (.invokevirtual 458, 3) := dk_182 1 202 (dk_at dksX4_harmOf_0 11 rfl rfl)
theorem dX4_harmOf_14 : decode cX4_harmOf 14 = .ok (.ifCond .eq 5, 3) := dk_153 0 5 (dk_at dksX4_harmOf_0 14 rfl rfl)
theorem dX4_harmOf_17 : decode cX4_harmOf 17 = .ok (.iconst (-1), 1) := dk_2 (dk_at dksX4_harmOf_0 17 rfl rfl)
theorem dX4_harmOf_18 : decode cX4_harmOf 18 = .ok (.ireturn, 1) := dk_172 (dk_at dksX4_harmOf_0 18 rfl rfl)
theorem dX4_harmOf_19 : decode cX4_harmOf 19 = .ok (.aload_n 0, 1) := dk_42 (dk_at dksX4_harmOf_0 19 rfl rfl)
theorem dX4_harmOf_20 : decode cX4_harmOf 20 = .ok (.getfield 160, 3) := dk_180 0 160 (dk_at dksX4_harmOf_0 20 rfl rfl)
theorem dX4_harmOf_23 : decode cX4_harmOf 23 = .ok (.bipush 8, 2) := dk_16 8 (dk_at dksX4_harmOf_1 0 rfl rfl)
theorem dX4_harmOf_25 : decode cX4_harmOf 25 = .ok (.iload_n 2, 1) := dk_28 (dk_at dksX4_harmOf_1 2 rfl rfl)
theorem dX4_harmOf_26 : decode cX4_harmOf 26 = .ok (.imul, 1) := dk_104 (dk_at dksX4_harmOf_1 3 rfl rfl)
theorem dX4_harmOf_27 : decode cX4_harmOf 27 = .ok (.iload_n 3, 1) := dk_29 (dk_at dksX4_harmOf_1 4 rfl rfl)
theorem dX4_harmOf_28 : decode cX4_harmOf 28 = .ok (.iadd, 1) := dk_96 (dk_at dksX4_harmOf_1 5 rfl rfl)
theorem dX4_harmOf_29 : decode cX4_harmOf 29 = .ok (.iaload, 1) := dk_46 (dk_at dksX4_harmOf_1 6 rfl rfl)
theorem dX4_harmOf_30 : decode cX4_harmOf 30 = .ok (.iload_n 1, 1) := dk_27 (dk_at dksX4_harmOf_1 7 rfl rfl)
theorem dX4_harmOf_31 : decode cX4_harmOf 31 = .ok (.if_icmp .ne 7, 3) := dk_160 0 7 (dk_at dksX4_harmOf_1 8 rfl rfl)
theorem dX4_harmOf_34 : decode cX4_harmOf 34 = .ok (.iconst 0, 1) := dk_3 (dk_at dksX4_harmOf_1 11 rfl rfl)
theorem dX4_harmOf_35 : decode cX4_harmOf 35 = .ok (.goto 5, 3) := dk_167 0 5 (dk_at dksX4_harmOf_1 12 rfl rfl)
theorem dX4_harmOf_38 : decode cX4_harmOf 38 = .ok (.bipush 100, 2) := dk_16 100 (dk_at dksX4_harmOf_1 15 rfl rfl)
theorem dX4_harmOf_40 : decode cX4_harmOf 40 = .ok (.istore 4, 2) := dk_54 4 (dk_at dksX4_harmOf_1 17 rfl rfl)
theorem dX4_harmOf_42 : decode cX4_harmOf 42 = .ok (.aload_n 0, 1) := dk_42 (dk_at dksX4_harmOf_1 19 rfl rfl)
theorem dX4_harmOf_43 : decode cX4_harmOf 43 = .ok (.getfield 20, 3) := dk_180 0 20 (dk_at dksX4_harmOf_1 20 rfl rfl)
theorem dX4_harmOf_46 : decode cX4_harmOf 46 = .ok (.aload_n 0, 1) := dk_42 (dk_at dksX4_harmOf_1 23 rfl rfl)
theorem dX4_harmOf_47 : decode cX4_harmOf 47 = .ok (.getfield 148, 3) := dk_180 0 148 (dk_at dksX4_harmOf_2 0 rfl rfl)
theorem dX4_harmOf_50 : decode cX4_harmOf 50 = .ok (.iload_n 2, 1) := dk_28 (dk_at dksX4_harmOf_2 3 rfl rfl)
theorem dX4_harmOf_51 : decode cX4_harmOf 51 = .ok (.iaload, 1) := dk_46 (dk_at dksX4_harmOf_2 4 rfl rfl)
theorem dX4_harmOf_52 : decode cX4_harmOf 52 = .ok (.iaload, 1) := dk_46 (dk_at dksX4_harmOf_2 5 rfl rfl)
theorem dX4_harmOf_53 : decode cX4_harmOf 53 = .ok (.aload_n 0, 1) := dk_42 (dk_at dksX4_harmOf_2 6 rfl rfl)
theorem dX4_harmOf_54 : decode cX4_harmOf 54 = .ok (.iload_n 1, 1) := dk_27 (dk_at dksX4_harmOf_2 7 rfl rfl)
theorem dX4_harmOf_55 : decode cX4_harmOf 55 = .ok (.iload_n 2, 1) := dk_28 (dk_at dksX4_harmOf_2 8 rfl rfl)
theorem dX4_harmOf_56 : decode cX4_harmOf 56 = .ok (.iload_n 3, 1) := dk_29 (dk_at dksX4_harmOf_2 9 rfl rfl)
theorem dX4_harmOf_57 : decode cX4_harmOf 57 = .ok (.invokevirtual 463, 3) := dk_182 1 207 (dk_at dksX4_harmOf_2 10 rfl rfl)
theorem dX4_harmOf_60 : decode cX4_harmOf 60 = .ok (.isub, 1) := dk_100 (dk_at dksX4_harmOf_2 13 rfl rfl)
theorem dX4_harmOf_61 : decode cX4_harmOf 61 = .ok (.istore 5, 2) := dk_54 5 (dk_at dksX4_harmOf_2 14 rfl rfl)
theorem dX4_harmOf_63 : decode cX4_harmOf 63 = .ok (.iload 4, 2) := dk_21 4 (dk_at dksX4_harmOf_2 16 rfl rfl)
theorem dX4_harmOf_65 : decode cX4_harmOf 65 = .ok (.iload 5, 2) := dk_21 5 (dk_at dksX4_harmOf_2 18 rfl rfl)
theorem dX4_harmOf_67 : decode cX4_harmOf 67 = .ok (.ifCond .le 11, 3) := dk_158 0 11 (dk_at dksX4_harmOf_2 20 rfl rfl)
theorem dX4_harmOf_70 : decode cX4_harmOf 70 = .ok (.bipush 10, 2) := dk_16 10 (dk_at dksX4_harmOf_3 0 rfl rfl)
theorem dX4_harmOf_72 : decode cX4_harmOf 72 = .ok (.iload 5, 2) := dk_21 5 (dk_at dksX4_harmOf_3 2 rfl rfl)
theorem dX4_harmOf_74 : decode cX4_harmOf 74 = .ok (.imul, 1) := dk_104 (dk_at dksX4_harmOf_3 4 rfl rfl)
theorem dX4_harmOf_75 : decode cX4_harmOf 75 = .ok (.goto 4, 3) := dk_167 0 4 (dk_at dksX4_harmOf_3 5 rfl rfl)
theorem dX4_harmOf_78 : decode cX4_harmOf 78 = .ok (.iconst 0, 1) := dk_3 (dk_at dksX4_harmOf_3 8 rfl rfl)
theorem dX4_harmOf_79 : decode cX4_harmOf 79 = .ok (.iadd, 1) := dk_96 (dk_at dksX4_harmOf_3 9 rfl rfl)
theorem dX4_harmOf_80 : decode cX4_harmOf 80 = .ok (.istore 4, 2) := dk_54 4 (dk_at dksX4_harmOf_3 10 rfl rfl)
theorem dX4_harmOf_82 : decode cX4_harmOf 82 = .ok (.iload 4, 2) := dk_21 4 (dk_at dksX4_harmOf_3 12 rfl rfl)
theorem dX4_harmOf_84 : decode cX4_harmOf 84 = .ok (.iconst 3, 1) := dk_6 (dk_at dksX4_harmOf_3 14 rfl rfl)
theorem dX4_harmOf_85 : decode cX4_harmOf 85 = .ok (.aload_n 0, 1) := dk_42 (dk_at dksX4_harmOf_3 15 rfl rfl)
theorem dX4_harmOf_86 : decode cX4_harmOf 86 = .ok (.getfield 51, 3) := dk_180 0 51 (dk_at dksX4_harmOf_3 16 rfl rfl)
theorem dX4_harmOf_89 : decode cX4_harmOf 89 = .ok (.iload_n 1, 1) := dk_27 (dk_at dksX4_harmOf_3 19 rfl rfl)
theorem dX4_harmOf_90 : decode cX4_harmOf 90 = .ok (.iaload, 1) := dk_46 (dk_at dksX4_harmOf_3 20 rfl rfl)
theorem dX4_harmOf_91 : decode cX4_harmOf 91 = .ok (.aload_n 0, 1) := dk_42 (dk_at dksX4_harmOf_3 21 rfl rfl)
theorem dX4_harmOf_92 : decode cX4_harmOf 92 = .ok (.getfield 38, 3) := dk_180 0 38 (dk_at dksX4_harmOf_4 0 rfl rfl)
theorem dX4_harmOf_95 : decode cX4_harmOf 95 = .ok (.bipush 8, 2) := dk_16 8 (dk_at dksX4_harmOf_4 3 rfl rfl)
theorem dX4_harmOf_97 : decode cX4_harmOf 97 = .ok (.aload_n 0, 1) := dk_42 (dk_at dksX4_harmOf_4 5 rfl rfl)
theorem dX4_harmOf_98 : decode cX4_harmOf 98 = .ok (.getfield 148, 3) := dk_180 0 148 (dk_at dksX4_harmOf_4 6 rfl rfl)
theorem dX4_harmOf_101 : decode cX4_harmOf 101 = .ok (.iload_n 2, 1) := dk_28 (dk_at dksX4_harmOf_4 9 rfl rfl)
theorem dX4_harmOf_102 : decode cX4_harmOf 102 = .ok (.iaload, 1) := dk_46 (dk_at dksX4_harmOf_4 10 rfl rfl)
theorem dX4_harmOf_103 : decode cX4_harmOf 103 = .ok (.imul, 1) := dk_104 (dk_at dksX4_harmOf_4 11 rfl rfl)
theorem dX4_harmOf_104 : decode cX4_harmOf 104 = .ok (.iload_n 3, 1) := dk_29 (dk_at dksX4_harmOf_4 12 rfl rfl)
theorem dX4_harmOf_105 : decode cX4_harmOf 105 = .ok (.iadd, 1) := dk_96 (dk_at dksX4_harmOf_4 13 rfl rfl)
theorem dX4_harmOf_106 : decode cX4_harmOf 106 = .ok (.iaload, 1) := dk_46 (dk_at dksX4_harmOf_4 14 rfl rfl)
theorem dX4_harmOf_107 : decode cX4_harmOf 107 = .ok (.invokestatic 264, 3) := dk_184 1 8 (dk_at dksX4_harmOf_4 15 rfl rfl)
theorem dX4_harmOf_110 : decode cX4_harmOf 110 = .ok (.imul, 1) := dk_104 (dk_at dksX4_harmOf_4 18 rfl rfl)
theorem dX4_harmOf_111 : decode cX4_harmOf 111 = .ok (.iadd, 1) := dk_96 (dk_at dksX4_harmOf_4 19 rfl rfl)
theorem dX4_harmOf_112 : decode cX4_harmOf 112 = .ok (.istore 4, 2) := dk_54 4 (dk_at dksX4_harmOf_4 20 rfl rfl)
theorem dX4_harmOf_114 : decode cX4_harmOf 114 = .ok (.aload_n 0, 1) := dk_42 (dk_at dksX4_harmOf_4 22 rfl rfl)
theorem dX4_harmOf_115 : decode cX4_harmOf 115 = .ok (.iload_n 1, 1) := dk_27 (dk_at dksX4_harmOf_4 23 rfl rfl)
theorem dX4_harmOf_116 : decode cX4_harmOf 116 = .ok (.iload_n 2, 1) := dk_28 (dk_at dksX4_harmOf_5 0 rfl rfl)
theorem dX4_harmOf_117 : decode cX4_harmOf 117 = .ok (.iload_n 3, 1) := dk_29 (dk_at dksX4_harmOf_5 1 rfl rfl)
theorem dX4_harmOf_118 : decode cX4_harmOf 118 = .ok (.invokevirtual 587, 3) := dk_182 2 75 (dk_at dksX4_harmOf_5 2 rfl rfl)
theorem dX4_harmOf_121 : decode cX4_harmOf 121 = .ok (.iload 4, 2) := dk_21 4 (dk_at dksX4_harmOf_5 5 rfl rfl)
theorem dX4_harmOf_123 : decode cX4_harmOf 123 = .ok (.aload_n 0, 1) := dk_42 (dk_at dksX4_harmOf_5 7 rfl rfl)
theorem dX4_harmOf_124 : decode cX4_harmOf 124 = .ok (.iload_n 1, 1) := dk_27 (dk_at dksX4_harmOf_5 8 rfl rfl)
theorem dX4_harmOf_125 : decode cX4_harmOf 125 = .ok (.iload_n 2, 1) := dk_28 (dk_at dksX4_harmOf_5 9 rfl rfl)
theorem dX4_harmOf_126 : decode cX4_harmOf 126 = .ok (.invokevirtual 497, 3) := dk_182 1 241 (dk_at dksX4_harmOf_5 10 rfl rfl)
theorem dX4_harmOf_129 : decode cX4_harmOf 129 = .ok (.bipush 100, 2) := dk_16 100 (dk_at dksX4_harmOf_5 13 rfl rfl)
theorem dX4_harmOf_131 : decode cX4_harmOf 131 = .ok (.idiv, 1) := dk_108 (dk_at dksX4_harmOf_5 15 rfl rfl)
theorem dX4_harmOf_132 : decode cX4_harmOf 132 = .ok (.iadd, 1) := dk_96 (dk_at dksX4_harmOf_5 16 rfl rfl)
theorem dX4_harmOf_133 : decode cX4_harmOf 133 = .ok (.ireturn, 1) := dk_172 (dk_at dksX4_harmOf_5 17 rfl rfl)
abbrev cX4_instead : ByteArray := prog_18_method_102_code
def yX4_instead : MethodName := ⟨RX4, "instead", "(II)I"⟩
def dkwX4_instead_3 : List UInt8 := [21, 5, 62, 21, 6, 54, 4, 132, 5, 1, 167, 255, 199, 29, 172]
abbrev dktX4_instead_3 : List UInt8 := dkwX4_instead_3 ++ []
def dkwX4_instead_2 : List UInt8 := [21, 5, 27, 28, 182, 2, 81, 54, 6, 29, 155, 0, 13, 21, 6, 21, 4, 161, 0, 6, 167, 0, 10]
abbrev dktX4_instead_2 : List UInt8 := dkwX4_instead_2 ++ dktX4_instead_3
def dkwX4_instead_1 : List UInt8 := [21, 5, 42, 180, 1, 2, 162, 0, 54, 42, 21, 5, 27, 28, 182, 2, 78, 154, 0, 6, 167, 0, 34, 42]
abbrev dktX4_instead_1 : List UInt8 := dkwX4_instead_1 ++ dktX4_instead_2
def dkwX4_instead_0 : List UInt8 := [42, 3, 181, 0, 226, 42, 27, 28, 182, 1, 177, 154, 0, 5, 2, 172, 2, 62, 3, 54, 4, 3, 54, 5]
abbrev dktX4_instead_0 : List UInt8 := dkwX4_instead_0 ++ dktX4_instead_1
theorem dksX4_instead_0 : cX4_instead.data.toList.drop 0 = dktX4_instead_0 := by decide +kernel
theorem dksX4_instead_1 : cX4_instead.data.toList.drop 24 = dktX4_instead_1 := dk_seg dksX4_instead_0 24 rfl rfl
theorem dksX4_instead_2 : cX4_instead.data.toList.drop 48 = dktX4_instead_2 := dk_seg dksX4_instead_1 24 rfl rfl
theorem dksX4_instead_3 : cX4_instead.data.toList.drop 71 = dktX4_instead_3 := dk_seg dksX4_instead_2 23 rfl rfl
theorem dX4_instead_0 : decode cX4_instead 0 = .ok (.aload_n 0, 1) := dk_42 (dk_at dksX4_instead_0 0 rfl rfl)
theorem dX4_instead_1 : decode cX4_instead 1 = .ok (.iconst 0, 1) := dk_3 (dk_at dksX4_instead_0 1 rfl rfl)
theorem dX4_instead_2 : decode cX4_instead 2 = .ok (.putfield 226, 3) := dk_181 0 226 (dk_at dksX4_instead_0 2 rfl rfl)
theorem dX4_instead_5 : decode cX4_instead 5 = .ok (.aload_n 0, 1) := dk_42 (dk_at dksX4_instead_0 5 rfl rfl)
theorem dX4_instead_6 : decode cX4_instead 6 = .ok (.iload_n 1, 1) := dk_27 (dk_at dksX4_instead_0 6 rfl rfl)
theorem dX4_instead_7 : decode cX4_instead 7 = .ok (.iload_n 2, 1) := dk_28 (dk_at dksX4_instead_0 7 rfl rfl)
theorem dX4_instead_8 : decode cX4_instead 8 = .ok (.invokevirtual 433, 3) := dk_182 1 177 (dk_at dksX4_instead_0 8 rfl rfl)
theorem dX4_instead_11 : decode cX4_instead 11 = .ok (.ifCond .ne 5, 3) := dk_154 0 5 (dk_at dksX4_instead_0 11 rfl rfl)
theorem dX4_instead_14 : decode cX4_instead 14 = .ok (.iconst (-1), 1) := dk_2 (dk_at dksX4_instead_0 14 rfl rfl)
theorem dX4_instead_15 : decode cX4_instead 15 = .ok (.ireturn, 1) := dk_172 (dk_at dksX4_instead_0 15 rfl rfl)
theorem dX4_instead_16 : decode cX4_instead 16 = .ok (.iconst (-1), 1) := dk_2 (dk_at dksX4_instead_0 16 rfl rfl)
theorem dX4_instead_17 : decode cX4_instead 17 = .ok (.istore_n 3, 1) := dk_62 (dk_at dksX4_instead_0 17 rfl rfl)
theorem dX4_instead_18 : decode cX4_instead 18 = .ok (.iconst 0, 1) := dk_3 (dk_at dksX4_instead_0 18 rfl rfl)
theorem dX4_instead_19 : decode cX4_instead 19 = .ok (.istore 4, 2) := dk_54 4 (dk_at dksX4_instead_0 19 rfl rfl)
theorem dX4_instead_21 : decode cX4_instead 21 = .ok (.iconst 0, 1) := dk_3 (dk_at dksX4_instead_0 21 rfl rfl)
theorem dX4_instead_22 : decode cX4_instead 22 = .ok (.istore 5, 2) := dk_54 5 (dk_at dksX4_instead_0 22 rfl rfl)
theorem dX4_instead_24 : decode cX4_instead 24 = .ok (.iload 5, 2) := dk_21 5 (dk_at dksX4_instead_1 0 rfl rfl)
theorem dX4_instead_26 : decode cX4_instead 26 = .ok (.aload_n 0, 1) := dk_42 (dk_at dksX4_instead_1 2 rfl rfl)
theorem dX4_instead_27 : decode cX4_instead 27 = .ok (.getfield 258, 3) := dk_180 1 2 (dk_at dksX4_instead_1 3 rfl rfl)
theorem dX4_instead_30 : decode cX4_instead 30 = .ok (.if_icmp .ge 54, 3) := dk_162 0 54 (dk_at dksX4_instead_1 6 rfl rfl)
theorem dX4_instead_33 : decode cX4_instead 33 = .ok (.aload_n 0, 1) := dk_42 (dk_at dksX4_instead_1 9 rfl rfl)
theorem dX4_instead_34 : decode cX4_instead 34 = .ok (.iload 5, 2) := dk_21 5 (dk_at dksX4_instead_1 10 rfl rfl)
theorem dX4_instead_36 : decode cX4_instead 36 = .ok (.iload_n 1, 1) := dk_27 (dk_at dksX4_instead_1 12 rfl rfl)
theorem dX4_instead_37 : decode cX4_instead 37 = .ok (.iload_n 2, 1) := dk_28 (dk_at dksX4_instead_1 13 rfl rfl)
theorem dX4_instead_38 : decode cX4_instead 38 = .ok (.invokevirtual 590, 3) := dk_182 2 78 (dk_at dksX4_instead_1 14 rfl rfl)
theorem dX4_instead_41 : decode cX4_instead 41 = .ok (.ifCond .ne 6, 3) := dk_154 0 6 (dk_at dksX4_instead_1 17 rfl rfl)
theorem dX4_instead_44 : decode cX4_instead 44 = .ok (.goto 34, 3) := dk_167 0 34 (dk_at dksX4_instead_1 20 rfl rfl)
theorem dX4_instead_47 : decode cX4_instead 47 = .ok (.aload_n 0, 1) := dk_42 (dk_at dksX4_instead_1 23 rfl rfl)
theorem dX4_instead_48 : decode cX4_instead 48 = .ok (.iload 5, 2) := dk_21 5 (dk_at dksX4_instead_2 0 rfl rfl)
theorem dX4_instead_50 : decode cX4_instead 50 = .ok (.iload_n 1, 1) := dk_27 (dk_at dksX4_instead_2 2 rfl rfl)
theorem dX4_instead_51 : decode cX4_instead 51 = .ok (.iload_n 2, 1) := dk_28 (dk_at dksX4_instead_2 3 rfl rfl)
theorem dX4_instead_52 : decode cX4_instead 52 = .ok (.invokevirtual 593, 3) := dk_182 2 81 (dk_at dksX4_instead_2 4 rfl rfl)
theorem dX4_instead_55 : decode cX4_instead 55 = .ok (.istore 6, 2) := dk_54 6 (dk_at dksX4_instead_2 7 rfl rfl)
theorem dX4_instead_57 : decode cX4_instead 57 = .ok (.iload_n 3, 1) := dk_29 (dk_at dksX4_instead_2 9 rfl rfl)
theorem dX4_instead_58 : decode cX4_instead 58 = .ok (.ifCond .lt 13, 3) := dk_155 0 13 (dk_at dksX4_instead_2 10 rfl rfl)
theorem dX4_instead_61 : decode cX4_instead 61 = .ok (.iload 6, 2) := dk_21 6 (dk_at dksX4_instead_2 13 rfl rfl)
theorem dX4_instead_63 : decode cX4_instead 63 = .ok (.iload 4, 2) := dk_21 4 (dk_at dksX4_instead_2 15 rfl rfl)
theorem dX4_instead_65 : decode cX4_instead 65 = .ok (.if_icmp .lt 6, 3) := dk_161 0 6 (dk_at dksX4_instead_2 17 rfl rfl)
theorem dX4_instead_68 : decode cX4_instead 68 = .ok (.goto 10, 3) := dk_167 0 10 (dk_at dksX4_instead_2 20 rfl rfl)
theorem dX4_instead_71 : decode cX4_instead 71 = .ok (.iload 5, 2) := dk_21 5 (dk_at dksX4_instead_3 0 rfl rfl)
theorem dX4_instead_73 : decode cX4_instead 73 = .ok (.istore_n 3, 1) := dk_62 (dk_at dksX4_instead_3 2 rfl rfl)
theorem dX4_instead_74 : decode cX4_instead 74 = .ok (.iload 6, 2) := dk_21 6 (dk_at dksX4_instead_3 3 rfl rfl)
theorem dX4_instead_76 : decode cX4_instead 76 = .ok (.istore 4, 2) := dk_54 4 (dk_at dksX4_instead_3 5 rfl rfl)
theorem dX4_instead_78 : decode cX4_instead 78 = .ok (.iinc 5 1, 3) := dk_132 5 1 (dk_at dksX4_instead_3 7 rfl rfl)
theorem dX4_instead_81 : decode cX4_instead 81 = .ok (.goto (-57), 3) := dk_167 255 199 (dk_at dksX4_instead_3 10 rfl rfl)
theorem dX4_instead_84 : decode cX4_instead 84 = .ok (.iload_n 3, 1) := dk_29 (dk_at dksX4_instead_3 13 rfl rfl)
theorem dX4_instead_85 : decode cX4_instead 85 = .ok (.ireturn, 1) := dk_172 (dk_at dksX4_instead_3 14 rfl rfl)
abbrev cX4_lay : ByteArray := prog_18_method_105_code
def yX4_lay : MethodName := ⟨RX4, "lay", "(III)I"⟩
def dkwX4_lay_19 : List UInt8 := [132, 6, 1, 167, 255, 81, 3, 172]
abbrev dktX4_lay_19 : List UInt8 := dkwX4_lay_19 ++ []
def dkwX4_lay_18 : List UInt8 := [167, 255, 216, 21, 5, 172, 42, 180, 0, 214, 21, 6, 4, 96, 42, 180, 0, 214, 21, 6, 46, 79]
abbrev dktX4_lay_18 : List UInt8 := dkwX4_lay_18 ++ dktX4_lay_19
def dkwX4_lay_17 : List UInt8 := [180, 0, 214, 21, 7, 46, 79, 42, 180, 0, 220, 21, 7, 42, 180, 0, 211, 21, 7, 46, 79, 132, 7, 1]
abbrev dktX4_lay_17 : List UInt8 := dkwX4_lay_17 ++ dktX4_lay_18
def dkwX4_lay_16 : List UInt8 := [181, 0, 223, 3, 54, 7, 21, 7, 42, 180, 2, 87, 162, 0, 37, 42, 180, 0, 217, 21, 7, 42]
abbrev dktX4_lay_16 : List UInt8 := dkwX4_lay_16 ++ dktX4_lay_17
def dkwX4_lay_15 : List UInt8 := [180, 2, 87, 160, 0, 73, 42, 42, 180, 2, 87, 181, 2, 84, 42, 29, 181, 2, 96, 42, 42, 180, 0, 249]
abbrev dktX4_lay_15 : List UInt8 := dkwX4_lay_15 ++ dktX4_lay_16
def dkwX4_lay_14 : List UInt8 := [29, 182, 2, 90, 42, 21, 6, 4, 96, 182, 2, 93, 154, 0, 6, 167, 255, 184, 21, 6, 4, 96, 42]
abbrev dktX4_lay_14 : List UInt8 := dkwX4_lay_14 ++ dktX4_lay_15
def dkwX4_lay_13 : List UInt8 := [132, 5, 1, 21, 5, 17, 1, 144, 164, 0, 6, 16, 254, 172, 42, 21, 6, 42, 180, 0, 214, 21, 6, 46]
abbrev dktX4_lay_13 : List UInt8 := dkwX4_lay_13 ++ dktX4_lay_14
def dkwX4_lay_12 : List UInt8 := [21, 6, 92, 46, 4, 96, 79, 42, 180, 0, 214, 21, 6, 46, 28, 164, 0, 9, 132, 6, 255, 167, 255, 226]
abbrev dktX4_lay_12 : List UInt8 := dkwX4_lay_12 ++ dktX4_lay_13
def dkwX4_lay_11 : List UInt8 := [3, 54, 5, 3, 54, 6, 42, 180, 0, 214, 3, 27, 4, 100, 79, 21, 6, 155, 0, 176, 42, 180, 0, 214]
abbrev dktX4_lay_11 : List UInt8 := dkwX4_lay_11 ++ dktX4_lay_12
def dkwX4_lay_10 : List UInt8 := [180, 0, 193, 21, 5, 46, 42, 180, 0, 196, 21, 5, 46, 184, 2, 65, 4, 84, 132, 5, 1, 167, 255, 214]
abbrev dktX4_lay_10 : List UInt8 := dkwX4_lay_10 ++ dktX4_lay_11
def dkwX4_lay_9 : List UInt8 := [54, 5, 21, 5, 42, 180, 2, 39, 162, 0, 39, 42, 180, 0, 199, 42, 180, 0, 190, 21, 5, 46, 42]
abbrev dktX4_lay_9 : List UInt8 := dkwX4_lay_9 ++ dktX4_lay_10
def dkwX4_lay_8 : List UInt8 := [79, 132, 5, 1, 167, 255, 230, 42, 42, 180, 0, 246, 182, 1, 204, 42, 182, 2, 55, 42, 182, 2, 68, 3]
abbrev dktX4_lay_8 : List UInt8 := dkwX4_lay_8 ++ dktX4_lay_9
def dkwX4_lay_7 : List UInt8 := [54, 5, 21, 5, 42, 180, 0, 236, 162, 0, 23, 42, 180, 0, 211, 21, 5, 42, 180, 0, 7, 21, 5, 51]
abbrev dktX4_lay_7 : List UInt8 := dkwX4_lay_7 ++ dktX4_lay_8
def dkwX4_lay_6 : List UInt8 := [54, 4, 132, 5, 1, 167, 255, 193, 21, 4, 154, 0, 5, 2, 172, 42, 42, 180, 0, 236, 181, 2, 87, 3]
abbrev dktX4_lay_6 : List UInt8 := dkwX4_lay_6 ++ dktX4_lay_7
def dkwX4_lay_5 : List UInt8 := [42, 180, 0, 13, 42, 180, 0, 7, 21, 5, 51, 46, 96, 16, 24, 163, 0, 7, 4, 167, 0, 4, 3]
abbrev dktX4_lay_5 : List UInt8 := dkwX4_lay_5 ++ dktX4_lay_6
def dkwX4_lay_4 : List UInt8 := [153, 0, 55, 42, 180, 0, 7, 21, 5, 51, 3, 42, 180, 0, 255, 4, 100, 184, 0, 242, 153, 0, 26, 29]
abbrev dktX4_lay_4 : List UInt8 := dkwX4_lay_4 ++ dktX4_lay_5
def dkwX4_lay_3 : List UInt8 := [163, 0, 7, 4, 167, 0, 4, 3, 54, 4, 3, 54, 5, 21, 5, 42, 180, 0, 236, 162, 0, 60, 21, 4]
abbrev dktX4_lay_3 : List UInt8 := dkwX4_lay_3 ++ dktX4_lay_4
def dkwX4_lay_2 : List UInt8 := [153, 0, 31, 29, 3, 16, 23, 184, 0, 242, 153, 0, 21, 42, 180, 1, 167, 42, 180, 0, 236, 96, 16, 60]
abbrev dktX4_lay_2 : List UInt8 := dkwX4_lay_2 ++ dktX4_lay_3
def dkwX4_lay_1 : List UInt8 := [153, 0, 54, 27, 42, 180, 0, 246, 16, 29, 184, 0, 242, 153, 0, 41, 28, 27, 16, 29, 184, 0, 242]
abbrev dktX4_lay_1 : List UInt8 := dkwX4_lay_1 ++ dktX4_lay_2
def dkwX4_lay_0 : List UInt8 := [42, 3, 181, 0, 226, 42, 182, 0, 252, 42, 3, 181, 2, 84, 42, 180, 0, 236, 4, 16, 6, 184, 0, 242]
abbrev dktX4_lay_0 : List UInt8 := dkwX4_lay_0 ++ dktX4_lay_1
theorem dksX4_lay_0 : cX4_lay.data.toList.drop 0 = dktX4_lay_0 := by decide +kernel
theorem dksX4_lay_1 : cX4_lay.data.toList.drop 24 = dktX4_lay_1 := dk_seg dksX4_lay_0 24 rfl rfl
theorem dksX4_lay_2 : cX4_lay.data.toList.drop 47 = dktX4_lay_2 := dk_seg dksX4_lay_1 23 rfl rfl
theorem dksX4_lay_3 : cX4_lay.data.toList.drop 71 = dktX4_lay_3 := dk_seg dksX4_lay_2 24 rfl rfl
theorem dksX4_lay_4 : cX4_lay.data.toList.drop 95 = dktX4_lay_4 := dk_seg dksX4_lay_3 24 rfl rfl
theorem dksX4_lay_5 : cX4_lay.data.toList.drop 119 = dktX4_lay_5 := dk_seg dksX4_lay_4 24 rfl rfl
theorem dksX4_lay_6 : cX4_lay.data.toList.drop 142 = dktX4_lay_6 := dk_seg dksX4_lay_5 23 rfl rfl
theorem dksX4_lay_7 : cX4_lay.data.toList.drop 166 = dktX4_lay_7 := dk_seg dksX4_lay_6 24 rfl rfl
theorem dksX4_lay_8 : cX4_lay.data.toList.drop 190 = dktX4_lay_8 := dk_seg dksX4_lay_7 24 rfl rfl
theorem dksX4_lay_9 : cX4_lay.data.toList.drop 214 = dktX4_lay_9 := dk_seg dksX4_lay_8 24 rfl rfl
theorem dksX4_lay_10 : cX4_lay.data.toList.drop 237 = dktX4_lay_10 := dk_seg dksX4_lay_9 23 rfl rfl
theorem dksX4_lay_11 : cX4_lay.data.toList.drop 261 = dktX4_lay_11 := dk_seg dksX4_lay_10 24 rfl rfl
theorem dksX4_lay_12 : cX4_lay.data.toList.drop 285 = dktX4_lay_12 := dk_seg dksX4_lay_11 24 rfl rfl
theorem dksX4_lay_13 : cX4_lay.data.toList.drop 309 = dktX4_lay_13 := dk_seg dksX4_lay_12 24 rfl rfl
theorem dksX4_lay_14 : cX4_lay.data.toList.drop 333 = dktX4_lay_14 := dk_seg dksX4_lay_13 24 rfl rfl
theorem dksX4_lay_15 : cX4_lay.data.toList.drop 356 = dktX4_lay_15 := dk_seg dksX4_lay_14 23 rfl rfl
theorem dksX4_lay_16 : cX4_lay.data.toList.drop 380 = dktX4_lay_16 := dk_seg dksX4_lay_15 24 rfl rfl
theorem dksX4_lay_17 : cX4_lay.data.toList.drop 402 = dktX4_lay_17 := dk_seg dksX4_lay_16 22 rfl rfl
theorem dksX4_lay_18 : cX4_lay.data.toList.drop 426 = dktX4_lay_18 := dk_seg dksX4_lay_17 24 rfl rfl
theorem dksX4_lay_19 : cX4_lay.data.toList.drop 448 = dktX4_lay_19 := dk_seg dksX4_lay_18 22 rfl rfl
theorem dX4_lay_0 : decode cX4_lay 0 = .ok (.aload_n 0, 1) := dk_42 (dk_at dksX4_lay_0 0 rfl rfl)
theorem dX4_lay_1 : decode cX4_lay 1 = .ok (.iconst 0, 1) := dk_3 (dk_at dksX4_lay_0 1 rfl rfl)
theorem dX4_lay_2 : decode cX4_lay 2 = .ok (.putfield 226, 3) := dk_181 0 226 (dk_at dksX4_lay_0 2 rfl rfl)
theorem dX4_lay_5 : decode cX4_lay 5 = .ok (.aload_n 0, 1) := dk_42 (dk_at dksX4_lay_0 5 rfl rfl)
theorem dX4_lay_6 : decode cX4_lay 6 = .ok (.invokevirtual 252, 3) := dk_182 0 252 (dk_at dksX4_lay_0 6 rfl rfl)
theorem dX4_lay_9 : decode cX4_lay 9 = .ok (.aload_n 0, 1) := dk_42 (dk_at dksX4_lay_0 9 rfl rfl)
theorem dX4_lay_10 : decode cX4_lay 10 = .ok (.iconst 0, 1) := dk_3 (dk_at dksX4_lay_0 10 rfl rfl)
theorem dX4_lay_11 : decode cX4_lay 11 = .ok (.putfield 596, 3) := dk_181 2 84 (dk_at dksX4_lay_0 11 rfl rfl)
theorem dX4_lay_14 : decode cX4_lay 14 = .ok (.aload_n 0, 1) := dk_42 (dk_at dksX4_lay_0 14 rfl rfl)
theorem dX4_lay_15 : decode cX4_lay 15 = .ok (.getfield 236, 3) := dk_180 0 236 (dk_at dksX4_lay_0 15 rfl rfl)
theorem dX4_lay_18 : decode cX4_lay 18 = .ok (.iconst 1, 1) := dk_4 (dk_at dksX4_lay_0 18 rfl rfl)
theorem dX4_lay_19 : decode cX4_lay 19 = .ok (.bipush 6, 2) := dk_16 6 (dk_at dksX4_lay_0 19 rfl rfl)
theorem dX4_lay_21 : decode cX4_lay 21 = .ok (.invokestatic 242, 3) := dk_184 0 242 (dk_at dksX4_lay_0 21 rfl rfl)
theorem dX4_lay_24 : decode cX4_lay 24 = .ok (.ifCond .eq 54, 3) := dk_153 0 54 (dk_at dksX4_lay_1 0 rfl rfl)
theorem dX4_lay_27 : decode cX4_lay 27 = .ok (.iload_n 1, 1) := dk_27 (dk_at dksX4_lay_1 3 rfl rfl)
theorem dX4_lay_28 : decode cX4_lay 28 = .ok (.aload_n 0, 1) := dk_42 (dk_at dksX4_lay_1 4 rfl rfl)
theorem dX4_lay_29 : decode cX4_lay 29 = .ok (.getfield 246, 3) := dk_180 0 246 (dk_at dksX4_lay_1 5 rfl rfl)
theorem dX4_lay_32 : decode cX4_lay 32 = .ok (.bipush 29, 2) := dk_16 29 (dk_at dksX4_lay_1 8 rfl rfl)
theorem dX4_lay_34 : decode cX4_lay 34 = .ok (.invokestatic 242, 3) := dk_184 0 242 (dk_at dksX4_lay_1 10 rfl rfl)
theorem dX4_lay_37 : decode cX4_lay 37 = .ok (.ifCond .eq 41, 3) := dk_153 0 41 (dk_at dksX4_lay_1 13 rfl rfl)
theorem dX4_lay_40 : decode cX4_lay 40 = .ok (.iload_n 2, 1) := dk_28 (dk_at dksX4_lay_1 16 rfl rfl)
theorem dX4_lay_41 : decode cX4_lay 41 = .ok (.iload_n 1, 1) := dk_27 (dk_at dksX4_lay_1 17 rfl rfl)
theorem dX4_lay_42 : decode cX4_lay 42 = .ok (.bipush 29, 2) := dk_16 29 (dk_at dksX4_lay_1 18 rfl rfl)
theorem dX4_lay_44 : decode cX4_lay 44 = .ok (.invokestatic 242, 3) := dk_184 0 242 (dk_at dksX4_lay_1 20 rfl rfl)
theorem dX4_lay_47 : decode cX4_lay 47 = .ok (.ifCond .eq 31, 3) := dk_153 0 31 (dk_at dksX4_lay_2 0 rfl rfl)
theorem dX4_lay_50 : decode cX4_lay 50 = .ok (.iload_n 3, 1) := dk_29 (dk_at dksX4_lay_2 3 rfl rfl)
theorem dX4_lay_51 : decode cX4_lay 51 = .ok (.iconst 0, 1) := dk_3 (dk_at dksX4_lay_2 4 rfl rfl)
theorem dX4_lay_52 : decode cX4_lay 52 = .ok (.bipush 23, 2) := dk_16 23 (dk_at dksX4_lay_2 5 rfl rfl)
theorem dX4_lay_54 : decode cX4_lay 54 = .ok (.invokestatic 242, 3) := dk_184 0 242 (dk_at dksX4_lay_2 7 rfl rfl)
theorem dX4_lay_57 : decode cX4_lay 57 = .ok (.ifCond .eq 21, 3) := dk_153 0 21 (dk_at dksX4_lay_2 10 rfl rfl)
theorem dX4_lay_60 : decode cX4_lay 60 = .ok (.aload_n 0, 1) := dk_42 (dk_at dksX4_lay_2 13 rfl rfl)
theorem dX4_lay_61 : decode cX4_lay 61 = .ok (.getfield 423, 3) := dk_180 1 167 (dk_at dksX4_lay_2 14 rfl rfl)
theorem dX4_lay_64 : decode cX4_lay 64 = .ok (.aload_n 0, 1) := dk_42 (dk_at dksX4_lay_2 17 rfl rfl)
theorem dX4_lay_65 : decode cX4_lay 65 = .ok (.getfield 236, 3) := dk_180 0 236 (dk_at dksX4_lay_2 18 rfl rfl)
theorem dX4_lay_68 : decode cX4_lay 68 = .ok (.iadd, 1) := dk_96 (dk_at dksX4_lay_2 21 rfl rfl)
theorem dX4_lay_69 : decode cX4_lay 69 = .ok (.bipush 60, 2) := dk_16 60 (dk_at dksX4_lay_2 22 rfl rfl)
theorem dX4_lay_71 : decode cX4_lay 71 = .ok (.if_icmp .gt 7, 3) := dk_163 0 7 (dk_at dksX4_lay_3 0 rfl rfl)
theorem dX4_lay_74 : decode cX4_lay 74 = .ok (.iconst 1, 1) := dk_4 (dk_at dksX4_lay_3 3 rfl rfl)
theorem dX4_lay_75 : decode cX4_lay 75 = .ok (.goto 4, 3) := dk_167 0 4 (dk_at dksX4_lay_3 4 rfl rfl)
theorem dX4_lay_78 : decode cX4_lay 78 = .ok (.iconst 0, 1) := dk_3 (dk_at dksX4_lay_3 7 rfl rfl)
theorem dX4_lay_79 : decode cX4_lay 79 = .ok (.istore 4, 2) := dk_54 4 (dk_at dksX4_lay_3 8 rfl rfl)
theorem dX4_lay_81 : decode cX4_lay 81 = .ok (.iconst 0, 1) := dk_3 (dk_at dksX4_lay_3 10 rfl rfl)
theorem dX4_lay_82 : decode cX4_lay 82 = .ok (.istore 5, 2) := dk_54 5 (dk_at dksX4_lay_3 11 rfl rfl)
theorem dX4_lay_84 : decode cX4_lay 84 = .ok (.iload 5, 2) := dk_21 5 (dk_at dksX4_lay_3 13 rfl rfl)
theorem dX4_lay_86 : decode cX4_lay 86 = .ok (.aload_n 0, 1) := dk_42 (dk_at dksX4_lay_3 15 rfl rfl)
theorem dX4_lay_87 : decode cX4_lay 87 = .ok (.getfield 236, 3) := dk_180 0 236 (dk_at dksX4_lay_3 16 rfl rfl)
theorem dX4_lay_90 : decode cX4_lay 90 = .ok (.if_icmp .ge 60, 3) := dk_162 0 60 (dk_at dksX4_lay_3 19 rfl rfl)
theorem dX4_lay_93 : decode cX4_lay 93 = .ok (.iload 4, 2) := dk_21 4 (dk_at dksX4_lay_3 22 rfl rfl)
theorem dX4_lay_95 : decode cX4_lay 95 = .ok (.ifCond .eq 55, 3) := dk_153 0 55 (dk_at dksX4_lay_4 0 rfl rfl)
theorem dX4_lay_98 : decode cX4_lay 98 = .ok (.aload_n 0, 1) := dk_42 (dk_at dksX4_lay_4 3 rfl rfl)
theorem dX4_lay_99 : decode cX4_lay 99 = .ok (.getfield 7, 3) := dk_180 0 7 (dk_at dksX4_lay_4 4 rfl rfl)
theorem dX4_lay_102 : decode cX4_lay 102 = .ok (.iload 5, 2) := dk_21 5 (dk_at dksX4_lay_4 7 rfl rfl)
theorem dX4_lay_104 : decode cX4_lay 104 = .ok (.baload, 1) := dk_51 (dk_at dksX4_lay_4 9 rfl rfl)
theorem dX4_lay_105 : decode cX4_lay 105 = .ok (.iconst 0, 1) := dk_3 (dk_at dksX4_lay_4 10 rfl rfl)
theorem dX4_lay_106 : decode cX4_lay 106 = .ok (.aload_n 0, 1) := dk_42 (dk_at dksX4_lay_4 11 rfl rfl)
theorem dX4_lay_107 : decode cX4_lay 107 = .ok (.getfield 255, 3) := dk_180 0 255 (dk_at dksX4_lay_4 12 rfl rfl)
theorem dX4_lay_110 : decode cX4_lay 110 = .ok (.iconst 1, 1) := dk_4 (dk_at dksX4_lay_4 15 rfl rfl)
theorem dX4_lay_111 : decode cX4_lay 111 = .ok (.isub, 1) := dk_100 (dk_at dksX4_lay_4 16 rfl rfl)
theorem dX4_lay_112 : decode cX4_lay 112 = .ok (.invokestatic 242, 3) := dk_184 0 242 (dk_at dksX4_lay_4 17 rfl rfl)
theorem dX4_lay_115 : decode cX4_lay 115 = .ok (.ifCond .eq 26, 3) := dk_153 0 26 (dk_at dksX4_lay_4 20 rfl rfl)
theorem dX4_lay_118 : decode cX4_lay 118 = .ok (.iload_n 3, 1) := dk_29 (dk_at dksX4_lay_4 23 rfl rfl)
theorem dX4_lay_119 : decode cX4_lay 119 = .ok (.aload_n 0, 1) := dk_42 (dk_at dksX4_lay_5 0 rfl rfl)
theorem dX4_lay_120 : decode cX4_lay 120 = .ok (.getfield 13, 3) := dk_180 0 13 (dk_at dksX4_lay_5 1 rfl rfl)
theorem dX4_lay_123 : decode cX4_lay 123 = .ok (.aload_n 0, 1) := dk_42 (dk_at dksX4_lay_5 4 rfl rfl)
theorem dX4_lay_124 : decode cX4_lay 124 = .ok (.getfield 7, 3) := dk_180 0 7 (dk_at dksX4_lay_5 5 rfl rfl)
theorem dX4_lay_127 : decode cX4_lay 127 = .ok (.iload 5, 2) := dk_21 5 (dk_at dksX4_lay_5 8 rfl rfl)
theorem dX4_lay_129 : decode cX4_lay 129 = .ok (.baload, 1) := dk_51 (dk_at dksX4_lay_5 10 rfl rfl)
theorem dX4_lay_130 : decode cX4_lay 130 = .ok (.iaload, 1) := dk_46 (dk_at dksX4_lay_5 11 rfl rfl)
theorem dX4_lay_131 : decode cX4_lay 131 = .ok (.iadd, 1) := dk_96 (dk_at dksX4_lay_5 12 rfl rfl)
theorem dX4_lay_132 : decode cX4_lay 132 = .ok (.bipush 24, 2) := dk_16 24 (dk_at dksX4_lay_5 13 rfl rfl)
theorem dX4_lay_134 : decode cX4_lay 134 = .ok (.if_icmp .gt 7, 3) := dk_163 0 7 (dk_at dksX4_lay_5 15 rfl rfl)
theorem dX4_lay_137 : decode cX4_lay 137 = .ok (.iconst 1, 1) := dk_4 (dk_at dksX4_lay_5 18 rfl rfl)
theorem dX4_lay_138 : decode cX4_lay 138 = .ok (.goto 4, 3) := dk_167 0 4 (dk_at dksX4_lay_5 19 rfl rfl)
theorem dX4_lay_141 : decode cX4_lay 141 = .ok (.iconst 0, 1) := dk_3 (dk_at dksX4_lay_5 22 rfl rfl)
theorem dX4_lay_142 : decode cX4_lay 142 = .ok (.istore 4, 2) := dk_54 4 (dk_at dksX4_lay_6 0 rfl rfl)
theorem dX4_lay_144 : decode cX4_lay 144 = .ok (.iinc 5 1, 3) := dk_132 5 1 (dk_at dksX4_lay_6 2 rfl rfl)
theorem dX4_lay_147 : decode cX4_lay 147 = .ok (.goto (-63), 3) := dk_167 255 193 (dk_at dksX4_lay_6 5 rfl rfl)
theorem dX4_lay_150 : decode cX4_lay 150 = .ok (.iload 4, 2) := dk_21 4 (dk_at dksX4_lay_6 8 rfl rfl)
theorem dX4_lay_152 : decode cX4_lay 152 = .ok (.ifCond .ne 5, 3) := dk_154 0 5 (dk_at dksX4_lay_6 10 rfl rfl)
theorem dX4_lay_155 : decode cX4_lay 155 = .ok (.iconst (-1), 1) := dk_2 (dk_at dksX4_lay_6 13 rfl rfl)
theorem dX4_lay_156 : decode cX4_lay 156 = .ok (.ireturn, 1) := dk_172 (dk_at dksX4_lay_6 14 rfl rfl)
theorem dX4_lay_157 : decode cX4_lay 157 = .ok (.aload_n 0, 1) := dk_42 (dk_at dksX4_lay_6 15 rfl rfl)
theorem dX4_lay_158 : decode cX4_lay 158 = .ok (.aload_n 0, 1) := dk_42 (dk_at dksX4_lay_6 16 rfl rfl)
theorem dX4_lay_159 : decode cX4_lay 159 = .ok (.getfield 236, 3) := dk_180 0 236 (dk_at dksX4_lay_6 17 rfl rfl)
theorem dX4_lay_162 : decode cX4_lay 162 = .ok (.putfield 599, 3) := dk_181 2 87 (dk_at dksX4_lay_6 20 rfl rfl)
theorem dX4_lay_165 : decode cX4_lay 165 = .ok (.iconst 0, 1) := dk_3 (dk_at dksX4_lay_6 23 rfl rfl)
theorem dX4_lay_166 : decode cX4_lay 166 = .ok (.istore 5, 2) := dk_54 5 (dk_at dksX4_lay_7 0 rfl rfl)
theorem dX4_lay_168 : decode cX4_lay 168 = .ok (.iload 5, 2) := dk_21 5 (dk_at dksX4_lay_7 2 rfl rfl)
theorem dX4_lay_170 : decode cX4_lay 170 = .ok (.aload_n 0, 1) := dk_42 (dk_at dksX4_lay_7 4 rfl rfl)
theorem dX4_lay_171 : decode cX4_lay 171 = .ok (.getfield 236, 3) := dk_180 0 236 (dk_at dksX4_lay_7 5 rfl rfl)
theorem dX4_lay_174 : decode cX4_lay 174 = .ok (.if_icmp .ge 23, 3) := dk_162 0 23 (dk_at dksX4_lay_7 8 rfl rfl)
theorem dX4_lay_177 : decode cX4_lay 177 = .ok (.aload_n 0, 1) := dk_42 (dk_at dksX4_lay_7 11 rfl rfl)
theorem dX4_lay_178 : decode cX4_lay 178 = .ok (.getfield 211, 3) := dk_180 0 211 (dk_at dksX4_lay_7 12 rfl rfl)
theorem dX4_lay_181 : decode cX4_lay 181 = .ok (.iload 5, 2) := dk_21 5 (dk_at dksX4_lay_7 15 rfl rfl)
theorem dX4_lay_183 : decode cX4_lay 183 = .ok (.aload_n 0, 1) := dk_42 (dk_at dksX4_lay_7 17 rfl rfl)
theorem dX4_lay_184 : decode cX4_lay 184 = .ok (.getfield 7, 3) := dk_180 0 7 (dk_at dksX4_lay_7 18 rfl rfl)
theorem dX4_lay_187 : decode cX4_lay 187 = .ok (.iload 5, 2) := dk_21 5 (dk_at dksX4_lay_7 21 rfl rfl)
theorem dX4_lay_189 : decode cX4_lay 189 = .ok (.baload, 1) := dk_51 (dk_at dksX4_lay_7 23 rfl rfl)
theorem dX4_lay_190 : decode cX4_lay 190 = .ok (.iastore, 1) := dk_79 (dk_at dksX4_lay_8 0 rfl rfl)
theorem dX4_lay_191 : decode cX4_lay 191 = .ok (.iinc 5 1, 3) := dk_132 5 1 (dk_at dksX4_lay_8 1 rfl rfl)
theorem dX4_lay_194 : decode cX4_lay 194 = .ok (.goto (-26), 3) := dk_167 255 230 (dk_at dksX4_lay_8 4 rfl rfl)
theorem dX4_lay_197 : decode cX4_lay 197 = .ok (.aload_n 0, 1) := dk_42 (dk_at dksX4_lay_8 7 rfl rfl)
theorem dX4_lay_198 : decode cX4_lay 198 = .ok (.aload_n 0, 1) := dk_42 (dk_at dksX4_lay_8 8 rfl rfl)
theorem dX4_lay_199 : decode cX4_lay 199 = .ok (.getfield 246, 3) := dk_180 0 246 (dk_at dksX4_lay_8 9 rfl rfl)
theorem dX4_lay_202 : decode cX4_lay 202 = .ok (.invokevirtual 460, 3) := dk_182 1 204 (dk_at dksX4_lay_8 12 rfl rfl)
theorem dX4_lay_205 : decode cX4_lay 205 = .ok (.aload_n 0, 1) := dk_42 (dk_at dksX4_lay_8 15 rfl rfl)
theorem dX4_lay_206 : decode cX4_lay 206 = .ok (.invokevirtual 567, 3) := dk_182 2 55 (dk_at dksX4_lay_8 16 rfl rfl)
theorem dX4_lay_209 : decode cX4_lay 209 = .ok (.aload_n 0, 1) := dk_42 (dk_at dksX4_lay_8 19 rfl rfl)
theorem dX4_lay_210 : decode cX4_lay 210 = .ok (.invokevirtual 580, 3) := dk_182 2 68 (dk_at dksX4_lay_8 20 rfl rfl)
theorem dX4_lay_213 : decode cX4_lay 213 = .ok (.iconst 0, 1) := dk_3 (dk_at dksX4_lay_8 23 rfl rfl)
theorem dX4_lay_214 : decode cX4_lay 214 = .ok (.istore 5, 2) := dk_54 5 (dk_at dksX4_lay_9 0 rfl rfl)
theorem dX4_lay_216 : decode cX4_lay 216 = .ok (.iload 5, 2) := dk_21 5 (dk_at dksX4_lay_9 2 rfl rfl)
theorem dX4_lay_218 : decode cX4_lay 218 = .ok (.aload_n 0, 1) := dk_42 (dk_at dksX4_lay_9 4 rfl rfl)
theorem dX4_lay_219 : decode cX4_lay 219 = .ok (.getfield 551, 3) := dk_180 2 39 (dk_at dksX4_lay_9 5 rfl rfl)
theorem dX4_lay_222 : decode cX4_lay 222 = .ok (.if_icmp .ge 39, 3) := dk_162 0 39 (dk_at dksX4_lay_9 8 rfl rfl)
theorem dX4_lay_225 : decode cX4_lay 225 = .ok (.aload_n 0, 1) := dk_42 (dk_at dksX4_lay_9 11 rfl rfl)
theorem dX4_lay_226 : decode cX4_lay 226 = .ok (.getfield 199, 3) := dk_180 0 199 (dk_at dksX4_lay_9 12 rfl rfl)
theorem dX4_lay_229 : decode cX4_lay 229 = .ok (.aload_n 0, 1) := dk_42 (dk_at dksX4_lay_9 15 rfl rfl)
theorem dX4_lay_230 : decode cX4_lay 230 = .ok (.getfield 190, 3) := dk_180 0 190 (dk_at dksX4_lay_9 16 rfl rfl)
theorem dX4_lay_233 : decode cX4_lay 233 = .ok (.iload 5, 2) := dk_21 5 (dk_at dksX4_lay_9 19 rfl rfl)
theorem dX4_lay_235 : decode cX4_lay 235 = .ok (.iaload, 1) := dk_46 (dk_at dksX4_lay_9 21 rfl rfl)
theorem dX4_lay_236 : decode cX4_lay 236 = .ok (.aload_n 0, 1) := dk_42 (dk_at dksX4_lay_9 22 rfl rfl)
theorem dX4_lay_237 : decode cX4_lay 237 = .ok (.getfield 193, 3) := dk_180 0 193 (dk_at dksX4_lay_10 0 rfl rfl)
theorem dX4_lay_240 : decode cX4_lay 240 = .ok (.iload 5, 2) := dk_21 5 (dk_at dksX4_lay_10 3 rfl rfl)
theorem dX4_lay_242 : decode cX4_lay 242 = .ok (.iaload, 1) := dk_46 (dk_at dksX4_lay_10 5 rfl rfl)
theorem dX4_lay_243 : decode cX4_lay 243 = .ok (.aload_n 0, 1) := dk_42 (dk_at dksX4_lay_10 6 rfl rfl)
theorem dX4_lay_244 : decode cX4_lay 244 = .ok (.getfield 196, 3) := dk_180 0 196 (dk_at dksX4_lay_10 7 rfl rfl)
theorem dX4_lay_247 : decode cX4_lay 247 = .ok (.iload 5, 2) := dk_21 5 (dk_at dksX4_lay_10 10 rfl rfl)
theorem dX4_lay_249 : decode cX4_lay 249 = .ok (.iaload, 1) := dk_46 (dk_at dksX4_lay_10 12 rfl rfl)
theorem dX4_lay_250 : decode cX4_lay 250 = .ok (.invokestatic 577, 3) := dk_184 2 65 (dk_at dksX4_lay_10 13 rfl rfl)
theorem dX4_lay_253 : decode cX4_lay 253 = .ok (.iconst 1, 1) := dk_4 (dk_at dksX4_lay_10 16 rfl rfl)
theorem dX4_lay_254 : decode cX4_lay 254 = .ok (.bastore, 1) := dk_84 (dk_at dksX4_lay_10 17 rfl rfl)
theorem dX4_lay_255 : decode cX4_lay 255 = .ok (.iinc 5 1, 3) := dk_132 5 1 (dk_at dksX4_lay_10 18 rfl rfl)
theorem dX4_lay_258 : decode cX4_lay 258 = .ok (.goto (-42), 3) := dk_167 255 214 (dk_at dksX4_lay_10 21 rfl rfl)
theorem dX4_lay_261 : decode cX4_lay 261 = .ok (.iconst 0, 1) := dk_3 (dk_at dksX4_lay_11 0 rfl rfl)
theorem dX4_lay_262 : decode cX4_lay 262 = .ok (.istore 5, 2) := dk_54 5 (dk_at dksX4_lay_11 1 rfl rfl)
theorem dX4_lay_264 : decode cX4_lay 264 = .ok (.iconst 0, 1) := dk_3 (dk_at dksX4_lay_11 3 rfl rfl)
theorem dX4_lay_265 : decode cX4_lay 265 = .ok (.istore 6, 2) := dk_54 6 (dk_at dksX4_lay_11 4 rfl rfl)
theorem dX4_lay_267 : decode cX4_lay 267 = .ok (.aload_n 0, 1) := dk_42 (dk_at dksX4_lay_11 6 rfl rfl)
theorem dX4_lay_268 : decode cX4_lay 268 = .ok (.getfield 214, 3) := dk_180 0 214 (dk_at dksX4_lay_11 7 rfl rfl)
theorem dX4_lay_271 : decode cX4_lay 271 = .ok (.iconst 0, 1) := dk_3 (dk_at dksX4_lay_11 10 rfl rfl)
theorem dX4_lay_272 : decode cX4_lay 272 = .ok (.iload_n 1, 1) := dk_27 (dk_at dksX4_lay_11 11 rfl rfl)
theorem dX4_lay_273 : decode cX4_lay 273 = .ok (.iconst 1, 1) := dk_4 (dk_at dksX4_lay_11 12 rfl rfl)
theorem dX4_lay_274 : decode cX4_lay 274 = .ok (.isub, 1) := dk_100 (dk_at dksX4_lay_11 13 rfl rfl)
theorem dX4_lay_275 : decode cX4_lay 275 = .ok (.iastore, 1) := dk_79 (dk_at dksX4_lay_11 14 rfl rfl)
theorem dX4_lay_276 : decode cX4_lay 276 = .ok (.iload 6, 2) := dk_21 6 (dk_at dksX4_lay_11 15 rfl rfl)
theorem dX4_lay_278 : decode cX4_lay 278 = .ok (.ifCond .lt 176, 3) := dk_155 0 176 (dk_at dksX4_lay_11 17 rfl rfl)
theorem dX4_lay_281 : decode cX4_lay 281 = .ok (.aload_n 0, 1) := dk_42 (dk_at dksX4_lay_11 20 rfl rfl)
theorem dX4_lay_282 : decode cX4_lay 282 = .ok (.getfield 214, 3) := dk_180 0 214 (dk_at dksX4_lay_11 21 rfl rfl)
theorem dX4_lay_285 : decode cX4_lay 285 = .ok (.iload 6, 2) := dk_21 6 (dk_at dksX4_lay_12 0 rfl rfl)
theorem dX4_lay_287 : decode cX4_lay 287 = .ok (.dup2, 1) := dk_92 (dk_at dksX4_lay_12 2 rfl rfl)
theorem dX4_lay_288 : decode cX4_lay 288 = .ok (.iaload, 1) := dk_46 (dk_at dksX4_lay_12 3 rfl rfl)
theorem dX4_lay_289 : decode cX4_lay 289 = .ok (.iconst 1, 1) := dk_4 (dk_at dksX4_lay_12 4 rfl rfl)
theorem dX4_lay_290 : decode cX4_lay 290 = .ok (.iadd, 1) := dk_96 (dk_at dksX4_lay_12 5 rfl rfl)
theorem dX4_lay_291 : decode cX4_lay 291 = .ok (.iastore, 1) := dk_79 (dk_at dksX4_lay_12 6 rfl rfl)
theorem dX4_lay_292 : decode cX4_lay 292 = .ok (.aload_n 0, 1) := dk_42 (dk_at dksX4_lay_12 7 rfl rfl)
theorem dX4_lay_293 : decode cX4_lay 293 = .ok (.getfield 214, 3) := dk_180 0 214 (dk_at dksX4_lay_12 8 rfl rfl)
theorem dX4_lay_296 : decode cX4_lay 296 = .ok (.iload 6, 2) := dk_21 6 (dk_at dksX4_lay_12 11 rfl rfl)
theorem dX4_lay_298 : decode cX4_lay 298 = .ok (.iaload, 1) := dk_46 (dk_at dksX4_lay_12 13 rfl rfl)
theorem dX4_lay_299 : decode cX4_lay 299 = .ok (.iload_n 2, 1) := dk_28 (dk_at dksX4_lay_12 14 rfl rfl)
theorem dX4_lay_300 : decode cX4_lay 300 = .ok (.if_icmp .le 9, 3) := dk_164 0 9 (dk_at dksX4_lay_12 15 rfl rfl)
theorem dX4_lay_303 : decode cX4_lay 303 = .ok (.iinc 6 (-1), 3) := dk_132 6 255 (dk_at dksX4_lay_12 18 rfl rfl)
theorem dX4_lay_306 : decode cX4_lay 306 = .ok (.goto (-30), 3) := dk_167 255 226 (dk_at dksX4_lay_12 21 rfl rfl)
theorem dX4_lay_309 : decode cX4_lay 309 = .ok (.iinc 5 1, 3) := dk_132 5 1 (dk_at dksX4_lay_13 0 rfl rfl)
theorem dX4_lay_312 : decode cX4_lay 312 = .ok (.iload 5, 2) := dk_21 5 (dk_at dksX4_lay_13 3 rfl rfl)
theorem dX4_lay_314 : decode cX4_lay 314 = .ok (.sipush 400, 3) := dk_17 1 144 (dk_at dksX4_lay_13 5 rfl rfl)
theorem dX4_lay_317 : decode cX4_lay 317 = .ok (.if_icmp .le 6, 3) := dk_164 0 6 (dk_at dksX4_lay_13 8 rfl rfl)
theorem dX4_lay_320 : decode cX4_lay 320 = .ok (.bipush (-2), 2) := dk_16 254 (dk_at dksX4_lay_13 11 rfl rfl)
theorem dX4_lay_322 : decode cX4_lay 322 = .ok (.ireturn, 1) := dk_172 (dk_at dksX4_lay_13 13 rfl rfl)
theorem dX4_lay_323 : decode cX4_lay 323 = .ok (.aload_n 0, 1) := dk_42 (dk_at dksX4_lay_13 14 rfl rfl)
theorem dX4_lay_324 : decode cX4_lay 324 = .ok (.iload 6, 2) := dk_21 6 (dk_at dksX4_lay_13 15 rfl rfl)
theorem dX4_lay_326 : decode cX4_lay 326 = .ok (.aload_n 0, 1) := dk_42 (dk_at dksX4_lay_13 17 rfl rfl)
theorem dX4_lay_327 : decode cX4_lay 327 = .ok (.getfield 214, 3) := dk_180 0 214 (dk_at dksX4_lay_13 18 rfl rfl)
theorem dX4_lay_330 : decode cX4_lay 330 = .ok (.iload 6, 2) := dk_21 6 (dk_at dksX4_lay_13 21 rfl rfl)
theorem dX4_lay_332 : decode cX4_lay 332 = .ok (.iaload, 1) := dk_46 (dk_at dksX4_lay_13 23 rfl rfl)
theorem dX4_lay_333 : decode cX4_lay 333 = .ok (.iload_n 3, 1) := dk_29 (dk_at dksX4_lay_14 0 rfl rfl)
theorem dX4_lay_334 : decode cX4_lay 334 = .ok (.invokevirtual 602, 3) := dk_182 2 90 (dk_at dksX4_lay_14 1 rfl rfl)
theorem dX4_lay_337 : decode cX4_lay 337 = .ok (.aload_n 0, 1) := dk_42 (dk_at dksX4_lay_14 4 rfl rfl)
theorem dX4_lay_338 : decode cX4_lay 338 = .ok (.iload 6, 2) := dk_21 6 (dk_at dksX4_lay_14 5 rfl rfl)
theorem dX4_lay_340 : decode cX4_lay 340 = .ok (.iconst 1, 1) := dk_4 (dk_at dksX4_lay_14 7 rfl rfl)
theorem dX4_lay_341 : decode cX4_lay 341 = .ok (.iadd, 1) := dk_96 (dk_at dksX4_lay_14 8 rfl rfl)
theorem dX4_lay_342 : decode cX4_lay 342 = .ok (.invokevirtual 605, 3) := dk_182 2 93 (dk_at dksX4_lay_14 9 rfl rfl)
theorem dX4_lay_345 : decode cX4_lay 345 = .ok (.ifCond .ne 6, 3) := dk_154 0 6 (dk_at dksX4_lay_14 12 rfl rfl)
theorem dX4_lay_348 : decode cX4_lay 348 = .ok (.goto (-72), 3) := dk_167 255 184 (dk_at dksX4_lay_14 15 rfl rfl)
theorem dX4_lay_351 : decode cX4_lay 351 = .ok (.iload 6, 2) := dk_21 6 (dk_at dksX4_lay_14 18 rfl rfl)
theorem dX4_lay_353 : decode cX4_lay 353 = .ok (.iconst 1, 1) := dk_4 (dk_at dksX4_lay_14 20 rfl rfl)
theorem dX4_lay_354 : decode cX4_lay 354 = .ok (.iadd, 1) := dk_96 (dk_at dksX4_lay_14 21 rfl rfl)
theorem dX4_lay_355 : decode cX4_lay 355 = .ok (.aload_n 0, 1) := dk_42 (dk_at dksX4_lay_14 22 rfl rfl)
theorem dX4_lay_356 : decode cX4_lay 356 = .ok (.getfield 599, 3) := dk_180 2 87 (dk_at dksX4_lay_15 0 rfl rfl)
theorem dX4_lay_359 : decode cX4_lay 359 = .ok (.if_icmp .ne 73, 3) := dk_160 0 73 (dk_at dksX4_lay_15 3 rfl rfl)
theorem dX4_lay_362 : decode cX4_lay 362 = .ok (.aload_n 0, 1) := dk_42 (dk_at dksX4_lay_15 6 rfl rfl)
theorem dX4_lay_363 : decode cX4_lay 363 = .ok (.aload_n 0, 1) := dk_42 (dk_at dksX4_lay_15 7 rfl rfl)
theorem dX4_lay_364 : decode cX4_lay 364 = .ok (.getfield 599, 3) := dk_180 2 87 (dk_at dksX4_lay_15 8 rfl rfl)
theorem dX4_lay_367 : decode cX4_lay 367 = .ok (.putfield 596, 3) := dk_181 2 84 (dk_at dksX4_lay_15 11 rfl rfl)
theorem dX4_lay_370 : decode cX4_lay 370 = .ok (.aload_n 0, 1) := dk_42 (dk_at dksX4_lay_15 14 rfl rfl)
theorem dX4_lay_371 : decode cX4_lay 371 = .ok (.iload_n 3, 1) := dk_29 (dk_at dksX4_lay_15 15 rfl rfl)
theorem dX4_lay_372 : decode cX4_lay 372 = .ok (.putfield 608, 3) := dk_181 2 96 (dk_at dksX4_lay_15 16 rfl rfl)
theorem dX4_lay_375 : decode cX4_lay 375 = .ok (.aload_n 0, 1) := dk_42 (dk_at dksX4_lay_15 19 rfl rfl)
theorem dX4_lay_376 : decode cX4_lay 376 = .ok (.aload_n 0, 1) := dk_42 (dk_at dksX4_lay_15 20 rfl rfl)
theorem dX4_lay_377 : decode cX4_lay 377 = .ok (.getfield 249, 3) := dk_180 0 249 (dk_at dksX4_lay_15 21 rfl rfl)
theorem dX4_lay_380 : decode cX4_lay 380 = .ok (.putfield 223, 3) := dk_181 0 223 (dk_at dksX4_lay_16 0 rfl rfl)
theorem dX4_lay_383 : decode cX4_lay 383 = .ok (.iconst 0, 1) := dk_3 (dk_at dksX4_lay_16 3 rfl rfl)
theorem dX4_lay_384 : decode cX4_lay 384 = .ok (.istore 7, 2) := dk_54 7 (dk_at dksX4_lay_16 4 rfl rfl)
theorem dX4_lay_386 : decode cX4_lay 386 = .ok (.iload 7, 2) := dk_21 7 (dk_at dksX4_lay_16 6 rfl rfl)
theorem dX4_lay_388 : decode cX4_lay 388 = .ok (.aload_n 0, 1) := dk_42 (dk_at dksX4_lay_16 8 rfl rfl)
theorem dX4_lay_389 : decode cX4_lay 389 = .ok (.getfield 599, 3) := dk_180 2 87 (dk_at dksX4_lay_16 9 rfl rfl)
theorem dX4_lay_392 : decode cX4_lay 392 = .ok (.if_icmp .ge 37, 3) := dk_162 0 37 (dk_at dksX4_lay_16 12 rfl rfl)
theorem dX4_lay_395 : decode cX4_lay 395 = .ok (.aload_n 0, 1) := dk_42 (dk_at dksX4_lay_16 15 rfl rfl)
theorem dX4_lay_396 : decode cX4_lay 396 = .ok (.getfield 217, 3) := dk_180 0 217 (dk_at dksX4_lay_16 16 rfl rfl)
theorem dX4_lay_399 : decode cX4_lay 399 = .ok (.iload 7, 2) := dk_21 7 (dk_at dksX4_lay_16 19 rfl rfl)
theorem dX4_lay_401 : decode cX4_lay 401 = .ok (.aload_n 0, 1) := dk_42 (dk_at dksX4_lay_16 21 rfl rfl)
theorem dX4_lay_402 : decode cX4_lay 402 = .ok (.getfield 214, 3) := dk_180 0 214 (dk_at dksX4_lay_17 0 rfl rfl)
theorem dX4_lay_405 : decode cX4_lay 405 = .ok (.iload 7, 2) := dk_21 7 (dk_at dksX4_lay_17 3 rfl rfl)
theorem dX4_lay_407 : decode cX4_lay 407 = .ok (.iaload, 1) := dk_46 (dk_at dksX4_lay_17 5 rfl rfl)
theorem dX4_lay_408 : decode cX4_lay 408 = .ok (.iastore, 1) := dk_79 (dk_at dksX4_lay_17 6 rfl rfl)
theorem dX4_lay_409 : decode cX4_lay 409 = .ok (.aload_n 0, 1) := dk_42 (dk_at dksX4_lay_17 7 rfl rfl)
theorem dX4_lay_410 : decode cX4_lay 410 = .ok (.getfield 220, 3) := dk_180 0 220 (dk_at dksX4_lay_17 8 rfl rfl)
theorem dX4_lay_413 : decode cX4_lay 413 = .ok (.iload 7, 2) := dk_21 7 (dk_at dksX4_lay_17 11 rfl rfl)
theorem dX4_lay_415 : decode cX4_lay 415 = .ok (.aload_n 0, 1) := dk_42 (dk_at dksX4_lay_17 13 rfl rfl)
theorem dX4_lay_416 : decode cX4_lay 416 = .ok (.getfield 211, 3) := dk_180 0 211 (dk_at dksX4_lay_17 14 rfl rfl)
theorem dX4_lay_419 : decode cX4_lay 419 = .ok (.iload 7, 2) := dk_21 7 (dk_at dksX4_lay_17 17 rfl rfl)
theorem dX4_lay_421 : decode cX4_lay 421 = .ok (.iaload, 1) := dk_46 (dk_at dksX4_lay_17 19 rfl rfl)
theorem dX4_lay_422 : decode cX4_lay 422 = .ok (.iastore, 1) := dk_79 (dk_at dksX4_lay_17 20 rfl rfl)
theorem dX4_lay_423 : decode cX4_lay 423 = .ok (.iinc 7 1, 3) := dk_132 7 1 (dk_at dksX4_lay_17 21 rfl rfl)
theorem dX4_lay_426 : decode cX4_lay 426 = .ok (.goto (-40), 3) := dk_167 255 216 (dk_at dksX4_lay_18 0 rfl rfl)
theorem dX4_lay_429 : decode cX4_lay 429 = .ok (.iload 5, 2) := dk_21 5 (dk_at dksX4_lay_18 3 rfl rfl)
theorem dX4_lay_431 : decode cX4_lay 431 = .ok (.ireturn, 1) := dk_172 (dk_at dksX4_lay_18 5 rfl rfl)
theorem dX4_lay_432 : decode cX4_lay 432 = .ok (.aload_n 0, 1) := dk_42 (dk_at dksX4_lay_18 6 rfl rfl)
theorem dX4_lay_433 : decode cX4_lay 433 = .ok (.getfield 214, 3) := dk_180 0 214 (dk_at dksX4_lay_18 7 rfl rfl)
theorem dX4_lay_436 : decode cX4_lay 436 = .ok (.iload 6, 2) := dk_21 6 (dk_at dksX4_lay_18 10 rfl rfl)
theorem dX4_lay_438 : decode cX4_lay 438 = .ok (.iconst 1, 1) := dk_4 (dk_at dksX4_lay_18 12 rfl rfl)
theorem dX4_lay_439 : decode cX4_lay 439 = .ok (.iadd, 1) := dk_96 (dk_at dksX4_lay_18 13 rfl rfl)
theorem dX4_lay_440 : decode cX4_lay 440 = .ok (.aload_n 0, 1) := dk_42 (dk_at dksX4_lay_18 14 rfl rfl)
theorem dX4_lay_441 : decode cX4_lay 441 = .ok (.getfield 214, 3) := dk_180 0 214 (dk_at dksX4_lay_18 15 rfl rfl)
theorem dX4_lay_444 : decode cX4_lay 444 = .ok (.iload 6, 2) := dk_21 6 (dk_at dksX4_lay_18 18 rfl rfl)
theorem dX4_lay_446 : decode cX4_lay 446 = .ok (.iaload, 1) := dk_46 (dk_at dksX4_lay_18 20 rfl rfl)
theorem dX4_lay_447 : decode cX4_lay 447 = .ok (.iastore, 1) := dk_79 (dk_at dksX4_lay_18 21 rfl rfl)
theorem dX4_lay_448 : decode cX4_lay 448 = .ok (.iinc 6 1, 3) := dk_132 6 1 (dk_at dksX4_lay_19 0 rfl rfl)
theorem dX4_lay_451 : decode cX4_lay 451 = .ok (.goto (-175), 3) := dk_167 255 81 (dk_at dksX4_lay_19 3 rfl rfl)
theorem dX4_lay_454 : decode cX4_lay 454 = .ok (.iconst 0, 1) := dk_3 (dk_at dksX4_lay_19 6 rfl rfl)
theorem dX4_lay_455 : decode cX4_lay 455 = .ok (.ireturn, 1) := dk_172 (dk_at dksX4_lay_19 7 rfl rfl)
abbrev cX4_putNight : ByteArray := prog_18_method_103_code
def yX4_putNight : MethodName := ⟨RX4, "putNight", "(III)V"⟩
def dkwX4_putNight_6 : List UInt8 := [96, 2, 79, 42, 180, 0, 163, 16, 8, 21, 4, 104, 21, 6, 96, 2, 79, 132, 6, 1, 167, 255, 167, 177]
abbrev dktX4_putNight_6 : List UInt8 := dkwX4_putNight_6 ++ []
def dkwX4_putNight_5 : List UInt8 := [180, 0, 157, 16, 8, 21, 5, 104, 21, 6, 96, 46, 79, 42, 180, 0, 160, 16, 8, 21, 4, 104, 21, 6]
abbrev dktX4_putNight_5 : List UInt8 := dkwX4_putNight_5 ++ dktX4_putNight_6
def dkwX4_putNight_4 : List UInt8 := [155, 0, 19, 21, 6, 42, 180, 0, 26, 42, 180, 0, 211, 27, 46, 46, 161, 0, 7, 2, 167, 0, 16, 42]
abbrev dktX4_putNight_4 : List UInt8 := dkwX4_putNight_4 ++ dktX4_putNight_5
def dkwX4_putNight_3 : List UInt8 := [54, 6, 21, 6, 16, 8, 162, 0, 88, 42, 180, 0, 157, 16, 8, 21, 4, 104, 21, 6, 96, 21, 5]
abbrev dktX4_putNight_3 : List UInt8 := dkwX4_putNight_3 ++ dktX4_putNight_4
def dkwX4_putNight_2 : List UInt8 := [180, 0, 211, 27, 46, 160, 0, 8, 21, 6, 167, 0, 5, 21, 5, 54, 5, 132, 6, 255, 167, 255, 223, 3]
abbrev dktX4_putNight_2 : List UInt8 := dkwX4_putNight_2 ++ dktX4_putNight_3
def dkwX4_putNight_1 : List UInt8 := [2, 54, 5, 42, 180, 1, 167, 4, 100, 54, 6, 21, 6, 155, 0, 34, 42, 180, 0, 148, 21, 6, 46, 42]
abbrev dktX4_putNight_1 : List UInt8 := dkwX4_putNight_1 ++ dktX4_putNight_2
def dkwX4_putNight_0 : List UInt8 := [42, 180, 1, 167, 27, 96, 54, 4, 42, 21, 4, 28, 29, 6, 42, 180, 0, 211, 27, 46, 6, 182, 1, 170]
abbrev dktX4_putNight_0 : List UInt8 := dkwX4_putNight_0 ++ dktX4_putNight_1
theorem dksX4_putNight_0 : cX4_putNight.data.toList.drop 0 = dktX4_putNight_0 := by decide +kernel
theorem dksX4_putNight_1 : cX4_putNight.data.toList.drop 24 = dktX4_putNight_1 := dk_seg dksX4_putNight_0 24 rfl rfl
theorem dksX4_putNight_2 : cX4_putNight.data.toList.drop 48 = dktX4_putNight_2 := dk_seg dksX4_putNight_1 24 rfl rfl
theorem dksX4_putNight_3 : cX4_putNight.data.toList.drop 72 = dktX4_putNight_3 := dk_seg dksX4_putNight_2 24 rfl rfl
theorem dksX4_putNight_4 : cX4_putNight.data.toList.drop 95 = dktX4_putNight_4 := dk_seg dksX4_putNight_3 23 rfl rfl
theorem dksX4_putNight_5 : cX4_putNight.data.toList.drop 119 = dktX4_putNight_5 := dk_seg dksX4_putNight_4 24 rfl rfl
theorem dksX4_putNight_6 : cX4_putNight.data.toList.drop 143 = dktX4_putNight_6 := dk_seg dksX4_putNight_5 24 rfl rfl
theorem dX4_putNight_0 : decode cX4_putNight 0 = .ok (.aload_n 0, 1) := dk_42 (dk_at dksX4_putNight_0 0 rfl rfl)
theorem dX4_putNight_1 : decode cX4_putNight 1 = .ok (.getfield 423, 3) := dk_180 1 167 (dk_at dksX4_putNight_0 1 rfl rfl)
theorem dX4_putNight_4 : decode cX4_putNight 4 = .ok (.iload_n 1, 1) := dk_27 (dk_at dksX4_putNight_0 4 rfl rfl)
theorem dX4_putNight_5 : decode cX4_putNight 5 = .ok (.iadd, 1) := dk_96 (dk_at dksX4_putNight_0 5 rfl rfl)
theorem dX4_putNight_6 : decode cX4_putNight 6 = .ok (.istore 4, 2) := dk_54 4 (dk_at dksX4_putNight_0 6 rfl rfl)
theorem dX4_putNight_8 : decode cX4_putNight 8 = .ok (.aload_n 0, 1) := dk_42 (dk_at dksX4_putNight_0 8 rfl rfl)
theorem dX4_putNight_9 : decode cX4_putNight 9 = .ok (.iload 4, 2) := dk_21 4 (dk_at dksX4_putNight_0 9 rfl rfl)
theorem dX4_putNight_11 : decode cX4_putNight 11 = .ok (.iload_n 2, 1) := dk_28 (dk_at dksX4_putNight_0 11 rfl rfl)
theorem dX4_putNight_12 : decode cX4_putNight 12 = .ok (.iload_n 3, 1) := dk_29 (dk_at dksX4_putNight_0 12 rfl rfl)
theorem dX4_putNight_13 : decode cX4_putNight 13 = .ok (.iconst 3, 1) := dk_6 (dk_at dksX4_putNight_0 13 rfl rfl)
theorem dX4_putNight_14 : decode cX4_putNight 14 = .ok (.aload_n 0, 1) := dk_42 (dk_at dksX4_putNight_0 14 rfl rfl)
theorem dX4_putNight_15 : decode cX4_putNight 15 = .ok (.getfield 211, 3) := dk_180 0 211 (dk_at dksX4_putNight_0 15 rfl rfl)
theorem dX4_putNight_18 : decode cX4_putNight 18 = .ok (.iload_n 1, 1) := dk_27 (dk_at dksX4_putNight_0 18 rfl rfl)
theorem dX4_putNight_19 : decode cX4_putNight 19 = .ok (.iaload, 1) := dk_46 (dk_at dksX4_putNight_0 19 rfl rfl)
theorem dX4_putNight_20 : decode cX4_putNight 20 = .ok (.iconst 3, 1) := dk_6 (dk_at dksX4_putNight_0 20 rfl rfl)
theorem dX4_putNight_21 : decode cX4_putNight 21 = .ok (.invokevirtual 426, 3) := dk_182 1 170 (dk_at dksX4_putNight_0 21 rfl rfl)
theorem dX4_putNight_24 : decode cX4_putNight 24 = .ok (.iconst (-1), 1) := dk_2 (dk_at dksX4_putNight_1 0 rfl rfl)
theorem dX4_putNight_25 : decode cX4_putNight 25 = .ok (.istore 5, 2) := dk_54 5 (dk_at dksX4_putNight_1 1 rfl rfl)
theorem dX4_putNight_27 : decode cX4_putNight 27 = .ok (.aload_n 0, 1) := dk_42 (dk_at dksX4_putNight_1 3 rfl rfl)
theorem dX4_putNight_28 : decode cX4_putNight 28 = .ok (.getfield 423, 3) := dk_180 1 167 (dk_at dksX4_putNight_1 4 rfl rfl)
theorem dX4_putNight_31 : decode cX4_putNight 31 = .ok (.iconst 1, 1) := dk_4 (dk_at dksX4_putNight_1 7 rfl rfl)
theorem dX4_putNight_32 : decode cX4_putNight 32 = .ok (.isub, 1) := dk_100 (dk_at dksX4_putNight_1 8 rfl rfl)
theorem dX4_putNight_33 : decode cX4_putNight 33 = .ok (.istore 6, 2) := dk_54 6 (dk_at dksX4_putNight_1 9 rfl rfl)
theorem dX4_putNight_35 : decode cX4_putNight 35 = .ok (.iload 6, 2) := dk_21 6 (dk_at dksX4_putNight_1 11 rfl rfl)
theorem dX4_putNight_37 : decode cX4_putNight 37 = .ok (.ifCond .lt 34, 3) := dk_155 0 34 (dk_at dksX4_putNight_1 13 rfl rfl)
theorem dX4_putNight_40 : decode cX4_putNight 40 = .ok (.aload_n 0, 1) := dk_42 (dk_at dksX4_putNight_1 16 rfl rfl)
theorem dX4_putNight_41 : decode cX4_putNight 41 = .ok (.getfield 148, 3) := dk_180 0 148 (dk_at dksX4_putNight_1 17 rfl rfl)
theorem dX4_putNight_44 : decode cX4_putNight 44 = .ok (.iload 6, 2) := dk_21 6 (dk_at dksX4_putNight_1 20 rfl rfl)
theorem dX4_putNight_46 : decode cX4_putNight 46 = .ok (.iaload, 1) := dk_46 (dk_at dksX4_putNight_1 22 rfl rfl)
theorem dX4_putNight_47 : decode cX4_putNight 47 = .ok (.aload_n 0, 1) := dk_42 (dk_at dksX4_putNight_1 23 rfl rfl)
theorem dX4_putNight_48 : decode cX4_putNight 48 = .ok (.getfield 211, 3) := dk_180 0 211 (dk_at dksX4_putNight_2 0 rfl rfl)
theorem dX4_putNight_51 : decode cX4_putNight 51 = .ok (.iload_n 1, 1) := dk_27 (dk_at dksX4_putNight_2 3 rfl rfl)
theorem dX4_putNight_52 : decode cX4_putNight 52 = .ok (.iaload, 1) := dk_46 (dk_at dksX4_putNight_2 4 rfl rfl)
theorem dX4_putNight_53 : decode cX4_putNight 53 = .ok (.if_icmp .ne 8, 3) := dk_160 0 8 (dk_at dksX4_putNight_2 5 rfl rfl)
theorem dX4_putNight_56 : decode cX4_putNight 56 = .ok (.iload 6, 2) := dk_21 6 (dk_at dksX4_putNight_2 8 rfl rfl)
theorem dX4_putNight_58 : decode cX4_putNight 58 = .ok (.goto 5, 3) := dk_167 0 5 (dk_at dksX4_putNight_2 10 rfl rfl)
theorem dX4_putNight_61 : decode cX4_putNight 61 = .ok (.iload 5, 2) := dk_21 5 (dk_at dksX4_putNight_2 13 rfl rfl)
theorem dX4_putNight_63 : decode cX4_putNight 63 = .ok (.istore 5, 2) := dk_54 5 (dk_at dksX4_putNight_2 15 rfl rfl)
theorem dX4_putNight_65 : decode cX4_putNight 65 = .ok (.iinc 6 (-1), 3) := dk_132 6 255 (dk_at dksX4_putNight_2 17 rfl rfl)
theorem dX4_putNight_68 : decode cX4_putNight 68 = .ok (.goto (-33), 3) := dk_167 255 223 (dk_at dksX4_putNight_2 20 rfl rfl)
theorem dX4_putNight_71 : decode cX4_putNight 71 = .ok (.iconst 0, 1) := dk_3 (dk_at dksX4_putNight_2 23 rfl rfl)
theorem dX4_putNight_72 : decode cX4_putNight 72 = .ok (.istore 6, 2) := dk_54 6 (dk_at dksX4_putNight_3 0 rfl rfl)
theorem dX4_putNight_74 : decode cX4_putNight 74 = .ok (.iload 6, 2) := dk_21 6 (dk_at dksX4_putNight_3 2 rfl rfl)
theorem dX4_putNight_76 : decode cX4_putNight 76 = .ok (.bipush 8, 2) := dk_16 8 (dk_at dksX4_putNight_3 4 rfl rfl)
theorem dX4_putNight_78 : decode cX4_putNight 78 = .ok (.if_icmp .ge 88, 3) := dk_162 0 88 (dk_at dksX4_putNight_3 6 rfl rfl)
theorem dX4_putNight_81 : decode cX4_putNight 81 = .ok (.aload_n 0, 1) := dk_42 (dk_at dksX4_putNight_3 9 rfl rfl)
theorem dX4_putNight_82 : decode cX4_putNight 82 = .ok (.getfield 157, 3) := dk_180 0 157 (dk_at dksX4_putNight_3 10 rfl rfl)
theorem dX4_putNight_85 : decode cX4_putNight 85 = .ok (.bipush 8, 2) := dk_16 8 (dk_at dksX4_putNight_3 13 rfl rfl)
theorem dX4_putNight_87 : decode cX4_putNight 87 = .ok (.iload 4, 2) := dk_21 4 (dk_at dksX4_putNight_3 15 rfl rfl)
theorem dX4_putNight_89 : decode cX4_putNight 89 = .ok (.imul, 1) := dk_104 (dk_at dksX4_putNight_3 17 rfl rfl)
theorem dX4_putNight_90 : decode cX4_putNight 90 = .ok (.iload 6, 2) := dk_21 6 (dk_at dksX4_putNight_3 18 rfl rfl)
theorem dX4_putNight_92 : decode cX4_putNight 92 = .ok (.iadd, 1) := dk_96 (dk_at dksX4_putNight_3 20 rfl rfl)
theorem dX4_putNight_93 : decode cX4_putNight 93 = .ok (.iload 5, 2) := dk_21 5 (dk_at dksX4_putNight_3 21 rfl rfl)
theorem dX4_putNight_95 : decode cX4_putNight 95 = .ok (.ifCond .lt 19, 3) := dk_155 0 19 (dk_at dksX4_putNight_4 0 rfl rfl)
theorem dX4_putNight_98 : decode cX4_putNight 98 = .ok (.iload 6, 2) := dk_21 6 (dk_at dksX4_putNight_4 3 rfl rfl)
theorem dX4_putNight_100 : decode cX4_putNight 100 = .ok (.aload_n 0, 1) := dk_42 (dk_at dksX4_putNight_4 5 rfl rfl)
theorem dX4_putNight_101 : decode cX4_putNight 101 = .ok (.getfield 26, 3) := dk_180 0 26 (dk_at dksX4_putNight_4 6 rfl rfl)
theorem dX4_putNight_104 : decode cX4_putNight 104 = .ok (.aload_n 0, 1) := dk_42 (dk_at dksX4_putNight_4 9 rfl rfl)
theorem dX4_putNight_105 : decode cX4_putNight 105 = .ok (.getfield 211, 3) := dk_180 0 211 (dk_at dksX4_putNight_4 10 rfl rfl)
theorem dX4_putNight_108 : decode cX4_putNight 108 = .ok (.iload_n 1, 1) := dk_27 (dk_at dksX4_putNight_4 13 rfl rfl)
theorem dX4_putNight_109 : decode cX4_putNight 109 = .ok (.iaload, 1) := dk_46 (dk_at dksX4_putNight_4 14 rfl rfl)
theorem dX4_putNight_110 : decode cX4_putNight 110 = .ok (.iaload, 1) := dk_46 (dk_at dksX4_putNight_4 15 rfl rfl)
theorem dX4_putNight_111 : decode cX4_putNight 111 = .ok (.if_icmp .lt 7, 3) := dk_161 0 7 (dk_at dksX4_putNight_4 16 rfl rfl)
theorem dX4_putNight_114 : decode cX4_putNight 114 = .ok (.iconst (-1), 1) := dk_2 (dk_at dksX4_putNight_4 19 rfl rfl)
theorem dX4_putNight_115 : decode cX4_putNight 115 = .ok (.goto 16, 3) := dk_167 0 16 (dk_at dksX4_putNight_4 20 rfl rfl)
theorem dX4_putNight_118 : decode cX4_putNight 118 = .ok (.aload_n 0, 1) := dk_42 (dk_at dksX4_putNight_4 23 rfl rfl)
theorem dX4_putNight_119 : decode cX4_putNight 119 = .ok (.getfield 157, 3) := dk_180 0 157 (dk_at dksX4_putNight_5 0 rfl rfl)
theorem dX4_putNight_122 : decode cX4_putNight 122 = .ok (.bipush 8, 2) := dk_16 8 (dk_at dksX4_putNight_5 3 rfl rfl)
theorem dX4_putNight_124 : decode cX4_putNight 124 = .ok (.iload 5, 2) := dk_21 5 (dk_at dksX4_putNight_5 5 rfl rfl)
theorem dX4_putNight_126 : decode cX4_putNight 126 = .ok (.imul, 1) := dk_104 (dk_at dksX4_putNight_5 7 rfl rfl)
theorem dX4_putNight_127 : decode cX4_putNight 127 = .ok (.iload 6, 2) := dk_21 6 (dk_at dksX4_putNight_5 8 rfl rfl)
theorem dX4_putNight_129 : decode cX4_putNight 129 = .ok (.iadd, 1) := dk_96 (dk_at dksX4_putNight_5 10 rfl rfl)
theorem dX4_putNight_130 : decode cX4_putNight 130 = .ok (.iaload, 1) := dk_46 (dk_at dksX4_putNight_5 11 rfl rfl)
theorem dX4_putNight_131 : decode cX4_putNight 131 = .ok (.iastore, 1) := dk_79 (dk_at dksX4_putNight_5 12 rfl rfl)
theorem dX4_putNight_132 : decode cX4_putNight 132 = .ok (.aload_n 0, 1) := dk_42 (dk_at dksX4_putNight_5 13 rfl rfl)
theorem dX4_putNight_133 : decode cX4_putNight 133 = .ok (.getfield 160, 3) := dk_180 0 160 (dk_at dksX4_putNight_5 14 rfl rfl)
theorem dX4_putNight_136 : decode cX4_putNight 136 = .ok (.bipush 8, 2) := dk_16 8 (dk_at dksX4_putNight_5 17 rfl rfl)
theorem dX4_putNight_138 : decode cX4_putNight 138 = .ok (.iload 4, 2) := dk_21 4 (dk_at dksX4_putNight_5 19 rfl rfl)
theorem dX4_putNight_140 : decode cX4_putNight 140 = .ok (.imul, 1) := dk_104 (dk_at dksX4_putNight_5 21 rfl rfl)
theorem dX4_putNight_141 : decode cX4_putNight 141 = .ok (.iload 6, 2) := dk_21 6 (dk_at dksX4_putNight_5 22 rfl rfl)
theorem dX4_putNight_143 : decode cX4_putNight 143 = .ok (.iadd, 1) := dk_96 (dk_at dksX4_putNight_6 0 rfl rfl)
theorem dX4_putNight_144 : decode cX4_putNight 144 = .ok (.iconst (-1), 1) := dk_2 (dk_at dksX4_putNight_6 1 rfl rfl)
theorem dX4_putNight_145 : decode cX4_putNight 145 = .ok (.iastore, 1) := dk_79 (dk_at dksX4_putNight_6 2 rfl rfl)
theorem dX4_putNight_146 : decode cX4_putNight 146 = .ok (.aload_n 0, 1) := dk_42 (dk_at dksX4_putNight_6 3 rfl rfl)
theorem dX4_putNight_147 : decode cX4_putNight 147 = .ok (.getfield 163, 3) := dk_180 0 163 (dk_at dksX4_putNight_6 4 rfl rfl)
theorem dX4_putNight_150 : decode cX4_putNight 150 = .ok (.bipush 8, 2) := dk_16 8 (dk_at dksX4_putNight_6 7 rfl rfl)
theorem dX4_putNight_152 : decode cX4_putNight 152 = .ok (.iload 4, 2) := dk_21 4 (dk_at dksX4_putNight_6 9 rfl rfl)
theorem dX4_putNight_154 : decode cX4_putNight 154 = .ok (.imul, 1) := dk_104 (dk_at dksX4_putNight_6 11 rfl rfl)
theorem dX4_putNight_155 : decode cX4_putNight 155 = .ok (.iload 6, 2) := dk_21 6 (dk_at dksX4_putNight_6 12 rfl rfl)
theorem dX4_putNight_157 : decode cX4_putNight 157 = .ok (.iadd, 1) := dk_96 (dk_at dksX4_putNight_6 14 rfl rfl)
theorem dX4_putNight_158 : decode cX4_putNight 158 = .ok (.iconst (-1), 1) := dk_2 (dk_at dksX4_putNight_6 15 rfl rfl)
theorem dX4_putNight_159 : decode cX4_putNight 159 = .ok (.iastore, 1) := dk_79 (dk_at dksX4_putNight_6 16 rfl rfl)
theorem dX4_putNight_160 : decode cX4_putNight 160 = .ok (.iinc 6 1, 3) := dk_132 6 1 (dk_at dksX4_putNight_6 17 rfl rfl)
theorem dX4_putNight_163 : decode cX4_putNight 163 = .ok (.goto (-89), 3) := dk_167 255 167 (dk_at dksX4_putNight_6 20 rfl rfl)
theorem dX4_putNight_166 : decode cX4_putNight 166 = .ok (.return_, 1) := dk_177 (dk_at dksX4_putNight_6 23 rfl rfl)
abbrev cX4_goes : ByteArray := prog_18_method_104_code
def yX4_goes : MethodName := ⟨RX4, "goes", "(I)Z"⟩
def dkwX4_goes_3 : List UInt8 := [3, 172, 132, 2, 1, 167, 255, 201, 4, 172]
abbrev dktX4_goes_3 : List UInt8 := dkwX4_goes_3 ++ []
def dkwX4_goes_2 : List UInt8 := [180, 0, 190, 28, 46, 42, 180, 0, 193, 28, 46, 42, 180, 0, 196, 28, 46, 184, 2, 65, 51, 154, 0, 5]
abbrev dktX4_goes_2 : List UInt8 := dkwX4_goes_2 ++ dktX4_goes_3
def dkwX4_goes_1 : List UInt8 := [180, 2, 39, 162, 0, 53, 42, 180, 0, 193, 28, 46, 42, 180, 1, 167, 162, 0, 32, 42, 180, 0, 199, 42]
abbrev dktX4_goes_1 : List UInt8 := dkwX4_goes_1 ++ dktX4_goes_2
def dkwX4_goes_0 : List UInt8 := [42, 42, 180, 1, 167, 27, 96, 181, 1, 190, 42, 182, 1, 193, 42, 182, 2, 55, 3, 61, 28, 42]
abbrev dktX4_goes_0 : List UInt8 := dkwX4_goes_0 ++ dktX4_goes_1
theorem dksX4_goes_0 : cX4_goes.data.toList.drop 0 = dktX4_goes_0 := by decide +kernel
theorem dksX4_goes_1 : cX4_goes.data.toList.drop 22 = dktX4_goes_1 := dk_seg dksX4_goes_0 22 rfl rfl
theorem dksX4_goes_2 : cX4_goes.data.toList.drop 46 = dktX4_goes_2 := dk_seg dksX4_goes_1 24 rfl rfl
theorem dksX4_goes_3 : cX4_goes.data.toList.drop 70 = dktX4_goes_3 := dk_seg dksX4_goes_2 24 rfl rfl
theorem dX4_goes_0 : decode cX4_goes 0 = .ok (.aload_n 0, 1) := dk_42 (dk_at dksX4_goes_0 0 rfl rfl)
theorem dX4_goes_1 : decode cX4_goes 1 = .ok (.aload_n 0, 1) := dk_42 (dk_at dksX4_goes_0 1 rfl rfl)
theorem dX4_goes_2 : decode cX4_goes 2 = .ok (.getfield 423, 3) := dk_180 1 167 (dk_at dksX4_goes_0 2 rfl rfl)
theorem dX4_goes_5 : decode cX4_goes 5 = .ok (.iload_n 1, 1) := dk_27 (dk_at dksX4_goes_0 5 rfl rfl)
theorem dX4_goes_6 : decode cX4_goes 6 = .ok (.iadd, 1) := dk_96 (dk_at dksX4_goes_0 6 rfl rfl)
theorem dX4_goes_7 : decode cX4_goes 7 = .ok (.putfield 446, 3) := dk_181 1 190 (dk_at dksX4_goes_0 7 rfl rfl)
theorem dX4_goes_10 : decode cX4_goes 10 = .ok (.aload_n 0, 1) := dk_42 (dk_at dksX4_goes_0 10 rfl rfl)
theorem dX4_goes_11 : decode cX4_goes 11 = .ok (.invokevirtual 449, 3) := dk_182 1 193 (dk_at dksX4_goes_0 11 rfl rfl)
theorem dX4_goes_14 : decode cX4_goes 14 = .ok (.aload_n 0, 1) := dk_42 (dk_at dksX4_goes_0 14 rfl rfl)
theorem dX4_goes_15 : decode cX4_goes 15 = .ok (.invokevirtual 567, 3) := dk_182 2 55 (dk_at dksX4_goes_0 15 rfl rfl)
theorem dX4_goes_18 : decode cX4_goes 18 = .ok (.iconst 0, 1) := dk_3 (dk_at dksX4_goes_0 18 rfl rfl)
theorem dX4_goes_19 : decode cX4_goes 19 = .ok (.istore_n 2, 1) := dk_61 (dk_at dksX4_goes_0 19 rfl rfl)
theorem dX4_goes_20 : decode cX4_goes 20 = .ok (.iload_n 2, 1) := dk_28 (dk_at dksX4_goes_0 20 rfl rfl)
theorem dX4_goes_21 : decode cX4_goes 21 = .ok (.aload_n 0, 1) := dk_42 (dk_at dksX4_goes_0 21 rfl rfl)
theorem dX4_goes_22 : decode cX4_goes 22 = .ok (.getfield 551, 3) := dk_180 2 39 (dk_at dksX4_goes_1 0 rfl rfl)
theorem dX4_goes_25 : decode cX4_goes 25 = .ok (.if_icmp .ge 53, 3) := dk_162 0 53 (dk_at dksX4_goes_1 3 rfl rfl)
theorem dX4_goes_28 : decode cX4_goes 28 = .ok (.aload_n 0, 1) := dk_42 (dk_at dksX4_goes_1 6 rfl rfl)
theorem dX4_goes_29 : decode cX4_goes 29 = .ok (.getfield 193, 3) := dk_180 0 193 (dk_at dksX4_goes_1 7 rfl rfl)
theorem dX4_goes_32 : decode cX4_goes 32 = .ok (.iload_n 2, 1) := dk_28 (dk_at dksX4_goes_1 10 rfl rfl)
theorem dX4_goes_33 : decode cX4_goes 33 = .ok (.iaload, 1) := dk_46 (dk_at dksX4_goes_1 11 rfl rfl)
theorem dX4_goes_34 : decode cX4_goes 34 = .ok (.aload_n 0, 1) := dk_42 (dk_at dksX4_goes_1 12 rfl rfl)
theorem dX4_goes_35 : decode cX4_goes 35 = .ok (.getfield 423, 3) := dk_180 1 167 (dk_at dksX4_goes_1 13 rfl rfl)
theorem dX4_goes_38 : decode cX4_goes 38 = .ok (.if_icmp .ge 32, 3) := dk_162 0 32 (dk_at dksX4_goes_1 16 rfl rfl)
theorem dX4_goes_41 : decode cX4_goes 41 = .ok (.aload_n 0, 1) := dk_42 (dk_at dksX4_goes_1 19 rfl rfl)
theorem dX4_goes_42 : decode cX4_goes 42 = .ok (.getfield 199, 3) := dk_180 0 199 (dk_at dksX4_goes_1 20 rfl rfl)
theorem dX4_goes_45 : decode cX4_goes 45 = .ok (.aload_n 0, 1) := dk_42 (dk_at dksX4_goes_1 23 rfl rfl)
theorem dX4_goes_46 : decode cX4_goes 46 = .ok (.getfield 190, 3) := dk_180 0 190 (dk_at dksX4_goes_2 0 rfl rfl)
theorem dX4_goes_49 : decode cX4_goes 49 = .ok (.iload_n 2, 1) := dk_28 (dk_at dksX4_goes_2 3 rfl rfl)
theorem dX4_goes_50 : decode cX4_goes 50 = .ok (.iaload, 1) := dk_46 (dk_at dksX4_goes_2 4 rfl rfl)
theorem dX4_goes_51 : decode cX4_goes 51 = .ok (.aload_n 0, 1) := dk_42 (dk_at dksX4_goes_2 5 rfl rfl)
theorem dX4_goes_52 : decode cX4_goes 52 = .ok (.getfield 193, 3) := dk_180 0 193 (dk_at dksX4_goes_2 6 rfl rfl)
theorem dX4_goes_55 : decode cX4_goes 55 = .ok (.iload_n 2, 1) := dk_28 (dk_at dksX4_goes_2 9 rfl rfl)
theorem dX4_goes_56 : decode cX4_goes 56 = .ok (.iaload, 1) := dk_46 (dk_at dksX4_goes_2 10 rfl rfl)
theorem dX4_goes_57 : decode cX4_goes 57 = .ok (.aload_n 0, 1) := dk_42 (dk_at dksX4_goes_2 11 rfl rfl)
theorem dX4_goes_58 : decode cX4_goes 58 = .ok (.getfield 196, 3) := dk_180 0 196 (dk_at dksX4_goes_2 12 rfl rfl)
theorem dX4_goes_61 : decode cX4_goes 61 = .ok (.iload_n 2, 1) := dk_28 (dk_at dksX4_goes_2 15 rfl rfl)
theorem dX4_goes_62 : decode cX4_goes 62 = .ok (.iaload, 1) := dk_46 (dk_at dksX4_goes_2 16 rfl rfl)
theorem dX4_goes_63 : decode cX4_goes 63 = .ok (.invokestatic 577, 3) := dk_184 2 65 (dk_at dksX4_goes_2 17 rfl rfl)
theorem dX4_goes_66 : decode cX4_goes 66 = .ok (.baload, 1) := dk_51 (dk_at dksX4_goes_2 20 rfl rfl)
theorem dX4_goes_67 : decode cX4_goes 67 = .ok (.ifCond .ne 5, 3) := dk_154 0 5 (dk_at dksX4_goes_2 21 rfl rfl)
theorem dX4_goes_70 : decode cX4_goes 70 = .ok (.iconst 0, 1) := dk_3 (dk_at dksX4_goes_3 0 rfl rfl)
theorem dX4_goes_71 : decode cX4_goes 71 = .ok (.ireturn, 1) := dk_172 (dk_at dksX4_goes_3 1 rfl rfl)
theorem dX4_goes_72 : decode cX4_goes 72 = .ok (.iinc 2 1, 3) := dk_132 2 1 (dk_at dksX4_goes_3 2 rfl rfl)
theorem dX4_goes_75 : decode cX4_goes 75 = .ok (.goto (-55), 3) := dk_167 255 201 (dk_at dksX4_goes_3 5 rfl rfl)
theorem dX4_goes_78 : decode cX4_goes 78 = .ok (.iconst 1, 1) := dk_4 (dk_at dksX4_goes_3 8 rfl rfl)
theorem dX4_goes_79 : decode cX4_goes 79 = .ok (.ireturn, 1) := dk_172 (dk_at dksX4_goes_3 9 rfl rfl)
abbrev cX4_laid : ByteArray := prog_18_method_106_code
def yX4_laid : MethodName := ⟨RX4, "laid", "(I)I"⟩
def dkwX4_laid_1 : List UInt8 := [180, 0, 217, 27, 46, 172]
abbrev dktX4_laid_1 : List UInt8 := dkwX4_laid_1 ++ []
def dkwX4_laid_0 : List UInt8 := [42, 3, 181, 0, 226, 27, 155, 0, 11, 27, 42, 180, 2, 84, 161, 0, 7, 2, 167, 0, 9, 42]
abbrev dktX4_laid_0 : List UInt8 := dkwX4_laid_0 ++ dktX4_laid_1
theorem dksX4_laid_0 : cX4_laid.data.toList.drop 0 = dktX4_laid_0 := by decide +kernel
theorem dksX4_laid_1 : cX4_laid.data.toList.drop 22 = dktX4_laid_1 := dk_seg dksX4_laid_0 22 rfl rfl
theorem dX4_laid_0 : decode cX4_laid 0 = .ok (.aload_n 0, 1) := dk_42 (dk_at dksX4_laid_0 0 rfl rfl)
theorem dX4_laid_1 : decode cX4_laid 1 = .ok (.iconst 0, 1) := dk_3 (dk_at dksX4_laid_0 1 rfl rfl)
theorem dX4_laid_2 : decode cX4_laid 2 = .ok (.putfield 226, 3) := dk_181 0 226 (dk_at dksX4_laid_0 2 rfl rfl)
theorem dX4_laid_5 : decode cX4_laid 5 = .ok (.iload_n 1, 1) := dk_27 (dk_at dksX4_laid_0 5 rfl rfl)
theorem dX4_laid_6 : decode cX4_laid 6 = .ok (.ifCond .lt 11, 3) := dk_155 0 11 (dk_at dksX4_laid_0 6 rfl rfl)
theorem dX4_laid_9 : decode cX4_laid 9 = .ok (.iload_n 1, 1) := dk_27 (dk_at dksX4_laid_0 9 rfl rfl)
theorem dX4_laid_10 : decode cX4_laid 10 = .ok (.aload_n 0, 1) := dk_42 (dk_at dksX4_laid_0 10 rfl rfl)
theorem dX4_laid_11 : decode cX4_laid 11 = .ok (.getfield 596, 3) := dk_180 2 84 (dk_at dksX4_laid_0 11 rfl rfl)
theorem dX4_laid_14 : decode cX4_laid 14 = .ok (.if_icmp .lt 7, 3) := dk_161 0 7 (dk_at dksX4_laid_0 14 rfl rfl)
theorem dX4_laid_17 : decode cX4_laid 17 = .ok (.iconst (-1), 1) := dk_2 (dk_at dksX4_laid_0 17 rfl rfl)
theorem dX4_laid_18 : decode cX4_laid 18 = .ok (.goto 9, 3) := dk_167 0 9 (dk_at dksX4_laid_0 18 rfl rfl)
theorem dX4_laid_21 : decode cX4_laid 21 = .ok (.aload_n 0, 1) := dk_42 (dk_at dksX4_laid_0 21 rfl rfl)
theorem dX4_laid_22 : decode cX4_laid 22 = .ok (.getfield 217, 3) := dk_180 0 217 (dk_at dksX4_laid_1 0 rfl rfl)
theorem dX4_laid_25 : decode cX4_laid 25 = .ok (.iload_n 1, 1) := dk_27 (dk_at dksX4_laid_1 3 rfl rfl)
theorem dX4_laid_26 : decode cX4_laid 26 = .ok (.iaload, 1) := dk_46 (dk_at dksX4_laid_1 4 rfl rfl)
theorem dX4_laid_27 : decode cX4_laid 27 = .ok (.ireturn, 1) := dk_172 (dk_at dksX4_laid_1 5 rfl rfl)
abbrev cX4_keep : ByteArray := prog_18_method_107_code
def yX4_keep : MethodName := ⟨RX4, "keep", "()I"⟩
def dkwX4_keep_10 : List UInt8 := [180, 1, 167, 172]
abbrev dktX4_keep_10 : List UInt8 := dkwX4_keep_10 ++ []
def dkwX4_keep_9 : List UInt8 := [180, 1, 167, 42, 180, 2, 84, 96, 181, 1, 167, 42, 89, 180, 0, 249, 4, 96, 181, 0, 249, 42]
abbrev dktX4_keep_9 : List UInt8 := dkwX4_keep_9 ++ dktX4_keep_10
def dkwX4_keep_8 : List UInt8 := [21, 4, 96, 46, 3, 182, 1, 180, 132, 4, 1, 167, 255, 211, 132, 2, 1, 167, 255, 187, 42, 89]
abbrev dktX4_keep_8 : List UInt8 := dkwX4_keep_8 ++ dktX4_keep_9
def dkwX4_keep_7 : List UInt8 := [16, 8, 29, 104, 21, 4, 96, 46, 155, 0, 23, 42, 29, 21, 4, 42, 180, 0, 157, 16, 8, 29, 104]
abbrev dktX4_keep_7 : List UInt8 := dkwX4_keep_7 ++ dktX4_keep_8
def dkwX4_keep_6 : List UInt8 := [162, 0, 67, 42, 180, 1, 167, 28, 96, 62, 3, 54, 4, 21, 4, 16, 8, 162, 0, 44, 42, 180, 0, 157]
abbrev dktX4_keep_6 : List UInt8 := dkwX4_keep_6 ++ dktX4_keep_7
def dkwX4_keep_5 : List UInt8 := [167, 255, 177, 42, 180, 1, 174, 27, 96, 17, 1, 144, 164, 0, 5, 2, 172, 3, 61, 28, 42, 180, 2, 84]
abbrev dktX4_keep_5 : List UInt8 := dkwX4_keep_5 ++ dktX4_keep_6
def dkwX4_keep_4 : List UInt8 := [104, 29, 96, 46, 155, 0, 7, 4, 167, 0, 4, 3, 96, 60, 132, 3, 1, 167, 255, 220, 132, 2, 1]
abbrev dktX4_keep_4 : List UInt8 := dkwX4_keep_4 ++ dktX4_keep_5
def dkwX4_keep_3 : List UInt8 := [182, 2, 90, 3, 62, 29, 16, 8, 162, 0, 36, 27, 42, 180, 0, 157, 16, 8, 42, 180, 1, 167, 28, 96]
abbrev dktX4_keep_3 : List UInt8 := dkwX4_keep_3 ++ dktX4_keep_4
def dkwX4_keep_2 : List UInt8 := [180, 0, 211, 28, 42, 180, 0, 220, 28, 46, 79, 42, 28, 42, 180, 0, 217, 28, 46, 42, 180, 2, 96]
abbrev dktX4_keep_2 : List UInt8 := dkwX4_keep_2 ++ dktX4_keep_3
def dkwX4_keep_1 : List UInt8 := [172, 42, 42, 180, 0, 246, 182, 1, 204, 3, 60, 3, 61, 28, 42, 180, 2, 84, 162, 0, 77, 42]
abbrev dktX4_keep_1 : List UInt8 := dkwX4_keep_1 ++ dktX4_keep_2
def dkwX4_keep_0 : List UInt8 := [42, 3, 181, 0, 226, 42, 180, 2, 84, 153, 0, 14, 42, 180, 0, 223, 42, 180, 0, 249, 159, 0, 5, 2]
abbrev dktX4_keep_0 : List UInt8 := dkwX4_keep_0 ++ dktX4_keep_1
theorem dksX4_keep_0 : cX4_keep.data.toList.drop 0 = dktX4_keep_0 := by decide +kernel
theorem dksX4_keep_1 : cX4_keep.data.toList.drop 24 = dktX4_keep_1 := dk_seg dksX4_keep_0 24 rfl rfl
theorem dksX4_keep_2 : cX4_keep.data.toList.drop 46 = dktX4_keep_2 := dk_seg dksX4_keep_1 22 rfl rfl
theorem dksX4_keep_3 : cX4_keep.data.toList.drop 69 = dktX4_keep_3 := dk_seg dksX4_keep_2 23 rfl rfl
theorem dksX4_keep_4 : cX4_keep.data.toList.drop 93 = dktX4_keep_4 := dk_seg dksX4_keep_3 24 rfl rfl
theorem dksX4_keep_5 : cX4_keep.data.toList.drop 116 = dktX4_keep_5 := dk_seg dksX4_keep_4 23 rfl rfl
theorem dksX4_keep_6 : cX4_keep.data.toList.drop 140 = dktX4_keep_6 := dk_seg dksX4_keep_5 24 rfl rfl
theorem dksX4_keep_7 : cX4_keep.data.toList.drop 164 = dktX4_keep_7 := dk_seg dksX4_keep_6 24 rfl rfl
theorem dksX4_keep_8 : cX4_keep.data.toList.drop 187 = dktX4_keep_8 := dk_seg dksX4_keep_7 23 rfl rfl
theorem dksX4_keep_9 : cX4_keep.data.toList.drop 209 = dktX4_keep_9 := dk_seg dksX4_keep_8 22 rfl rfl
theorem dksX4_keep_10 : cX4_keep.data.toList.drop 231 = dktX4_keep_10 := dk_seg dksX4_keep_9 22 rfl rfl
theorem dX4_keep_0 : decode cX4_keep 0 = .ok (.aload_n 0, 1) := dk_42 (dk_at dksX4_keep_0 0 rfl rfl)
theorem dX4_keep_1 : decode cX4_keep 1 = .ok (.iconst 0, 1) := dk_3 (dk_at dksX4_keep_0 1 rfl rfl)
theorem dX4_keep_2 : decode cX4_keep 2 = .ok (.putfield 226, 3) := dk_181 0 226 (dk_at dksX4_keep_0 2 rfl rfl)
theorem dX4_keep_5 : decode cX4_keep 5 = .ok (.aload_n 0, 1) := dk_42 (dk_at dksX4_keep_0 5 rfl rfl)
theorem dX4_keep_6 : decode cX4_keep 6 = .ok (.getfield 596, 3) := dk_180 2 84 (dk_at dksX4_keep_0 6 rfl rfl)
theorem dX4_keep_9 : decode cX4_keep 9 = .ok (.ifCond .eq 14, 3) := dk_153 0 14 (dk_at dksX4_keep_0 9 rfl rfl)
theorem dX4_keep_12 : decode cX4_keep 12 = .ok (.aload_n 0, 1) := dk_42 (dk_at dksX4_keep_0 12 rfl rfl)
theorem dX4_keep_13 : decode cX4_keep 13 = .ok (.getfield 223, 3) := dk_180 0 223 (dk_at dksX4_keep_0 13 rfl rfl)
theorem dX4_keep_16 : decode cX4_keep 16 = .ok (.aload_n 0, 1) := dk_42 (dk_at dksX4_keep_0 16 rfl rfl)
theorem dX4_keep_17 : decode cX4_keep 17 = .ok (.getfield 249, 3) := dk_180 0 249 (dk_at dksX4_keep_0 17 rfl rfl)
theorem dX4_keep_20 : decode cX4_keep 20 = .ok (.if_icmp .eq 5, 3) := dk_159 0 5 (dk_at dksX4_keep_0 20 rfl rfl)
theorem dX4_keep_23 : decode cX4_keep 23 = .ok (.iconst (-1), 1) := dk_2 (dk_at dksX4_keep_0 23 rfl rfl)
theorem dX4_keep_24 : decode cX4_keep 24 = .ok (.ireturn, 1) := dk_172 (dk_at dksX4_keep_1 0 rfl rfl)
theorem dX4_keep_25 : decode cX4_keep 25 = .ok (.aload_n 0, 1) := dk_42 (dk_at dksX4_keep_1 1 rfl rfl)
theorem dX4_keep_26 : decode cX4_keep 26 = .ok (.aload_n 0, 1) := dk_42 (dk_at dksX4_keep_1 2 rfl rfl)
theorem dX4_keep_27 : decode cX4_keep 27 = .ok (.getfield 246, 3) := dk_180 0 246 (dk_at dksX4_keep_1 3 rfl rfl)
theorem dX4_keep_30 : decode cX4_keep 30 = .ok (.invokevirtual 460, 3) := dk_182 1 204 (dk_at dksX4_keep_1 6 rfl rfl)
theorem dX4_keep_33 : decode cX4_keep 33 = .ok (.iconst 0, 1) := dk_3 (dk_at dksX4_keep_1 9 rfl rfl)
theorem dX4_keep_34 : decode cX4_keep 34 = .ok (.istore_n 1, 1) := dk_60 (dk_at dksX4_keep_1 10 rfl rfl)
theorem dX4_keep_35 : decode cX4_keep 35 = .ok (.iconst 0, 1) := dk_3 (dk_at dksX4_keep_1 11 rfl rfl)
theorem dX4_keep_36 : decode cX4_keep 36 = .ok (.istore_n 2, 1) := dk_61 (dk_at dksX4_keep_1 12 rfl rfl)
theorem dX4_keep_37 : decode cX4_keep 37 = .ok (.iload_n 2, 1) := dk_28 (dk_at dksX4_keep_1 13 rfl rfl)
theorem dX4_keep_38 : decode cX4_keep 38 = .ok (.aload_n 0, 1) := dk_42 (dk_at dksX4_keep_1 14 rfl rfl)
theorem dX4_keep_39 : decode cX4_keep 39 = .ok (.getfield 596, 3) := dk_180 2 84 (dk_at dksX4_keep_1 15 rfl rfl)
theorem dX4_keep_42 : decode cX4_keep 42 = .ok (.if_icmp .ge 77, 3) := dk_162 0 77 (dk_at dksX4_keep_1 18 rfl rfl)
theorem dX4_keep_45 : decode cX4_keep 45 = .ok (.aload_n 0, 1) := dk_42 (dk_at dksX4_keep_1 21 rfl rfl)
theorem dX4_keep_46 : decode cX4_keep 46 = .ok (.getfield 211, 3) := dk_180 0 211 (dk_at dksX4_keep_2 0 rfl rfl)
theorem dX4_keep_49 : decode cX4_keep 49 = .ok (.iload_n 2, 1) := dk_28 (dk_at dksX4_keep_2 3 rfl rfl)
theorem dX4_keep_50 : decode cX4_keep 50 = .ok (.aload_n 0, 1) := dk_42 (dk_at dksX4_keep_2 4 rfl rfl)
theorem dX4_keep_51 : decode cX4_keep 51 = .ok (.getfield 220, 3) := dk_180 0 220 (dk_at dksX4_keep_2 5 rfl rfl)
theorem dX4_keep_54 : decode cX4_keep 54 = .ok (.iload_n 2, 1) := dk_28 (dk_at dksX4_keep_2 8 rfl rfl)
theorem dX4_keep_55 : decode cX4_keep 55 = .ok (.iaload, 1) := dk_46 (dk_at dksX4_keep_2 9 rfl rfl)
theorem dX4_keep_56 : decode cX4_keep 56 = .ok (.iastore, 1) := dk_79 (dk_at dksX4_keep_2 10 rfl rfl)
theorem dX4_keep_57 : decode cX4_keep 57 = .ok (.aload_n 0, 1) := dk_42 (dk_at dksX4_keep_2 11 rfl rfl)
theorem dX4_keep_58 : decode cX4_keep 58 = .ok (.iload_n 2, 1) := dk_28 (dk_at dksX4_keep_2 12 rfl rfl)
theorem dX4_keep_59 : decode cX4_keep 59 = .ok (.aload_n 0, 1) := dk_42 (dk_at dksX4_keep_2 13 rfl rfl)
theorem dX4_keep_60 : decode cX4_keep 60 = .ok (.getfield 217, 3) := dk_180 0 217 (dk_at dksX4_keep_2 14 rfl rfl)
theorem dX4_keep_63 : decode cX4_keep 63 = .ok (.iload_n 2, 1) := dk_28 (dk_at dksX4_keep_2 17 rfl rfl)
theorem dX4_keep_64 : decode cX4_keep 64 = .ok (.iaload, 1) := dk_46 (dk_at dksX4_keep_2 18 rfl rfl)
theorem dX4_keep_65 : decode cX4_keep 65 = .ok (.aload_n 0, 1) := dk_42 (dk_at dksX4_keep_2 19 rfl rfl)
theorem dX4_keep_66 : decode cX4_keep 66 = .ok (.getfield 608, 3) := dk_180 2 96 (dk_at dksX4_keep_2 20 rfl rfl)
theorem dX4_keep_69 : decode cX4_keep 69 = .ok (.invokevirtual 602, 3) := dk_182 2 90 (dk_at dksX4_keep_3 0 rfl rfl)
theorem dX4_keep_72 : decode cX4_keep 72 = .ok (.iconst 0, 1) := dk_3 (dk_at dksX4_keep_3 3 rfl rfl)
theorem dX4_keep_73 : decode cX4_keep 73 = .ok (.istore_n 3, 1) := dk_62 (dk_at dksX4_keep_3 4 rfl rfl)
theorem dX4_keep_74 : decode cX4_keep 74 = .ok (.iload_n 3, 1) := dk_29 (dk_at dksX4_keep_3 5 rfl rfl)
theorem dX4_keep_75 : decode cX4_keep 75 = .ok (.bipush 8, 2) := dk_16 8 (dk_at dksX4_keep_3 6 rfl rfl)
theorem dX4_keep_77 : decode cX4_keep 77 = .ok (.if_icmp .ge 36, 3) := dk_162 0 36 (dk_at dksX4_keep_3 8 rfl rfl)
theorem dX4_keep_80 : decode cX4_keep 80 = .ok (.iload_n 1, 1) := dk_27 (dk_at dksX4_keep_3 11 rfl rfl)
theorem dX4_keep_81 : decode cX4_keep 81 = .ok (.aload_n 0, 1) := dk_42 (dk_at dksX4_keep_3 12 rfl rfl)
theorem dX4_keep_82 : decode cX4_keep 82 = .ok (.getfield 157, 3) := dk_180 0 157 (dk_at dksX4_keep_3 13 rfl rfl)
theorem dX4_keep_85 : decode cX4_keep 85 = .ok (.bipush 8, 2) := dk_16 8 (dk_at dksX4_keep_3 16 rfl rfl)
theorem dX4_keep_87 : decode cX4_keep 87 = .ok (.aload_n 0, 1) := dk_42 (dk_at dksX4_keep_3 18 rfl rfl)
theorem dX4_keep_88 : decode cX4_keep 88 = .ok (.getfield 423, 3) := dk_180 1 167 (dk_at dksX4_keep_3 19 rfl rfl)
theorem dX4_keep_91 : decode cX4_keep 91 = .ok (.iload_n 2, 1) := dk_28 (dk_at dksX4_keep_3 22 rfl rfl)
theorem dX4_keep_92 : decode cX4_keep 92 = .ok (.iadd, 1) := dk_96 (dk_at dksX4_keep_3 23 rfl rfl)
theorem dX4_keep_93 : decode cX4_keep 93 = .ok (.imul, 1) := dk_104 (dk_at dksX4_keep_4 0 rfl rfl)
theorem dX4_keep_94 : decode cX4_keep 94 = .ok (.iload_n 3, 1) := dk_29 (dk_at dksX4_keep_4 1 rfl rfl)
theorem dX4_keep_95 : decode cX4_keep 95 = .ok (.iadd, 1) := dk_96 (dk_at dksX4_keep_4 2 rfl rfl)
theorem dX4_keep_96 : decode cX4_keep 96 = .ok (.iaload, 1) := dk_46 (dk_at dksX4_keep_4 3 rfl rfl)
theorem dX4_keep_97 : decode cX4_keep 97 = .ok (.ifCond .lt 7, 3) := dk_155 0 7 (dk_at dksX4_keep_4 4 rfl rfl)
theorem dX4_keep_100 : decode cX4_keep 100 = .ok (.iconst 1, 1) := dk_4 (dk_at dksX4_keep_4 7 rfl rfl)
theorem dX4_keep_101 : decode cX4_keep 101 = .ok (.goto 4, 3) := dk_167 0 4 (dk_at dksX4_keep_4 8 rfl rfl)
theorem dX4_keep_104 : decode cX4_keep 104 = .ok (.iconst 0, 1) := dk_3 (dk_at dksX4_keep_4 11 rfl rfl)
theorem dX4_keep_105 : decode cX4_keep 105 = .ok (.iadd, 1) := dk_96 (dk_at dksX4_keep_4 12 rfl rfl)
theorem dX4_keep_106 : decode cX4_keep 106 = .ok (.istore_n 1, 1) := dk_60 (dk_at dksX4_keep_4 13 rfl rfl)
theorem dX4_keep_107 : decode cX4_keep 107 = .ok (.iinc 3 1, 3) := dk_132 3 1 (dk_at dksX4_keep_4 14 rfl rfl)
theorem dX4_keep_110 : decode cX4_keep 110 = .ok (.goto (-36), 3) := dk_167 255 220 (dk_at dksX4_keep_4 17 rfl rfl)
theorem dX4_keep_113 : decode cX4_keep 113 = .ok (.iinc 2 1, 3) := dk_132 2 1 (dk_at dksX4_keep_4 20 rfl rfl)
theorem dX4_keep_116 : decode cX4_keep 116 = .ok (.goto (-79), 3) := dk_167 255 177 (dk_at dksX4_keep_5 0 rfl rfl)
theorem dX4_keep_119 : decode cX4_keep 119 = .ok (.aload_n 0, 1) := dk_42 (dk_at dksX4_keep_5 3 rfl rfl)
theorem dX4_keep_120 : decode cX4_keep 120 = .ok (.getfield 430, 3) := dk_180 1 174 (dk_at dksX4_keep_5 4 rfl rfl)
theorem dX4_keep_123 : decode cX4_keep 123 = .ok (.iload_n 1, 1) := dk_27 (dk_at dksX4_keep_5 7 rfl rfl)
theorem dX4_keep_124 : decode cX4_keep 124 = .ok (.iadd, 1) := dk_96 (dk_at dksX4_keep_5 8 rfl rfl)
theorem dX4_keep_125 : decode cX4_keep 125 = .ok (.sipush 400, 3) := dk_17 1 144 (dk_at dksX4_keep_5 9 rfl rfl)
theorem dX4_keep_128 : decode cX4_keep 128 = .ok (.if_icmp .le 5, 3) := dk_164 0 5 (dk_at dksX4_keep_5 12 rfl rfl)
theorem dX4_keep_131 : decode cX4_keep 131 = .ok (.iconst (-1), 1) := dk_2 (dk_at dksX4_keep_5 15 rfl rfl)
theorem dX4_keep_132 : decode cX4_keep 132 = .ok (.ireturn, 1) := dk_172 (dk_at dksX4_keep_5 16 rfl rfl)
theorem dX4_keep_133 : decode cX4_keep 133 = .ok (.iconst 0, 1) := dk_3 (dk_at dksX4_keep_5 17 rfl rfl)
theorem dX4_keep_134 : decode cX4_keep 134 = .ok (.istore_n 2, 1) := dk_61 (dk_at dksX4_keep_5 18 rfl rfl)
theorem dX4_keep_135 : decode cX4_keep 135 = .ok (.iload_n 2, 1) := dk_28 (dk_at dksX4_keep_5 19 rfl rfl)
theorem dX4_keep_136 : decode cX4_keep 136 = .ok (.aload_n 0, 1) := dk_42 (dk_at dksX4_keep_5 20 rfl rfl)
theorem dX4_keep_137 : decode cX4_keep 137 = .ok (.getfield 596, 3) := dk_180 2 84 (dk_at dksX4_keep_5 21 rfl rfl)
theorem dX4_keep_140 : decode cX4_keep 140 = .ok (.if_icmp .ge 67, 3) := dk_162 0 67 (dk_at dksX4_keep_6 0 rfl rfl)
theorem dX4_keep_143 : decode cX4_keep 143 = .ok (.aload_n 0, 1) := dk_42 (dk_at dksX4_keep_6 3 rfl rfl)
theorem dX4_keep_144 : decode cX4_keep 144 = .ok (.getfield 423, 3) := dk_180 1 167 (dk_at dksX4_keep_6 4 rfl rfl)
theorem dX4_keep_147 : decode cX4_keep 147 = .ok (.iload_n 2, 1) := dk_28 (dk_at dksX4_keep_6 7 rfl rfl)
theorem dX4_keep_148 : decode cX4_keep 148 = .ok (.iadd, 1) := dk_96 (dk_at dksX4_keep_6 8 rfl rfl)
theorem dX4_keep_149 : decode cX4_keep 149 = .ok (.istore_n 3, 1) := dk_62 (dk_at dksX4_keep_6 9 rfl rfl)
theorem dX4_keep_150 : decode cX4_keep 150 = .ok (.iconst 0, 1) := dk_3 (dk_at dksX4_keep_6 10 rfl rfl)
theorem dX4_keep_151 : decode cX4_keep 151 = .ok (.istore 4, 2) := dk_54 4 (dk_at dksX4_keep_6 11 rfl rfl)
theorem dX4_keep_153 : decode cX4_keep 153 = .ok (.iload 4, 2) := dk_21 4 (dk_at dksX4_keep_6 13 rfl rfl)
theorem dX4_keep_155 : decode cX4_keep 155 = .ok (.bipush 8, 2) := dk_16 8 (dk_at dksX4_keep_6 15 rfl rfl)
theorem dX4_keep_157 : decode cX4_keep 157 = .ok (.if_icmp .ge 44, 3) := dk_162 0 44 (dk_at dksX4_keep_6 17 rfl rfl)
theorem dX4_keep_160 : decode cX4_keep 160 = .ok (.aload_n 0, 1) := dk_42 (dk_at dksX4_keep_6 20 rfl rfl)
theorem dX4_keep_161 : decode cX4_keep 161 = .ok (.getfield 157, 3) := dk_180 0 157 (dk_at dksX4_keep_6 21 rfl rfl)
theorem dX4_keep_164 : decode cX4_keep 164 = .ok (.bipush 8, 2) := dk_16 8 (dk_at dksX4_keep_7 0 rfl rfl)
theorem dX4_keep_166 : decode cX4_keep 166 = .ok (.iload_n 3, 1) := dk_29 (dk_at dksX4_keep_7 2 rfl rfl)
theorem dX4_keep_167 : decode cX4_keep 167 = .ok (.imul, 1) := dk_104 (dk_at dksX4_keep_7 3 rfl rfl)
theorem dX4_keep_168 : decode cX4_keep 168 = .ok (.iload 4, 2) := dk_21 4 (dk_at dksX4_keep_7 4 rfl rfl)
theorem dX4_keep_170 : decode cX4_keep 170 = .ok (.iadd, 1) := dk_96 (dk_at dksX4_keep_7 6 rfl rfl)
theorem dX4_keep_171 : decode cX4_keep 171 = .ok (.iaload, 1) := dk_46 (dk_at dksX4_keep_7 7 rfl rfl)
theorem dX4_keep_172 : decode cX4_keep 172 = .ok (.ifCond .lt 23, 3) := dk_155 0 23 (dk_at dksX4_keep_7 8 rfl rfl)
theorem dX4_keep_175 : decode cX4_keep 175 = .ok (.aload_n 0, 1) := dk_42 (dk_at dksX4_keep_7 11 rfl rfl)
theorem dX4_keep_176 : decode cX4_keep 176 = .ok (.iload_n 3, 1) := dk_29 (dk_at dksX4_keep_7 12 rfl rfl)
theorem dX4_keep_177 : decode cX4_keep 177 = .ok (.iload 4, 2) := dk_21 4 (dk_at dksX4_keep_7 13 rfl rfl)
theorem dX4_keep_179 : decode cX4_keep 179 = .ok (.aload_n 0, 1) := dk_42 (dk_at dksX4_keep_7 15 rfl rfl)
theorem dX4_keep_180 : decode cX4_keep 180 = .ok (.getfield 157, 3) := dk_180 0 157 (dk_at dksX4_keep_7 16 rfl rfl)
theorem dX4_keep_183 : decode cX4_keep 183 = .ok (.bipush 8, 2) := dk_16 8 (dk_at dksX4_keep_7 19 rfl rfl)
theorem dX4_keep_185 : decode cX4_keep 185 = .ok (.iload_n 3, 1) := dk_29 (dk_at dksX4_keep_7 21 rfl rfl)
theorem dX4_keep_186 : decode cX4_keep 186 = .ok (.imul, 1) := dk_104 (dk_at dksX4_keep_7 22 rfl rfl)
theorem dX4_keep_187 : decode cX4_keep 187 = .ok (.iload 4, 2) := dk_21 4 (dk_at dksX4_keep_8 0 rfl rfl)
theorem dX4_keep_189 : decode cX4_keep 189 = .ok (.iadd, 1) := dk_96 (dk_at dksX4_keep_8 2 rfl rfl)
theorem dX4_keep_190 : decode cX4_keep 190 = .ok (.iaload, 1) := dk_46 (dk_at dksX4_keep_8 3 rfl rfl)
theorem dX4_keep_191 : decode cX4_keep 191 = .ok (.iconst 0, 1) := dk_3 (dk_at dksX4_keep_8 4 rfl rfl)
theorem dX4_keep_192 : decode cX4_keep 192 = .ok (.invokevirtual 436, 3) := dk_182 1 180 (dk_at dksX4_keep_8 5 rfl rfl)
theorem dX4_keep_195 : decode cX4_keep 195 = .ok (.iinc 4 1, 3) := dk_132 4 1 (dk_at dksX4_keep_8 8 rfl rfl)
theorem dX4_keep_198 : decode cX4_keep 198 = .ok (.goto (-45), 3) := dk_167 255 211 (dk_at dksX4_keep_8 11 rfl rfl)
theorem dX4_keep_201 : decode cX4_keep 201 = .ok (.iinc 2 1, 3) := dk_132 2 1 (dk_at dksX4_keep_8 14 rfl rfl)
theorem dX4_keep_204 : decode cX4_keep 204 = .ok (.goto (-69), 3) := dk_167 255 187 (dk_at dksX4_keep_8 17 rfl rfl)
theorem dX4_keep_207 : decode cX4_keep 207 = .ok (.aload_n 0, 1) := dk_42 (dk_at dksX4_keep_8 20 rfl rfl)
theorem dX4_keep_208 : decode cX4_keep 208 = .ok (.dup, 1) := dk_89 (dk_at dksX4_keep_8 21 rfl rfl)
theorem dX4_keep_209 : decode cX4_keep 209 = .ok (.getfield 423, 3) := dk_180 1 167 (dk_at dksX4_keep_9 0 rfl rfl)
theorem dX4_keep_212 : decode cX4_keep 212 = .ok (.aload_n 0, 1) := dk_42 (dk_at dksX4_keep_9 3 rfl rfl)
theorem dX4_keep_213 : decode cX4_keep 213 = .ok (.getfield 596, 3) := dk_180 2 84 (dk_at dksX4_keep_9 4 rfl rfl)
theorem dX4_keep_216 : decode cX4_keep 216 = .ok (.iadd, 1) := dk_96 (dk_at dksX4_keep_9 7 rfl rfl)
theorem dX4_keep_217 : decode cX4_keep 217 = .ok (.putfield 423, 3) := dk_181 1 167 (dk_at dksX4_keep_9 8 rfl rfl)
theorem dX4_keep_220 : decode cX4_keep 220 = .ok (.aload_n 0, 1) := dk_42 (dk_at dksX4_keep_9 11 rfl rfl)
theorem dX4_keep_221 : decode cX4_keep 221 = .ok (.dup, 1) := dk_89 (dk_at dksX4_keep_9 12 rfl rfl)
theorem dX4_keep_222 : decode cX4_keep 222 = .ok (.getfield 249, 3) := dk_180 0 249 (dk_at dksX4_keep_9 13 rfl rfl)
theorem dX4_keep_225 : decode cX4_keep 225 = .ok (.iconst 1, 1) := dk_4 (dk_at dksX4_keep_9 16 rfl rfl)
theorem dX4_keep_226 : decode cX4_keep 226 = .ok (.iadd, 1) := dk_96 (dk_at dksX4_keep_9 17 rfl rfl)
theorem dX4_keep_227 : decode cX4_keep 227 = .ok (.putfield 249, 3) := dk_181 0 249 (dk_at dksX4_keep_9 18 rfl rfl)
theorem dX4_keep_230 : decode cX4_keep 230 = .ok (.aload_n 0, 1) := dk_42 (dk_at dksX4_keep_9 21 rfl rfl)
theorem dX4_keep_231 : decode cX4_keep 231 = .ok (.getfield 423, 3) := dk_180 1 167 (dk_at dksX4_keep_10 0 rfl rfl)
theorem dX4_keep_234 : decode cX4_keep 234 = .ok (.ireturn, 1) := dk_172 (dk_at dksX4_keep_10 3 rfl rfl)
abbrev cX4_count : ByteArray := prog_18_method_108_code
def yX4_count : MethodName := ⟨RX4, "count", "(I)I"⟩
def dkwX4_count_3 : List UInt8 := [172, 42, 180, 1, 184, 172, 42, 180, 0, 229, 172, 2, 172]
abbrev dktX4_count_3 : List UInt8 := dkwX4_count_3 ++ []
def dkwX4_count_2 : List UInt8 := [42, 180, 0, 246, 172, 42, 180, 0, 255, 172, 42, 180, 1, 2, 172, 42, 180, 1, 167, 172, 42, 180, 1, 174]
abbrev dktX4_count_2 : List UInt8 := dkwX4_count_2 ++ dktX4_count_3
def dkwX4_count_1 : List UInt8 := [170, 0, 0, 0, 0, 77, 0, 0, 0, 0, 0, 0, 0, 6, 0, 0, 0, 42, 0, 0, 0, 47, 0, 0, 0, 52, 0, 0, 0, 57, 0, 0, 0, 62, 0, 0, 0, 67, 0, 0, 0, 72]
abbrev dktX4_count_1 : List UInt8 := dkwX4_count_1 ++ dktX4_count_2
def dkwX4_count_0 : List UInt8 := [42, 3, 181, 0, 226, 27]
abbrev dktX4_count_0 : List UInt8 := dkwX4_count_0 ++ dktX4_count_1
theorem dksX4_count_0 : cX4_count.data.toList.drop 0 = dktX4_count_0 := by decide +kernel
theorem dksX4_count_1 : cX4_count.data.toList.drop 6 = dktX4_count_1 := dk_seg dksX4_count_0 6 rfl rfl
theorem dksX4_count_2 : cX4_count.data.toList.drop 48 = dktX4_count_2 := dk_seg dksX4_count_1 42 rfl rfl
theorem dksX4_count_3 : cX4_count.data.toList.drop 72 = dktX4_count_3 := dk_seg dksX4_count_2 24 rfl rfl
theorem dX4_count_0 : decode cX4_count 0 = .ok (.aload_n 0, 1) := dk_42 (dk_at dksX4_count_0 0 rfl rfl)
theorem dX4_count_1 : decode cX4_count 1 = .ok (.iconst 0, 1) := dk_3 (dk_at dksX4_count_0 1 rfl rfl)
theorem dX4_count_2 : decode cX4_count 2 = .ok (.putfield 226, 3) := dk_181 0 226 (dk_at dksX4_count_0 2 rfl rfl)
theorem dX4_count_5 : decode cX4_count 5 = .ok (.iload_n 1, 1) := dk_27 (dk_at dksX4_count_0 5 rfl rfl)
theorem dX4_count_6 : decode cX4_count 6 = .ok (.tableswitch 77 0 6 #[42, 47, 52, 57, 62, 67, 72], 42) := by decide +kernel
theorem dX4_count_48 : decode cX4_count 48 = .ok (.aload_n 0, 1) := dk_42 (dk_at dksX4_count_2 0 rfl rfl)
theorem dX4_count_49 : decode cX4_count 49 = .ok (.getfield 246, 3) := dk_180 0 246 (dk_at dksX4_count_2 1 rfl rfl)
theorem dX4_count_52 : decode cX4_count 52 = .ok (.ireturn, 1) := dk_172 (dk_at dksX4_count_2 4 rfl rfl)
theorem dX4_count_53 : decode cX4_count 53 = .ok (.aload_n 0, 1) := dk_42 (dk_at dksX4_count_2 5 rfl rfl)
theorem dX4_count_54 : decode cX4_count 54 = .ok (.getfield 255, 3) := dk_180 0 255 (dk_at dksX4_count_2 6 rfl rfl)
theorem dX4_count_57 : decode cX4_count 57 = .ok (.ireturn, 1) := dk_172 (dk_at dksX4_count_2 9 rfl rfl)
theorem dX4_count_58 : decode cX4_count 58 = .ok (.aload_n 0, 1) := dk_42 (dk_at dksX4_count_2 10 rfl rfl)
theorem dX4_count_59 : decode cX4_count 59 = .ok (.getfield 258, 3) := dk_180 1 2 (dk_at dksX4_count_2 11 rfl rfl)
theorem dX4_count_62 : decode cX4_count 62 = .ok (.ireturn, 1) := dk_172 (dk_at dksX4_count_2 14 rfl rfl)
theorem dX4_count_63 : decode cX4_count 63 = .ok (.aload_n 0, 1) := dk_42 (dk_at dksX4_count_2 15 rfl rfl)
theorem dX4_count_64 : decode cX4_count 64 = .ok (.getfield 423, 3) := dk_180 1 167 (dk_at dksX4_count_2 16 rfl rfl)
theorem dX4_count_67 : decode cX4_count 67 = .ok (.ireturn, 1) := dk_172 (dk_at dksX4_count_2 19 rfl rfl)
theorem dX4_count_68 : decode cX4_count 68 = .ok (.aload_n 0, 1) := dk_42 (dk_at dksX4_count_2 20 rfl rfl)
theorem dX4_count_69 : decode cX4_count 69 = .ok (.getfield 430, 3) := dk_180 1 174 (dk_at dksX4_count_2 21 rfl rfl)
theorem dX4_count_72 : decode cX4_count 72 = .ok (.ireturn, 1) := dk_172 (dk_at dksX4_count_3 0 rfl rfl)
theorem dX4_count_73 : decode cX4_count 73 = .ok (.aload_n 0, 1) := dk_42 (dk_at dksX4_count_3 1 rfl rfl)
theorem dX4_count_74 : decode cX4_count 74 = .ok (.getfield 440, 3) := dk_180 1 184 (dk_at dksX4_count_3 2 rfl rfl)
theorem dX4_count_77 : decode cX4_count 77 = .ok (.ireturn, 1) := dk_172 (dk_at dksX4_count_3 5 rfl rfl)
theorem dX4_count_78 : decode cX4_count 78 = .ok (.aload_n 0, 1) := dk_42 (dk_at dksX4_count_3 6 rfl rfl)
theorem dX4_count_79 : decode cX4_count 79 = .ok (.getfield 229, 3) := dk_180 0 229 (dk_at dksX4_count_3 7 rfl rfl)
theorem dX4_count_82 : decode cX4_count 82 = .ok (.ireturn, 1) := dk_172 (dk_at dksX4_count_3 10 rfl rfl)
theorem dX4_count_83 : decode cX4_count 83 = .ok (.iconst (-1), 1) := dk_2 (dk_at dksX4_count_3 11 rfl rfl)
theorem dX4_count_84 : decode cX4_count 84 = .ok (.ireturn, 1) := dk_172 (dk_at dksX4_count_3 12 rfl rfl)
theorem q136 : (Jvm.Cond.initialized "OperaHouseModel") ∈ lw_all := lw_g (lw_at lw_m1 8 rfl) rfl
theorem q542 : (Jvm.Cond.selects "OperaHouseModel" ({ cls := "java/lang/Object", name := "getClass", desc := "()Ljava/lang/Class;" } : Jvm.MethodName) ({ cls := "java/lang/Object", name := "getClass", desc := "()Ljava/lang/Class;" } : Jvm.MethodName)) ∈ lw_all := lw_g (lw_at lw_m2 174 rfl) rfl
theorem q1703 : (Jvm.Cond.instantiable "OperaHouseModel" (101 : Nat)) ∈ lw_all := lw_g (lw_at lw_m7 135 rfl) rfl
theorem q1705 : (Jvm.Cond.instanceMethod ({ cls := "OperaHouseModel", name := "<init>", desc := "()V" } : Jvm.MethodName)) ∈ lw_all := lw_g (lw_at lw_m7 137 rfl) rfl
theorem q1706 : (Jvm.Cond.code ({ cls := "OperaHouseModel", name := "<init>", desc := "()V" } : Jvm.MethodName) prog_18_method_1_code (1 : Nat) (Option.none : Option Jvm.ClassFile.FieldType)) ∈ lw_all := lw_g (lw_at lw_m7 138 rfl) rfl
theorem q1707 : (Jvm.Cond.methodLink "OperaHouseModel" (1 : Nat) ({ cls := "java/lang/Object", name := "<init>", desc := "()V" } : Jvm.MethodName)) ∈ lw_all := lw_g (lw_at lw_m7 139 rfl) rfl
theorem q1708 : (Jvm.Cond.fieldLink "OperaHouseModel" (226 : Nat) "OperaHouseModel" "thrown" "I") ∈ lw_all := lw_g (lw_at lw_m7 140 rfl) rfl
theorem q1709 : (Jvm.Cond.fieldLink "OperaHouseModel" (7 : Nat) "OperaHouseModel" "tape" "[B") ∈ lw_all := lw_g (lw_at lw_m7 141 rfl) rfl
theorem q1710 : (Jvm.Cond.fieldLink "OperaHouseModel" (229 : Nat) "OperaHouseModel" "length" "I") ∈ lw_all := lw_g (lw_at lw_m7 142 rfl) rfl
theorem q1711 : (Jvm.Cond.fieldLink "OperaHouseModel" (236 : Nat) "OperaHouseModel" "size" "I") ∈ lw_all := lw_g (lw_at lw_m7 143 rfl) rfl
theorem q1712 : (Jvm.Cond.fieldLink "OperaHouseModel" (239 : Nat) "OperaHouseModel" "p" "I") ∈ lw_all := lw_g (lw_at lw_m7 144 rfl) rfl
theorem q1713 : (Jvm.Cond.fieldLink "OperaHouseModel" (246 : Nat) "OperaHouseModel" "today" "I") ∈ lw_all := lw_g (lw_at lw_m7 145 rfl) rfl
theorem q1714 : (Jvm.Cond.fieldLink "OperaHouseModel" (249 : Nat) "OperaHouseModel" "tellings" "I") ∈ lw_all := lw_g (lw_at lw_m7 146 rfl) rfl
theorem q1715 : (Jvm.Cond.fieldLink "OperaHouseModel" (13 : Nat) "OperaHouseModel" "hoursOf" "[I") ∈ lw_all := lw_g (lw_at lw_m7 147 rfl) rfl
theorem q1716 : (Jvm.Cond.fieldLink "OperaHouseModel" (17 : Nat) "OperaHouseModel" "setOf" "[I") ∈ lw_all := lw_g (lw_at lw_m7 148 rfl) rfl
theorem q1717 : (Jvm.Cond.fieldLink "OperaHouseModel" (20 : Nat) "OperaHouseModel" "need" "[I") ∈ lw_all := lw_g (lw_at lw_m7 149 rfl) rfl
theorem q1718 : (Jvm.Cond.fieldLink "OperaHouseModel" (23 : Nat) "OperaHouseModel" "seats" "[I") ∈ lw_all := lw_g (lw_at lw_m7 150 rfl) rfl
theorem q1719 : (Jvm.Cond.fieldLink "OperaHouseModel" (26 : Nat) "OperaHouseModel" "rolesOf" "[I") ∈ lw_all := lw_g (lw_at lw_m7 151 rfl) rfl
theorem q1720 : (Jvm.Cond.fieldLink "OperaHouseModel" (29 : Nat) "OperaHouseModel" "voice" "[I") ∈ lw_all := lw_g (lw_at lw_m7 152 rfl) rfl
theorem q1721 : (Jvm.Cond.fieldLink "OperaHouseModel" (32 : Nat) "OperaHouseModel" "strain" "[I") ∈ lw_all := lw_g (lw_at lw_m7 153 rfl) rfl
theorem q1722 : (Jvm.Cond.fieldLink "OperaHouseModel" (35 : Nat) "OperaHouseModel" "tongue" "[I") ∈ lw_all := lw_g (lw_at lw_m7 154 rfl) rfl
theorem q1723 : (Jvm.Cond.fieldLink "OperaHouseModel" (38 : Nat) "OperaHouseModel" "roleSize" "[I") ∈ lw_all := lw_g (lw_at lw_m7 155 rfl) rfl
theorem q1724 : (Jvm.Cond.fieldLink "OperaHouseModel" (41 : Nat) "OperaHouseModel" "hasChorus" "[Z") ∈ lw_all := lw_g (lw_at lw_m7 156 rfl) rfl
theorem q1725 : (Jvm.Cond.fieldLink "OperaHouseModel" (45 : Nat) "OperaHouseModel" "voices" "[I") ∈ lw_all := lw_g (lw_at lw_m7 157 rfl) rfl
theorem q1726 : (Jvm.Cond.fieldLink "OperaHouseModel" (48 : Nat) "OperaHouseModel" "tongues" "[I") ∈ lw_all := lw_g (lw_at lw_m7 158 rfl) rfl
theorem q1727 : (Jvm.Cond.fieldLink "OperaHouseModel" (51 : Nat) "OperaHouseModel" "sizeOf" "[I") ∈ lw_all := lw_g (lw_at lw_m7 159 rfl) rfl
theorem q1728 : (Jvm.Cond.fieldLink "OperaHouseModel" (54 : Nat) "OperaHouseModel" "half" "[I") ∈ lw_all := lw_g (lw_at lw_m7 160 rfl) rfl
theorem q1729 : (Jvm.Cond.fieldLink "OperaHouseModel" (255 : Nat) "OperaHouseModel" "operas" "I") ∈ lw_all := lw_g (lw_at lw_m7 161 rfl) rfl
theorem q1730 : (Jvm.Cond.fieldLink "OperaHouseModel" (258 : Nat) "OperaHouseModel" "singers" "I") ∈ lw_all := lw_g (lw_at lw_m7 162 rfl) rfl
theorem q1731 : (Jvm.Cond.fieldLink "OperaHouseModel" (57 : Nat) "OperaHouseModel" "daily" "I") ∈ lw_all := lw_g (lw_at lw_m7 163 rfl) rfl
theorem q1732 : (Jvm.Cond.fieldLink "OperaHouseModel" (61 : Nat) "OperaHouseModel" "weekly" "I") ∈ lw_all := lw_g (lw_at lw_m7 164 rfl) rfl
theorem q1733 : (Jvm.Cond.fieldLink "OperaHouseModel" (64 : Nat) "OperaHouseModel" "law" "[I") ∈ lw_all := lw_g (lw_at lw_m7 165 rfl) rfl
theorem q1734 : (Jvm.Cond.fieldLink "OperaHouseModel" (67 : Nat) "OperaHouseModel" "leaves" "[I") ∈ lw_all := lw_g (lw_at lw_m7 166 rfl) rfl
theorem q1735 : (Jvm.Cond.fieldLink "OperaHouseModel" (70 : Nat) "OperaHouseModel" "leaveFrom" "[I") ∈ lw_all := lw_g (lw_at lw_m7 167 rfl) rfl
theorem q1736 : (Jvm.Cond.fieldLink "OperaHouseModel" (73 : Nat) "OperaHouseModel" "leaveTo" "[I") ∈ lw_all := lw_g (lw_at lw_m7 168 rfl) rfl
theorem q1737 : (Jvm.Cond.fieldLink "OperaHouseModel" (76 : Nat) "OperaHouseModel" "fees" "[I") ∈ lw_all := lw_g (lw_at lw_m7 169 rfl) rfl
theorem q1738 : (Jvm.Cond.fieldLink "OperaHouseModel" (79 : Nat) "OperaHouseModel" "feeOf" "[I") ∈ lw_all := lw_g (lw_at lw_m7 170 rfl) rfl
theorem q1739 : (Jvm.Cond.fieldLink "OperaHouseModel" (82 : Nat) "OperaHouseModel" "feeFrom" "[I") ∈ lw_all := lw_g (lw_at lw_m7 171 rfl) rfl
theorem q1740 : (Jvm.Cond.fieldLink "OperaHouseModel" (85 : Nat) "OperaHouseModel" "feeTo" "[I") ∈ lw_all := lw_g (lw_at lw_m7 172 rfl) rfl
theorem q1741 : (Jvm.Cond.fieldLink "OperaHouseModel" (88 : Nat) "OperaHouseModel" "step" "[I") ∈ lw_all := lw_g (lw_at lw_m7 173 rfl) rfl
theorem q1742 : (Jvm.Cond.fieldLink "OperaHouseModel" (91 : Nat) "OperaHouseModel" "stepSign" "[I") ∈ lw_all := lw_g (lw_at lw_m7 174 rfl) rfl
theorem q1743 : (Jvm.Cond.fieldLink "OperaHouseModel" (94 : Nat) "OperaHouseModel" "stepNumber" "[I") ∈ lw_all := lw_g (lw_at lw_m7 175 rfl) rfl
theorem q1744 : (Jvm.Cond.fieldLink "OperaHouseModel" (97 : Nat) "OperaHouseModel" "pile" "[I") ∈ lw_all := lw_g (lw_at lw_m7 176 rfl) rfl
theorem q1745 : (Jvm.Cond.fieldLink "OperaHouseModel" (316 : Nat) "OperaHouseModel" "stepMany" "I") ∈ lw_all := lw_g (lw_at lw_m7 177 rfl) rfl
theorem q1746 : (Jvm.Cond.fieldLink "OperaHouseModel" (381 : Nat) "OperaHouseModel" "pileMany" "I") ∈ lw_all := lw_g (lw_at lw_m7 178 rfl) rfl
theorem q1747 : (Jvm.Cond.fieldLink "OperaHouseModel" (319 : Nat) "OperaHouseModel" "ones" "I") ∈ lw_all := lw_g (lw_at lw_m7 179 rfl) rfl
theorem q1748 : (Jvm.Cond.fieldLink "OperaHouseModel" (278 : Nat) "OperaHouseModel" "token" "I") ∈ lw_all := lw_g (lw_at lw_m7 180 rfl) rfl
theorem q1749 : (Jvm.Cond.fieldLink "OperaHouseModel" (272 : Nat) "OperaHouseModel" "at" "I") ∈ lw_all := lw_g (lw_at lw_m7 181 rfl) rfl
theorem q1750 : (Jvm.Cond.fieldLink "OperaHouseModel" (275 : Nat) "OperaHouseModel" "span" "I") ∈ lw_all := lw_g (lw_at lw_m7 182 rfl) rfl
theorem q1751 : (Jvm.Cond.fieldLink "OperaHouseModel" (288 : Nat) "OperaHouseModel" "number" "I") ∈ lw_all := lw_g (lw_at lw_m7 183 rfl) rfl
theorem q1752 : (Jvm.Cond.fieldLink "OperaHouseModel" (295 : Nat) "OperaHouseModel" "fault" "I") ∈ lw_all := lw_g (lw_at lw_m7 184 rfl) rfl
theorem q1753 : (Jvm.Cond.fieldLink "OperaHouseModel" (298 : Nat) "OperaHouseModel" "faultAt" "I") ∈ lw_all := lw_g (lw_at lw_m7 185 rfl) rfl
theorem q1754 : (Jvm.Cond.fieldLink "OperaHouseModel" (313 : Nat) "OperaHouseModel" "told" "I") ∈ lw_all := lw_g (lw_at lw_m7 186 rfl) rfl
theorem q1755 : (Jvm.Cond.fieldLink "OperaHouseModel" (291 : Nat) "OperaHouseModel" "word" "J") ∈ lw_all := lw_g (lw_at lw_m7 187 rfl) rfl
theorem q1756 : (Jvm.Cond.fieldLink "OperaHouseModel" (100 : Nat) "OperaHouseModel" "learnWho" "[I") ∈ lw_all := lw_g (lw_at lw_m7 188 rfl) rfl
theorem q1757 : (Jvm.Cond.fieldLink "OperaHouseModel" (103 : Nat) "OperaHouseModel" "learnRole" "[I") ∈ lw_all := lw_g (lw_at lw_m7 189 rfl) rfl
theorem q1758 : (Jvm.Cond.fieldLink "OperaHouseModel" (106 : Nat) "OperaHouseModel" "learnHours" "[I") ∈ lw_all := lw_g (lw_at lw_m7 190 rfl) rfl
theorem q1759 : (Jvm.Cond.fieldLink "OperaHouseModel" (109 : Nat) "OperaHouseModel" "learnDay" "[I") ∈ lw_all := lw_g (lw_at lw_m7 191 rfl) rfl
theorem q1760 : (Jvm.Cond.fieldLink "OperaHouseModel" (112 : Nat) "OperaHouseModel" "illWho" "[I") ∈ lw_all := lw_g (lw_at lw_m7 192 rfl) rfl
theorem q1761 : (Jvm.Cond.fieldLink "OperaHouseModel" (115 : Nat) "OperaHouseModel" "illFrom" "[I") ∈ lw_all := lw_g (lw_at lw_m7 193 rfl) rfl
theorem q1762 : (Jvm.Cond.fieldLink "OperaHouseModel" (118 : Nat) "OperaHouseModel" "illTo" "[I") ∈ lw_all := lw_g (lw_at lw_m7 194 rfl) rfl
theorem q1763 : (Jvm.Cond.fieldLink "OperaHouseModel" (121 : Nat) "OperaHouseModel" "illDay" "[I") ∈ lw_all := lw_g (lw_at lw_m7 195 rfl) rfl
theorem q1764 : (Jvm.Cond.fieldLink "OperaHouseModel" (124 : Nat) "OperaHouseModel" "castCall" "[I") ∈ lw_all := lw_g (lw_at lw_m7 196 rfl) rfl
theorem q1765 : (Jvm.Cond.fieldLink "OperaHouseModel" (127 : Nat) "OperaHouseModel" "castRole" "[I") ∈ lw_all := lw_g (lw_at lw_m7 197 rfl) rfl
theorem q1766 : (Jvm.Cond.fieldLink "OperaHouseModel" (130 : Nat) "OperaHouseModel" "castWho" "[I") ∈ lw_all := lw_g (lw_at lw_m7 198 rfl) rfl
theorem q1767 : (Jvm.Cond.fieldLink "OperaHouseModel" (133 : Nat) "OperaHouseModel" "castDay" "[I") ∈ lw_all := lw_g (lw_at lw_m7 199 rfl) rfl
theorem q1768 : (Jvm.Cond.fieldLink "OperaHouseModel" (136 : Nat) "OperaHouseModel" "callDay" "[I") ∈ lw_all := lw_g (lw_at lw_m7 200 rfl) rfl
theorem q1769 : (Jvm.Cond.fieldLink "OperaHouseModel" (139 : Nat) "OperaHouseModel" "begin" "[I") ∈ lw_all := lw_g (lw_at lw_m7 201 rfl) rfl
theorem q1770 : (Jvm.Cond.fieldLink "OperaHouseModel" (142 : Nat) "OperaHouseModel" "finish" "[I") ∈ lw_all := lw_g (lw_at lw_m7 202 rfl) rfl
theorem q1771 : (Jvm.Cond.fieldLink "OperaHouseModel" (145 : Nat) "OperaHouseModel" "kind" "[I") ∈ lw_all := lw_g (lw_at lw_m7 203 rfl) rfl
theorem q1772 : (Jvm.Cond.fieldLink "OperaHouseModel" (148 : Nat) "OperaHouseModel" "operaOf" "[I") ∈ lw_all := lw_g (lw_at lw_m7 204 rfl) rfl
theorem q1773 : (Jvm.Cond.fieldLink "OperaHouseModel" (151 : Nat) "OperaHouseModel" "halves" "[I") ∈ lw_all := lw_g (lw_at lw_m7 205 rfl) rfl
theorem q1774 : (Jvm.Cond.fieldLink "OperaHouseModel" (154 : Nat) "OperaHouseModel" "castCover" "[Z") ∈ lw_all := lw_g (lw_at lw_m7 206 rfl) rfl
theorem q1775 : (Jvm.Cond.fieldLink "OperaHouseModel" (417 : Nat) "OperaHouseModel" "learns" "I") ∈ lw_all := lw_g (lw_at lw_m7 207 rfl) rfl
theorem q1776 : (Jvm.Cond.fieldLink "OperaHouseModel" (440 : Nat) "OperaHouseModel" "ills" "I") ∈ lw_all := lw_g (lw_at lw_m7 208 rfl) rfl
theorem q1777 : (Jvm.Cond.fieldLink "OperaHouseModel" (430 : Nat) "OperaHouseModel" "casts" "I") ∈ lw_all := lw_g (lw_at lw_m7 209 rfl) rfl
theorem q1778 : (Jvm.Cond.fieldLink "OperaHouseModel" (423 : Nat) "OperaHouseModel" "calls" "I") ∈ lw_all := lw_g (lw_at lw_m7 210 rfl) rfl
theorem q1779 : (Jvm.Cond.fieldLink "OperaHouseModel" (446 : Nat) "OperaHouseModel" "all" "I") ∈ lw_all := lw_g (lw_at lw_m7 211 rfl) rfl
theorem q1780 : (Jvm.Cond.fieldLink "OperaHouseModel" (157 : Nat) "OperaHouseModel" "cast" "[I") ∈ lw_all := lw_g (lw_at lw_m7 212 rfl) rfl
theorem q1781 : (Jvm.Cond.fieldLink "OperaHouseModel" (160 : Nat) "OperaHouseModel" "cover" "[I") ∈ lw_all := lw_g (lw_at lw_m7 213 rfl) rfl
theorem q1782 : (Jvm.Cond.fieldLink "OperaHouseModel" (163 : Nat) "OperaHouseModel" "before" "[I") ∈ lw_all := lw_g (lw_at lw_m7 214 rfl) rfl
theorem q1783 : (Jvm.Cond.fieldLink "OperaHouseModel" (166 : Nat) "OperaHouseModel" "order" "[I") ∈ lw_all := lw_g (lw_at lw_m7 215 rfl) rfl
theorem q1784 : (Jvm.Cond.fieldLink "OperaHouseModel" (169 : Nat) "OperaHouseModel" "rank" "[I") ∈ lw_all := lw_g (lw_at lw_m7 216 rfl) rfl
theorem q1785 : (Jvm.Cond.fieldLink "OperaHouseModel" (172 : Nat) "OperaHouseModel" "roster" "[I") ∈ lw_all := lw_g (lw_at lw_m7 217 rfl) rfl
theorem q1786 : (Jvm.Cond.fieldLink "OperaHouseModel" (443 : Nat) "OperaHouseModel" "asOf" "I") ∈ lw_all := lw_g (lw_at lw_m7 218 rfl) rfl
theorem q1787 : (Jvm.Cond.fieldLink "OperaHouseModel" (175 : Nat) "OperaHouseModel" "holds" "[Z") ∈ lw_all := lw_g (lw_at lw_m7 219 rfl) rfl
theorem q1788 : (Jvm.Cond.fieldLink "OperaHouseModel" (178 : Nat) "OperaHouseModel" "may" "[Z") ∈ lw_all := lw_g (lw_at lw_m7 220 rfl) rfl
theorem q1789 : (Jvm.Cond.fieldLink "OperaHouseModel" (181 : Nat) "OperaHouseModel" "was" "[Z") ∈ lw_all := lw_g (lw_at lw_m7 221 rfl) rfl
theorem q1790 : (Jvm.Cond.fieldLink "OperaHouseModel" (184 : Nat) "OperaHouseModel" "busy" "[Z") ∈ lw_all := lw_g (lw_at lw_m7 222 rfl) rfl
theorem q1791 : (Jvm.Cond.fieldLink "OperaHouseModel" (187 : Nat) "OperaHouseModel" "badSet" "[Z") ∈ lw_all := lw_g (lw_at lw_m7 223 rfl) rfl
theorem q1792 : (Jvm.Cond.fieldLink "OperaHouseModel" (190 : Nat) "OperaHouseModel" "wrongKind" "[I") ∈ lw_all := lw_g (lw_at lw_m7 224 rfl) rfl
theorem q1793 : (Jvm.Cond.fieldLink "OperaHouseModel" (193 : Nat) "OperaHouseModel" "wrongCall" "[I") ∈ lw_all := lw_g (lw_at lw_m7 225 rfl) rfl
theorem q1794 : (Jvm.Cond.fieldLink "OperaHouseModel" (196 : Nat) "OperaHouseModel" "wrongRole" "[I") ∈ lw_all := lw_g (lw_at lw_m7 226 rfl) rfl
theorem q1795 : (Jvm.Cond.fieldLink "OperaHouseModel" (199 : Nat) "OperaHouseModel" "mark" "[Z") ∈ lw_all := lw_g (lw_at lw_m7 227 rfl) rfl
theorem q1796 : (Jvm.Cond.fieldLink "OperaHouseModel" (551 : Nat) "OperaHouseModel" "wrongs" "I") ∈ lw_all := lw_g (lw_at lw_m7 228 rfl) rfl
theorem q1797 : (Jvm.Cond.fieldLink "OperaHouseModel" (570 : Nat) "OperaHouseModel" "toldWrongs" "I") ∈ lw_all := lw_g (lw_at lw_m7 229 rfl) rfl
theorem q1798 : (Jvm.Cond.fieldLink "OperaHouseModel" (202 : Nat) "OperaHouseModel" "toldKind" "[I") ∈ lw_all := lw_g (lw_at lw_m7 230 rfl) rfl
theorem q1799 : (Jvm.Cond.fieldLink "OperaHouseModel" (205 : Nat) "OperaHouseModel" "toldCall" "[I") ∈ lw_all := lw_g (lw_at lw_m7 231 rfl) rfl
theorem q1800 : (Jvm.Cond.fieldLink "OperaHouseModel" (208 : Nat) "OperaHouseModel" "toldRole" "[I") ∈ lw_all := lw_g (lw_at lw_m7 232 rfl) rfl
theorem q1801 : (Jvm.Cond.fieldLink "OperaHouseModel" (211 : Nat) "OperaHouseModel" "wish" "[I") ∈ lw_all := lw_g (lw_at lw_m7 233 rfl) rfl
theorem q1802 : (Jvm.Cond.fieldLink "OperaHouseModel" (214 : Nat) "OperaHouseModel" "dayOf" "[I") ∈ lw_all := lw_g (lw_at lw_m7 234 rfl) rfl
theorem q1803 : (Jvm.Cond.fieldLink "OperaHouseModel" (217 : Nat) "OperaHouseModel" "laid" "[I") ∈ lw_all := lw_g (lw_at lw_m7 235 rfl) rfl
theorem q1804 : (Jvm.Cond.fieldLink "OperaHouseModel" (220 : Nat) "OperaHouseModel" "laidWish" "[I") ∈ lw_all := lw_g (lw_at lw_m7 236 rfl) rfl
theorem q1805 : (Jvm.Cond.fieldLink "OperaHouseModel" (599 : Nat) "OperaHouseModel" "wishes" "I") ∈ lw_all := lw_g (lw_at lw_m7 237 rfl) rfl
theorem q1806 : (Jvm.Cond.fieldLink "OperaHouseModel" (596 : Nat) "OperaHouseModel" "laidMany" "I") ∈ lw_all := lw_g (lw_at lw_m7 238 rfl) rfl
theorem q1807 : (Jvm.Cond.fieldLink "OperaHouseModel" (608 : Nat) "OperaHouseModel" "laidHour" "I") ∈ lw_all := lw_g (lw_at lw_m7 239 rfl) rfl
theorem q1808 : (Jvm.Cond.fieldLink "OperaHouseModel" (223 : Nat) "OperaHouseModel" "laidTelling" "I") ∈ lw_all := lw_g (lw_at lw_m8 0 rfl) rfl
theorem q1809 : (Jvm.Cond.lays "OperaHouseModel" "OperaHouseModel" "thrown" "I") ∈ lw_all := lw_g (lw_at lw_m8 1 rfl) rfl
theorem q1810 : (Jvm.Cond.soleField "OperaHouseModel" "thrown") ∈ lw_all := lw_g (lw_at lw_m8 2 rfl) rfl
theorem q1811 : (Jvm.Cond.laysFinal "OperaHouseModel" "OperaHouseModel" "tape" "[B") ∈ lw_all := lw_g (lw_at lw_m8 3 rfl) rfl
theorem q1812 : (Jvm.Cond.soleField "OperaHouseModel" "tape") ∈ lw_all := lw_g (lw_at lw_m8 4 rfl) rfl
theorem q1813 : (Jvm.Cond.lays "OperaHouseModel" "OperaHouseModel" "length" "I") ∈ lw_all := lw_g (lw_at lw_m8 5 rfl) rfl
theorem q1814 : (Jvm.Cond.soleField "OperaHouseModel" "length") ∈ lw_all := lw_g (lw_at lw_m8 6 rfl) rfl
theorem q1815 : (Jvm.Cond.lays "OperaHouseModel" "OperaHouseModel" "size" "I") ∈ lw_all := lw_g (lw_at lw_m8 7 rfl) rfl
theorem q1816 : (Jvm.Cond.soleField "OperaHouseModel" "size") ∈ lw_all := lw_g (lw_at lw_m8 8 rfl) rfl
theorem q1817 : (Jvm.Cond.lays "OperaHouseModel" "OperaHouseModel" "p" "I") ∈ lw_all := lw_g (lw_at lw_m8 9 rfl) rfl
theorem q1818 : (Jvm.Cond.soleField "OperaHouseModel" "p") ∈ lw_all := lw_g (lw_at lw_m8 10 rfl) rfl
theorem q1819 : (Jvm.Cond.lays "OperaHouseModel" "OperaHouseModel" "today" "I") ∈ lw_all := lw_g (lw_at lw_m8 11 rfl) rfl
theorem q1820 : (Jvm.Cond.soleField "OperaHouseModel" "today") ∈ lw_all := lw_g (lw_at lw_m8 12 rfl) rfl
theorem q1821 : (Jvm.Cond.lays "OperaHouseModel" "OperaHouseModel" "tellings" "I") ∈ lw_all := lw_g (lw_at lw_m8 13 rfl) rfl
theorem q1822 : (Jvm.Cond.soleField "OperaHouseModel" "tellings") ∈ lw_all := lw_g (lw_at lw_m8 14 rfl) rfl
theorem q1823 : (Jvm.Cond.laysFinal "OperaHouseModel" "OperaHouseModel" "hoursOf" "[I") ∈ lw_all := lw_g (lw_at lw_m8 15 rfl) rfl
theorem q1824 : (Jvm.Cond.soleField "OperaHouseModel" "hoursOf") ∈ lw_all := lw_g (lw_at lw_m8 16 rfl) rfl
theorem q1825 : (Jvm.Cond.laysFinal "OperaHouseModel" "OperaHouseModel" "setOf" "[I") ∈ lw_all := lw_g (lw_at lw_m8 17 rfl) rfl
theorem q1826 : (Jvm.Cond.soleField "OperaHouseModel" "setOf") ∈ lw_all := lw_g (lw_at lw_m8 18 rfl) rfl
theorem q1827 : (Jvm.Cond.laysFinal "OperaHouseModel" "OperaHouseModel" "need" "[I") ∈ lw_all := lw_g (lw_at lw_m8 19 rfl) rfl
theorem q1828 : (Jvm.Cond.soleField "OperaHouseModel" "need") ∈ lw_all := lw_g (lw_at lw_m8 20 rfl) rfl
theorem q1829 : (Jvm.Cond.laysFinal "OperaHouseModel" "OperaHouseModel" "seats" "[I") ∈ lw_all := lw_g (lw_at lw_m8 21 rfl) rfl
theorem q1830 : (Jvm.Cond.soleField "OperaHouseModel" "seats") ∈ lw_all := lw_g (lw_at lw_m8 22 rfl) rfl
theorem q1831 : (Jvm.Cond.laysFinal "OperaHouseModel" "OperaHouseModel" "rolesOf" "[I") ∈ lw_all := lw_g (lw_at lw_m8 23 rfl) rfl
theorem q1832 : (Jvm.Cond.soleField "OperaHouseModel" "rolesOf") ∈ lw_all := lw_g (lw_at lw_m8 24 rfl) rfl
theorem q1833 : (Jvm.Cond.laysFinal "OperaHouseModel" "OperaHouseModel" "voice" "[I") ∈ lw_all := lw_g (lw_at lw_m8 25 rfl) rfl
theorem q1834 : (Jvm.Cond.soleField "OperaHouseModel" "voice") ∈ lw_all := lw_g (lw_at lw_m8 26 rfl) rfl
theorem q1835 : (Jvm.Cond.laysFinal "OperaHouseModel" "OperaHouseModel" "strain" "[I") ∈ lw_all := lw_g (lw_at lw_m8 27 rfl) rfl
theorem q1836 : (Jvm.Cond.soleField "OperaHouseModel" "strain") ∈ lw_all := lw_g (lw_at lw_m8 28 rfl) rfl
theorem q1837 : (Jvm.Cond.laysFinal "OperaHouseModel" "OperaHouseModel" "tongue" "[I") ∈ lw_all := lw_g (lw_at lw_m8 29 rfl) rfl
theorem q1838 : (Jvm.Cond.soleField "OperaHouseModel" "tongue") ∈ lw_all := lw_g (lw_at lw_m8 30 rfl) rfl
theorem q1839 : (Jvm.Cond.laysFinal "OperaHouseModel" "OperaHouseModel" "roleSize" "[I") ∈ lw_all := lw_g (lw_at lw_m8 31 rfl) rfl
theorem q1840 : (Jvm.Cond.soleField "OperaHouseModel" "roleSize") ∈ lw_all := lw_g (lw_at lw_m8 32 rfl) rfl
theorem q1841 : (Jvm.Cond.laysFinal "OperaHouseModel" "OperaHouseModel" "hasChorus" "[Z") ∈ lw_all := lw_g (lw_at lw_m8 33 rfl) rfl
theorem q1842 : (Jvm.Cond.soleField "OperaHouseModel" "hasChorus") ∈ lw_all := lw_g (lw_at lw_m8 34 rfl) rfl
theorem q1843 : (Jvm.Cond.laysFinal "OperaHouseModel" "OperaHouseModel" "voices" "[I") ∈ lw_all := lw_g (lw_at lw_m8 35 rfl) rfl
theorem q1844 : (Jvm.Cond.soleField "OperaHouseModel" "voices") ∈ lw_all := lw_g (lw_at lw_m8 36 rfl) rfl
theorem q1845 : (Jvm.Cond.laysFinal "OperaHouseModel" "OperaHouseModel" "tongues" "[I") ∈ lw_all := lw_g (lw_at lw_m8 37 rfl) rfl
theorem q1846 : (Jvm.Cond.soleField "OperaHouseModel" "tongues") ∈ lw_all := lw_g (lw_at lw_m8 38 rfl) rfl
theorem q1847 : (Jvm.Cond.laysFinal "OperaHouseModel" "OperaHouseModel" "sizeOf" "[I") ∈ lw_all := lw_g (lw_at lw_m8 39 rfl) rfl
theorem q1848 : (Jvm.Cond.soleField "OperaHouseModel" "sizeOf") ∈ lw_all := lw_g (lw_at lw_m8 40 rfl) rfl
theorem q1849 : (Jvm.Cond.laysFinal "OperaHouseModel" "OperaHouseModel" "half" "[I") ∈ lw_all := lw_g (lw_at lw_m8 41 rfl) rfl
theorem q1850 : (Jvm.Cond.soleField "OperaHouseModel" "half") ∈ lw_all := lw_g (lw_at lw_m8 42 rfl) rfl
theorem q1851 : (Jvm.Cond.lays "OperaHouseModel" "OperaHouseModel" "operas" "I") ∈ lw_all := lw_g (lw_at lw_m8 43 rfl) rfl
theorem q1852 : (Jvm.Cond.soleField "OperaHouseModel" "operas") ∈ lw_all := lw_g (lw_at lw_m8 44 rfl) rfl
theorem q1853 : (Jvm.Cond.lays "OperaHouseModel" "OperaHouseModel" "singers" "I") ∈ lw_all := lw_g (lw_at lw_m8 45 rfl) rfl
theorem q1854 : (Jvm.Cond.soleField "OperaHouseModel" "singers") ∈ lw_all := lw_g (lw_at lw_m8 46 rfl) rfl
theorem q1855 : (Jvm.Cond.lays "OperaHouseModel" "OperaHouseModel" "daily" "I") ∈ lw_all := lw_g (lw_at lw_m8 47 rfl) rfl
theorem q1856 : (Jvm.Cond.soleField "OperaHouseModel" "daily") ∈ lw_all := lw_g (lw_at lw_m8 48 rfl) rfl
theorem q1857 : (Jvm.Cond.lays "OperaHouseModel" "OperaHouseModel" "weekly" "I") ∈ lw_all := lw_g (lw_at lw_m8 49 rfl) rfl
theorem q1858 : (Jvm.Cond.soleField "OperaHouseModel" "weekly") ∈ lw_all := lw_g (lw_at lw_m8 50 rfl) rfl
theorem q1859 : (Jvm.Cond.laysFinal "OperaHouseModel" "OperaHouseModel" "law" "[I") ∈ lw_all := lw_g (lw_at lw_m8 51 rfl) rfl
theorem q1860 : (Jvm.Cond.soleField "OperaHouseModel" "law") ∈ lw_all := lw_g (lw_at lw_m8 52 rfl) rfl
theorem q1861 : (Jvm.Cond.laysFinal "OperaHouseModel" "OperaHouseModel" "leaves" "[I") ∈ lw_all := lw_g (lw_at lw_m8 53 rfl) rfl
theorem q1862 : (Jvm.Cond.soleField "OperaHouseModel" "leaves") ∈ lw_all := lw_g (lw_at lw_m8 54 rfl) rfl
theorem q1863 : (Jvm.Cond.laysFinal "OperaHouseModel" "OperaHouseModel" "leaveFrom" "[I") ∈ lw_all := lw_g (lw_at lw_m8 55 rfl) rfl
theorem q1864 : (Jvm.Cond.soleField "OperaHouseModel" "leaveFrom") ∈ lw_all := lw_g (lw_at lw_m8 56 rfl) rfl
theorem q1865 : (Jvm.Cond.laysFinal "OperaHouseModel" "OperaHouseModel" "leaveTo" "[I") ∈ lw_all := lw_g (lw_at lw_m8 57 rfl) rfl
theorem q1866 : (Jvm.Cond.soleField "OperaHouseModel" "leaveTo") ∈ lw_all := lw_g (lw_at lw_m8 58 rfl) rfl
theorem q1867 : (Jvm.Cond.laysFinal "OperaHouseModel" "OperaHouseModel" "fees" "[I") ∈ lw_all := lw_g (lw_at lw_m8 59 rfl) rfl
theorem q1868 : (Jvm.Cond.soleField "OperaHouseModel" "fees") ∈ lw_all := lw_g (lw_at lw_m8 60 rfl) rfl
theorem q1869 : (Jvm.Cond.laysFinal "OperaHouseModel" "OperaHouseModel" "feeOf" "[I") ∈ lw_all := lw_g (lw_at lw_m8 61 rfl) rfl
theorem q1870 : (Jvm.Cond.soleField "OperaHouseModel" "feeOf") ∈ lw_all := lw_g (lw_at lw_m8 62 rfl) rfl
theorem q1871 : (Jvm.Cond.laysFinal "OperaHouseModel" "OperaHouseModel" "feeFrom" "[I") ∈ lw_all := lw_g (lw_at lw_m8 63 rfl) rfl
theorem q1872 : (Jvm.Cond.soleField "OperaHouseModel" "feeFrom") ∈ lw_all := lw_g (lw_at lw_m8 64 rfl) rfl
theorem q1873 : (Jvm.Cond.laysFinal "OperaHouseModel" "OperaHouseModel" "feeTo" "[I") ∈ lw_all := lw_g (lw_at lw_m8 65 rfl) rfl
theorem q1874 : (Jvm.Cond.soleField "OperaHouseModel" "feeTo") ∈ lw_all := lw_g (lw_at lw_m8 66 rfl) rfl
theorem q1875 : (Jvm.Cond.laysFinal "OperaHouseModel" "OperaHouseModel" "step" "[I") ∈ lw_all := lw_g (lw_at lw_m8 67 rfl) rfl
theorem q1876 : (Jvm.Cond.soleField "OperaHouseModel" "step") ∈ lw_all := lw_g (lw_at lw_m8 68 rfl) rfl
theorem q1877 : (Jvm.Cond.laysFinal "OperaHouseModel" "OperaHouseModel" "stepSign" "[I") ∈ lw_all := lw_g (lw_at lw_m8 69 rfl) rfl
theorem q1878 : (Jvm.Cond.soleField "OperaHouseModel" "stepSign") ∈ lw_all := lw_g (lw_at lw_m8 70 rfl) rfl
theorem q1879 : (Jvm.Cond.laysFinal "OperaHouseModel" "OperaHouseModel" "stepNumber" "[I") ∈ lw_all := lw_g (lw_at lw_m8 71 rfl) rfl
theorem q1880 : (Jvm.Cond.soleField "OperaHouseModel" "stepNumber") ∈ lw_all := lw_g (lw_at lw_m8 72 rfl) rfl
theorem q1881 : (Jvm.Cond.laysFinal "OperaHouseModel" "OperaHouseModel" "pile" "[I") ∈ lw_all := lw_g (lw_at lw_m8 73 rfl) rfl
theorem q1882 : (Jvm.Cond.soleField "OperaHouseModel" "pile") ∈ lw_all := lw_g (lw_at lw_m8 74 rfl) rfl
theorem q1883 : (Jvm.Cond.lays "OperaHouseModel" "OperaHouseModel" "stepMany" "I") ∈ lw_all := lw_g (lw_at lw_m8 75 rfl) rfl
theorem q1884 : (Jvm.Cond.soleField "OperaHouseModel" "stepMany") ∈ lw_all := lw_g (lw_at lw_m8 76 rfl) rfl
theorem q1885 : (Jvm.Cond.lays "OperaHouseModel" "OperaHouseModel" "pileMany" "I") ∈ lw_all := lw_g (lw_at lw_m8 77 rfl) rfl
theorem q1886 : (Jvm.Cond.soleField "OperaHouseModel" "pileMany") ∈ lw_all := lw_g (lw_at lw_m8 78 rfl) rfl
theorem q1887 : (Jvm.Cond.lays "OperaHouseModel" "OperaHouseModel" "ones" "I") ∈ lw_all := lw_g (lw_at lw_m8 79 rfl) rfl
theorem q1888 : (Jvm.Cond.soleField "OperaHouseModel" "ones") ∈ lw_all := lw_g (lw_at lw_m8 80 rfl) rfl
theorem q1889 : (Jvm.Cond.lays "OperaHouseModel" "OperaHouseModel" "token" "I") ∈ lw_all := lw_g (lw_at lw_m8 81 rfl) rfl
theorem q1890 : (Jvm.Cond.soleField "OperaHouseModel" "token") ∈ lw_all := lw_g (lw_at lw_m8 82 rfl) rfl
theorem q1891 : (Jvm.Cond.lays "OperaHouseModel" "OperaHouseModel" "at" "I") ∈ lw_all := lw_g (lw_at lw_m8 83 rfl) rfl
theorem q1892 : (Jvm.Cond.soleField "OperaHouseModel" "at") ∈ lw_all := lw_g (lw_at lw_m8 84 rfl) rfl
theorem q1893 : (Jvm.Cond.lays "OperaHouseModel" "OperaHouseModel" "span" "I") ∈ lw_all := lw_g (lw_at lw_m8 85 rfl) rfl
theorem q1894 : (Jvm.Cond.soleField "OperaHouseModel" "span") ∈ lw_all := lw_g (lw_at lw_m8 86 rfl) rfl
theorem q1895 : (Jvm.Cond.lays "OperaHouseModel" "OperaHouseModel" "number" "I") ∈ lw_all := lw_g (lw_at lw_m8 87 rfl) rfl
theorem q1896 : (Jvm.Cond.soleField "OperaHouseModel" "number") ∈ lw_all := lw_g (lw_at lw_m8 88 rfl) rfl
theorem q1897 : (Jvm.Cond.lays "OperaHouseModel" "OperaHouseModel" "fault" "I") ∈ lw_all := lw_g (lw_at lw_m8 89 rfl) rfl
theorem q1898 : (Jvm.Cond.soleField "OperaHouseModel" "fault") ∈ lw_all := lw_g (lw_at lw_m8 90 rfl) rfl
theorem q1899 : (Jvm.Cond.lays "OperaHouseModel" "OperaHouseModel" "faultAt" "I") ∈ lw_all := lw_g (lw_at lw_m8 91 rfl) rfl
theorem q1900 : (Jvm.Cond.soleField "OperaHouseModel" "faultAt") ∈ lw_all := lw_g (lw_at lw_m8 92 rfl) rfl
theorem q1901 : (Jvm.Cond.lays "OperaHouseModel" "OperaHouseModel" "told" "I") ∈ lw_all := lw_g (lw_at lw_m8 93 rfl) rfl
theorem q1902 : (Jvm.Cond.soleField "OperaHouseModel" "told") ∈ lw_all := lw_g (lw_at lw_m8 94 rfl) rfl
theorem q1903 : (Jvm.Cond.lays "OperaHouseModel" "OperaHouseModel" "word" "J") ∈ lw_all := lw_g (lw_at lw_m8 95 rfl) rfl
theorem q1904 : (Jvm.Cond.soleField "OperaHouseModel" "word") ∈ lw_all := lw_g (lw_at lw_m8 96 rfl) rfl
theorem q1905 : (Jvm.Cond.laysFinal "OperaHouseModel" "OperaHouseModel" "learnWho" "[I") ∈ lw_all := lw_g (lw_at lw_m8 97 rfl) rfl
theorem q1906 : (Jvm.Cond.soleField "OperaHouseModel" "learnWho") ∈ lw_all := lw_g (lw_at lw_m8 98 rfl) rfl
theorem q1907 : (Jvm.Cond.laysFinal "OperaHouseModel" "OperaHouseModel" "learnRole" "[I") ∈ lw_all := lw_g (lw_at lw_m8 99 rfl) rfl
theorem q1908 : (Jvm.Cond.soleField "OperaHouseModel" "learnRole") ∈ lw_all := lw_g (lw_at lw_m8 100 rfl) rfl
theorem q1909 : (Jvm.Cond.laysFinal "OperaHouseModel" "OperaHouseModel" "learnHours" "[I") ∈ lw_all := lw_g (lw_at lw_m8 101 rfl) rfl
theorem q1910 : (Jvm.Cond.soleField "OperaHouseModel" "learnHours") ∈ lw_all := lw_g (lw_at lw_m8 102 rfl) rfl
theorem q1911 : (Jvm.Cond.laysFinal "OperaHouseModel" "OperaHouseModel" "learnDay" "[I") ∈ lw_all := lw_g (lw_at lw_m8 103 rfl) rfl
theorem q1912 : (Jvm.Cond.soleField "OperaHouseModel" "learnDay") ∈ lw_all := lw_g (lw_at lw_m8 104 rfl) rfl
theorem q1913 : (Jvm.Cond.laysFinal "OperaHouseModel" "OperaHouseModel" "illWho" "[I") ∈ lw_all := lw_g (lw_at lw_m8 105 rfl) rfl
theorem q1914 : (Jvm.Cond.soleField "OperaHouseModel" "illWho") ∈ lw_all := lw_g (lw_at lw_m8 106 rfl) rfl
theorem q1915 : (Jvm.Cond.laysFinal "OperaHouseModel" "OperaHouseModel" "illFrom" "[I") ∈ lw_all := lw_g (lw_at lw_m8 107 rfl) rfl
theorem q1916 : (Jvm.Cond.soleField "OperaHouseModel" "illFrom") ∈ lw_all := lw_g (lw_at lw_m8 108 rfl) rfl
theorem q1917 : (Jvm.Cond.laysFinal "OperaHouseModel" "OperaHouseModel" "illTo" "[I") ∈ lw_all := lw_g (lw_at lw_m8 109 rfl) rfl
theorem q1918 : (Jvm.Cond.soleField "OperaHouseModel" "illTo") ∈ lw_all := lw_g (lw_at lw_m8 110 rfl) rfl
theorem q1919 : (Jvm.Cond.laysFinal "OperaHouseModel" "OperaHouseModel" "illDay" "[I") ∈ lw_all := lw_g (lw_at lw_m8 111 rfl) rfl
theorem q1920 : (Jvm.Cond.soleField "OperaHouseModel" "illDay") ∈ lw_all := lw_g (lw_at lw_m8 112 rfl) rfl
theorem q1921 : (Jvm.Cond.laysFinal "OperaHouseModel" "OperaHouseModel" "castCall" "[I") ∈ lw_all := lw_g (lw_at lw_m8 113 rfl) rfl
theorem q1922 : (Jvm.Cond.soleField "OperaHouseModel" "castCall") ∈ lw_all := lw_g (lw_at lw_m8 114 rfl) rfl
theorem q1923 : (Jvm.Cond.laysFinal "OperaHouseModel" "OperaHouseModel" "castRole" "[I") ∈ lw_all := lw_g (lw_at lw_m8 115 rfl) rfl
theorem q1924 : (Jvm.Cond.soleField "OperaHouseModel" "castRole") ∈ lw_all := lw_g (lw_at lw_m8 116 rfl) rfl
theorem q1925 : (Jvm.Cond.laysFinal "OperaHouseModel" "OperaHouseModel" "castWho" "[I") ∈ lw_all := lw_g (lw_at lw_m8 117 rfl) rfl
theorem q1926 : (Jvm.Cond.soleField "OperaHouseModel" "castWho") ∈ lw_all := lw_g (lw_at lw_m8 118 rfl) rfl
theorem q1927 : (Jvm.Cond.laysFinal "OperaHouseModel" "OperaHouseModel" "castDay" "[I") ∈ lw_all := lw_g (lw_at lw_m8 119 rfl) rfl
theorem q1928 : (Jvm.Cond.soleField "OperaHouseModel" "castDay") ∈ lw_all := lw_g (lw_at lw_m8 120 rfl) rfl
theorem q1929 : (Jvm.Cond.laysFinal "OperaHouseModel" "OperaHouseModel" "callDay" "[I") ∈ lw_all := lw_g (lw_at lw_m8 121 rfl) rfl
theorem q1930 : (Jvm.Cond.soleField "OperaHouseModel" "callDay") ∈ lw_all := lw_g (lw_at lw_m8 122 rfl) rfl
theorem q1931 : (Jvm.Cond.laysFinal "OperaHouseModel" "OperaHouseModel" "begin" "[I") ∈ lw_all := lw_g (lw_at lw_m8 123 rfl) rfl
theorem q1932 : (Jvm.Cond.soleField "OperaHouseModel" "begin") ∈ lw_all := lw_g (lw_at lw_m8 124 rfl) rfl
theorem q1933 : (Jvm.Cond.laysFinal "OperaHouseModel" "OperaHouseModel" "finish" "[I") ∈ lw_all := lw_g (lw_at lw_m8 125 rfl) rfl
theorem q1934 : (Jvm.Cond.soleField "OperaHouseModel" "finish") ∈ lw_all := lw_g (lw_at lw_m8 126 rfl) rfl
theorem q1935 : (Jvm.Cond.laysFinal "OperaHouseModel" "OperaHouseModel" "kind" "[I") ∈ lw_all := lw_g (lw_at lw_m8 127 rfl) rfl
theorem q1936 : (Jvm.Cond.soleField "OperaHouseModel" "kind") ∈ lw_all := lw_g (lw_at lw_m8 128 rfl) rfl
theorem q1937 : (Jvm.Cond.laysFinal "OperaHouseModel" "OperaHouseModel" "operaOf" "[I") ∈ lw_all := lw_g (lw_at lw_m8 129 rfl) rfl
theorem q1938 : (Jvm.Cond.soleField "OperaHouseModel" "operaOf") ∈ lw_all := lw_g (lw_at lw_m8 130 rfl) rfl
theorem q1939 : (Jvm.Cond.laysFinal "OperaHouseModel" "OperaHouseModel" "halves" "[I") ∈ lw_all := lw_g (lw_at lw_m8 131 rfl) rfl
theorem q1940 : (Jvm.Cond.soleField "OperaHouseModel" "halves") ∈ lw_all := lw_g (lw_at lw_m8 132 rfl) rfl
theorem q1941 : (Jvm.Cond.laysFinal "OperaHouseModel" "OperaHouseModel" "castCover" "[Z") ∈ lw_all := lw_g (lw_at lw_m8 133 rfl) rfl
theorem q1942 : (Jvm.Cond.soleField "OperaHouseModel" "castCover") ∈ lw_all := lw_g (lw_at lw_m8 134 rfl) rfl
theorem q1943 : (Jvm.Cond.lays "OperaHouseModel" "OperaHouseModel" "learns" "I") ∈ lw_all := lw_g (lw_at lw_m8 135 rfl) rfl
theorem q1944 : (Jvm.Cond.soleField "OperaHouseModel" "learns") ∈ lw_all := lw_g (lw_at lw_m8 136 rfl) rfl
theorem q1945 : (Jvm.Cond.lays "OperaHouseModel" "OperaHouseModel" "ills" "I") ∈ lw_all := lw_g (lw_at lw_m8 137 rfl) rfl
theorem q1946 : (Jvm.Cond.soleField "OperaHouseModel" "ills") ∈ lw_all := lw_g (lw_at lw_m8 138 rfl) rfl
theorem q1947 : (Jvm.Cond.lays "OperaHouseModel" "OperaHouseModel" "casts" "I") ∈ lw_all := lw_g (lw_at lw_m8 139 rfl) rfl
theorem q1948 : (Jvm.Cond.soleField "OperaHouseModel" "casts") ∈ lw_all := lw_g (lw_at lw_m8 140 rfl) rfl
theorem q1949 : (Jvm.Cond.lays "OperaHouseModel" "OperaHouseModel" "calls" "I") ∈ lw_all := lw_g (lw_at lw_m8 141 rfl) rfl
theorem q1950 : (Jvm.Cond.soleField "OperaHouseModel" "calls") ∈ lw_all := lw_g (lw_at lw_m8 142 rfl) rfl
theorem q1951 : (Jvm.Cond.lays "OperaHouseModel" "OperaHouseModel" "all" "I") ∈ lw_all := lw_g (lw_at lw_m8 143 rfl) rfl
theorem q1952 : (Jvm.Cond.soleField "OperaHouseModel" "all") ∈ lw_all := lw_g (lw_at lw_m8 144 rfl) rfl
theorem q1953 : (Jvm.Cond.laysFinal "OperaHouseModel" "OperaHouseModel" "cast" "[I") ∈ lw_all := lw_g (lw_at lw_m8 145 rfl) rfl
theorem q1954 : (Jvm.Cond.soleField "OperaHouseModel" "cast") ∈ lw_all := lw_g (lw_at lw_m8 146 rfl) rfl
theorem q1955 : (Jvm.Cond.laysFinal "OperaHouseModel" "OperaHouseModel" "cover" "[I") ∈ lw_all := lw_g (lw_at lw_m8 147 rfl) rfl
theorem q1956 : (Jvm.Cond.soleField "OperaHouseModel" "cover") ∈ lw_all := lw_g (lw_at lw_m8 148 rfl) rfl
theorem q1957 : (Jvm.Cond.laysFinal "OperaHouseModel" "OperaHouseModel" "before" "[I") ∈ lw_all := lw_g (lw_at lw_m8 149 rfl) rfl
theorem q1958 : (Jvm.Cond.soleField "OperaHouseModel" "before") ∈ lw_all := lw_g (lw_at lw_m8 150 rfl) rfl
theorem q1959 : (Jvm.Cond.laysFinal "OperaHouseModel" "OperaHouseModel" "order" "[I") ∈ lw_all := lw_g (lw_at lw_m8 151 rfl) rfl
theorem q1960 : (Jvm.Cond.soleField "OperaHouseModel" "order") ∈ lw_all := lw_g (lw_at lw_m8 152 rfl) rfl
theorem q1961 : (Jvm.Cond.laysFinal "OperaHouseModel" "OperaHouseModel" "rank" "[I") ∈ lw_all := lw_g (lw_at lw_m8 153 rfl) rfl
theorem q1962 : (Jvm.Cond.soleField "OperaHouseModel" "rank") ∈ lw_all := lw_g (lw_at lw_m8 154 rfl) rfl
theorem q1963 : (Jvm.Cond.laysFinal "OperaHouseModel" "OperaHouseModel" "roster" "[I") ∈ lw_all := lw_g (lw_at lw_m8 155 rfl) rfl
theorem q1964 : (Jvm.Cond.soleField "OperaHouseModel" "roster") ∈ lw_all := lw_g (lw_at lw_m8 156 rfl) rfl
theorem q1965 : (Jvm.Cond.lays "OperaHouseModel" "OperaHouseModel" "asOf" "I") ∈ lw_all := lw_g (lw_at lw_m8 157 rfl) rfl
theorem q1966 : (Jvm.Cond.soleField "OperaHouseModel" "asOf") ∈ lw_all := lw_g (lw_at lw_m8 158 rfl) rfl
theorem q1967 : (Jvm.Cond.laysFinal "OperaHouseModel" "OperaHouseModel" "holds" "[Z") ∈ lw_all := lw_g (lw_at lw_m8 159 rfl) rfl
theorem q1968 : (Jvm.Cond.soleField "OperaHouseModel" "holds") ∈ lw_all := lw_g (lw_at lw_m8 160 rfl) rfl
theorem q1969 : (Jvm.Cond.laysFinal "OperaHouseModel" "OperaHouseModel" "may" "[Z") ∈ lw_all := lw_g (lw_at lw_m8 161 rfl) rfl
theorem q1970 : (Jvm.Cond.soleField "OperaHouseModel" "may") ∈ lw_all := lw_g (lw_at lw_m8 162 rfl) rfl
theorem q1971 : (Jvm.Cond.laysFinal "OperaHouseModel" "OperaHouseModel" "was" "[Z") ∈ lw_all := lw_g (lw_at lw_m8 163 rfl) rfl
theorem q1972 : (Jvm.Cond.soleField "OperaHouseModel" "was") ∈ lw_all := lw_g (lw_at lw_m8 164 rfl) rfl
theorem q1973 : (Jvm.Cond.laysFinal "OperaHouseModel" "OperaHouseModel" "busy" "[Z") ∈ lw_all := lw_g (lw_at lw_m8 165 rfl) rfl
theorem q1974 : (Jvm.Cond.soleField "OperaHouseModel" "busy") ∈ lw_all := lw_g (lw_at lw_m8 166 rfl) rfl
theorem q1975 : (Jvm.Cond.laysFinal "OperaHouseModel" "OperaHouseModel" "badSet" "[Z") ∈ lw_all := lw_g (lw_at lw_m8 167 rfl) rfl
theorem q1976 : (Jvm.Cond.soleField "OperaHouseModel" "badSet") ∈ lw_all := lw_g (lw_at lw_m8 168 rfl) rfl
theorem q1977 : (Jvm.Cond.laysFinal "OperaHouseModel" "OperaHouseModel" "wrongKind" "[I") ∈ lw_all := lw_g (lw_at lw_m8 169 rfl) rfl
theorem q1978 : (Jvm.Cond.soleField "OperaHouseModel" "wrongKind") ∈ lw_all := lw_g (lw_at lw_m8 170 rfl) rfl
theorem q1979 : (Jvm.Cond.laysFinal "OperaHouseModel" "OperaHouseModel" "wrongCall" "[I") ∈ lw_all := lw_g (lw_at lw_m8 171 rfl) rfl
theorem q1980 : (Jvm.Cond.soleField "OperaHouseModel" "wrongCall") ∈ lw_all := lw_g (lw_at lw_m8 172 rfl) rfl
theorem q1981 : (Jvm.Cond.laysFinal "OperaHouseModel" "OperaHouseModel" "wrongRole" "[I") ∈ lw_all := lw_g (lw_at lw_m8 173 rfl) rfl
theorem q1982 : (Jvm.Cond.soleField "OperaHouseModel" "wrongRole") ∈ lw_all := lw_g (lw_at lw_m8 174 rfl) rfl
theorem q1983 : (Jvm.Cond.laysFinal "OperaHouseModel" "OperaHouseModel" "mark" "[Z") ∈ lw_all := lw_g (lw_at lw_m8 175 rfl) rfl
theorem q1984 : (Jvm.Cond.soleField "OperaHouseModel" "mark") ∈ lw_all := lw_g (lw_at lw_m8 176 rfl) rfl
theorem q1985 : (Jvm.Cond.lays "OperaHouseModel" "OperaHouseModel" "wrongs" "I") ∈ lw_all := lw_g (lw_at lw_m8 177 rfl) rfl
theorem q1986 : (Jvm.Cond.soleField "OperaHouseModel" "wrongs") ∈ lw_all := lw_g (lw_at lw_m8 178 rfl) rfl
theorem q1987 : (Jvm.Cond.lays "OperaHouseModel" "OperaHouseModel" "toldWrongs" "I") ∈ lw_all := lw_g (lw_at lw_m8 179 rfl) rfl
theorem q1988 : (Jvm.Cond.soleField "OperaHouseModel" "toldWrongs") ∈ lw_all := lw_g (lw_at lw_m8 180 rfl) rfl
theorem q1989 : (Jvm.Cond.laysFinal "OperaHouseModel" "OperaHouseModel" "toldKind" "[I") ∈ lw_all := lw_g (lw_at lw_m8 181 rfl) rfl
theorem q1990 : (Jvm.Cond.soleField "OperaHouseModel" "toldKind") ∈ lw_all := lw_g (lw_at lw_m8 182 rfl) rfl
theorem q1991 : (Jvm.Cond.laysFinal "OperaHouseModel" "OperaHouseModel" "toldCall" "[I") ∈ lw_all := lw_g (lw_at lw_m8 183 rfl) rfl
theorem q1992 : (Jvm.Cond.soleField "OperaHouseModel" "toldCall") ∈ lw_all := lw_g (lw_at lw_m8 184 rfl) rfl
theorem q1993 : (Jvm.Cond.laysFinal "OperaHouseModel" "OperaHouseModel" "toldRole" "[I") ∈ lw_all := lw_g (lw_at lw_m8 185 rfl) rfl
theorem q1994 : (Jvm.Cond.soleField "OperaHouseModel" "toldRole") ∈ lw_all := lw_g (lw_at lw_m8 186 rfl) rfl
theorem q1995 : (Jvm.Cond.laysFinal "OperaHouseModel" "OperaHouseModel" "wish" "[I") ∈ lw_all := lw_g (lw_at lw_m8 187 rfl) rfl
theorem q1996 : (Jvm.Cond.soleField "OperaHouseModel" "wish") ∈ lw_all := lw_g (lw_at lw_m8 188 rfl) rfl
theorem q1997 : (Jvm.Cond.laysFinal "OperaHouseModel" "OperaHouseModel" "dayOf" "[I") ∈ lw_all := lw_g (lw_at lw_m8 189 rfl) rfl
theorem q1998 : (Jvm.Cond.soleField "OperaHouseModel" "dayOf") ∈ lw_all := lw_g (lw_at lw_m8 190 rfl) rfl
theorem q1999 : (Jvm.Cond.laysFinal "OperaHouseModel" "OperaHouseModel" "laid" "[I") ∈ lw_all := lw_g (lw_at lw_m8 191 rfl) rfl
theorem q2000 : (Jvm.Cond.soleField "OperaHouseModel" "laid") ∈ lw_all := lw_g (lw_at lw_m8 192 rfl) rfl
theorem q2001 : (Jvm.Cond.laysFinal "OperaHouseModel" "OperaHouseModel" "laidWish" "[I") ∈ lw_all := lw_g (lw_at lw_m8 193 rfl) rfl
theorem q2002 : (Jvm.Cond.soleField "OperaHouseModel" "laidWish") ∈ lw_all := lw_g (lw_at lw_m8 194 rfl) rfl
theorem q2003 : (Jvm.Cond.lays "OperaHouseModel" "OperaHouseModel" "wishes" "I") ∈ lw_all := lw_g (lw_at lw_m8 195 rfl) rfl
theorem q2004 : (Jvm.Cond.soleField "OperaHouseModel" "wishes") ∈ lw_all := lw_g (lw_at lw_m8 196 rfl) rfl
theorem q2005 : (Jvm.Cond.lays "OperaHouseModel" "OperaHouseModel" "laidMany" "I") ∈ lw_all := lw_g (lw_at lw_m8 197 rfl) rfl
theorem q2006 : (Jvm.Cond.soleField "OperaHouseModel" "laidMany") ∈ lw_all := lw_g (lw_at lw_m8 198 rfl) rfl
theorem q2007 : (Jvm.Cond.lays "OperaHouseModel" "OperaHouseModel" "laidHour" "I") ∈ lw_all := lw_g (lw_at lw_m8 199 rfl) rfl
theorem q2008 : (Jvm.Cond.soleField "OperaHouseModel" "laidHour") ∈ lw_all := lw_g (lw_at lw_m8 200 rfl) rfl
theorem q2009 : (Jvm.Cond.lays "OperaHouseModel" "OperaHouseModel" "laidTelling" "I") ∈ lw_all := lw_g (lw_at lw_m8 201 rfl) rfl
theorem q2010 : (Jvm.Cond.soleField "OperaHouseModel" "laidTelling") ∈ lw_all := lw_g (lw_at lw_m8 202 rfl) rfl
theorem q2011 : (Jvm.Cond.superclass "OperaHouseModel" "java/lang/Object") ∈ lw_all := lw_g (lw_at lw_m8 203 rfl) rfl
theorem q2013 : (Jvm.Cond.instanceMethod ({ cls := "OperaHouseModel", name := "thrown", desc := "()I" } : Jvm.MethodName)) ∈ lw_all := lw_g (lw_at lw_m8 205 rfl) rfl
theorem q2014 : (Jvm.Cond.selects "OperaHouseModel" ({ cls := "OperaHouseModel", name := "thrown", desc := "()I" } : Jvm.MethodName) ({ cls := "OperaHouseModel", name := "thrown", desc := "()I" } : Jvm.MethodName)) ∈ lw_all := lw_g (lw_at lw_m8 206 rfl) rfl
theorem q2015 : (Jvm.Cond.code ({ cls := "OperaHouseModel", name := "thrown", desc := "()I" } : Jvm.MethodName) prog_18_method_2_code (1 : Nat) (Option.some Jvm.ClassFile.FieldType.int)) ∈ lw_all := lw_g (lw_at lw_m8 207 rfl) rfl
theorem q2017 : (Jvm.Cond.instanceMethod ({ cls := "OperaHouseModel", name := "feed", desc := "(IIIII)I" } : Jvm.MethodName)) ∈ lw_all := lw_g (lw_at lw_m8 209 rfl) rfl
theorem q2018 : (Jvm.Cond.selects "OperaHouseModel" ({ cls := "OperaHouseModel", name := "feed", desc := "(IIIII)I" } : Jvm.MethodName) ({ cls := "OperaHouseModel", name := "feed", desc := "(IIIII)I" } : Jvm.MethodName)) ∈ lw_all := lw_g (lw_at lw_m8 210 rfl) rfl
theorem q2019 : (Jvm.Cond.code ({ cls := "OperaHouseModel", name := "feed", desc := "(IIIII)I" } : Jvm.MethodName) prog_18_method_4_code (6 : Nat) (Option.some Jvm.ClassFile.FieldType.int)) ∈ lw_all := lw_g (lw_at lw_m8 211 rfl) rfl
theorem q2020 : (Jvm.Cond.methodLink "OperaHouseModel" (232 : Nat) ({ cls := "OperaHouseModel", name := "four", desc := "(I)V" } : Jvm.MethodName)) ∈ lw_all := lw_g (lw_at lw_m8 212 rfl) rfl
theorem q2021 : (Jvm.Cond.privateMethod ({ cls := "OperaHouseModel", name := "four", desc := "(I)V" } : Jvm.MethodName)) ∈ lw_tbl := lw_at lw_m8 213 rfl
theorem q2022 : (Jvm.Cond.instanceMethod ({ cls := "OperaHouseModel", name := "four", desc := "(I)V" } : Jvm.MethodName)) ∈ lw_all := lw_g (lw_at lw_m8 214 rfl) rfl
theorem q2023 : (Jvm.Cond.code ({ cls := "OperaHouseModel", name := "four", desc := "(I)V" } : Jvm.MethodName) prog_18_method_5_code (3 : Nat) (Option.none : Option Jvm.ClassFile.FieldType)) ∈ lw_all := lw_g (lw_at lw_m8 215 rfl) rfl
theorem q2025 : (Jvm.Cond.instanceMethod ({ cls := "OperaHouseModel", name := "end", desc := "(I)Z" } : Jvm.MethodName)) ∈ lw_all := lw_g (lw_at lw_m8 217 rfl) rfl
theorem q2026 : (Jvm.Cond.selects "OperaHouseModel" ({ cls := "OperaHouseModel", name := "end", desc := "(I)Z" } : Jvm.MethodName) ({ cls := "OperaHouseModel", name := "end", desc := "(I)Z" } : Jvm.MethodName)) ∈ lw_all := lw_g (lw_at lw_m8 218 rfl) rfl
theorem q2027 : (Jvm.Cond.code ({ cls := "OperaHouseModel", name := "end", desc := "(I)Z" } : Jvm.MethodName) prog_18_method_6_code (2 : Nat) (Option.some Jvm.ClassFile.FieldType.boolean)) ∈ lw_all := lw_g (lw_at lw_m8 219 rfl) rfl
theorem q2029 : (Jvm.Cond.instanceMethod ({ cls := "OperaHouseModel", name := "next", desc := "(I)I" } : Jvm.MethodName)) ∈ lw_all := lw_g (lw_at lw_m8 221 rfl) rfl
theorem q2030 : (Jvm.Cond.selects "OperaHouseModel" ({ cls := "OperaHouseModel", name := "next", desc := "(I)I" } : Jvm.MethodName) ({ cls := "OperaHouseModel", name := "next", desc := "(I)I" } : Jvm.MethodName)) ∈ lw_all := lw_g (lw_at lw_m8 222 rfl) rfl
theorem q2031 : (Jvm.Cond.code ({ cls := "OperaHouseModel", name := "next", desc := "(I)I" } : Jvm.MethodName) prog_18_method_9_code (2 : Nat) (Option.some Jvm.ClassFile.FieldType.int)) ∈ lw_all := lw_g (lw_at lw_m8 223 rfl) rfl
theorem q2032 : (Jvm.Cond.methodLink "OperaHouseModel" (242 : Nat) ({ cls := "OperaHouseModel", name := "isIn", desc := "(III)Z" } : Jvm.MethodName)) ∈ lw_all := lw_g (lw_at lw_m8 224 rfl) rfl
theorem q2033 : (Jvm.Cond.static ({ cls := "OperaHouseModel", name := "isIn", desc := "(III)Z" } : Jvm.MethodName)) ∈ lw_all := lw_g (lw_at lw_m8 225 rfl) rfl
theorem q2034 : (Jvm.Cond.code ({ cls := "OperaHouseModel", name := "isIn", desc := "(III)Z" } : Jvm.MethodName) prog_18_method_8_code (3 : Nat) (Option.some Jvm.ClassFile.FieldType.boolean)) ∈ lw_all := lw_g (lw_at lw_m8 226 rfl) rfl
theorem q2036 : (Jvm.Cond.instanceMethod ({ cls := "OperaHouseModel", name := "opera", desc := "(IIZI)I" } : Jvm.MethodName)) ∈ lw_all := lw_g (lw_at lw_m8 228 rfl) rfl
theorem q2037 : (Jvm.Cond.selects "OperaHouseModel" ({ cls := "OperaHouseModel", name := "opera", desc := "(IIZI)I" } : Jvm.MethodName) ({ cls := "OperaHouseModel", name := "opera", desc := "(IIZI)I" } : Jvm.MethodName)) ∈ lw_all := lw_g (lw_at lw_m8 229 rfl) rfl
theorem q2038 : (Jvm.Cond.code ({ cls := "OperaHouseModel", name := "opera", desc := "(IIZI)I" } : Jvm.MethodName) prog_18_method_10_code (8 : Nat) (Option.some Jvm.ClassFile.FieldType.int)) ∈ lw_all := lw_g (lw_at lw_m8 230 rfl) rfl
theorem q2039 : (Jvm.Cond.methodLink "OperaHouseModel" (252 : Nat) ({ cls := "OperaHouseModel", name := "taken", desc := "()V" } : Jvm.MethodName)) ∈ lw_all := lw_g (lw_at lw_m8 231 rfl) rfl
theorem q2040 : (Jvm.Cond.privateMethod ({ cls := "OperaHouseModel", name := "taken", desc := "()V" } : Jvm.MethodName)) ∈ lw_tbl := lw_at lw_m8 232 rfl
theorem q2041 : (Jvm.Cond.instanceMethod ({ cls := "OperaHouseModel", name := "taken", desc := "()V" } : Jvm.MethodName)) ∈ lw_all := lw_g (lw_at lw_m8 233 rfl) rfl
theorem q2042 : (Jvm.Cond.code ({ cls := "OperaHouseModel", name := "taken", desc := "()V" } : Jvm.MethodName) prog_18_method_7_code (1 : Nat) (Option.none : Option Jvm.ClassFile.FieldType)) ∈ lw_all := lw_g (lw_at lw_m8 234 rfl) rfl
theorem q2044 : (Jvm.Cond.instanceMethod ({ cls := "OperaHouseModel", name := "singer", desc := "(III)I" } : Jvm.MethodName)) ∈ lw_all := lw_g (lw_at lw_m8 236 rfl) rfl
theorem q2045 : (Jvm.Cond.selects "OperaHouseModel" ({ cls := "OperaHouseModel", name := "singer", desc := "(III)I" } : Jvm.MethodName) ({ cls := "OperaHouseModel", name := "singer", desc := "(III)I" } : Jvm.MethodName)) ∈ lw_all := lw_g (lw_at lw_m8 237 rfl) rfl
theorem q2046 : (Jvm.Cond.code ({ cls := "OperaHouseModel", name := "singer", desc := "(III)I" } : Jvm.MethodName) prog_18_method_13_code (4 : Nat) (Option.some Jvm.ClassFile.FieldType.int)) ∈ lw_all := lw_g (lw_at lw_m8 238 rfl) rfl
theorem q2047 : (Jvm.Cond.methodLink "OperaHouseModel" (261 : Nat) ({ cls := "OperaHouseModel", name := "plain", desc := "(I)V" } : Jvm.MethodName)) ∈ lw_all := lw_g (lw_at lw_m8 239 rfl) rfl
theorem q2048 : (Jvm.Cond.privateMethod ({ cls := "OperaHouseModel", name := "plain", desc := "(I)V" } : Jvm.MethodName)) ∈ lw_tbl := lw_at lw_m9 0 rfl
theorem q2049 : (Jvm.Cond.instanceMethod ({ cls := "OperaHouseModel", name := "plain", desc := "(I)V" } : Jvm.MethodName)) ∈ lw_all := lw_g (lw_at lw_m9 1 rfl) rfl
theorem q2050 : (Jvm.Cond.code ({ cls := "OperaHouseModel", name := "plain", desc := "(I)V" } : Jvm.MethodName) prog_18_method_18_code (2 : Nat) (Option.none : Option Jvm.ClassFile.FieldType)) ∈ lw_all := lw_g (lw_at lw_m9 2 rfl) rfl
theorem q2052 : (Jvm.Cond.instanceMethod ({ cls := "OperaHouseModel", name := "players", desc := "(III)Z" } : Jvm.MethodName)) ∈ lw_all := lw_g (lw_at lw_m9 4 rfl) rfl
theorem q2053 : (Jvm.Cond.selects "OperaHouseModel" ({ cls := "OperaHouseModel", name := "players", desc := "(III)Z" } : Jvm.MethodName) ({ cls := "OperaHouseModel", name := "players", desc := "(III)Z" } : Jvm.MethodName)) ∈ lw_all := lw_g (lw_at lw_m9 5 rfl) rfl
theorem q2054 : (Jvm.Cond.code ({ cls := "OperaHouseModel", name := "players", desc := "(III)Z" } : Jvm.MethodName) prog_18_method_14_code (4 : Nat) (Option.some Jvm.ClassFile.FieldType.boolean)) ∈ lw_all := lw_g (lw_at lw_m9 6 rfl) rfl
theorem q2056 : (Jvm.Cond.instanceMethod ({ cls := "OperaHouseModel", name := "chorus", desc := "(II)Z" } : Jvm.MethodName)) ∈ lw_all := lw_g (lw_at lw_m9 8 rfl) rfl
theorem q2057 : (Jvm.Cond.selects "OperaHouseModel" ({ cls := "OperaHouseModel", name := "chorus", desc := "(II)Z" } : Jvm.MethodName) ({ cls := "OperaHouseModel", name := "chorus", desc := "(II)Z" } : Jvm.MethodName)) ∈ lw_all := lw_g (lw_at lw_m9 9 rfl) rfl
theorem q2058 : (Jvm.Cond.code ({ cls := "OperaHouseModel", name := "chorus", desc := "(II)Z" } : Jvm.MethodName) prog_18_method_15_code (3 : Nat) (Option.some Jvm.ClassFile.FieldType.boolean)) ∈ lw_all := lw_g (lw_at lw_m9 10 rfl) rfl
theorem q2060 : (Jvm.Cond.instanceMethod ({ cls := "OperaHouseModel", name := "contract", desc := "(I)I" } : Jvm.MethodName)) ∈ lw_all := lw_g (lw_at lw_m9 12 rfl) rfl
theorem q2061 : (Jvm.Cond.selects "OperaHouseModel" ({ cls := "OperaHouseModel", name := "contract", desc := "(I)I" } : Jvm.MethodName) ({ cls := "OperaHouseModel", name := "contract", desc := "(I)I" } : Jvm.MethodName)) ∈ lw_all := lw_g (lw_at lw_m9 13 rfl) rfl
theorem q2062 : (Jvm.Cond.code ({ cls := "OperaHouseModel", name := "contract", desc := "(I)I" } : Jvm.MethodName) prog_18_method_27_code (4 : Nat) (Option.some Jvm.ClassFile.FieldType.int)) ∈ lw_all := lw_g (lw_at lw_m9 14 rfl) rfl
theorem q2063 : (Jvm.Cond.methodLink "OperaHouseModel" (310 : Nat) ({ cls := "OperaHouseModel", name := "isSinger", desc := "(I)Z" } : Jvm.MethodName)) ∈ lw_all := lw_g (lw_at lw_m9 15 rfl) rfl
theorem q2064 : (Jvm.Cond.privateMethod ({ cls := "OperaHouseModel", name := "isSinger", desc := "(I)Z" } : Jvm.MethodName)) ∈ lw_tbl := lw_at lw_m9 16 rfl
theorem q2065 : (Jvm.Cond.instanceMethod ({ cls := "OperaHouseModel", name := "isSinger", desc := "(I)Z" } : Jvm.MethodName)) ∈ lw_all := lw_g (lw_at lw_m9 17 rfl) rfl
theorem q2066 : (Jvm.Cond.code ({ cls := "OperaHouseModel", name := "isSinger", desc := "(I)Z" } : Jvm.MethodName) prog_18_method_12_code (2 : Nat) (Option.some Jvm.ClassFile.FieldType.boolean)) ∈ lw_all := lw_g (lw_at lw_m9 18 rfl) rfl
theorem q2067 : (Jvm.Cond.methodLink "OperaHouseModel" (307 : Nat) ({ cls := "OperaHouseModel", name := "next", desc := "()V" } : Jvm.MethodName)) ∈ lw_all := lw_g (lw_at lw_m9 19 rfl) rfl
theorem q2068 : (Jvm.Cond.privateMethod ({ cls := "OperaHouseModel", name := "next", desc := "()V" } : Jvm.MethodName)) ∈ lw_tbl := lw_at lw_m9 20 rfl
theorem q2069 : (Jvm.Cond.instanceMethod ({ cls := "OperaHouseModel", name := "next", desc := "()V" } : Jvm.MethodName)) ∈ lw_all := lw_g (lw_at lw_m9 21 rfl) rfl
theorem q2070 : (Jvm.Cond.code ({ cls := "OperaHouseModel", name := "next", desc := "()V" } : Jvm.MethodName) prog_18_method_22_code (4 : Nat) (Option.none : Option Jvm.ClassFile.FieldType)) ∈ lw_all := lw_g (lw_at lw_m9 22 rfl) rfl
theorem q2071 : (Jvm.Cond.methodLink "OperaHouseModel" (268 : Nat) ({ cls := "OperaHouseModel", name := "peek", desc := "()I" } : Jvm.MethodName)) ∈ lw_all := lw_g (lw_at lw_m9 23 rfl) rfl
theorem q2072 : (Jvm.Cond.privateMethod ({ cls := "OperaHouseModel", name := "peek", desc := "()I" } : Jvm.MethodName)) ∈ lw_tbl := lw_at lw_m9 24 rfl
theorem q2073 : (Jvm.Cond.instanceMethod ({ cls := "OperaHouseModel", name := "peek", desc := "()I" } : Jvm.MethodName)) ∈ lw_all := lw_g (lw_at lw_m9 25 rfl) rfl
theorem q2074 : (Jvm.Cond.code ({ cls := "OperaHouseModel", name := "peek", desc := "()I" } : Jvm.MethodName) prog_18_method_19_code (1 : Nat) (Option.some Jvm.ClassFile.FieldType.int)) ∈ lw_all := lw_g (lw_at lw_m9 26 rfl) rfl
theorem q2075 : (Jvm.Cond.methodLink "OperaHouseModel" (281 : Nat) ({ cls := "OperaHouseModel", name := "isSmall", desc := "(I)Z" } : Jvm.MethodName)) ∈ lw_all := lw_g (lw_at lw_m9 27 rfl) rfl
theorem q2076 : (Jvm.Cond.static ({ cls := "OperaHouseModel", name := "isSmall", desc := "(I)Z" } : Jvm.MethodName)) ∈ lw_all := lw_g (lw_at lw_m9 28 rfl) rfl
theorem q2077 : (Jvm.Cond.code ({ cls := "OperaHouseModel", name := "isSmall", desc := "(I)Z" } : Jvm.MethodName) prog_18_method_20_code (1 : Nat) (Option.some Jvm.ClassFile.FieldType.boolean)) ∈ lw_all := lw_g (lw_at lw_m9 29 rfl) rfl
theorem q2078 : (Jvm.Cond.methodLink "OperaHouseModel" (285 : Nat) ({ cls := "OperaHouseModel", name := "isDigit", desc := "(I)Z" } : Jvm.MethodName)) ∈ lw_all := lw_g (lw_at lw_m9 30 rfl) rfl
theorem q2079 : (Jvm.Cond.static ({ cls := "OperaHouseModel", name := "isDigit", desc := "(I)Z" } : Jvm.MethodName)) ∈ lw_all := lw_g (lw_at lw_m9 31 rfl) rfl
theorem q2080 : (Jvm.Cond.code ({ cls := "OperaHouseModel", name := "isDigit", desc := "(I)Z" } : Jvm.MethodName) prog_18_method_21_code (1 : Nat) (Option.some Jvm.ClassFile.FieldType.boolean)) ∈ lw_all := lw_g (lw_at lw_m9 32 rfl) rfl
theorem q2081 : (Jvm.Cond.methodLink "OperaHouseModel" (322 : Nat) ({ cls := "OperaHouseModel", name := "rule", desc := "()Z" } : Jvm.MethodName)) ∈ lw_all := lw_g (lw_at lw_m9 33 rfl) rfl
theorem q2082 : (Jvm.Cond.privateMethod ({ cls := "OperaHouseModel", name := "rule", desc := "()Z" } : Jvm.MethodName)) ∈ lw_tbl := lw_at lw_m9 34 rfl
theorem q2083 : (Jvm.Cond.instanceMethod ({ cls := "OperaHouseModel", name := "rule", desc := "()Z" } : Jvm.MethodName)) ∈ lw_all := lw_g (lw_at lw_m9 35 rfl) rfl
theorem q2084 : (Jvm.Cond.code ({ cls := "OperaHouseModel", name := "rule", desc := "()Z" } : Jvm.MethodName) prog_18_method_30_code (1 : Nat) (Option.some Jvm.ClassFile.FieldType.boolean)) ∈ lw_all := lw_g (lw_at lw_m9 36 rfl) rfl
theorem q2085 : (Jvm.Cond.constantLong "OperaHouseModel" (329 : Nat) (1919251316 : Int64)) ∈ lw_all := lw_g (lw_at lw_m9 37 rfl) rfl
theorem q2086 : (Jvm.Cond.methodLink "OperaHouseModel" (331 : Nat) ({ cls := "OperaHouseModel", name := "isWord", desc := "(J)Z" } : Jvm.MethodName)) ∈ lw_all := lw_g (lw_at lw_m9 38 rfl) rfl
theorem q2087 : (Jvm.Cond.privateMethod ({ cls := "OperaHouseModel", name := "isWord", desc := "(J)Z" } : Jvm.MethodName)) ∈ lw_tbl := lw_at lw_m9 39 rfl
theorem q2088 : (Jvm.Cond.instanceMethod ({ cls := "OperaHouseModel", name := "isWord", desc := "(J)Z" } : Jvm.MethodName)) ∈ lw_all := lw_g (lw_at lw_m9 40 rfl) rfl
theorem q2089 : (Jvm.Cond.code ({ cls := "OperaHouseModel", name := "isWord", desc := "(J)Z" } : Jvm.MethodName) prog_18_method_24_code (3 : Nat) (Option.some Jvm.ClassFile.FieldType.boolean)) ∈ lw_all := lw_g (lw_at lw_m9 41 rfl) rfl
theorem q2090 : (Jvm.Cond.methodLink "OperaHouseModel" (335 : Nat) ({ cls := "OperaHouseModel", name := "once", desc := "(III)Z" } : Jvm.MethodName)) ∈ lw_all := lw_g (lw_at lw_m9 42 rfl) rfl
theorem q2091 : (Jvm.Cond.privateMethod ({ cls := "OperaHouseModel", name := "once", desc := "(III)Z" } : Jvm.MethodName)) ∈ lw_tbl := lw_at lw_m9 43 rfl
theorem q2092 : (Jvm.Cond.instanceMethod ({ cls := "OperaHouseModel", name := "once", desc := "(III)Z" } : Jvm.MethodName)) ∈ lw_all := lw_g (lw_at lw_m9 44 rfl) rfl
theorem q2093 : (Jvm.Cond.code ({ cls := "OperaHouseModel", name := "once", desc := "(III)Z" } : Jvm.MethodName) prog_18_method_29_code (4 : Nat) (Option.some Jvm.ClassFile.FieldType.boolean)) ∈ lw_all := lw_g (lw_at lw_m9 45 rfl) rfl
theorem q2094 : (Jvm.Cond.methodLink "OperaHouseModel" (304 : Nat) ({ cls := "OperaHouseModel", name := "bad", desc := "(I)Z" } : Jvm.MethodName)) ∈ lw_all := lw_g (lw_at lw_m9 46 rfl) rfl
theorem q2095 : (Jvm.Cond.privateMethod ({ cls := "OperaHouseModel", name := "bad", desc := "(I)Z" } : Jvm.MethodName)) ∈ lw_tbl := lw_at lw_m9 47 rfl
theorem q2096 : (Jvm.Cond.instanceMethod ({ cls := "OperaHouseModel", name := "bad", desc := "(I)Z" } : Jvm.MethodName)) ∈ lw_all := lw_g (lw_at lw_m9 48 rfl) rfl
theorem q2097 : (Jvm.Cond.code ({ cls := "OperaHouseModel", name := "bad", desc := "(I)Z" } : Jvm.MethodName) prog_18_method_23_code (2 : Nat) (Option.some Jvm.ClassFile.FieldType.boolean)) ∈ lw_all := lw_g (lw_at lw_m9 49 rfl) rfl
theorem q2098 : (Jvm.Cond.constantLong "OperaHouseModel" (338 : Nat) (6578553 : Int64)) ∈ lw_all := lw_g (lw_at lw_m9 50 rfl) rfl
theorem q2099 : (Jvm.Cond.constantLong "OperaHouseModel" (340 : Nat) (2003133803 : Int64)) ∈ lw_all := lw_g (lw_at lw_m9 51 rfl) rfl
theorem q2100 : (Jvm.Cond.constantLong "OperaHouseModel" (342 : Nat) (508675318629 : Int64)) ∈ lw_all := lw_g (lw_at lw_m9 52 rfl) rfl
theorem q2101 : (Jvm.Cond.constantLong "OperaHouseModel" (344 : Nat) (465557354085 : Int64)) ∈ lw_all := lw_g (lw_at lw_m9 53 rfl) rfl
theorem q2102 : (Jvm.Cond.methodLink "OperaHouseModel" (346 : Nat) ({ cls := "OperaHouseModel", name := "leave", desc := "()Z" } : Jvm.MethodName)) ∈ lw_all := lw_g (lw_at lw_m9 54 rfl) rfl
theorem q2103 : (Jvm.Cond.privateMethod ({ cls := "OperaHouseModel", name := "leave", desc := "()Z" } : Jvm.MethodName)) ∈ lw_tbl := lw_at lw_m9 55 rfl
theorem q2104 : (Jvm.Cond.instanceMethod ({ cls := "OperaHouseModel", name := "leave", desc := "()Z" } : Jvm.MethodName)) ∈ lw_all := lw_g (lw_at lw_m9 56 rfl) rfl
theorem q2105 : (Jvm.Cond.code ({ cls := "OperaHouseModel", name := "leave", desc := "()Z" } : Jvm.MethodName) prog_18_method_31_code (2 : Nat) (Option.some Jvm.ClassFile.FieldType.boolean)) ∈ lw_all := lw_g (lw_at lw_m9 57 rfl) rfl
theorem q2106 : (Jvm.Cond.constantLong "OperaHouseModel" (354 : Nat) (29807 : Int64)) ∈ lw_all := lw_g (lw_at lw_m9 58 rfl) rfl
theorem q2107 : (Jvm.Cond.constantLong "OperaHouseModel" (349 : Nat) (6710629 : Int64)) ∈ lw_all := lw_g (lw_at lw_m9 59 rfl) rfl
theorem q2108 : (Jvm.Cond.methodLink "OperaHouseModel" (351 : Nat) ({ cls := "OperaHouseModel", name := "fee", desc := "()Z" } : Jvm.MethodName)) ∈ lw_all := lw_g (lw_at lw_m9 60 rfl) rfl
theorem q2109 : (Jvm.Cond.privateMethod ({ cls := "OperaHouseModel", name := "fee", desc := "()Z" } : Jvm.MethodName)) ∈ lw_tbl := lw_at lw_m9 61 rfl
theorem q2110 : (Jvm.Cond.instanceMethod ({ cls := "OperaHouseModel", name := "fee", desc := "()Z" } : Jvm.MethodName)) ∈ lw_all := lw_g (lw_at lw_m9 62 rfl) rfl
theorem q2111 : (Jvm.Cond.code ({ cls := "OperaHouseModel", name := "fee", desc := "()Z" } : Jvm.MethodName) prog_18_method_32_code (2 : Nat) (Option.some Jvm.ClassFile.FieldType.boolean)) ∈ lw_all := lw_g (lw_at lw_m9 63 rfl) rfl
theorem q2112 : (Jvm.Cond.constantLong "OperaHouseModel" (356 : Nat) (26982 : Int64)) ∈ lw_all := lw_g (lw_at lw_m9 64 rfl) rfl
theorem q2113 : (Jvm.Cond.methodLink "OperaHouseModel" (358 : Nat) ({ cls := "OperaHouseModel", name := "cond", desc := "()Z" } : Jvm.MethodName)) ∈ lw_all := lw_g (lw_at lw_m9 65 rfl) rfl
theorem q2114 : (Jvm.Cond.privateMethod ({ cls := "OperaHouseModel", name := "cond", desc := "()Z" } : Jvm.MethodName)) ∈ lw_tbl := lw_at lw_m9 66 rfl
theorem q2115 : (Jvm.Cond.instanceMethod ({ cls := "OperaHouseModel", name := "cond", desc := "()Z" } : Jvm.MethodName)) ∈ lw_all := lw_g (lw_at lw_m9 67 rfl) rfl
theorem q2116 : (Jvm.Cond.code ({ cls := "OperaHouseModel", name := "cond", desc := "()Z" } : Jvm.MethodName) prog_18_method_39_code (2 : Nat) (Option.some Jvm.ClassFile.FieldType.boolean)) ∈ lw_all := lw_g (lw_at lw_m9 68 rfl) rfl
theorem q2117 : (Jvm.Cond.methodLink "OperaHouseModel" (392 : Nat) ({ cls := "OperaHouseModel", name := "one", desc := "()Z" } : Jvm.MethodName)) ∈ lw_all := lw_g (lw_at lw_m9 69 rfl) rfl
theorem q2118 : (Jvm.Cond.privateMethod ({ cls := "OperaHouseModel", name := "one", desc := "()Z" } : Jvm.MethodName)) ∈ lw_tbl := lw_at lw_m9 70 rfl
theorem q2119 : (Jvm.Cond.instanceMethod ({ cls := "OperaHouseModel", name := "one", desc := "()Z" } : Jvm.MethodName)) ∈ lw_all := lw_g (lw_at lw_m9 71 rfl) rfl
theorem q2120 : (Jvm.Cond.code ({ cls := "OperaHouseModel", name := "one", desc := "()Z" } : Jvm.MethodName) prog_18_method_40_code (4 : Nat) (Option.some Jvm.ClassFile.FieldType.boolean)) ∈ lw_all := lw_g (lw_at lw_m9 72 rfl) rfl
theorem q2121 : (Jvm.Cond.constantLong "OperaHouseModel" (405 : Nat) (7237492 : Int64)) ∈ lw_all := lw_g (lw_at lw_m9 73 rfl) rfl
theorem q2122 : (Jvm.Cond.methodLink "OperaHouseModel" (407 : Nat) ({ cls := "OperaHouseModel", name := "atom", desc := "()I" } : Jvm.MethodName)) ∈ lw_all := lw_g (lw_at lw_m9 74 rfl) rfl
theorem q2123 : (Jvm.Cond.privateMethod ({ cls := "OperaHouseModel", name := "atom", desc := "()I" } : Jvm.MethodName)) ∈ lw_tbl := lw_at lw_m9 75 rfl
theorem q2124 : (Jvm.Cond.instanceMethod ({ cls := "OperaHouseModel", name := "atom", desc := "()I" } : Jvm.MethodName)) ∈ lw_all := lw_g (lw_at lw_m9 76 rfl) rfl
theorem q2125 : (Jvm.Cond.code ({ cls := "OperaHouseModel", name := "atom", desc := "()I" } : Jvm.MethodName) prog_18_method_34_code (1 : Nat) (Option.some Jvm.ClassFile.FieldType.int)) ∈ lw_all := lw_g (lw_at lw_m9 77 rfl) rfl
theorem q2126 : (Jvm.Cond.constantLong "OperaHouseModel" (361 : Nat) (1919905645 : Int64)) ∈ lw_all := lw_g (lw_at lw_m9 78 rfl) rfl
theorem q2127 : (Jvm.Cond.constantLong "OperaHouseModel" (363 : Nat) (469786323827 : Int64)) ∈ lw_all := lw_g (lw_at lw_m9 79 rfl) rfl
theorem q2128 : (Jvm.Cond.constantLong "OperaHouseModel" (365 : Nat) (1718971500 : Int64)) ∈ lw_all := lw_g (lw_at lw_m9 80 rfl) rfl
theorem q2129 : (Jvm.Cond.constantLong "OperaHouseModel" (367 : Nat) (474214787188 : Int64)) ∈ lw_all := lw_g (lw_at lw_m9 81 rfl) rfl
theorem q2130 : (Jvm.Cond.constantLong "OperaHouseModel" (369 : Nat) (1818326117 : Int64)) ∈ lw_all := lw_g (lw_at lw_m9 82 rfl) rfl
theorem q2131 : (Jvm.Cond.constantLong "OperaHouseModel" (371 : Nat) (427071792498 : Int64)) ∈ lw_all := lw_g (lw_at lw_m9 83 rfl) rfl
theorem q2132 : (Jvm.Cond.constantLong "OperaHouseModel" (373 : Nat) (29676314707714404 : Int64)) ∈ lw_all := lw_g (lw_at lw_m9 84 rfl) rfl
theorem q2133 : (Jvm.Cond.constantLong "OperaHouseModel" (375 : Nat) (448546566771 : Int64)) ∈ lw_all := lw_g (lw_at lw_m9 85 rfl) rfl
theorem q2134 : (Jvm.Cond.constantLong "OperaHouseModel" (377 : Nat) (7238760 : Int64)) ∈ lw_all := lw_g (lw_at lw_m9 86 rfl) rfl
theorem q2135 : (Jvm.Cond.constantLong "OperaHouseModel" (379 : Nat) (1870030194 : Int64)) ∈ lw_all := lw_g (lw_at lw_m9 87 rfl) rfl
theorem q2136 : (Jvm.Cond.methodLink "OperaHouseModel" (301 : Nat) ({ cls := "OperaHouseModel", name := "isSign", desc := "(I)Z" } : Jvm.MethodName)) ∈ lw_all := lw_g (lw_at lw_m9 88 rfl) rfl
theorem q2137 : (Jvm.Cond.privateMethod ({ cls := "OperaHouseModel", name := "isSign", desc := "(I)Z" } : Jvm.MethodName)) ∈ lw_tbl := lw_at lw_m9 89 rfl
theorem q2138 : (Jvm.Cond.instanceMethod ({ cls := "OperaHouseModel", name := "isSign", desc := "(I)Z" } : Jvm.MethodName)) ∈ lw_all := lw_g (lw_at lw_m9 90 rfl) rfl
theorem q2139 : (Jvm.Cond.code ({ cls := "OperaHouseModel", name := "isSign", desc := "(I)Z" } : Jvm.MethodName) prog_18_method_25_code (2 : Nat) (Option.some Jvm.ClassFile.FieldType.boolean)) ∈ lw_all := lw_g (lw_at lw_m9 91 rfl) rfl
theorem q2140 : (Jvm.Cond.methodLink "OperaHouseModel" (410 : Nat) ({ cls := "OperaHouseModel", name := "open", desc := "()I" } : Jvm.MethodName)) ∈ lw_all := lw_g (lw_at lw_m9 92 rfl) rfl
theorem q2141 : (Jvm.Cond.privateMethod ({ cls := "OperaHouseModel", name := "open", desc := "()I" } : Jvm.MethodName)) ∈ lw_tbl := lw_at lw_m9 93 rfl
theorem q2142 : (Jvm.Cond.instanceMethod ({ cls := "OperaHouseModel", name := "open", desc := "()I" } : Jvm.MethodName)) ∈ lw_all := lw_g (lw_at lw_m9 94 rfl) rfl
theorem q2143 : (Jvm.Cond.code ({ cls := "OperaHouseModel", name := "open", desc := "()I" } : Jvm.MethodName) prog_18_method_37_code (3 : Nat) (Option.some Jvm.ClassFile.FieldType.int)) ∈ lw_all := lw_g (lw_at lw_m9 95 rfl) rfl
theorem q2144 : (Jvm.Cond.methodLink "OperaHouseModel" (388 : Nat) ({ cls := "OperaHouseModel", name := "write", desc := "(III)V" } : Jvm.MethodName)) ∈ lw_all := lw_g (lw_at lw_m9 96 rfl) rfl
theorem q2145 : (Jvm.Cond.privateMethod ({ cls := "OperaHouseModel", name := "write", desc := "(III)V" } : Jvm.MethodName)) ∈ lw_tbl := lw_at lw_m9 97 rfl
theorem q2146 : (Jvm.Cond.instanceMethod ({ cls := "OperaHouseModel", name := "write", desc := "(III)V" } : Jvm.MethodName)) ∈ lw_all := lw_g (lw_at lw_m9 98 rfl) rfl
theorem q2147 : (Jvm.Cond.code ({ cls := "OperaHouseModel", name := "write", desc := "(III)V" } : Jvm.MethodName) prog_18_method_33_code (4 : Nat) (Option.none : Option Jvm.ClassFile.FieldType)) ∈ lw_all := lw_g (lw_at lw_m9 99 rfl) rfl
theorem q2148 : (Jvm.Cond.methodLink "OperaHouseModel" (398 : Nat) ({ cls := "OperaHouseModel", name := "writeDown", desc := "(I)V" } : Jvm.MethodName)) ∈ lw_all := lw_g (lw_at lw_m9 100 rfl) rfl
theorem q2149 : (Jvm.Cond.privateMethod ({ cls := "OperaHouseModel", name := "writeDown", desc := "(I)V" } : Jvm.MethodName)) ∈ lw_tbl := lw_at lw_m9 101 rfl
theorem q2150 : (Jvm.Cond.instanceMethod ({ cls := "OperaHouseModel", name := "writeDown", desc := "(I)V" } : Jvm.MethodName)) ∈ lw_all := lw_g (lw_at lw_m9 102 rfl) rfl
theorem q2151 : (Jvm.Cond.code ({ cls := "OperaHouseModel", name := "writeDown", desc := "(I)V" } : Jvm.MethodName) prog_18_method_35_code (2 : Nat) (Option.none : Option Jvm.ClassFile.FieldType)) ∈ lw_all := lw_g (lw_at lw_m9 103 rfl) rfl
theorem q2152 : (Jvm.Cond.methodLink "OperaHouseModel" (384 : Nat) ({ cls := "OperaHouseModel", name := "binds", desc := "(I)I" } : Jvm.MethodName)) ∈ lw_all := lw_g (lw_at lw_m9 104 rfl) rfl
theorem q2153 : (Jvm.Cond.static ({ cls := "OperaHouseModel", name := "binds", desc := "(I)I" } : Jvm.MethodName)) ∈ lw_all := lw_g (lw_at lw_m9 105 rfl) rfl
theorem q2154 : (Jvm.Cond.code ({ cls := "OperaHouseModel", name := "binds", desc := "(I)I" } : Jvm.MethodName) prog_18_method_36_code (1 : Nat) (Option.some Jvm.ClassFile.FieldType.int)) ∈ lw_all := lw_g (lw_at lw_m9 106 rfl) rfl
theorem q2155 : (Jvm.Cond.methodLink "OperaHouseModel" (395 : Nat) ({ cls := "OperaHouseModel", name := "isOpen", desc := "()Z" } : Jvm.MethodName)) ∈ lw_all := lw_g (lw_at lw_m9 107 rfl) rfl
theorem q2156 : (Jvm.Cond.privateMethod ({ cls := "OperaHouseModel", name := "isOpen", desc := "()Z" } : Jvm.MethodName)) ∈ lw_tbl := lw_at lw_m9 108 rfl
theorem q2157 : (Jvm.Cond.instanceMethod ({ cls := "OperaHouseModel", name := "isOpen", desc := "()Z" } : Jvm.MethodName)) ∈ lw_all := lw_g (lw_at lw_m9 109 rfl) rfl
theorem q2158 : (Jvm.Cond.code ({ cls := "OperaHouseModel", name := "isOpen", desc := "()Z" } : Jvm.MethodName) prog_18_method_38_code (2 : Nat) (Option.some Jvm.ClassFile.FieldType.boolean)) ∈ lw_all := lw_g (lw_at lw_m9 110 rfl) rfl
theorem q2159 : (Jvm.Cond.constantLong "OperaHouseModel" (401 : Nat) (6385252 : Int64)) ∈ lw_all := lw_g (lw_at lw_m9 111 rfl) rfl
theorem q2160 : (Jvm.Cond.constantLong "OperaHouseModel" (403 : Nat) (28530 : Int64)) ∈ lw_all := lw_g (lw_at lw_m9 112 rfl) rfl
theorem q2161 : (Jvm.Cond.methodLink "OperaHouseModel" (326 : Nat) ({ cls := "OperaHouseModel", name := "sign", desc := "(I)Z" } : Jvm.MethodName)) ∈ lw_all := lw_g (lw_at lw_m9 113 rfl) rfl
theorem q2162 : (Jvm.Cond.privateMethod ({ cls := "OperaHouseModel", name := "sign", desc := "(I)Z" } : Jvm.MethodName)) ∈ lw_tbl := lw_at lw_m9 114 rfl
theorem q2163 : (Jvm.Cond.instanceMethod ({ cls := "OperaHouseModel", name := "sign", desc := "(I)Z" } : Jvm.MethodName)) ∈ lw_all := lw_g (lw_at lw_m9 115 rfl) rfl
theorem q2164 : (Jvm.Cond.code ({ cls := "OperaHouseModel", name := "sign", desc := "(I)Z" } : Jvm.MethodName) prog_18_method_26_code (2 : Nat) (Option.some Jvm.ClassFile.FieldType.boolean)) ∈ lw_all := lw_g (lw_at lw_m9 116 rfl) rfl
theorem q2166 : (Jvm.Cond.instanceMethod ({ cls := "OperaHouseModel", name := "fault", desc := "()I" } : Jvm.MethodName)) ∈ lw_all := lw_g (lw_at lw_m9 118 rfl) rfl
theorem q2167 : (Jvm.Cond.selects "OperaHouseModel" ({ cls := "OperaHouseModel", name := "fault", desc := "()I" } : Jvm.MethodName) ({ cls := "OperaHouseModel", name := "fault", desc := "()I" } : Jvm.MethodName)) ∈ lw_all := lw_g (lw_at lw_m9 119 rfl) rfl
theorem q2168 : (Jvm.Cond.code ({ cls := "OperaHouseModel", name := "fault", desc := "()I" } : Jvm.MethodName) prog_18_method_28_code (1 : Nat) (Option.some Jvm.ClassFile.FieldType.int)) ∈ lw_all := lw_g (lw_at lw_m9 120 rfl) rfl
theorem q2170 : (Jvm.Cond.instanceMethod ({ cls := "OperaHouseModel", name := "learn", desc := "(IIII)Z" } : Jvm.MethodName)) ∈ lw_all := lw_g (lw_at lw_m9 122 rfl) rfl
theorem q2171 : (Jvm.Cond.selects "OperaHouseModel" ({ cls := "OperaHouseModel", name := "learn", desc := "(IIII)Z" } : Jvm.MethodName) ({ cls := "OperaHouseModel", name := "learn", desc := "(IIII)Z" } : Jvm.MethodName)) ∈ lw_all := lw_g (lw_at lw_m9 123 rfl) rfl
theorem q2172 : (Jvm.Cond.code ({ cls := "OperaHouseModel", name := "learn", desc := "(IIII)Z" } : Jvm.MethodName) prog_18_method_42_code (5 : Nat) (Option.some Jvm.ClassFile.FieldType.boolean)) ∈ lw_all := lw_g (lw_at lw_m9 124 rfl) rfl
theorem q2173 : (Jvm.Cond.methodLink "OperaHouseModel" (413 : Nat) ({ cls := "OperaHouseModel", name := "isRole", desc := "(II)Z" } : Jvm.MethodName)) ∈ lw_all := lw_g (lw_at lw_m9 125 rfl) rfl
theorem q2174 : (Jvm.Cond.privateMethod ({ cls := "OperaHouseModel", name := "isRole", desc := "(II)Z" } : Jvm.MethodName)) ∈ lw_tbl := lw_at lw_m9 126 rfl
theorem q2175 : (Jvm.Cond.instanceMethod ({ cls := "OperaHouseModel", name := "isRole", desc := "(II)Z" } : Jvm.MethodName)) ∈ lw_all := lw_g (lw_at lw_m9 127 rfl) rfl
theorem q2176 : (Jvm.Cond.code ({ cls := "OperaHouseModel", name := "isRole", desc := "(II)Z" } : Jvm.MethodName) prog_18_method_11_code (3 : Nat) (Option.some Jvm.ClassFile.FieldType.boolean)) ∈ lw_all := lw_g (lw_at lw_m9 128 rfl) rfl
theorem q2178 : (Jvm.Cond.instanceMethod ({ cls := "OperaHouseModel", name := "call", desc := "(IIIII)I" } : Jvm.MethodName)) ∈ lw_all := lw_g (lw_at lw_m9 130 rfl) rfl
theorem q2179 : (Jvm.Cond.selects "OperaHouseModel" ({ cls := "OperaHouseModel", name := "call", desc := "(IIIII)I" } : Jvm.MethodName) ({ cls := "OperaHouseModel", name := "call", desc := "(IIIII)I" } : Jvm.MethodName)) ∈ lw_all := lw_g (lw_at lw_m9 131 rfl) rfl
theorem q2180 : (Jvm.Cond.code ({ cls := "OperaHouseModel", name := "call", desc := "(IIIII)I" } : Jvm.MethodName) prog_18_method_45_code (6 : Nat) (Option.some Jvm.ClassFile.FieldType.int)) ∈ lw_all := lw_g (lw_at lw_m9 132 rfl) rfl
theorem q2181 : (Jvm.Cond.methodLink "OperaHouseModel" (420 : Nat) ({ cls := "OperaHouseModel", name := "lengthOf", desc := "(II)I" } : Jvm.MethodName)) ∈ lw_all := lw_g (lw_at lw_m9 133 rfl) rfl
theorem q2182 : (Jvm.Cond.privateMethod ({ cls := "OperaHouseModel", name := "lengthOf", desc := "(II)I" } : Jvm.MethodName)) ∈ lw_tbl := lw_at lw_m9 134 rfl
theorem q2183 : (Jvm.Cond.instanceMethod ({ cls := "OperaHouseModel", name := "lengthOf", desc := "(II)I" } : Jvm.MethodName)) ∈ lw_all := lw_g (lw_at lw_m9 135 rfl) rfl
theorem q2184 : (Jvm.Cond.code ({ cls := "OperaHouseModel", name := "lengthOf", desc := "(II)I" } : Jvm.MethodName) prog_18_method_43_code (3 : Nat) (Option.some Jvm.ClassFile.FieldType.int)) ∈ lw_all := lw_g (lw_at lw_m9 136 rfl) rfl
theorem q2185 : (Jvm.Cond.methodLink "OperaHouseModel" (426 : Nat) ({ cls := "OperaHouseModel", name := "place", desc := "(IIIIII)V" } : Jvm.MethodName)) ∈ lw_all := lw_g (lw_at lw_m9 137 rfl) rfl
theorem q2186 : (Jvm.Cond.privateMethod ({ cls := "OperaHouseModel", name := "place", desc := "(IIIIII)V" } : Jvm.MethodName)) ∈ lw_tbl := lw_at lw_m9 138 rfl
theorem q2187 : (Jvm.Cond.instanceMethod ({ cls := "OperaHouseModel", name := "place", desc := "(IIIIII)V" } : Jvm.MethodName)) ∈ lw_all := lw_g (lw_at lw_m9 139 rfl) rfl
theorem q2188 : (Jvm.Cond.code ({ cls := "OperaHouseModel", name := "place", desc := "(IIIIII)V" } : Jvm.MethodName) prog_18_method_44_code (7 : Nat) (Option.none : Option Jvm.ClassFile.FieldType)) ∈ lw_all := lw_g (lw_at lw_m9 140 rfl) rfl
theorem q2190 : (Jvm.Cond.instanceMethod ({ cls := "OperaHouseModel", name := "cast", desc := "(IIIZ)Z" } : Jvm.MethodName)) ∈ lw_all := lw_g (lw_at lw_m9 142 rfl) rfl
theorem q2191 : (Jvm.Cond.selects "OperaHouseModel" ({ cls := "OperaHouseModel", name := "cast", desc := "(IIIZ)Z" } : Jvm.MethodName) ({ cls := "OperaHouseModel", name := "cast", desc := "(IIIZ)Z" } : Jvm.MethodName)) ∈ lw_all := lw_g (lw_at lw_m9 143 rfl) rfl
theorem q2192 : (Jvm.Cond.code ({ cls := "OperaHouseModel", name := "cast", desc := "(IIIZ)Z" } : Jvm.MethodName) prog_18_method_48_code (5 : Nat) (Option.some Jvm.ClassFile.FieldType.boolean)) ∈ lw_all := lw_g (lw_at lw_m9 144 rfl) rfl
theorem q2193 : (Jvm.Cond.methodLink "OperaHouseModel" (433 : Nat) ({ cls := "OperaHouseModel", name := "isCallRole", desc := "(II)Z" } : Jvm.MethodName)) ∈ lw_all := lw_g (lw_at lw_m9 145 rfl) rfl
theorem q2194 : (Jvm.Cond.privateMethod ({ cls := "OperaHouseModel", name := "isCallRole", desc := "(II)Z" } : Jvm.MethodName)) ∈ lw_tbl := lw_at lw_m9 146 rfl
theorem q2195 : (Jvm.Cond.instanceMethod ({ cls := "OperaHouseModel", name := "isCallRole", desc := "(II)Z" } : Jvm.MethodName)) ∈ lw_all := lw_g (lw_at lw_m9 147 rfl) rfl
theorem q2196 : (Jvm.Cond.code ({ cls := "OperaHouseModel", name := "isCallRole", desc := "(II)Z" } : Jvm.MethodName) prog_18_method_46_code (3 : Nat) (Option.some Jvm.ClassFile.FieldType.boolean)) ∈ lw_all := lw_g (lw_at lw_m9 148 rfl) rfl
theorem q2197 : (Jvm.Cond.methodLink "OperaHouseModel" (436 : Nat) ({ cls := "OperaHouseModel", name := "tell", desc := "(IIIZ)V" } : Jvm.MethodName)) ∈ lw_all := lw_g (lw_at lw_m9 149 rfl) rfl
theorem q2198 : (Jvm.Cond.privateMethod ({ cls := "OperaHouseModel", name := "tell", desc := "(IIIZ)V" } : Jvm.MethodName)) ∈ lw_tbl := lw_at lw_m9 150 rfl
theorem q2199 : (Jvm.Cond.instanceMethod ({ cls := "OperaHouseModel", name := "tell", desc := "(IIIZ)V" } : Jvm.MethodName)) ∈ lw_all := lw_g (lw_at lw_m9 151 rfl) rfl
theorem q2200 : (Jvm.Cond.code ({ cls := "OperaHouseModel", name := "tell", desc := "(IIIZ)V" } : Jvm.MethodName) prog_18_method_47_code (5 : Nat) (Option.none : Option Jvm.ClassFile.FieldType)) ∈ lw_all := lw_g (lw_at lw_m9 152 rfl) rfl
theorem q2202 : (Jvm.Cond.instanceMethod ({ cls := "OperaHouseModel", name := "ill", desc := "(III)Z" } : Jvm.MethodName)) ∈ lw_all := lw_g (lw_at lw_m9 154 rfl) rfl
theorem q2203 : (Jvm.Cond.selects "OperaHouseModel" ({ cls := "OperaHouseModel", name := "ill", desc := "(III)Z" } : Jvm.MethodName) ({ cls := "OperaHouseModel", name := "ill", desc := "(III)Z" } : Jvm.MethodName)) ∈ lw_all := lw_g (lw_at lw_m9 155 rfl) rfl
theorem q2204 : (Jvm.Cond.code ({ cls := "OperaHouseModel", name := "ill", desc := "(III)Z" } : Jvm.MethodName) prog_18_method_49_code (4 : Nat) (Option.some Jvm.ClassFile.FieldType.boolean)) ∈ lw_all := lw_g (lw_at lw_m9 156 rfl) rfl
theorem q2206 : (Jvm.Cond.instanceMethod ({ cls := "OperaHouseModel", name := "who", desc := "(IIZI)I" } : Jvm.MethodName)) ∈ lw_all := lw_g (lw_at lw_m9 158 rfl) rfl
theorem q2207 : (Jvm.Cond.selects "OperaHouseModel" ({ cls := "OperaHouseModel", name := "who", desc := "(IIZI)I" } : Jvm.MethodName) ({ cls := "OperaHouseModel", name := "who", desc := "(IIZI)I" } : Jvm.MethodName)) ∈ lw_all := lw_g (lw_at lw_m9 159 rfl) rfl
theorem q2208 : (Jvm.Cond.code ({ cls := "OperaHouseModel", name := "who", desc := "(IIZI)I" } : Jvm.MethodName) prog_18_method_62_code (5 : Nat) (Option.some Jvm.ClassFile.FieldType.int)) ∈ lw_all := lw_g (lw_at lw_m9 160 rfl) rfl
theorem q2209 : (Jvm.Cond.methodLink "OperaHouseModel" (460 : Nat) ({ cls := "OperaHouseModel", name := "load", desc := "(I)V" } : Jvm.MethodName)) ∈ lw_all := lw_g (lw_at lw_m9 161 rfl) rfl
theorem q2210 : (Jvm.Cond.privateMethod ({ cls := "OperaHouseModel", name := "load", desc := "(I)V" } : Jvm.MethodName)) ∈ lw_tbl := lw_at lw_m9 162 rfl
theorem q2211 : (Jvm.Cond.instanceMethod ({ cls := "OperaHouseModel", name := "load", desc := "(I)V" } : Jvm.MethodName)) ∈ lw_all := lw_g (lw_at lw_m9 163 rfl) rfl
theorem q2212 : (Jvm.Cond.code ({ cls := "OperaHouseModel", name := "load", desc := "(I)V" } : Jvm.MethodName) prog_18_method_50_code (4 : Nat) (Option.none : Option Jvm.ClassFile.FieldType)) ∈ lw_all := lw_g (lw_at lw_m9 164 rfl) rfl
theorem q2213 : (Jvm.Cond.methodLink "OperaHouseModel" (449 : Nat) ({ cls := "OperaHouseModel", name := "sort", desc := "()V" } : Jvm.MethodName)) ∈ lw_all := lw_g (lw_at lw_m9 165 rfl) rfl
theorem q2214 : (Jvm.Cond.privateMethod ({ cls := "OperaHouseModel", name := "sort", desc := "()V" } : Jvm.MethodName)) ∈ lw_tbl := lw_at lw_m9 166 rfl
theorem q2215 : (Jvm.Cond.instanceMethod ({ cls := "OperaHouseModel", name := "sort", desc := "()V" } : Jvm.MethodName)) ∈ lw_all := lw_g (lw_at lw_m9 167 rfl) rfl
theorem q2216 : (Jvm.Cond.code ({ cls := "OperaHouseModel", name := "sort", desc := "()V" } : Jvm.MethodName) prog_18_method_51_code (3 : Nat) (Option.none : Option Jvm.ClassFile.FieldType)) ∈ lw_all := lw_g (lw_at lw_m9 168 rfl) rfl
theorem q2217 : (Jvm.Cond.methodLink "OperaHouseModel" (452 : Nat) ({ cls := "OperaHouseModel", name := "enroll", desc := "(I)V" } : Jvm.MethodName)) ∈ lw_all := lw_g (lw_at lw_m9 169 rfl) rfl
theorem q2218 : (Jvm.Cond.privateMethod ({ cls := "OperaHouseModel", name := "enroll", desc := "(I)V" } : Jvm.MethodName)) ∈ lw_tbl := lw_at lw_m9 170 rfl
theorem q2219 : (Jvm.Cond.instanceMethod ({ cls := "OperaHouseModel", name := "enroll", desc := "(I)V" } : Jvm.MethodName)) ∈ lw_all := lw_g (lw_at lw_m9 171 rfl) rfl
theorem q2220 : (Jvm.Cond.code ({ cls := "OperaHouseModel", name := "enroll", desc := "(I)V" } : Jvm.MethodName) prog_18_method_52_code (3 : Nat) (Option.none : Option Jvm.ClassFile.FieldType)) ∈ lw_all := lw_g (lw_at lw_m9 172 rfl) rfl
theorem q2222 : (Jvm.Cond.instanceMethod ({ cls := "OperaHouseModel", name := "learned", desc := "(IIII)I" } : Jvm.MethodName)) ∈ lw_all := lw_g (lw_at lw_m9 174 rfl) rfl
theorem q2223 : (Jvm.Cond.selects "OperaHouseModel" ({ cls := "OperaHouseModel", name := "learned", desc := "(IIII)I" } : Jvm.MethodName) ({ cls := "OperaHouseModel", name := "learned", desc := "(IIII)I" } : Jvm.MethodName)) ∈ lw_all := lw_g (lw_at lw_m9 175 rfl) rfl
theorem q2224 : (Jvm.Cond.code ({ cls := "OperaHouseModel", name := "learned", desc := "(IIII)I" } : Jvm.MethodName) prog_18_method_63_code (5 : Nat) (Option.some Jvm.ClassFile.FieldType.int)) ∈ lw_all := lw_g (lw_at lw_m9 176 rfl) rfl
theorem q2225 : (Jvm.Cond.methodLink "OperaHouseModel" (463 : Nat) ({ cls := "OperaHouseModel", name := "learnedOf", desc := "(III)I" } : Jvm.MethodName)) ∈ lw_all := lw_g (lw_at lw_m9 177 rfl) rfl
theorem q2226 : (Jvm.Cond.privateMethod ({ cls := "OperaHouseModel", name := "learnedOf", desc := "(III)I" } : Jvm.MethodName)) ∈ lw_tbl := lw_at lw_m9 178 rfl
theorem q2227 : (Jvm.Cond.instanceMethod ({ cls := "OperaHouseModel", name := "learnedOf", desc := "(III)I" } : Jvm.MethodName)) ∈ lw_all := lw_g (lw_at lw_m9 179 rfl) rfl
theorem q2228 : (Jvm.Cond.code ({ cls := "OperaHouseModel", name := "learnedOf", desc := "(III)I" } : Jvm.MethodName) prog_18_method_58_code (7 : Nat) (Option.some Jvm.ClassFile.FieldType.int)) ∈ lw_all := lw_g (lw_at lw_m9 180 rfl) rfl
theorem q2229 : (Jvm.Cond.methodLink "OperaHouseModel" (455 : Nat) ({ cls := "OperaHouseModel", name := "longOf", desc := "(I)I" } : Jvm.MethodName)) ∈ lw_all := lw_g (lw_at lw_m9 181 rfl) rfl
theorem q2230 : (Jvm.Cond.privateMethod ({ cls := "OperaHouseModel", name := "longOf", desc := "(I)I" } : Jvm.MethodName)) ∈ lw_tbl := lw_at lw_m9 182 rfl
theorem q2231 : (Jvm.Cond.instanceMethod ({ cls := "OperaHouseModel", name := "longOf", desc := "(I)I" } : Jvm.MethodName)) ∈ lw_all := lw_g (lw_at lw_m9 183 rfl) rfl
theorem q2232 : (Jvm.Cond.code ({ cls := "OperaHouseModel", name := "longOf", desc := "(I)I" } : Jvm.MethodName) prog_18_method_56_code (2 : Nat) (Option.some Jvm.ClassFile.FieldType.int)) ∈ lw_all := lw_g (lw_at lw_m9 184 rfl) rfl
theorem q2234 : (Jvm.Cond.instanceMethod ({ cls := "OperaHouseModel", name := "tired", desc := "(III)I" } : Jvm.MethodName)) ∈ lw_all := lw_g (lw_at lw_m9 186 rfl) rfl
theorem q2235 : (Jvm.Cond.selects "OperaHouseModel" ({ cls := "OperaHouseModel", name := "tired", desc := "(III)I" } : Jvm.MethodName) ({ cls := "OperaHouseModel", name := "tired", desc := "(III)I" } : Jvm.MethodName)) ∈ lw_all := lw_g (lw_at lw_m9 187 rfl) rfl
theorem q2236 : (Jvm.Cond.code ({ cls := "OperaHouseModel", name := "tired", desc := "(III)I" } : Jvm.MethodName) prog_18_method_64_code (4 : Nat) (Option.some Jvm.ClassFile.FieldType.int)) ∈ lw_all := lw_g (lw_at lw_m9 188 rfl) rfl
theorem q2237 : (Jvm.Cond.methodLink "OperaHouseModel" (467 : Nat) ({ cls := "OperaHouseModel", name := "tiredOf", desc := "(II)I" } : Jvm.MethodName)) ∈ lw_all := lw_g (lw_at lw_m9 189 rfl) rfl
theorem q2238 : (Jvm.Cond.privateMethod ({ cls := "OperaHouseModel", name := "tiredOf", desc := "(II)I" } : Jvm.MethodName)) ∈ lw_tbl := lw_at lw_m9 190 rfl
theorem q2239 : (Jvm.Cond.instanceMethod ({ cls := "OperaHouseModel", name := "tiredOf", desc := "(II)I" } : Jvm.MethodName)) ∈ lw_all := lw_g (lw_at lw_m9 191 rfl) rfl
theorem q2240 : (Jvm.Cond.code ({ cls := "OperaHouseModel", name := "tiredOf", desc := "(II)I" } : Jvm.MethodName) prog_18_method_59_code (9 : Nat) (Option.some Jvm.ClassFile.FieldType.int)) ∈ lw_all := lw_g (lw_at lw_m9 192 rfl) rfl
theorem q2241 : (Jvm.Cond.methodLink "OperaHouseModel" (458 : Nat) ({ cls := "OperaHouseModel", name := "isIn", desc := "(II)Z" } : Jvm.MethodName)) ∈ lw_all := lw_g (lw_at lw_m9 193 rfl) rfl
theorem q2242 : (Jvm.Cond.privateMethod ({ cls := "OperaHouseModel", name := "isIn", desc := "(II)Z" } : Jvm.MethodName)) ∈ lw_tbl := lw_at lw_m9 194 rfl
theorem q2243 : (Jvm.Cond.instanceMethod ({ cls := "OperaHouseModel", name := "isIn", desc := "(II)Z" } : Jvm.MethodName)) ∈ lw_all := lw_g (lw_at lw_m9 195 rfl) rfl
theorem q2244 : (Jvm.Cond.code ({ cls := "OperaHouseModel", name := "isIn", desc := "(II)Z" } : Jvm.MethodName) prog_18_method_53_code (3 : Nat) (Option.some Jvm.ClassFile.FieldType.boolean)) ∈ lw_all := lw_g (lw_at lw_m9 196 rfl) rfl
theorem q2246 : (Jvm.Cond.instanceMethod ({ cls := "OperaHouseModel", name := "fee", desc := "(III)I" } : Jvm.MethodName)) ∈ lw_all := lw_g (lw_at lw_m9 198 rfl) rfl
theorem q2247 : (Jvm.Cond.selects "OperaHouseModel" ({ cls := "OperaHouseModel", name := "fee", desc := "(III)I" } : Jvm.MethodName) ({ cls := "OperaHouseModel", name := "fee", desc := "(III)I" } : Jvm.MethodName)) ∈ lw_all := lw_g (lw_at lw_m9 199 rfl) rfl
theorem q2248 : (Jvm.Cond.code ({ cls := "OperaHouseModel", name := "fee", desc := "(III)I" } : Jvm.MethodName) prog_18_method_69_code (4 : Nat) (Option.some Jvm.ClassFile.FieldType.int)) ∈ lw_all := lw_g (lw_at lw_m9 200 rfl) rfl
theorem q2249 : (Jvm.Cond.methodLink "OperaHouseModel" (497 : Nat) ({ cls := "OperaHouseModel", name := "feeOf", desc := "(II)I" } : Jvm.MethodName)) ∈ lw_all := lw_g (lw_at lw_m9 201 rfl) rfl
theorem q2250 : (Jvm.Cond.privateMethod ({ cls := "OperaHouseModel", name := "feeOf", desc := "(II)I" } : Jvm.MethodName)) ∈ lw_tbl := lw_at lw_m9 202 rfl
theorem q2251 : (Jvm.Cond.instanceMethod ({ cls := "OperaHouseModel", name := "feeOf", desc := "(II)I" } : Jvm.MethodName)) ∈ lw_all := lw_g (lw_at lw_m9 203 rfl) rfl
theorem q2252 : (Jvm.Cond.code ({ cls := "OperaHouseModel", name := "feeOf", desc := "(II)I" } : Jvm.MethodName) prog_18_method_68_code (6 : Nat) (Option.some Jvm.ClassFile.FieldType.int)) ∈ lw_all := lw_g (lw_at lw_m9 204 rfl) rfl
theorem q2253 : (Jvm.Cond.methodLink "OperaHouseModel" (470 : Nat) ({ cls := "OperaHouseModel", name := "isCover", desc := "(II)Z" } : Jvm.MethodName)) ∈ lw_all := lw_g (lw_at lw_m9 205 rfl) rfl
theorem q2254 : (Jvm.Cond.privateMethod ({ cls := "OperaHouseModel", name := "isCover", desc := "(II)Z" } : Jvm.MethodName)) ∈ lw_tbl := lw_at lw_m9 206 rfl
theorem q2255 : (Jvm.Cond.instanceMethod ({ cls := "OperaHouseModel", name := "isCover", desc := "(II)Z" } : Jvm.MethodName)) ∈ lw_all := lw_g (lw_at lw_m9 207 rfl) rfl
theorem q2256 : (Jvm.Cond.code ({ cls := "OperaHouseModel", name := "isCover", desc := "(II)Z" } : Jvm.MethodName) prog_18_method_54_code (4 : Nat) (Option.some Jvm.ClassFile.FieldType.boolean)) ∈ lw_all := lw_g (lw_at lw_m9 208 rfl) rfl
theorem q2257 : (Jvm.Cond.methodLink "OperaHouseModel" (490 : Nat) ({ cls := "OperaHouseModel", name := "isIll", desc := "(II)Z" } : Jvm.MethodName)) ∈ lw_all := lw_g (lw_at lw_m9 209 rfl) rfl
theorem q2258 : (Jvm.Cond.privateMethod ({ cls := "OperaHouseModel", name := "isIll", desc := "(II)Z" } : Jvm.MethodName)) ∈ lw_tbl := lw_at lw_m9 210 rfl
theorem q2259 : (Jvm.Cond.instanceMethod ({ cls := "OperaHouseModel", name := "isIll", desc := "(II)Z" } : Jvm.MethodName)) ∈ lw_all := lw_g (lw_at lw_m9 211 rfl) rfl
theorem q2260 : (Jvm.Cond.code ({ cls := "OperaHouseModel", name := "isIll", desc := "(II)Z" } : Jvm.MethodName) prog_18_method_57_code (4 : Nat) (Option.some Jvm.ClassFile.FieldType.boolean)) ∈ lw_all := lw_g (lw_at lw_m9 212 rfl) rfl
theorem q2261 : (Jvm.Cond.methodLink "OperaHouseModel" (493 : Nat) ({ cls := "OperaHouseModel", name := "isSo", desc := "(IIIIZ)Z" } : Jvm.MethodName)) ∈ lw_all := lw_g (lw_at lw_m9 213 rfl) rfl
theorem q2262 : (Jvm.Cond.privateMethod ({ cls := "OperaHouseModel", name := "isSo", desc := "(IIIIZ)Z" } : Jvm.MethodName)) ∈ lw_tbl := lw_at lw_m9 214 rfl
theorem q2263 : (Jvm.Cond.instanceMethod ({ cls := "OperaHouseModel", name := "isSo", desc := "(IIIIZ)Z" } : Jvm.MethodName)) ∈ lw_all := lw_g (lw_at lw_m9 215 rfl) rfl
theorem q2264 : (Jvm.Cond.code ({ cls := "OperaHouseModel", name := "isSo", desc := "(IIIIZ)Z" } : Jvm.MethodName) prog_18_method_67_code (10 : Nat) (Option.some Jvm.ClassFile.FieldType.boolean)) ∈ lw_all := lw_g (lw_at lw_m9 216 rfl) rfl
theorem q2265 : (Jvm.Cond.methodLink "OperaHouseModel" (482 : Nat) ({ cls := "OperaHouseModel", name := "asks", desc := "(IIIZ)Z" } : Jvm.MethodName)) ∈ lw_all := lw_g (lw_at lw_m9 217 rfl) rfl
theorem q2266 : (Jvm.Cond.privateMethod ({ cls := "OperaHouseModel", name := "asks", desc := "(IIIZ)Z" } : Jvm.MethodName)) ∈ lw_tbl := lw_at lw_m9 218 rfl
theorem q2267 : (Jvm.Cond.instanceMethod ({ cls := "OperaHouseModel", name := "asks", desc := "(IIIZ)Z" } : Jvm.MethodName)) ∈ lw_all := lw_g (lw_at lw_m9 219 rfl) rfl
theorem q2268 : (Jvm.Cond.code ({ cls := "OperaHouseModel", name := "asks", desc := "(IIIZ)Z" } : Jvm.MethodName) prog_18_method_65_code (5 : Nat) (Option.some Jvm.ClassFile.FieldType.boolean)) ∈ lw_all := lw_g (lw_at lw_m9 220 rfl) rfl
theorem q2269 : (Jvm.Cond.methodLink "OperaHouseModel" (473 : Nat) ({ cls := "OperaHouseModel", name := "cameInstead", desc := "(II)Z" } : Jvm.MethodName)) ∈ lw_all := lw_g (lw_at lw_m9 221 rfl) rfl
theorem q2270 : (Jvm.Cond.privateMethod ({ cls := "OperaHouseModel", name := "cameInstead", desc := "(II)Z" } : Jvm.MethodName)) ∈ lw_tbl := lw_at lw_m9 222 rfl
theorem q2271 : (Jvm.Cond.instanceMethod ({ cls := "OperaHouseModel", name := "cameInstead", desc := "(II)Z" } : Jvm.MethodName)) ∈ lw_all := lw_g (lw_at lw_m9 223 rfl) rfl
theorem q2272 : (Jvm.Cond.code ({ cls := "OperaHouseModel", name := "cameInstead", desc := "(II)Z" } : Jvm.MethodName) prog_18_method_55_code (5 : Nat) (Option.some Jvm.ClassFile.FieldType.boolean)) ∈ lw_all := lw_g (lw_at lw_m9 224 rfl) rfl
theorem q2273 : (Jvm.Cond.methodLink "OperaHouseModel" (486 : Nat) ({ cls := "OperaHouseModel", name := "numberOf", desc := "(IIIZ)I" } : Jvm.MethodName)) ∈ lw_all := lw_g (lw_at lw_m9 225 rfl) rfl
theorem q2274 : (Jvm.Cond.privateMethod ({ cls := "OperaHouseModel", name := "numberOf", desc := "(IIIZ)I" } : Jvm.MethodName)) ∈ lw_tbl := lw_at lw_m9 226 rfl
theorem q2275 : (Jvm.Cond.instanceMethod ({ cls := "OperaHouseModel", name := "numberOf", desc := "(IIIZ)I" } : Jvm.MethodName)) ∈ lw_all := lw_g (lw_at lw_m9 227 rfl) rfl
theorem q2276 : (Jvm.Cond.code ({ cls := "OperaHouseModel", name := "numberOf", desc := "(IIIZ)I" } : Jvm.MethodName) prog_18_method_66_code (6 : Nat) (Option.some Jvm.ClassFile.FieldType.int)) ∈ lw_all := lw_g (lw_at lw_m9 228 rfl) rfl
theorem q2277 : (Jvm.Cond.methodLink "OperaHouseModel" (476 : Nat) ({ cls := "OperaHouseModel", name := "nights", desc := "(III)I" } : Jvm.MethodName)) ∈ lw_all := lw_g (lw_at lw_m9 229 rfl) rfl
theorem q2278 : (Jvm.Cond.privateMethod ({ cls := "OperaHouseModel", name := "nights", desc := "(III)I" } : Jvm.MethodName)) ∈ lw_tbl := lw_at lw_m9 230 rfl
theorem q2279 : (Jvm.Cond.instanceMethod ({ cls := "OperaHouseModel", name := "nights", desc := "(III)I" } : Jvm.MethodName)) ∈ lw_all := lw_g (lw_at lw_m9 231 rfl) rfl
theorem q2280 : (Jvm.Cond.code ({ cls := "OperaHouseModel", name := "nights", desc := "(III)I" } : Jvm.MethodName) prog_18_method_61_code (6 : Nat) (Option.some Jvm.ClassFile.FieldType.int)) ∈ lw_all := lw_g (lw_at lw_m9 232 rfl) rfl
theorem q2281 : (Jvm.Cond.methodLink "OperaHouseModel" (479 : Nat) ({ cls := "OperaHouseModel", name := "dayHours", desc := "(II)I" } : Jvm.MethodName)) ∈ lw_all := lw_g (lw_at lw_m9 233 rfl) rfl
theorem q2282 : (Jvm.Cond.privateMethod ({ cls := "OperaHouseModel", name := "dayHours", desc := "(II)I" } : Jvm.MethodName)) ∈ lw_tbl := lw_at lw_m9 234 rfl
theorem q2283 : (Jvm.Cond.instanceMethod ({ cls := "OperaHouseModel", name := "dayHours", desc := "(II)I" } : Jvm.MethodName)) ∈ lw_all := lw_g (lw_at lw_m9 235 rfl) rfl
theorem q2284 : (Jvm.Cond.code ({ cls := "OperaHouseModel", name := "dayHours", desc := "(II)I" } : Jvm.MethodName) prog_18_method_60_code (5 : Nat) (Option.some Jvm.ClassFile.FieldType.int)) ∈ lw_all := lw_g (lw_at lw_m9 236 rfl) rfl
theorem q2286 : (Jvm.Cond.instanceMethod ({ cls := "OperaHouseModel", name := "pay", desc := "(III)I" } : Jvm.MethodName)) ∈ lw_all := lw_g (lw_at lw_m9 238 rfl) rfl
theorem q2287 : (Jvm.Cond.selects "OperaHouseModel" ({ cls := "OperaHouseModel", name := "pay", desc := "(III)I" } : Jvm.MethodName) ({ cls := "OperaHouseModel", name := "pay", desc := "(III)I" } : Jvm.MethodName)) ∈ lw_all := lw_g (lw_at lw_m9 239 rfl) rfl
theorem q2288 : (Jvm.Cond.code ({ cls := "OperaHouseModel", name := "pay", desc := "(III)I" } : Jvm.MethodName) prog_18_method_70_code (6 : Nat) (Option.some Jvm.ClassFile.FieldType.int)) ∈ lw_all := lw_g (lw_at lw_m10 0 rfl) rfl
theorem q2290 : (Jvm.Cond.instanceMethod ({ cls := "OperaHouseModel", name := "moves", desc := "(II)I" } : Jvm.MethodName)) ∈ lw_all := lw_g (lw_at lw_m10 2 rfl) rfl
theorem q2291 : (Jvm.Cond.selects "OperaHouseModel" ({ cls := "OperaHouseModel", name := "moves", desc := "(II)I" } : Jvm.MethodName) ({ cls := "OperaHouseModel", name := "moves", desc := "(II)I" } : Jvm.MethodName)) ∈ lw_all := lw_g (lw_at lw_m10 3 rfl) rfl
theorem q2292 : (Jvm.Cond.code ({ cls := "OperaHouseModel", name := "moves", desc := "(II)I" } : Jvm.MethodName) prog_18_method_77_code (4 : Nat) (Option.some Jvm.ClassFile.FieldType.int)) ∈ lw_all := lw_g (lw_at lw_m10 4 rfl) rfl
theorem q2293 : (Jvm.Cond.methodLink "OperaHouseModel" (508 : Nat) ({ cls := "OperaHouseModel", name := "atFirst", desc := "()V" } : Jvm.MethodName)) ∈ lw_all := lw_g (lw_at lw_m10 5 rfl) rfl
theorem q2294 : (Jvm.Cond.privateMethod ({ cls := "OperaHouseModel", name := "atFirst", desc := "()V" } : Jvm.MethodName)) ∈ lw_tbl := lw_at lw_m10 6 rfl
theorem q2295 : (Jvm.Cond.instanceMethod ({ cls := "OperaHouseModel", name := "atFirst", desc := "()V" } : Jvm.MethodName)) ∈ lw_all := lw_g (lw_at lw_m10 7 rfl) rfl
theorem q2296 : (Jvm.Cond.code ({ cls := "OperaHouseModel", name := "atFirst", desc := "()V" } : Jvm.MethodName) prog_18_method_74_code (2 : Nat) (Option.none : Option Jvm.ClassFile.FieldType)) ∈ lw_all := lw_g (lw_at lw_m10 8 rfl) rfl
theorem q2297 : (Jvm.Cond.methodLink "OperaHouseModel" (511 : Nat) ({ cls := "OperaHouseModel", name := "canStand", desc := "(I)Z" } : Jvm.MethodName)) ∈ lw_all := lw_g (lw_at lw_m10 9 rfl) rfl
theorem q2298 : (Jvm.Cond.privateMethod ({ cls := "OperaHouseModel", name := "canStand", desc := "(I)Z" } : Jvm.MethodName)) ∈ lw_tbl := lw_at lw_m10 10 rfl
theorem q2299 : (Jvm.Cond.instanceMethod ({ cls := "OperaHouseModel", name := "canStand", desc := "(I)Z" } : Jvm.MethodName)) ∈ lw_all := lw_g (lw_at lw_m10 11 rfl) rfl
theorem q2300 : (Jvm.Cond.code ({ cls := "OperaHouseModel", name := "canStand", desc := "(I)Z" } : Jvm.MethodName) prog_18_method_76_code (3 : Nat) (Option.some Jvm.ClassFile.FieldType.boolean)) ∈ lw_all := lw_g (lw_at lw_m10 12 rfl) rfl
theorem q2301 : (Jvm.Cond.methodLink "OperaHouseModel" (499 : Nat) ({ cls := "OperaHouseModel", name := "placeOf", desc := "(II)I" } : Jvm.MethodName)) ∈ lw_all := lw_g (lw_at lw_m10 13 rfl) rfl
theorem q2302 : (Jvm.Cond.static ({ cls := "OperaHouseModel", name := "placeOf", desc := "(II)I" } : Jvm.MethodName)) ∈ lw_all := lw_g (lw_at lw_m10 14 rfl) rfl
theorem q2303 : (Jvm.Cond.code ({ cls := "OperaHouseModel", name := "placeOf", desc := "(II)I" } : Jvm.MethodName) prog_18_method_71_code (2 : Nat) (Option.some Jvm.ClassFile.FieldType.int)) ∈ lw_all := lw_g (lw_at lw_m10 15 rfl) rfl
theorem q2304 : (Jvm.Cond.methodLink "OperaHouseModel" (514 : Nat) ({ cls := "OperaHouseModel", name := "goOn", desc := "()Z" } : Jvm.MethodName)) ∈ lw_all := lw_g (lw_at lw_m10 16 rfl) rfl
theorem q2305 : (Jvm.Cond.privateMethod ({ cls := "OperaHouseModel", name := "goOn", desc := "()Z" } : Jvm.MethodName)) ∈ lw_tbl := lw_at lw_m10 17 rfl
theorem q2306 : (Jvm.Cond.instanceMethod ({ cls := "OperaHouseModel", name := "goOn", desc := "()Z" } : Jvm.MethodName)) ∈ lw_all := lw_g (lw_at lw_m10 18 rfl) rfl
theorem q2307 : (Jvm.Cond.code ({ cls := "OperaHouseModel", name := "goOn", desc := "()Z" } : Jvm.MethodName) prog_18_method_75_code (5 : Nat) (Option.some Jvm.ClassFile.FieldType.boolean)) ∈ lw_all := lw_g (lw_at lw_m10 19 rfl) rfl
theorem q2308 : (Jvm.Cond.methodLink "OperaHouseModel" (502 : Nat) ({ cls := "OperaHouseModel", name := "areNext", desc := "(II)Z" } : Jvm.MethodName)) ∈ lw_all := lw_g (lw_at lw_m10 20 rfl) rfl
theorem q2309 : (Jvm.Cond.static ({ cls := "OperaHouseModel", name := "areNext", desc := "(II)Z" } : Jvm.MethodName)) ∈ lw_all := lw_g (lw_at lw_m10 21 rfl) rfl
theorem q2310 : (Jvm.Cond.code ({ cls := "OperaHouseModel", name := "areNext", desc := "(II)Z" } : Jvm.MethodName) prog_18_method_73_code (4 : Nat) (Option.some Jvm.ClassFile.FieldType.boolean)) ∈ lw_all := lw_g (lw_at lw_m10 22 rfl) rfl
theorem q2311 : (Jvm.Cond.methodLink "OperaHouseModel" (505 : Nat) ({ cls := "OperaHouseModel", name := "moved", desc := "(III)I" } : Jvm.MethodName)) ∈ lw_all := lw_g (lw_at lw_m10 23 rfl) rfl
theorem q2312 : (Jvm.Cond.static ({ cls := "OperaHouseModel", name := "moved", desc := "(III)I" } : Jvm.MethodName)) ∈ lw_all := lw_g (lw_at lw_m10 24 rfl) rfl
theorem q2313 : (Jvm.Cond.code ({ cls := "OperaHouseModel", name := "moved", desc := "(III)I" } : Jvm.MethodName) prog_18_method_72_code (3 : Nat) (Option.some Jvm.ClassFile.FieldType.int)) ∈ lw_all := lw_g (lw_at lw_m10 25 rfl) rfl
theorem q2315 : (Jvm.Cond.instanceMethod ({ cls := "OperaHouseModel", name := "wrong", desc := "(I)I" } : Jvm.MethodName)) ∈ lw_all := lw_g (lw_at lw_m10 27 rfl) rfl
theorem q2316 : (Jvm.Cond.selects "OperaHouseModel" ({ cls := "OperaHouseModel", name := "wrong", desc := "(I)I" } : Jvm.MethodName) ({ cls := "OperaHouseModel", name := "wrong", desc := "(I)I" } : Jvm.MethodName)) ∈ lw_all := lw_g (lw_at lw_m10 28 rfl) rfl
theorem q2317 : (Jvm.Cond.code ({ cls := "OperaHouseModel", name := "wrong", desc := "(I)I" } : Jvm.MethodName) prog_18_method_93_code (3 : Nat) (Option.some Jvm.ClassFile.FieldType.int)) ∈ lw_all := lw_g (lw_at lw_m10 29 rfl) rfl
theorem q2318 : (Jvm.Cond.methodLink "OperaHouseModel" (567 : Nat) ({ cls := "OperaHouseModel", name := "judge", desc := "()V" } : Jvm.MethodName)) ∈ lw_all := lw_g (lw_at lw_m10 30 rfl) rfl
theorem q2319 : (Jvm.Cond.privateMethod ({ cls := "OperaHouseModel", name := "judge", desc := "()V" } : Jvm.MethodName)) ∈ lw_tbl := lw_at lw_m10 31 rfl
theorem q2320 : (Jvm.Cond.instanceMethod ({ cls := "OperaHouseModel", name := "judge", desc := "()V" } : Jvm.MethodName)) ∈ lw_all := lw_g (lw_at lw_m10 32 rfl) rfl
theorem q2321 : (Jvm.Cond.code ({ cls := "OperaHouseModel", name := "judge", desc := "()V" } : Jvm.MethodName) prog_18_method_91_code (6 : Nat) (Option.none : Option Jvm.ClassFile.FieldType)) ∈ lw_all := lw_g (lw_at lw_m10 33 rfl) rfl
theorem q2322 : (Jvm.Cond.methodLink "OperaHouseModel" (554 : Nat) ({ cls := "OperaHouseModel", name := "roll", desc := "()V" } : Jvm.MethodName)) ∈ lw_all := lw_g (lw_at lw_m10 34 rfl) rfl
theorem q2323 : (Jvm.Cond.privateMethod ({ cls := "OperaHouseModel", name := "roll", desc := "()V" } : Jvm.MethodName)) ∈ lw_tbl := lw_at lw_m10 35 rfl
theorem q2324 : (Jvm.Cond.instanceMethod ({ cls := "OperaHouseModel", name := "roll", desc := "()V" } : Jvm.MethodName)) ∈ lw_all := lw_g (lw_at lw_m10 36 rfl) rfl
theorem q2325 : (Jvm.Cond.code ({ cls := "OperaHouseModel", name := "roll", desc := "()V" } : Jvm.MethodName) prog_18_method_78_code (7 : Nat) (Option.none : Option Jvm.ClassFile.FieldType)) ∈ lw_all := lw_g (lw_at lw_m10 37 rfl) rfl
theorem q2326 : (Jvm.Cond.methodLink "OperaHouseModel" (557 : Nat) ({ cls := "OperaHouseModel", name := "isCallWrong", desc := "(II)Z" } : Jvm.MethodName)) ∈ lw_all := lw_g (lw_at lw_m10 38 rfl) rfl
theorem q2327 : (Jvm.Cond.privateMethod ({ cls := "OperaHouseModel", name := "isCallWrong", desc := "(II)Z" } : Jvm.MethodName)) ∈ lw_tbl := lw_at lw_m10 39 rfl
theorem q2328 : (Jvm.Cond.instanceMethod ({ cls := "OperaHouseModel", name := "isCallWrong", desc := "(II)Z" } : Jvm.MethodName)) ∈ lw_all := lw_g (lw_at lw_m10 40 rfl) rfl
theorem q2329 : (Jvm.Cond.code ({ cls := "OperaHouseModel", name := "isCallWrong", desc := "(II)Z" } : Jvm.MethodName) prog_18_method_89_code (3 : Nat) (Option.some Jvm.ClassFile.FieldType.boolean)) ∈ lw_all := lw_g (lw_at lw_m10 41 rfl) rfl
theorem q2330 : (Jvm.Cond.methodLink "OperaHouseModel" (536 : Nat) ({ cls := "OperaHouseModel", name := "isFullStage", desc := "(I)Z" } : Jvm.MethodName)) ∈ lw_all := lw_g (lw_at lw_m10 42 rfl) rfl
theorem q2331 : (Jvm.Cond.privateMethod ({ cls := "OperaHouseModel", name := "isFullStage", desc := "(I)Z" } : Jvm.MethodName)) ∈ lw_tbl := lw_at lw_m10 43 rfl
theorem q2332 : (Jvm.Cond.instanceMethod ({ cls := "OperaHouseModel", name := "isFullStage", desc := "(I)Z" } : Jvm.MethodName)) ∈ lw_all := lw_g (lw_at lw_m10 44 rfl) rfl
theorem q2333 : (Jvm.Cond.code ({ cls := "OperaHouseModel", name := "isFullStage", desc := "(I)Z" } : Jvm.MethodName) prog_18_method_80_code (5 : Nat) (Option.some Jvm.ClassFile.FieldType.boolean)) ∈ lw_all := lw_g (lw_at lw_m10 45 rfl) rfl
theorem q2334 : (Jvm.Cond.methodLink "OperaHouseModel" (517 : Nat) ({ cls := "OperaHouseModel", name := "isOn", desc := "(II)Z" } : Jvm.MethodName)) ∈ lw_all := lw_g (lw_at lw_m10 46 rfl) rfl
theorem q2335 : (Jvm.Cond.privateMethod ({ cls := "OperaHouseModel", name := "isOn", desc := "(II)Z" } : Jvm.MethodName)) ∈ lw_tbl := lw_at lw_m10 47 rfl
theorem q2336 : (Jvm.Cond.instanceMethod ({ cls := "OperaHouseModel", name := "isOn", desc := "(II)Z" } : Jvm.MethodName)) ∈ lw_all := lw_g (lw_at lw_m10 48 rfl) rfl
theorem q2337 : (Jvm.Cond.code ({ cls := "OperaHouseModel", name := "isOn", desc := "(II)Z" } : Jvm.MethodName) prog_18_method_79_code (3 : Nat) (Option.some Jvm.ClassFile.FieldType.boolean)) ∈ lw_all := lw_g (lw_at lw_m10 49 rfl) rfl
theorem q2338 : (Jvm.Cond.methodLink "OperaHouseModel" (539 : Nat) ({ cls := "OperaHouseModel", name := "isUnready", desc := "(I)Z" } : Jvm.MethodName)) ∈ lw_all := lw_g (lw_at lw_m10 50 rfl) rfl
theorem q2339 : (Jvm.Cond.privateMethod ({ cls := "OperaHouseModel", name := "isUnready", desc := "(I)Z" } : Jvm.MethodName)) ∈ lw_tbl := lw_at lw_m10 51 rfl
theorem q2340 : (Jvm.Cond.instanceMethod ({ cls := "OperaHouseModel", name := "isUnready", desc := "(I)Z" } : Jvm.MethodName)) ∈ lw_all := lw_g (lw_at lw_m10 52 rfl) rfl
theorem q2341 : (Jvm.Cond.code ({ cls := "OperaHouseModel", name := "isUnready", desc := "(I)Z" } : Jvm.MethodName) prog_18_method_82_code (2 : Nat) (Option.some Jvm.ClassFile.FieldType.boolean)) ∈ lw_all := lw_g (lw_at lw_m10 53 rfl) rfl
theorem q2342 : (Jvm.Cond.methodLink "OperaHouseModel" (521 : Nat) ({ cls := "OperaHouseModel", name := "firstEnd", desc := "(III)I" } : Jvm.MethodName)) ∈ lw_all := lw_g (lw_at lw_m10 54 rfl) rfl
theorem q2343 : (Jvm.Cond.privateMethod ({ cls := "OperaHouseModel", name := "firstEnd", desc := "(III)I" } : Jvm.MethodName)) ∈ lw_tbl := lw_at lw_m10 55 rfl
theorem q2344 : (Jvm.Cond.instanceMethod ({ cls := "OperaHouseModel", name := "firstEnd", desc := "(III)I" } : Jvm.MethodName)) ∈ lw_all := lw_g (lw_at lw_m10 56 rfl) rfl
theorem q2345 : (Jvm.Cond.code ({ cls := "OperaHouseModel", name := "firstEnd", desc := "(III)I" } : Jvm.MethodName) prog_18_method_81_code (6 : Nat) (Option.some Jvm.ClassFile.FieldType.int)) ∈ lw_all := lw_g (lw_at lw_m10 57 rfl) rfl
theorem q2346 : (Jvm.Cond.constant "OperaHouseModel" (520 : Nat) (100000 : Int32)) ∈ lw_all := lw_g (lw_at lw_m10 58 rfl) rfl
theorem q2347 : (Jvm.Cond.methodLink "OperaHouseModel" (542 : Nat) ({ cls := "OperaHouseModel", name := "lacksPlayers", desc := "(I)Z" } : Jvm.MethodName)) ∈ lw_all := lw_g (lw_at lw_m10 59 rfl) rfl
theorem q2348 : (Jvm.Cond.privateMethod ({ cls := "OperaHouseModel", name := "lacksPlayers", desc := "(I)Z" } : Jvm.MethodName)) ∈ lw_tbl := lw_at lw_m10 60 rfl
theorem q2349 : (Jvm.Cond.instanceMethod ({ cls := "OperaHouseModel", name := "lacksPlayers", desc := "(I)Z" } : Jvm.MethodName)) ∈ lw_all := lw_g (lw_at lw_m10 61 rfl) rfl
theorem q2350 : (Jvm.Cond.code ({ cls := "OperaHouseModel", name := "lacksPlayers", desc := "(I)Z" } : Jvm.MethodName) prog_18_method_83_code (4 : Nat) (Option.some Jvm.ClassFile.FieldType.boolean)) ∈ lw_all := lw_g (lw_at lw_m10 62 rfl) rfl
theorem q2351 : (Jvm.Cond.methodLink "OperaHouseModel" (545 : Nat) ({ cls := "OperaHouseModel", name := "playsTwice", desc := "(I)Z" } : Jvm.MethodName)) ∈ lw_all := lw_g (lw_at lw_m10 63 rfl) rfl
theorem q2352 : (Jvm.Cond.privateMethod ({ cls := "OperaHouseModel", name := "playsTwice", desc := "(I)Z" } : Jvm.MethodName)) ∈ lw_tbl := lw_at lw_m10 64 rfl
theorem q2353 : (Jvm.Cond.instanceMethod ({ cls := "OperaHouseModel", name := "playsTwice", desc := "(I)Z" } : Jvm.MethodName)) ∈ lw_all := lw_g (lw_at lw_m10 65 rfl) rfl
theorem q2354 : (Jvm.Cond.code ({ cls := "OperaHouseModel", name := "playsTwice", desc := "(I)Z" } : Jvm.MethodName) prog_18_method_84_code (3 : Nat) (Option.some Jvm.ClassFile.FieldType.boolean)) ∈ lw_all := lw_g (lw_at lw_m10 66 rfl) rfl
theorem q2355 : (Jvm.Cond.methodLink "OperaHouseModel" (548 : Nat) ({ cls := "OperaHouseModel", name := "tiresChorus", desc := "(I)Z" } : Jvm.MethodName)) ∈ lw_all := lw_g (lw_at lw_m10 67 rfl) rfl
theorem q2356 : (Jvm.Cond.privateMethod ({ cls := "OperaHouseModel", name := "tiresChorus", desc := "(I)Z" } : Jvm.MethodName)) ∈ lw_tbl := lw_at lw_m10 68 rfl
theorem q2357 : (Jvm.Cond.instanceMethod ({ cls := "OperaHouseModel", name := "tiresChorus", desc := "(I)Z" } : Jvm.MethodName)) ∈ lw_all := lw_g (lw_at lw_m10 69 rfl) rfl
theorem q2358 : (Jvm.Cond.code ({ cls := "OperaHouseModel", name := "tiresChorus", desc := "(I)Z" } : Jvm.MethodName) prog_18_method_85_code (6 : Nat) (Option.some Jvm.ClassFile.FieldType.boolean)) ∈ lw_all := lw_g (lw_at lw_m10 70 rfl) rfl
theorem q2359 : (Jvm.Cond.methodLink "OperaHouseModel" (560 : Nat) ({ cls := "OperaHouseModel", name := "note", desc := "(III)V" } : Jvm.MethodName)) ∈ lw_all := lw_g (lw_at lw_m10 71 rfl) rfl
theorem q2360 : (Jvm.Cond.privateMethod ({ cls := "OperaHouseModel", name := "note", desc := "(III)V" } : Jvm.MethodName)) ∈ lw_tbl := lw_at lw_m10 72 rfl
theorem q2361 : (Jvm.Cond.instanceMethod ({ cls := "OperaHouseModel", name := "note", desc := "(III)V" } : Jvm.MethodName)) ∈ lw_all := lw_g (lw_at lw_m10 73 rfl) rfl
theorem q2362 : (Jvm.Cond.code ({ cls := "OperaHouseModel", name := "note", desc := "(III)V" } : Jvm.MethodName) prog_18_method_90_code (4 : Nat) (Option.none : Option Jvm.ClassFile.FieldType)) ∈ lw_all := lw_g (lw_at lw_m10 74 rfl) rfl
theorem q2363 : (Jvm.Cond.methodLink "OperaHouseModel" (563 : Nat) ({ cls := "OperaHouseModel", name := "isWrong", desc := "(IIII)Z" } : Jvm.MethodName)) ∈ lw_all := lw_g (lw_at lw_m10 75 rfl) rfl
theorem q2364 : (Jvm.Cond.privateMethod ({ cls := "OperaHouseModel", name := "isWrong", desc := "(IIII)Z" } : Jvm.MethodName)) ∈ lw_tbl := lw_at lw_m10 76 rfl
theorem q2365 : (Jvm.Cond.instanceMethod ({ cls := "OperaHouseModel", name := "isWrong", desc := "(IIII)Z" } : Jvm.MethodName)) ∈ lw_all := lw_g (lw_at lw_m10 77 rfl) rfl
theorem q2366 : (Jvm.Cond.code ({ cls := "OperaHouseModel", name := "isWrong", desc := "(IIII)Z" } : Jvm.MethodName) prog_18_method_88_code (5 : Nat) (Option.some Jvm.ClassFile.FieldType.boolean)) ∈ lw_all := lw_g (lw_at lw_m10 78 rfl) rfl
theorem q2367 : (Jvm.Cond.methodLink "OperaHouseModel" (524 : Nat) ({ cls := "OperaHouseModel", name := "suits", desc := "(III)Z" } : Jvm.MethodName)) ∈ lw_all := lw_g (lw_at lw_m10 79 rfl) rfl
theorem q2368 : (Jvm.Cond.privateMethod ({ cls := "OperaHouseModel", name := "suits", desc := "(III)Z" } : Jvm.MethodName)) ∈ lw_tbl := lw_at lw_m10 80 rfl
theorem q2369 : (Jvm.Cond.instanceMethod ({ cls := "OperaHouseModel", name := "suits", desc := "(III)Z" } : Jvm.MethodName)) ∈ lw_all := lw_g (lw_at lw_m10 81 rfl) rfl
theorem q2370 : (Jvm.Cond.code ({ cls := "OperaHouseModel", name := "suits", desc := "(III)Z" } : Jvm.MethodName) prog_18_method_17_code (5 : Nat) (Option.some Jvm.ClassFile.FieldType.boolean)) ∈ lw_all := lw_g (lw_at lw_m10 82 rfl) rfl
theorem q2371 : (Jvm.Cond.methodLink "OperaHouseModel" (264 : Nat) ({ cls := "OperaHouseModel", name := "apart", desc := "(II)I" } : Jvm.MethodName)) ∈ lw_all := lw_g (lw_at lw_m10 83 rfl) rfl
theorem q2372 : (Jvm.Cond.static ({ cls := "OperaHouseModel", name := "apart", desc := "(II)I" } : Jvm.MethodName)) ∈ lw_all := lw_g (lw_at lw_m10 84 rfl) rfl
theorem q2373 : (Jvm.Cond.code ({ cls := "OperaHouseModel", name := "apart", desc := "(II)I" } : Jvm.MethodName) prog_18_method_16_code (2 : Nat) (Option.some Jvm.ClassFile.FieldType.int)) ∈ lw_all := lw_g (lw_at lw_m10 85 rfl) rfl
theorem q2374 : (Jvm.Cond.methodLink "OperaHouseModel" (527 : Nat) ({ cls := "OperaHouseModel", name := "isAway", desc := "(II)Z" } : Jvm.MethodName)) ∈ lw_all := lw_g (lw_at lw_m10 86 rfl) rfl
theorem q2375 : (Jvm.Cond.privateMethod ({ cls := "OperaHouseModel", name := "isAway", desc := "(II)Z" } : Jvm.MethodName)) ∈ lw_tbl := lw_at lw_m10 87 rfl
theorem q2376 : (Jvm.Cond.instanceMethod ({ cls := "OperaHouseModel", name := "isAway", desc := "(II)Z" } : Jvm.MethodName)) ∈ lw_all := lw_g (lw_at lw_m10 88 rfl) rfl
theorem q2377 : (Jvm.Cond.code ({ cls := "OperaHouseModel", name := "isAway", desc := "(II)Z" } : Jvm.MethodName) prog_18_method_41_code (4 : Nat) (Option.some Jvm.ClassFile.FieldType.boolean)) ∈ lw_all := lw_g (lw_at lw_m10 89 rfl) rfl
theorem q2378 : (Jvm.Cond.methodLink "OperaHouseModel" (530 : Nat) ({ cls := "OperaHouseModel", name := "isBusy", desc := "(III)Z" } : Jvm.MethodName)) ∈ lw_all := lw_g (lw_at lw_m10 90 rfl) rfl
theorem q2379 : (Jvm.Cond.privateMethod ({ cls := "OperaHouseModel", name := "isBusy", desc := "(III)Z" } : Jvm.MethodName)) ∈ lw_tbl := lw_at lw_m10 91 rfl
theorem q2380 : (Jvm.Cond.instanceMethod ({ cls := "OperaHouseModel", name := "isBusy", desc := "(III)Z" } : Jvm.MethodName)) ∈ lw_all := lw_g (lw_at lw_m10 92 rfl) rfl
theorem q2381 : (Jvm.Cond.code ({ cls := "OperaHouseModel", name := "isBusy", desc := "(III)Z" } : Jvm.MethodName) prog_18_method_86_code (5 : Nat) (Option.some Jvm.ClassFile.FieldType.boolean)) ∈ lw_all := lw_g (lw_at lw_m10 93 rfl) rfl
theorem q2382 : (Jvm.Cond.methodLink "OperaHouseModel" (533 : Nat) ({ cls := "OperaHouseModel", name := "lacksRest", desc := "(II)Z" } : Jvm.MethodName)) ∈ lw_all := lw_g (lw_at lw_m10 94 rfl) rfl
theorem q2383 : (Jvm.Cond.privateMethod ({ cls := "OperaHouseModel", name := "lacksRest", desc := "(II)Z" } : Jvm.MethodName)) ∈ lw_tbl := lw_at lw_m10 95 rfl
theorem q2384 : (Jvm.Cond.instanceMethod ({ cls := "OperaHouseModel", name := "lacksRest", desc := "(II)Z" } : Jvm.MethodName)) ∈ lw_all := lw_g (lw_at lw_m10 96 rfl) rfl
theorem q2385 : (Jvm.Cond.code ({ cls := "OperaHouseModel", name := "lacksRest", desc := "(II)Z" } : Jvm.MethodName) prog_18_method_87_code (5 : Nat) (Option.some Jvm.ClassFile.FieldType.boolean)) ∈ lw_all := lw_g (lw_at lw_m10 97 rfl) rfl
theorem q2387 : (Jvm.Cond.instanceMethod ({ cls := "OperaHouseModel", name := "told", desc := "(II)I" } : Jvm.MethodName)) ∈ lw_all := lw_g (lw_at lw_m10 99 rfl) rfl
theorem q2388 : (Jvm.Cond.selects "OperaHouseModel" ({ cls := "OperaHouseModel", name := "told", desc := "(II)I" } : Jvm.MethodName) ({ cls := "OperaHouseModel", name := "told", desc := "(II)I" } : Jvm.MethodName)) ∈ lw_all := lw_g (lw_at lw_m10 100 rfl) rfl
theorem q2389 : (Jvm.Cond.code ({ cls := "OperaHouseModel", name := "told", desc := "(II)I" } : Jvm.MethodName) prog_18_method_94_code (3 : Nat) (Option.some Jvm.ClassFile.FieldType.int)) ∈ lw_all := lw_g (lw_at lw_m10 101 rfl) rfl
theorem q2390 : (Jvm.Cond.methodLink "OperaHouseModel" (573 : Nat) ({ cls := "OperaHouseModel", name := "throwsIf", desc := "(Z)Z" } : Jvm.MethodName)) ∈ lw_all := lw_g (lw_at lw_m10 102 rfl) rfl
theorem q2391 : (Jvm.Cond.privateMethod ({ cls := "OperaHouseModel", name := "throwsIf", desc := "(Z)Z" } : Jvm.MethodName)) ∈ lw_tbl := lw_at lw_m10 103 rfl
theorem q2392 : (Jvm.Cond.instanceMethod ({ cls := "OperaHouseModel", name := "throwsIf", desc := "(Z)Z" } : Jvm.MethodName)) ∈ lw_all := lw_g (lw_at lw_m10 104 rfl) rfl
theorem q2393 : (Jvm.Cond.code ({ cls := "OperaHouseModel", name := "throwsIf", desc := "(Z)Z" } : Jvm.MethodName) prog_18_method_3_code (2 : Nat) (Option.some Jvm.ClassFile.FieldType.boolean)) ∈ lw_all := lw_g (lw_at lw_m10 105 rfl) rfl
theorem q2395 : (Jvm.Cond.instanceMethod ({ cls := "OperaHouseModel", name := "may", desc := "(III)Z" } : Jvm.MethodName)) ∈ lw_all := lw_g (lw_at lw_m10 107 rfl) rfl
theorem q2396 : (Jvm.Cond.selects "OperaHouseModel" ({ cls := "OperaHouseModel", name := "may", desc := "(III)Z" } : Jvm.MethodName) ({ cls := "OperaHouseModel", name := "may", desc := "(III)Z" } : Jvm.MethodName)) ∈ lw_all := lw_g (lw_at lw_m10 108 rfl) rfl
theorem q2397 : (Jvm.Cond.code ({ cls := "OperaHouseModel", name := "may", desc := "(III)Z" } : Jvm.MethodName) prog_18_method_100_code (4 : Nat) (Option.some Jvm.ClassFile.FieldType.boolean)) ∈ lw_all := lw_g (lw_at lw_m10 109 rfl) rfl
theorem q2398 : (Jvm.Cond.methodLink "OperaHouseModel" (590 : Nat) ({ cls := "OperaHouseModel", name := "mayHave", desc := "(III)Z" } : Jvm.MethodName)) ∈ lw_all := lw_g (lw_at lw_m10 110 rfl) rfl
theorem q2399 : (Jvm.Cond.privateMethod ({ cls := "OperaHouseModel", name := "mayHave", desc := "(III)Z" } : Jvm.MethodName)) ∈ lw_tbl := lw_at lw_m10 111 rfl
theorem q2400 : (Jvm.Cond.instanceMethod ({ cls := "OperaHouseModel", name := "mayHave", desc := "(III)Z" } : Jvm.MethodName)) ∈ lw_all := lw_g (lw_at lw_m10 112 rfl) rfl
theorem q2401 : (Jvm.Cond.code ({ cls := "OperaHouseModel", name := "mayHave", desc := "(III)Z" } : Jvm.MethodName) prog_18_method_98_code (4 : Nat) (Option.some Jvm.ClassFile.FieldType.boolean)) ∈ lw_all := lw_g (lw_at lw_m10 113 rfl) rfl
theorem q2402 : (Jvm.Cond.methodLink "OperaHouseModel" (580 : Nat) ({ cls := "OperaHouseModel", name := "unmark", desc := "()V" } : Jvm.MethodName)) ∈ lw_all := lw_g (lw_at lw_m10 114 rfl) rfl
theorem q2403 : (Jvm.Cond.privateMethod ({ cls := "OperaHouseModel", name := "unmark", desc := "()V" } : Jvm.MethodName)) ∈ lw_tbl := lw_at lw_m10 115 rfl
theorem q2404 : (Jvm.Cond.instanceMethod ({ cls := "OperaHouseModel", name := "unmark", desc := "()V" } : Jvm.MethodName)) ∈ lw_all := lw_g (lw_at lw_m10 116 rfl) rfl
theorem q2405 : (Jvm.Cond.code ({ cls := "OperaHouseModel", name := "unmark", desc := "()V" } : Jvm.MethodName) prog_18_method_96_code (2 : Nat) (Option.none : Option Jvm.ClassFile.FieldType)) ∈ lw_all := lw_g (lw_at lw_m10 117 rfl) rfl
theorem q2406 : (Jvm.Cond.methodLink "OperaHouseModel" (583 : Nat) ({ cls := "OperaHouseModel", name := "marks", desc := "(IZ)Z" } : Jvm.MethodName)) ∈ lw_all := lw_g (lw_at lw_m10 118 rfl) rfl
theorem q2407 : (Jvm.Cond.privateMethod ({ cls := "OperaHouseModel", name := "marks", desc := "(IZ)Z" } : Jvm.MethodName)) ∈ lw_tbl := lw_at lw_m10 119 rfl
theorem q2408 : (Jvm.Cond.instanceMethod ({ cls := "OperaHouseModel", name := "marks", desc := "(IZ)Z" } : Jvm.MethodName)) ∈ lw_all := lw_g (lw_at lw_m10 120 rfl) rfl
theorem q2409 : (Jvm.Cond.code ({ cls := "OperaHouseModel", name := "marks", desc := "(IZ)Z" } : Jvm.MethodName) prog_18_method_95_code (7 : Nat) (Option.some Jvm.ClassFile.FieldType.boolean)) ∈ lw_all := lw_g (lw_at lw_m10 121 rfl) rfl
theorem q2410 : (Jvm.Cond.methodLink "OperaHouseModel" (577 : Nat) ({ cls := "OperaHouseModel", name := "markOf", desc := "(III)I" } : Jvm.MethodName)) ∈ lw_all := lw_g (lw_at lw_m10 122 rfl) rfl
theorem q2411 : (Jvm.Cond.static ({ cls := "OperaHouseModel", name := "markOf", desc := "(III)I" } : Jvm.MethodName)) ∈ lw_all := lw_g (lw_at lw_m10 123 rfl) rfl
theorem q2412 : (Jvm.Cond.code ({ cls := "OperaHouseModel", name := "markOf", desc := "(III)I" } : Jvm.MethodName) prog_18_method_92_code (3 : Nat) (Option.some Jvm.ClassFile.FieldType.int)) ∈ lw_all := lw_g (lw_at lw_m10 124 rfl) rfl
theorem q2413 : (Jvm.Cond.methodLink "OperaHouseModel" (587 : Nat) ({ cls := "OperaHouseModel", name := "put", desc := "(III)V" } : Jvm.MethodName)) ∈ lw_all := lw_g (lw_at lw_m10 125 rfl) rfl
theorem q2414 : (Jvm.Cond.privateMethod ({ cls := "OperaHouseModel", name := "put", desc := "(III)V" } : Jvm.MethodName)) ∈ lw_tbl := lw_at lw_m10 126 rfl
theorem q2415 : (Jvm.Cond.instanceMethod ({ cls := "OperaHouseModel", name := "put", desc := "(III)V" } : Jvm.MethodName)) ∈ lw_all := lw_g (lw_at lw_m10 127 rfl) rfl
theorem q2416 : (Jvm.Cond.code ({ cls := "OperaHouseModel", name := "put", desc := "(III)V" } : Jvm.MethodName) prog_18_method_97_code (4 : Nat) (Option.none : Option Jvm.ClassFile.FieldType)) ∈ lw_all := lw_g (lw_at lw_m10 128 rfl) rfl
theorem q2418 : (Jvm.Cond.instanceMethod ({ cls := "OperaHouseModel", name := "harm", desc := "(III)I" } : Jvm.MethodName)) ∈ lw_all := lw_g (lw_at lw_m10 130 rfl) rfl
theorem q2419 : (Jvm.Cond.selects "OperaHouseModel" ({ cls := "OperaHouseModel", name := "harm", desc := "(III)I" } : Jvm.MethodName) ({ cls := "OperaHouseModel", name := "harm", desc := "(III)I" } : Jvm.MethodName)) ∈ lw_all := lw_g (lw_at lw_m10 131 rfl) rfl
theorem q2420 : (Jvm.Cond.code ({ cls := "OperaHouseModel", name := "harm", desc := "(III)I" } : Jvm.MethodName) prog_18_method_101_code (4 : Nat) (Option.some Jvm.ClassFile.FieldType.int)) ∈ lw_all := lw_g (lw_at lw_m10 132 rfl) rfl
theorem q2421 : (Jvm.Cond.methodLink "OperaHouseModel" (593 : Nat) ({ cls := "OperaHouseModel", name := "harmOf", desc := "(III)I" } : Jvm.MethodName)) ∈ lw_all := lw_g (lw_at lw_m10 133 rfl) rfl
theorem q2422 : (Jvm.Cond.privateMethod ({ cls := "OperaHouseModel", name := "harmOf", desc := "(III)I" } : Jvm.MethodName)) ∈ lw_tbl := lw_at lw_m10 134 rfl
theorem q2423 : (Jvm.Cond.instanceMethod ({ cls := "OperaHouseModel", name := "harmOf", desc := "(III)I" } : Jvm.MethodName)) ∈ lw_all := lw_g (lw_at lw_m10 135 rfl) rfl
theorem q2424 : (Jvm.Cond.code ({ cls := "OperaHouseModel", name := "harmOf", desc := "(III)I" } : Jvm.MethodName) prog_18_method_99_code (6 : Nat) (Option.some Jvm.ClassFile.FieldType.int)) ∈ lw_all := lw_g (lw_at lw_m10 136 rfl) rfl
theorem q2426 : (Jvm.Cond.instanceMethod ({ cls := "OperaHouseModel", name := "instead", desc := "(II)I" } : Jvm.MethodName)) ∈ lw_all := lw_g (lw_at lw_m10 138 rfl) rfl
theorem q2427 : (Jvm.Cond.selects "OperaHouseModel" ({ cls := "OperaHouseModel", name := "instead", desc := "(II)I" } : Jvm.MethodName) ({ cls := "OperaHouseModel", name := "instead", desc := "(II)I" } : Jvm.MethodName)) ∈ lw_all := lw_g (lw_at lw_m10 139 rfl) rfl
theorem q2428 : (Jvm.Cond.code ({ cls := "OperaHouseModel", name := "instead", desc := "(II)I" } : Jvm.MethodName) prog_18_method_102_code (7 : Nat) (Option.some Jvm.ClassFile.FieldType.int)) ∈ lw_all := lw_g (lw_at lw_m10 140 rfl) rfl
theorem q2430 : (Jvm.Cond.instanceMethod ({ cls := "OperaHouseModel", name := "lay", desc := "(III)I" } : Jvm.MethodName)) ∈ lw_all := lw_g (lw_at lw_m10 142 rfl) rfl
theorem q2431 : (Jvm.Cond.selects "OperaHouseModel" ({ cls := "OperaHouseModel", name := "lay", desc := "(III)I" } : Jvm.MethodName) ({ cls := "OperaHouseModel", name := "lay", desc := "(III)I" } : Jvm.MethodName)) ∈ lw_all := lw_g (lw_at lw_m10 143 rfl) rfl
theorem q2432 : (Jvm.Cond.code ({ cls := "OperaHouseModel", name := "lay", desc := "(III)I" } : Jvm.MethodName) prog_18_method_105_code (8 : Nat) (Option.some Jvm.ClassFile.FieldType.int)) ∈ lw_all := lw_g (lw_at lw_m10 144 rfl) rfl
theorem q2433 : (Jvm.Cond.methodLink "OperaHouseModel" (602 : Nat) ({ cls := "OperaHouseModel", name := "putNight", desc := "(III)V" } : Jvm.MethodName)) ∈ lw_all := lw_g (lw_at lw_m10 145 rfl) rfl
theorem q2434 : (Jvm.Cond.privateMethod ({ cls := "OperaHouseModel", name := "putNight", desc := "(III)V" } : Jvm.MethodName)) ∈ lw_tbl := lw_at lw_m10 146 rfl
theorem q2435 : (Jvm.Cond.instanceMethod ({ cls := "OperaHouseModel", name := "putNight", desc := "(III)V" } : Jvm.MethodName)) ∈ lw_all := lw_g (lw_at lw_m10 147 rfl) rfl
theorem q2436 : (Jvm.Cond.code ({ cls := "OperaHouseModel", name := "putNight", desc := "(III)V" } : Jvm.MethodName) prog_18_method_103_code (7 : Nat) (Option.none : Option Jvm.ClassFile.FieldType)) ∈ lw_all := lw_g (lw_at lw_m10 148 rfl) rfl
theorem q2437 : (Jvm.Cond.methodLink "OperaHouseModel" (605 : Nat) ({ cls := "OperaHouseModel", name := "goes", desc := "(I)Z" } : Jvm.MethodName)) ∈ lw_all := lw_g (lw_at lw_m10 149 rfl) rfl
theorem q2438 : (Jvm.Cond.privateMethod ({ cls := "OperaHouseModel", name := "goes", desc := "(I)Z" } : Jvm.MethodName)) ∈ lw_tbl := lw_at lw_m10 150 rfl
theorem q2439 : (Jvm.Cond.instanceMethod ({ cls := "OperaHouseModel", name := "goes", desc := "(I)Z" } : Jvm.MethodName)) ∈ lw_all := lw_g (lw_at lw_m10 151 rfl) rfl
theorem q2440 : (Jvm.Cond.code ({ cls := "OperaHouseModel", name := "goes", desc := "(I)Z" } : Jvm.MethodName) prog_18_method_104_code (3 : Nat) (Option.some Jvm.ClassFile.FieldType.boolean)) ∈ lw_all := lw_g (lw_at lw_m10 152 rfl) rfl
theorem q2442 : (Jvm.Cond.instanceMethod ({ cls := "OperaHouseModel", name := "laid", desc := "(I)I" } : Jvm.MethodName)) ∈ lw_all := lw_g (lw_at lw_m10 154 rfl) rfl
theorem q2443 : (Jvm.Cond.selects "OperaHouseModel" ({ cls := "OperaHouseModel", name := "laid", desc := "(I)I" } : Jvm.MethodName) ({ cls := "OperaHouseModel", name := "laid", desc := "(I)I" } : Jvm.MethodName)) ∈ lw_all := lw_g (lw_at lw_m10 155 rfl) rfl
theorem q2444 : (Jvm.Cond.code ({ cls := "OperaHouseModel", name := "laid", desc := "(I)I" } : Jvm.MethodName) prog_18_method_106_code (2 : Nat) (Option.some Jvm.ClassFile.FieldType.int)) ∈ lw_all := lw_g (lw_at lw_m10 156 rfl) rfl
theorem q2446 : (Jvm.Cond.instanceMethod ({ cls := "OperaHouseModel", name := "keep", desc := "()I" } : Jvm.MethodName)) ∈ lw_all := lw_g (lw_at lw_m10 158 rfl) rfl
theorem q2447 : (Jvm.Cond.selects "OperaHouseModel" ({ cls := "OperaHouseModel", name := "keep", desc := "()I" } : Jvm.MethodName) ({ cls := "OperaHouseModel", name := "keep", desc := "()I" } : Jvm.MethodName)) ∈ lw_all := lw_g (lw_at lw_m10 159 rfl) rfl
theorem q2448 : (Jvm.Cond.code ({ cls := "OperaHouseModel", name := "keep", desc := "()I" } : Jvm.MethodName) prog_18_method_107_code (5 : Nat) (Option.some Jvm.ClassFile.FieldType.int)) ∈ lw_all := lw_g (lw_at lw_m10 160 rfl) rfl
theorem q2450 : (Jvm.Cond.instanceMethod ({ cls := "OperaHouseModel", name := "count", desc := "(I)I" } : Jvm.MethodName)) ∈ lw_all := lw_g (lw_at lw_m10 162 rfl) rfl
theorem q2451 : (Jvm.Cond.selects "OperaHouseModel" ({ cls := "OperaHouseModel", name := "count", desc := "(I)I" } : Jvm.MethodName) ({ cls := "OperaHouseModel", name := "count", desc := "(I)I" } : Jvm.MethodName)) ∈ lw_all := lw_g (lw_at lw_m10 163 rfl) rfl
theorem q2452 : (Jvm.Cond.code ({ cls := "OperaHouseModel", name := "count", desc := "(I)I" } : Jvm.MethodName) prog_18_method_108_code (2 : Nat) (Option.some Jvm.ClassFile.FieldType.int)) ∈ lw_all := lw_g (lw_at lw_m10 164 rfl) rfl
theorem q2465 : (Jvm.Cond.castable "OperaHouseModel" "java/lang/Object") ∈ lw_tbl := lw_at lw_m10 177 rfl
theorem in_X4 : ∀ w ∈ wsX40, w ∈ lw_all := lw_in wsX40 [1809, 1811, 1813, 1815, 1817, 1819, 1821, 1823, 1825, 1827, 1829, 1831, 1833, 1835, 1837, 1839, 1841, 1843, 1845, 1847, 1849, 1851, 1853, 1855, 1857, 1859, 1861, 1863, 1865, 1867, 1869, 1871, 1873, 1875, 1877, 1879, 1881, 1883, 1885, 1887, 1889, 1891, 1893, 1895, 1897, 1899, 1901, 1903, 1905, 1907, 1909, 1911, 1913, 1915, 1917, 1919, 1921, 1923, 1925, 1927, 1929, 1931, 1933, 1935, 1937, 1939, 1941, 1943, 1945, 1947, 1949, 1951, 1953, 1955, 1957, 1959, 1961, 1963, 1965, 1967, 1969, 1971, 1973, 1975, 1977, 1979, 1981, 1983, 1985, 1987, 1989, 1991, 1993, 1995, 1997, 1999, 2001, 2003, 2005, 2007, 2009] (by decide +kernel) (by decide +kernel)
