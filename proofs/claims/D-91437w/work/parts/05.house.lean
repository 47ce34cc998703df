/-! OperaHouse -/
set_option maxRecDepth 100000
def RX1 : String := "OperaHouse"
def TX1 : u_T := fun k => match k with
  | 0 => ("OperaHouse", "tape", "[B", true)
  | 1 => ("OperaHouse", "taped", "I", false)
  | 2 => ("OperaHouse", "fault", "I", false)
  | 3 => ("OperaHouse", "today", "I", false)
  | 4 => ("OperaHouse", "daily", "I", false)
  | 5 => ("OperaHouse", "weekly", "I", false)
  | 6 => ("OperaHouse", "stamp", "I", false)
  | 7 => ("OperaHouse", "one", "[I", true)
  | 8 => ("OperaHouse", "other", "[I", true)
  | 9 => ("OperaHouse", "operas", "Ljava/util/ArrayList;", true)
  | 10 => ("OperaHouse", "singers", "Ljava/util/ArrayList;", true)
  | 11 => ("OperaHouse", "calls", "Ljava/util/ArrayList;", true)
  | 12 => ("OperaHouse", "parts", "Ljava/util/ArrayList;", true)
  | 13 => ("OperaHouse", "ills", "Ljava/util/ArrayList;", true)
  | 14 => ("OperaHouse", "lessons", "Ljava/util/ArrayList;", true)
  | 15 => ("OperaHouse", "wagons", "LOperaHouse$Wagons;", true)
  | 16 => ("OperaHouse", "order", "[LOperaHouse$Call;", true)
  | 17 => ("OperaHouse", "ordered", "I", false)
  | 18 => ("OperaHouse", "asOf", "I", false)
  | 19 => ("OperaHouse", "cast", "[[I", true)
  | 20 => ("OperaHouse", "ahead", "[[I", true)
  | 21 => ("OperaHouse", "cover", "[[I", true)
  | 22 => ("OperaHouse", "wrong", "[[I", true)
  | 23 => ("OperaHouse", "stand", "[Z", true)
  | 24 => ("OperaHouse", "spare", "[Z", true)
  | 25 => ("OperaHouse", "busy", "[Z", true)
  | 26 => ("OperaHouse", "found", "[I", false)
  | 27 => ("OperaHouse", "asked", "LOperaHouse$Asked;", true)
  | 28 => ("OperaHouse", "had", "[[I", true)
  | 29 => ("OperaHouse", "tried", "[LOperaHouse$Call;", true)
  | 30 => ("OperaHouse", "wished", "[I", true)
  | 31 => ("OperaHouse", "wishes", "I", false)
  | 32 => ("OperaHouse", "tries", "I", false)
  | 33 => ("OperaHouse", "hourOf", "I", false)
  | 34 => ("OperaHouse", "lastDay", "I", false)
  | 35 => ("OperaHouse", "laidMany", "I", false)
  | _ => ("OperaHouse", "laidStamp", "I", false)
def tyX1 : Nat → FieldType := fun k => match k with
  | 0 => .array .byte
  | 1 => .int
  | 2 => .int
  | 3 => .int
  | 4 => .int
  | 5 => .int
  | 6 => .int
  | 7 => .array .int
  | 8 => .array .int
  | 9 => .object "java/util/ArrayList"
  | 10 => .object "java/util/ArrayList"
  | 11 => .object "java/util/ArrayList"
  | 12 => .object "java/util/ArrayList"
  | 13 => .object "java/util/ArrayList"
  | 14 => .object "java/util/ArrayList"
  | 15 => .object "OperaHouse$Wagons"
  | 16 => .array (.object "OperaHouse$Call")
  | 17 => .int
  | 18 => .int
  | 19 => .array (.array .int)
  | 20 => .array (.array .int)
  | 21 => .array (.array .int)
  | 22 => .array (.array .int)
  | 23 => .array .boolean
  | 24 => .array .boolean
  | 25 => .array .boolean
  | 26 => .array .int
  | 27 => .object "OperaHouse$Asked"
  | 28 => .array (.array .int)
  | 29 => .array (.object "OperaHouse$Call")
  | 30 => .array .int
  | 31 => .int
  | 32 => .int
  | 33 => .int
  | 34 => .int
  | 35 => .int
  | _ => .int
abbrev wsX10 : List Cond := u_ws RX1 TX1 37
set_option maxRecDepth 100000 in
theorem nmX1 : ∀ a, a < 37 → ∀ b, b < 37 → a ≠ b → (TX1 a).2.1 ≠ (TX1 b).2.1 := by decide +kernel
set_option maxRecDepth 100000 in
theorem tyX1_ok : ∀ k, k < 37 → parseFieldDescriptor (TX1 k).2.2.1 = some (tyX1 k) := by decide +kernel
abbrev cX1_init : ByteArray := prog_1_method_2_code
def yX1_init : MethodName := ⟨RX1, "<init>", "()V"⟩
def dkwX1_init_10 : List UInt8 := [16, 6, 189, 0, 56, 181, 0, 99, 42, 16, 6, 188, 10, 181, 0, 102, 177]
abbrev dktX1_init_10 : List UInt8 := dkwX1_init_10 ++ []
def dkwX1_init_9 : List UInt8 := [187, 0, 89, 89, 183, 0, 91, 181, 0, 92, 42, 16, 66, 16, 9, 197, 0, 62, 2, 181, 0, 96, 42]
abbrev dktX1_init_9 : List UInt8 := dkwX1_init_9 ++ dktX1_init_10
def dkwX1_init_8 : List UInt8 := [16, 120, 188, 4, 181, 0, 80, 42, 17, 2, 208, 188, 4, 181, 0, 83, 42, 3, 188, 10, 181, 0, 86, 42]
abbrev dktX1_init_8 : List UInt8 := dkwX1_init_8 ++ dktX1_init_9
def dkwX1_init_7 : List UInt8 := [181, 0, 70, 42, 16, 66, 16, 9, 197, 0, 62, 2, 181, 0, 73, 42, 16, 120, 188, 4, 181, 0, 76, 42]
abbrev dktX1_init_7 : List UInt8 := dkwX1_init_7 ++ dktX1_init_8
def dkwX1_init_6 : List UInt8 := [181, 0, 64, 42, 16, 66, 16, 8, 197, 0, 62, 2, 181, 0, 67, 42, 16, 66, 16, 8, 197, 0, 62, 2]
abbrev dktX1_init_6 : List UInt8 := dkwX1_init_6 ++ dktX1_init_7
def dkwX1_init_5 : List UInt8 := [183, 0, 51, 181, 0, 52, 42, 16, 66, 189, 0, 56, 181, 0, 58, 42, 16, 66, 16, 8, 197, 0, 62, 2]
abbrev dktX1_init_5 : List UInt8 := dkwX1_init_5 ++ dktX1_init_6
def dkwX1_init_4 : List UInt8 := [183, 0, 29, 181, 0, 43, 42, 187, 0, 27, 89, 183, 0, 29, 181, 0, 46, 42, 187, 0, 49, 89]
abbrev dktX1_init_4 : List UInt8 := dkwX1_init_4 ++ dktX1_init_5
def dkwX1_init_3 : List UInt8 := [183, 0, 29, 181, 0, 37, 42, 187, 0, 27, 89, 183, 0, 29, 181, 0, 40, 42, 187, 0, 27, 89]
abbrev dktX1_init_3 : List UInt8 := dkwX1_init_3 ++ dktX1_init_4
def dkwX1_init_2 : List UInt8 := [183, 0, 29, 181, 0, 30, 42, 187, 0, 27, 89, 183, 0, 29, 181, 0, 34, 42, 187, 0, 27, 89]
abbrev dktX1_init_2 : List UInt8 := dkwX1_init_2 ++ dktX1_init_3
def dkwX1_init_1 : List UInt8 := [181, 0, 17, 42, 7, 188, 10, 181, 0, 20, 42, 7, 188, 10, 181, 0, 24, 42, 187, 0, 27, 89]
abbrev dktX1_init_1 : List UInt8 := dkwX1_init_1 ++ dktX1_init_2
def dkwX1_init_0 : List UInt8 := [42, 183, 0, 1, 42, 17, 1, 84, 188, 8, 181, 0, 9, 42, 16, 24, 181, 0, 13, 42, 17, 0, 168]
abbrev dktX1_init_0 : List UInt8 := dkwX1_init_0 ++ dktX1_init_1
theorem dksX1_init_0 : cX1_init.data.toList.drop 0 = dktX1_init_0 := by decide +kernel
theorem dksX1_init_1 : cX1_init.data.toList.drop 23 = dktX1_init_1 := dk_seg dksX1_init_0 23 rfl rfl
theorem dksX1_init_2 : cX1_init.data.toList.drop 45 = dktX1_init_2 := dk_seg dksX1_init_1 22 rfl rfl
theorem dksX1_init_3 : cX1_init.data.toList.drop 67 = dktX1_init_3 := dk_seg dksX1_init_2 22 rfl rfl
theorem dksX1_init_4 : cX1_init.data.toList.drop 89 = dktX1_init_4 := dk_seg dksX1_init_3 22 rfl rfl
theorem dksX1_init_5 : cX1_init.data.toList.drop 111 = dktX1_init_5 := dk_seg dksX1_init_4 22 rfl rfl
theorem dksX1_init_6 : cX1_init.data.toList.drop 135 = dktX1_init_6 := dk_seg dksX1_init_5 24 rfl rfl
theorem dksX1_init_7 : cX1_init.data.toList.drop 159 = dktX1_init_7 := dk_seg dksX1_init_6 24 rfl rfl
theorem dksX1_init_8 : cX1_init.data.toList.drop 183 = dktX1_init_8 := dk_seg dksX1_init_7 24 rfl rfl
theorem dksX1_init_9 : cX1_init.data.toList.drop 207 = dktX1_init_9 := dk_seg dksX1_init_8 24 rfl rfl
theorem dksX1_init_10 : cX1_init.data.toList.drop 230 = dktX1_init_10 := dk_seg dksX1_init_9 23 rfl rfl
theorem dX1_init_0 : decode cX1_init 0 = .ok (.aload_n 0, 1) := dk_42 (dk_at dksX1_init_0 0 rfl rfl)
theorem dX1_init_1 : decode cX1_init 1 = .ok (.invokespecial 1, 3) := dk_183 0 1 (dk_at dksX1_init_0 1 rfl rfl)
theorem dX1_init_4 : decode cX1_init 4 = .ok (.aload_n 0, 1) := dk_42 (dk_at dksX1_init_0 4 rfl rfl)
theorem dX1_init_5 : decode cX1_init 5 = .ok (.sipush 340, 3) := dk_17 1 84 (dk_at dksX1_init_0 5 rfl rfl)
theorem dX1_init_8 : decode cX1_init 8 = .ok (.newarray .byte, 2) := dk_188_8 (dk_at dksX1_init_0 8 rfl rfl)
theorem dX1_init_10 : decode cX1_init 10 = .ok (.putfield 9, 3) := dk_181 0 9 (dk_at dksX1_init_0 10 rfl rfl)
theorem dX1_init_13 : decode cX1_init 13 = .ok (.aload_n 0, 1) := dk_42 (dk_at dksX1_init_0 13 rfl rfl)
theorem dX1_init_14 : decode cX1_init 14 = .ok (.bipush 24, 2) := dk_16 24 (dk_at dksX1_init_0 14 rfl rfl)
theorem dX1_init_16 : decode cX1_init 16 = .ok (.putfield 13, 3) := dk_181 0 13 (dk_at dksX1_init_0 16 rfl rfl)
theorem dX1_init_19 : decode cX1_init 19 = .ok (.aload_n 0, 1) := dk_42 (dk_at dksX1_init_0 19 rfl rfl)
theorem dX1_init_20 : decode cX1_init 20 = .ok (.sipush 168, 3) := dk_17 0 168 (dk_at dksX1_init_0 20 rfl rfl)
theorem dX1_init_23 : decode cX1_init 23 = .ok (.putfield 17, 3) := dk_181 0 17 (dk_at dksX1_init_1 0 rfl rfl)
theorem dX1_init_26 : decode cX1_init 26 = .ok (.aload_n 0, 1) := dk_42 (dk_at dksX1_init_1 3 rfl rfl)
theorem dX1_init_27 : decode cX1_init 27 = .ok (.iconst 4, 1) := dk_7 (dk_at dksX1_init_1 4 rfl rfl)
theorem dX1_init_28 : decode cX1_init 28 = .ok (.newarray .int, 2) := dk_188_10 (dk_at dksX1_init_1 5 rfl rfl)
theorem dX1_init_30 : decode cX1_init 30 = .ok (.putfield 20, 3) := dk_181 0 20 (dk_at dksX1_init_1 7 rfl rfl)
theorem dX1_init_33 : decode cX1_init 33 = .ok (.aload_n 0, 1) := dk_42 (dk_at dksX1_init_1 10 rfl rfl)
theorem dX1_init_34 : decode cX1_init 34 = .ok (.iconst 4, 1) := dk_7 (dk_at dksX1_init_1 11 rfl rfl)
theorem dX1_init_35 : decode cX1_init 35 = .ok (.newarray .int, 2) := dk_188_10 (dk_at dksX1_init_1 12 rfl rfl)
theorem dX1_init_37 : decode cX1_init 37 = .ok (.putfield 24, 3) := dk_181 0 24 (dk_at dksX1_init_1 14 rfl rfl)
theorem dX1_init_40 : decode cX1_init 40 = .ok (.aload_n 0, 1) := dk_42 (dk_at dksX1_init_1 17 rfl rfl)
theorem dX1_init_41 : decode cX1_init 41 = .ok (.new 27, 3) := dk_187 0 27 (dk_at dksX1_init_1 18 rfl rfl)
theorem dX1_init_44 : decode cX1_init 44 = .ok (.dup, 1) := dk_89 (dk_at dksX1_init_1 21 rfl rfl)
theorem dX1_init_45 : decode cX1_init 45 = .ok (.invokespecial 29, 3) := dk_183 0 29 (dk_at dksX1_init_2 0 rfl rfl)
theorem dX1_init_48 : decode cX1_init 48 = .ok (.putfield 30, 3) := dk_181 0 30 (dk_at dksX1_init_2 3 rfl rfl)
theorem dX1_init_51 : decode cX1_init 51 = .ok (.aload_n 0, 1) := dk_42 (dk_at dksX1_init_2 6 rfl rfl)
theorem dX1_init_52 : decode cX1_init 52 = .ok (.new 27, 3) := dk_187 0 27 (dk_at dksX1_init_2 7 rfl rfl)
theorem dX1_init_55 : decode cX1_init 55 = .ok (.dup, 1) := dk_89 (dk_at dksX1_init_2 10 rfl rfl)
theorem dX1_init_56 : decode cX1_init 56 = .ok (.invokespecial 29, 3) := dk_183 0 29 (dk_at dksX1_init_2 11 rfl rfl)
theorem dX1_init_59 : decode cX1_init 59 = .ok (.putfield 34, 3) := dk_181 0 34 (dk_at dksX1_init_2 14 rfl rfl)
theorem dX1_init_62 : decode cX1_init 62 = .ok (.aload_n 0, 1) := dk_42 (dk_at dksX1_init_2 17 rfl rfl)
theorem dX1_init_63 : decode cX1_init 63 = .ok (.new 27, 3) := dk_187 0 27 (dk_at dksX1_init_2 18 rfl rfl)
theorem dX1_init_66 : decode cX1_init 66 = .ok (.dup, 1) := dk_89 (dk_at dksX1_init_2 21 rfl rfl)
theorem dX1_init_67 : decode cX1_init 67 = .ok (.invokespecial 29, 3) := dk_183 0 29 (dk_at dksX1_init_3 0 rfl rfl)
theorem dX1_init_70 : decode cX1_init 70 = .ok (.putfield 37, 3) := dk_181 0 37 (dk_at dksX1_init_3 3 rfl rfl)
theorem dX1_init_73 : decode cX1_init 73 = .ok (.aload_n 0, 1) := dk_42 (dk_at dksX1_init_3 6 rfl rfl)
theorem dX1_init_74 : decode cX1_init 74 = .ok (.new 27, 3) := dk_187 0 27 (dk_at dksX1_init_3 7 rfl rfl)
theorem dX1_init_77 : decode cX1_init 77 = .ok (.dup, 1) := dk_89 (dk_at dksX1_init_3 10 rfl rfl)
theorem dX1_init_78 : decode cX1_init 78 = .ok (.invokespecial 29, 3) := dk_183 0 29 (dk_at dksX1_init_3 11 rfl rfl)
theorem dX1_init_81 : decode cX1_init 81 = .ok (.putfield 40, 3) := dk_181 0 40 (dk_at dksX1_init_3 14 rfl rfl)
theorem dX1_init_84 : decode cX1_init 84 = .ok (.aload_n 0, 1) := dk_42 (dk_at dksX1_init_3 17 rfl rfl)
theorem dX1_init_85 : decode cX1_init 85 = .ok (.new 27, 3) := dk_187 0 27 (dk_at dksX1_init_3 18 rfl rfl)
theorem dX1_init_88 : decode cX1_init 88 = .ok (.dup, 1) := dk_89 (dk_at dksX1_init_3 21 rfl rfl)
theorem dX1_init_89 : decode cX1_init 89 = .ok (.invokespecial 29, 3) := dk_183 0 29 (dk_at dksX1_init_4 0 rfl rfl)
theorem dX1_init_92 : decode cX1_init 92 = .ok (.putfield 43, 3) := dk_181 0 43 (dk_at dksX1_init_4 3 rfl rfl)
theorem dX1_init_95 : decode cX1_init 95 = .ok (.aload_n 0, 1) := dk_42 (dk_at dksX1_init_4 6 rfl rfl)
theorem dX1_init_96 : decode cX1_init 96 = .ok (.new 27, 3) := dk_187 0 27 (dk_at dksX1_init_4 7 rfl rfl)
theorem dX1_init_99 : decode cX1_init 99 = .ok (.dup, 1) := dk_89 (dk_at dksX1_init_4 10 rfl rfl)
theorem dX1_init_100 : decode cX1_init 100 = .ok (.invokespecial 29, 3) := dk_183 0 29 (dk_at dksX1_init_4 11 rfl rfl)
theorem dX1_init_103 : decode cX1_init 103 = .ok (.putfield 46, 3) := dk_181 0 46 (dk_at dksX1_init_4 14 rfl rfl)
theorem dX1_init_106 : decode cX1_init 106 = .ok (.aload_n 0, 1) := dk_42 (dk_at dksX1_init_4 17 rfl rfl)
theorem dX1_init_107 : decode cX1_init 107 = .ok (.new 49, 3) := dk_187 0 49 (dk_at dksX1_init_4 18 rfl rfl)
theorem dX1_init_110 : decode cX1_init 110 = .ok (.dup, 1) := dk_89 (dk_at dksX1_init_4 21 rfl rfl)
theorem dX1_init_111 : decode cX1_init 111 = .ok (.invokespecial 51, 3) := dk_183 0 51 (dk_at dksX1_init_5 0 rfl rfl)
theorem dX1_init_114 : decode cX1_init 114 = .ok (.putfield 52, 3) := dk_181 0 52 (dk_at dksX1_init_5 3 rfl rfl)
theorem dX1_init_117 : decode cX1_init 117 = .ok (.aload_n 0, 1) := dk_42 (dk_at dksX1_init_5 6 rfl rfl)
theorem dX1_init_118 : decode cX1_init 118 = .ok (.bipush 66, 2) := dk_16 66 (dk_at dksX1_init_5 7 rfl rfl)
theorem dX1_init_120 : decode cX1_init 120 = .ok (.anewarray 56, 3) := dk_189 0 56 (dk_at dksX1_init_5 9 rfl rfl)
theorem dX1_init_123 : decode cX1_init 123 = .ok (.putfield 58, 3) := dk_181 0 58 (dk_at dksX1_init_5 12 rfl rfl)
theorem dX1_init_126 : decode cX1_init 126 = .ok (.aload_n 0, 1) := dk_42 (dk_at dksX1_init_5 15 rfl rfl)
theorem dX1_init_127 : decode cX1_init 127 = .ok (.bipush 66, 2) := dk_16 66 (dk_at dksX1_init_5 16 rfl rfl)
theorem dX1_init_129 : decode cX1_init 129 = .ok (.bipush 8, 2) := dk_16 8 (dk_at dksX1_init_5 18 rfl rfl)
theorem dX1_init_131 : decode cX1_init 131 = .ok (.multianewarray 62 2, 4) := by decide +kernel
theorem dX1_init_135 : decode cX1_init 135 = .ok (.putfield 64, 3) := dk_181 0 64 (dk_at dksX1_init_6 0 rfl rfl)
theorem dX1_init_138 : decode cX1_init 138 = .ok (.aload_n 0, 1) := dk_42 (dk_at dksX1_init_6 3 rfl rfl)
theorem dX1_init_139 : decode cX1_init 139 = .ok (.bipush 66, 2) := dk_16 66 (dk_at dksX1_init_6 4 rfl rfl)
theorem dX1_init_141 : decode cX1_init 141 = .ok (.bipush 8, 2) := dk_16 8 (dk_at dksX1_init_6 6 rfl rfl)
theorem dX1_init_143 : decode cX1_init 143 = .ok (.multianewarray 62 2, 4) := by decide +kernel
theorem dX1_init_147 : decode cX1_init 147 = .ok (.putfield 67, 3) := dk_181 0 67 (dk_at dksX1_init_6 12 rfl rfl)
theorem dX1_init_150 : decode cX1_init 150 = .ok (.aload_n 0, 1) := dk_42 (dk_at dksX1_init_6 15 rfl rfl)
theorem dX1_init_151 : decode cX1_init 151 = .ok (.bipush 66, 2) := dk_16 66 (dk_at dksX1_init_6 16 rfl rfl)
theorem dX1_init_153 : decode cX1_init 153 = .ok (.bipush 8, 2) := dk_16 8 (dk_at dksX1_init_6 18 rfl rfl)
theorem dX1_init_155 : decode cX1_init 155 = .ok (.multianewarray 62 2, 4) := by decide +kernel
theorem dX1_init_159 : decode cX1_init 159 = .ok (.putfield 70, 3) := dk_181 0 70 (dk_at dksX1_init_7 0 rfl rfl)
theorem dX1_init_162 : decode cX1_init 162 = .ok (.aload_n 0, 1) := dk_42 (dk_at dksX1_init_7 3 rfl rfl)
theorem dX1_init_163 : decode cX1_init 163 = .ok (.bipush 66, 2) := dk_16 66 (dk_at dksX1_init_7 4 rfl rfl)
theorem dX1_init_165 : decode cX1_init 165 = .ok (.bipush 9, 2) := dk_16 9 (dk_at dksX1_init_7 6 rfl rfl)
theorem dX1_init_167 : decode cX1_init 167 = .ok (.multianewarray 62 2, 4) := by decide +kernel
theorem dX1_init_171 : decode cX1_init 171 = .ok (.putfield 73, 3) := dk_181 0 73 (dk_at dksX1_init_7 12 rfl rfl)
theorem dX1_init_174 : decode cX1_init 174 = .ok (.aload_n 0, 1) := dk_42 (dk_at dksX1_init_7 15 rfl rfl)
theorem dX1_init_175 : decode cX1_init 175 = .ok (.bipush 120, 2) := dk_16 120 (dk_at dksX1_init_7 16 rfl rfl)
theorem dX1_init_177 : decode cX1_init 177 = .ok (.newarray .boolean, 2) := dk_188_4 (dk_at dksX1_init_7 18 rfl rfl)
theorem dX1_init_179 : decode cX1_init 179 = .ok (.putfield 76, 3) := dk_181 0 76 (dk_at dksX1_init_7 20 rfl rfl)
theorem dX1_init_182 : decode cX1_init 182 = .ok (.aload_n 0, 1) := dk_42 (dk_at dksX1_init_7 23 rfl rfl)
theorem dX1_init_183 : decode cX1_init 183 = .ok (.bipush 120, 2) := dk_16 120 (dk_at dksX1_init_8 0 rfl rfl)
theorem dX1_init_185 : decode cX1_init 185 = .ok (.newarray .boolean, 2) := dk_188_4 (dk_at dksX1_init_8 2 rfl rfl)
theorem dX1_init_187 : decode cX1_init 187 = .ok (.putfield 80, 3) := dk_181 0 80 (dk_at dksX1_init_8 4 rfl rfl)
theorem dX1_init_190 : decode cX1_init 190 = .ok (.aload_n 0, 1) := dk_42 (dk_at dksX1_init_8 7 rfl rfl)
theorem dX1_init_191 : decode cX1_init 191 = .ok (.sipush 720, 3) := dk_17 2 208 (dk_at dksX1_init_8 8 rfl rfl)
theorem dX1_init_194 : decode cX1_init 194 = .ok (.newarray .boolean, 2) := dk_188_4 (dk_at dksX1_init_8 11 rfl rfl)
theorem dX1_init_196 : decode cX1_init 196 = .ok (.putfield 83, 3) := dk_181 0 83 (dk_at dksX1_init_8 13 rfl rfl)
theorem dX1_init_199 : decode cX1_init 199 = .ok (.aload_n 0, 1) := dk_42 (dk_at dksX1_init_8 16 rfl rfl)
theorem dX1_init_200 : decode cX1_init 200 = .ok (.iconst 0, 1) := dk_3 (dk_at dksX1_init_8 17 rfl rfl)
theorem dX1_init_201 : decode cX1_init 201 = .ok (.newarray .int, 2) := dk_188_10 (dk_at dksX1_init_8 18 rfl rfl)
theorem dX1_init_203 : decode cX1_init 203 = .ok (.putfield 86, 3) := dk_181 0 86 (dk_at dksX1_init_8 20 rfl rfl)
theorem dX1_init_206 : decode cX1_init 206 = .ok (.aload_n 0, 1) := dk_42 (dk_at dksX1_init_8 23 rfl rfl)
theorem dX1_init_207 : decode cX1_init 207 = .ok (.new 89, 3) := dk_187 0 89 (dk_at dksX1_init_9 0 rfl rfl)
theorem dX1_init_210 : decode cX1_init 210 = .ok (.dup, 1) := dk_89 (dk_at dksX1_init_9 3 rfl rfl)
theorem dX1_init_211 : decode cX1_init 211 = .ok (.invokespecial 91, 3) := dk_183 0 91 (dk_at dksX1_init_9 4 rfl rfl)
theorem dX1_init_214 : decode cX1_init 214 = .ok (.putfield 92, 3) := dk_181 0 92 (dk_at dksX1_init_9 7 rfl rfl)
theorem dX1_init_217 : decode cX1_init 217 = .ok (.aload_n 0, 1) := dk_42 (dk_at dksX1_init_9 10 rfl rfl)
theorem dX1_init_218 : decode cX1_init 218 = .ok (.bipush 66, 2) := dk_16 66 (dk_at dksX1_init_9 11 rfl rfl)
theorem dX1_init_220 : decode cX1_init 220 = .ok (.bipush 9, 2) := dk_16 9 (dk_at dksX1_init_9 13 rfl rfl)
theorem dX1_init_222 : decode cX1_init 222 = .ok (.multianewarray 62 2, 4) := by decide +kernel
theorem dX1_init_226 : decode cX1_init 226 = .ok (.putfield 96, 3) := dk_181 0 96 (dk_at dksX1_init_9 19 rfl rfl)
theorem dX1_init_229 : decode cX1_init 229 = .ok (.aload_n 0, 1) := dk_42 (dk_at dksX1_init_9 22 rfl rfl)
theorem dX1_init_230 : decode cX1_init 230 = .ok (.bipush 6, 2) := dk_16 6 (dk_at dksX1_init_10 0 rfl rfl)
theorem dX1_init_232 : decode cX1_init 232 = .ok (.anewarray 56, 3) := dk_189 0 56 (dk_at dksX1_init_10 2 rfl rfl)
theorem dX1_init_235 : decode cX1_init 235 = .ok (.putfield 99, 3) := dk_181 0 99 (dk_at dksX1_init_10 5 rfl rfl)
theorem dX1_init_238 : decode cX1_init 238 = .ok (.aload_n 0, 1) := dk_42 (dk_at dksX1_init_10 8 rfl rfl)
theorem dX1_init_239 : decode cX1_init 239 = .ok (.bipush 6, 2) := dk_16 6 (dk_at dksX1_init_10 9 rfl rfl)
theorem dX1_init_241 : decode cX1_init 241 = .ok (.newarray .int, 2) := dk_188_10 (dk_at dksX1_init_10 11 rfl rfl)
theorem dX1_init_243 : decode cX1_init 243 = .ok (.putfield 102, 3) := dk_181 0 102 (dk_at dksX1_init_10 13 rfl rfl)
theorem dX1_init_246 : decode cX1_init 246 = .ok (.return_, 1) := dk_177 (dk_at dksX1_init_10 16 rfl rfl)
abbrev cX1_isIn : ByteArray := prog_1_method_1_code
def yX1_isIn : MethodName := ⟨RX1, "isIn", "(III)Z"⟩
def dkwX1_isIn_0 : List UInt8 := [26, 27, 161, 0, 12, 26, 28, 163, 0, 7, 4, 167, 0, 4, 3, 172]
abbrev dktX1_isIn_0 : List UInt8 := dkwX1_isIn_0 ++ []
theorem dksX1_isIn_0 : cX1_isIn.data.toList.drop 0 = dktX1_isIn_0 := by decide +kernel
theorem dX1_isIn_0 : decode cX1_isIn 0 = .ok (.iload_n 0, 1) := dk_26 (dk_at dksX1_isIn_0 0 rfl rfl)
theorem dX1_isIn_1 : decode cX1_isIn 1 = .ok (.iload_n 1, 1) := dk_27 (dk_at dksX1_isIn_0 1 rfl rfl)
theorem dX1_isIn_2 : decode cX1_isIn 2 = .ok (.if_icmp .lt 12, 3) := dk_161 0 12 (dk_at dksX1_isIn_0 2 rfl rfl)
theorem dX1_isIn_5 : decode cX1_isIn 5 = .ok (.iload_n 0, 1) := dk_26 (dk_at dksX1_isIn_0 5 rfl rfl)
theorem dX1_isIn_6 : decode cX1_isIn 6 = .ok (.iload_n 2, 1) := dk_28 (dk_at dksX1_isIn_0 6 rfl rfl)
theorem dX1_isIn_7 : decode cX1_isIn 7 = .ok (.if_icmp .gt 7, 3) := dk_163 0 7 (dk_at dksX1_isIn_0 7 rfl rfl)
theorem dX1_isIn_10 : decode cX1_isIn 10 = .ok (.iconst 1, 1) := dk_4 (dk_at dksX1_isIn_0 10 rfl rfl)
theorem dX1_isIn_11 : decode cX1_isIn 11 = .ok (.goto 4, 3) := dk_167 0 4 (dk_at dksX1_isIn_0 11 rfl rfl)
theorem dX1_isIn_14 : decode cX1_isIn 14 = .ok (.iconst 0, 1) := dk_3 (dk_at dksX1_isIn_0 14 rfl rfl)
theorem dX1_isIn_15 : decode cX1_isIn 15 = .ok (.ireturn, 1) := dk_172 (dk_at dksX1_isIn_0 15 rfl rfl)
abbrev cX1_feed : ByteArray := prog_1_method_4_code
def yX1_feed : MethodName := ⟨RX1, "feed", "(IIIII)I"⟩
def dkwX1_feed_2 : List UInt8 := [172]
abbrev dktX1_feed_2 : List UInt8 := dkwX1_feed_2 ++ []
def dkwX1_feed_1 : List UInt8 := [182, 0, 108, 42, 29, 182, 0, 108, 42, 21, 4, 182, 0, 108, 42, 21, 5, 182, 0, 108, 42, 180, 0, 105]
abbrev dktX1_feed_1 : List UInt8 := dkwX1_feed_1 ++ dktX1_feed_2
def dkwX1_feed_0 : List UInt8 := [42, 180, 0, 105, 16, 20, 96, 17, 1, 84, 164, 0, 5, 2, 172, 42, 27, 182, 0, 108, 42, 28]
abbrev dktX1_feed_0 : List UInt8 := dkwX1_feed_0 ++ dktX1_feed_1
theorem dksX1_feed_0 : cX1_feed.data.toList.drop 0 = dktX1_feed_0 := by decide +kernel
theorem dksX1_feed_1 : cX1_feed.data.toList.drop 22 = dktX1_feed_1 := dk_seg dksX1_feed_0 22 rfl rfl
theorem dksX1_feed_2 : cX1_feed.data.toList.drop 46 = dktX1_feed_2 := dk_seg dksX1_feed_1 24 rfl rfl
theorem dX1_feed_0 : decode cX1_feed 0 = .ok (.aload_n 0, 1) := dk_42 (dk_at dksX1_feed_0 0 rfl rfl)
theorem dX1_feed_1 : decode cX1_feed 1 = .ok (.getfield 105, 3) := dk_180 0 105 (dk_at dksX1_feed_0 1 rfl rfl)
theorem dX1_feed_4 : decode cX1_feed 4 = .ok (.bipush 20, 2) := dk_16 20 (dk_at dksX1_feed_0 4 rfl rfl)
theorem dX1_feed_6 : decode cX1_feed 6 = .ok (.iadd, 1) := dk_96 (dk_at dksX1_feed_0 6 rfl rfl)
theorem dX1_feed_7 : decode cX1_feed 7 = .ok (.sipush 340, 3) := dk_17 1 84 (dk_at dksX1_feed_0 7 rfl rfl)
theorem dX1_feed_10 : decode cX1_feed 10 = .ok (.if_icmp .le 5, 3) := dk_164 0 5 (dk_at dksX1_feed_0 10 rfl rfl)
theorem dX1_feed_13 : decode cX1_feed 13 = .ok (.iconst (-1), 1) := dk_2 (dk_at dksX1_feed_0 13 rfl rfl)
theorem dX1_feed_14 : decode cX1_feed 14 = .ok (.ireturn, 1) := dk_172 (dk_at dksX1_feed_0 14 rfl rfl)
theorem dX1_feed_15 : decode cX1_feed 15 = .ok (.aload_n 0, 1) := dk_42 (dk_at dksX1_feed_0 15 rfl rfl)
theorem dX1_feed_16 : decode cX1_feed 16 = .ok (.iload_n 1, 1) := dk_27 (dk_at dksX1_feed_0 16 rfl rfl)
theorem dX1_feed_17 : decode cX1_feed 17 = .ok (.invokevirtual 108, 3) := dk_182 0 108 (dk_at dksX1_feed_0 17 rfl rfl)
theorem dX1_feed_20 : decode cX1_feed 20 = .ok (.aload_n 0, 1) := dk_42 (dk_at dksX1_feed_0 20 rfl rfl)
theorem dX1_feed_21 : decode cX1_feed 21 = .ok (.iload_n 2, 1) := dk_28 (dk_at dksX1_feed_0 21 rfl rfl)
theorem dX1_feed_22 : decode cX1_feed 22 = .ok (.invokevirtual 108, 3) := dk_182 0 108 (dk_at dksX1_feed_1 0 rfl rfl)
theorem dX1_feed_25 : decode cX1_feed 25 = .ok (.aload_n 0, 1) := dk_42 (dk_at dksX1_feed_1 3 rfl rfl)
theorem dX1_feed_26 : decode cX1_feed 26 = .ok (.iload_n 3, 1) := dk_29 (dk_at dksX1_feed_1 4 rfl rfl)
theorem dX1_feed_27 : decode cX1_feed 27 = .ok (.invokevirtual 108, 3) := dk_182 0 108 (dk_at dksX1_feed_1 5 rfl rfl)
theorem dX1_feed_30 : decode cX1_feed 30 = .ok (.aload_n 0, 1) := dk_42 (dk_at dksX1_feed_1 8 rfl rfl)
theorem dX1_feed_31 : decode cX1_feed 31 = .ok (.iload 4, 2) := dk_21 4 (dk_at dksX1_feed_1 9 rfl rfl)
theorem dX1_feed_33 : decode cX1_feed 33 = .ok (.invokevirtual 108, 3) := dk_182 0 108 (dk_at dksX1_feed_1 11 rfl rfl)
theorem dX1_feed_36 : decode cX1_feed 36 = .ok (.aload_n 0, 1) := dk_42 (dk_at dksX1_feed_1 14 rfl rfl)
theorem dX1_feed_37 : decode cX1_feed 37 = .ok (.iload 5, 2) := dk_21 5 (dk_at dksX1_feed_1 15 rfl rfl)
theorem dX1_feed_39 : decode cX1_feed 39 = .ok (.invokevirtual 108, 3) := dk_182 0 108 (dk_at dksX1_feed_1 17 rfl rfl)
theorem dX1_feed_42 : decode cX1_feed 42 = .ok (.aload_n 0, 1) := dk_42 (dk_at dksX1_feed_1 20 rfl rfl)
theorem dX1_feed_43 : decode cX1_feed 43 = .ok (.getfield 105, 3) := dk_180 0 105 (dk_at dksX1_feed_1 21 rfl rfl)
theorem dX1_feed_46 : decode cX1_feed 46 = .ok (.ireturn, 1) := dk_172 (dk_at dksX1_feed_2 0 rfl rfl)
abbrev cX1_come : ByteArray := prog_1_method_3_code
def yX1_come : MethodName := ⟨RX1, "come", "(I)V"⟩
def dkwX1_come_1 : List UInt8 := [180, 0, 105, 4, 96, 181, 0, 105, 132, 2, 248, 167, 255, 226, 177]
abbrev dktX1_come_1 : List UInt8 := dkwX1_come_1 ++ []
def dkwX1_come_0 : List UInt8 := [16, 24, 61, 28, 155, 0, 32, 42, 180, 0, 9, 42, 180, 0, 105, 27, 28, 122, 145, 84, 42, 89]
abbrev dktX1_come_0 : List UInt8 := dkwX1_come_0 ++ dktX1_come_1
theorem dksX1_come_0 : cX1_come.data.toList.drop 0 = dktX1_come_0 := by decide +kernel
theorem dksX1_come_1 : cX1_come.data.toList.drop 22 = dktX1_come_1 := dk_seg dksX1_come_0 22 rfl rfl
theorem dX1_come_0 : decode cX1_come 0 = .ok (.bipush 24, 2) := dk_16 24 (dk_at dksX1_come_0 0 rfl rfl)
theorem dX1_come_2 : decode cX1_come 2 = .ok (.istore_n 2, 1) := dk_61 (dk_at dksX1_come_0 2 rfl rfl)
theorem dX1_come_3 : decode cX1_come 3 = .ok (.iload_n 2, 1) := dk_28 (dk_at dksX1_come_0 3 rfl rfl)
theorem dX1_come_4 : decode cX1_come 4 = .ok (.ifCond .lt 32, 3) := dk_155 0 32 (dk_at dksX1_come_0 4 rfl rfl)
theorem dX1_come_7 : decode cX1_come 7 = .ok (.aload_n 0, 1) := dk_42 (dk_at dksX1_come_0 7 rfl rfl)
theorem dX1_come_8 : decode cX1_come 8 = .ok (.getfield 9, 3) := dk_180 0 9 (dk_at dksX1_come_0 8 rfl rfl)
theorem dX1_come_11 : decode cX1_come 11 = .ok (.aload_n 0, 1) := dk_42 (dk_at dksX1_come_0 11 rfl rfl)
theorem dX1_come_12 : decode cX1_come 12 = .ok (.getfield 105, 3) := dk_180 0 105 (dk_at dksX1_come_0 12 rfl rfl)
theorem dX1_come_15 : decode cX1_come 15 = .ok (.iload_n 1, 1) := dk_27 (dk_at dksX1_come_0 15 rfl rfl)
theorem dX1_come_16 : decode cX1_come 16 = .ok (.iload_n 2, 1) := dk_28 (dk_at dksX1_come_0 16 rfl rfl)
theorem dX1_come_17 : decode cX1_come 17 = .ok (.ishr, 1) := dk_122 (dk_at dksX1_come_0 17 rfl rfl)
theorem dX1_come_18 : decode cX1_come 18 = .ok (.i2b, 1) := dk_145 (dk_at dksX1_come_0 18 rfl rfl)
theorem dX1_come_19 : decode cX1_come 19 = .ok (.bastore, 1) := dk_84 (dk_at dksX1_come_0 19 rfl rfl)
theorem dX1_come_20 : decode cX1_come 20 = .ok (.aload_n 0, 1) := dk_42 (dk_at dksX1_come_0 20 rfl rfl)
theorem dX1_come_21 : decode cX1_come 21 = .ok (.dup, 1) := dk_89 (dk_at dksX1_come_0 21 rfl rfl)
theorem dX1_come_22 : decode cX1_come 22 = .ok (.getfield 105, 3) := dk_180 0 105 (dk_at dksX1_come_1 0 rfl rfl)
theorem dX1_come_25 : decode cX1_come 25 = .ok (.iconst 1, 1) := dk_4 (dk_at dksX1_come_1 3 rfl rfl)
theorem dX1_come_26 : decode cX1_come 26 = .ok (.iadd, 1) := dk_96 (dk_at dksX1_come_1 4 rfl rfl)
theorem dX1_come_27 : decode cX1_come 27 = .ok (.putfield 105, 3) := dk_181 0 105 (dk_at dksX1_come_1 5 rfl rfl)
theorem dX1_come_30 : decode cX1_come 30 = .ok (.iinc 2 (-8), 3) := dk_132 2 248 (dk_at dksX1_come_1 8 rfl rfl)
theorem dX1_come_33 : decode cX1_come 33 = .ok (.goto (-30), 3) := dk_167 255 226 (dk_at dksX1_come_1 11 rfl rfl)
theorem dX1_come_36 : decode cX1_come 36 = .ok (.return_, 1) := dk_177 (dk_at dksX1_come_1 14 rfl rfl)
abbrev cX1_end : ByteArray := prog_1_method_5_code
def yX1_end : MethodName := ⟨RX1, "end", "(I)Z"⟩
def dkwX1_end_0 : List UInt8 := [27, 155, 0, 11, 27, 42, 180, 0, 105, 164, 0, 5, 3, 172, 42, 27, 181, 0, 105, 4, 172]
abbrev dktX1_end_0 : List UInt8 := dkwX1_end_0 ++ []
theorem dksX1_end_0 : cX1_end.data.toList.drop 0 = dktX1_end_0 := by decide +kernel
theorem dX1_end_0 : decode cX1_end 0 = .ok (.iload_n 1, 1) := dk_27 (dk_at dksX1_end_0 0 rfl rfl)
theorem dX1_end_1 : decode cX1_end 1 = .ok (.ifCond .lt 11, 3) := dk_155 0 11 (dk_at dksX1_end_0 1 rfl rfl)
theorem dX1_end_4 : decode cX1_end 4 = .ok (.iload_n 1, 1) := dk_27 (dk_at dksX1_end_0 4 rfl rfl)
theorem dX1_end_5 : decode cX1_end 5 = .ok (.aload_n 0, 1) := dk_42 (dk_at dksX1_end_0 5 rfl rfl)
theorem dX1_end_6 : decode cX1_end 6 = .ok (.getfield 105, 3) := dk_180 0 105 (dk_at dksX1_end_0 6 rfl rfl)
theorem dX1_end_9 : decode cX1_end 9 = .ok (.if_icmp .le 5, 3) := dk_164 0 5 (dk_at dksX1_end_0 9 rfl rfl)
theorem dX1_end_12 : decode cX1_end 12 = .ok (.iconst 0, 1) := dk_3 (dk_at dksX1_end_0 12 rfl rfl)
theorem dX1_end_13 : decode cX1_end 13 = .ok (.ireturn, 1) := dk_172 (dk_at dksX1_end_0 13 rfl rfl)
theorem dX1_end_14 : decode cX1_end 14 = .ok (.aload_n 0, 1) := dk_42 (dk_at dksX1_end_0 14 rfl rfl)
theorem dX1_end_15 : decode cX1_end 15 = .ok (.iload_n 1, 1) := dk_27 (dk_at dksX1_end_0 15 rfl rfl)
theorem dX1_end_16 : decode cX1_end 16 = .ok (.putfield 105, 3) := dk_181 0 105 (dk_at dksX1_end_0 16 rfl rfl)
theorem dX1_end_19 : decode cX1_end 19 = .ok (.iconst 1, 1) := dk_4 (dk_at dksX1_end_0 19 rfl rfl)
theorem dX1_end_20 : decode cX1_end 20 = .ok (.ireturn, 1) := dk_172 (dk_at dksX1_end_0 20 rfl rfl)
abbrev cX1_next : ByteArray := prog_1_method_8_code
def yX1_next : MethodName := ⟨RX1, "next", "(I)I"⟩
def dkwX1_next_1 : List UInt8 := [89, 180, 0, 116, 27, 96, 181, 0, 116, 42, 89, 180, 0, 119, 4, 96, 181, 0, 119, 42, 180, 0, 116, 172]
abbrev dktX1_next_1 : List UInt8 := dkwX1_next_1 ++ []
def dkwX1_next_0 : List UInt8 := [27, 3, 16, 29, 184, 0, 112, 153, 0, 14, 42, 180, 0, 116, 27, 96, 16, 30, 161, 0, 5, 2, 172, 42]
abbrev dktX1_next_0 : List UInt8 := dkwX1_next_0 ++ dktX1_next_1
theorem dksX1_next_0 : cX1_next.data.toList.drop 0 = dktX1_next_0 := by decide +kernel
theorem dksX1_next_1 : cX1_next.data.toList.drop 24 = dktX1_next_1 := dk_seg dksX1_next_0 24 rfl rfl
theorem dX1_next_0 : decode cX1_next 0 = .ok (.iload_n 1, 1) := dk_27 (dk_at dksX1_next_0 0 rfl rfl)
theorem dX1_next_1 : decode cX1_next 1 = .ok (.iconst 0, 1) := dk_3 (dk_at dksX1_next_0 1 rfl rfl)
theorem dX1_next_2 : decode cX1_next 2 = .ok (.bipush 29, 2) := dk_16 29 (dk_at dksX1_next_0 2 rfl rfl)
theorem dX1_next_4 : decode cX1_next 4 = .ok (.invokestatic 112, 3) := dk_184 0 112 (dk_at dksX1_next_0 4 rfl rfl)
theorem dX1_next_7 : decode cX1_next 7 = .ok (.ifCond .eq 14, 3) := dk_153 0 14 (dk_at dksX1_next_0 7 rfl rfl)
theorem dX1_next_10 : decode cX1_next 10 = .ok (.aload_n 0, 1) := dk_42 (dk_at dksX1_next_0 10 rfl rfl)
theorem dX1_next_11 : decode cX1_next 11 = .ok (.getfield 116, 3) := dk_180 0 116 (dk_at dksX1_next_0 11 rfl rfl)
theorem dX1_next_14 : decode cX1_next 14 = .ok (.iload_n 1, 1) := dk_27 (dk_at dksX1_next_0 14 rfl rfl)
theorem dX1_next_15 : decode cX1_next 15 = .ok (.iadd, 1) := dk_96 (dk_at dksX1_next_0 15 rfl rfl)
theorem dX1_next_16 : decode cX1_next 16 = .ok (.bipush 30, 2) := dk_16 30 (dk_at dksX1_next_0 16 rfl rfl)
theorem dX1_next_18 : decode cX1_next 18 = .ok (.if_icmp .lt 5, 3) := dk_161 0 5 (dk_at dksX1_next_0 18 rfl rfl)
theorem dX1_next_21 : decode cX1_next 21 = .ok (.iconst (-1), 1) := dk_2 (dk_at dksX1_next_0 21 rfl rfl)
theorem dX1_next_22 : decode cX1_next 22 = .ok (.ireturn, 1) := dk_172 (dk_at dksX1_next_0 22 rfl rfl)
theorem dX1_next_23 : decode cX1_next 23 = .ok (.aload_n 0, 1) := dk_42 (dk_at dksX1_next_0 23 rfl rfl)
theorem dX1_next_24 : decode cX1_next 24 = .ok (.dup, 1) := dk_89 (dk_at dksX1_next_1 0 rfl rfl)
theorem dX1_next_25 : decode cX1_next 25 = .ok (.getfield 116, 3) := dk_180 0 116 (dk_at dksX1_next_1 1 rfl rfl)
theorem dX1_next_28 : decode cX1_next 28 = .ok (.iload_n 1, 1) := dk_27 (dk_at dksX1_next_1 4 rfl rfl)
theorem dX1_next_29 : decode cX1_next 29 = .ok (.iadd, 1) := dk_96 (dk_at dksX1_next_1 5 rfl rfl)
theorem dX1_next_30 : decode cX1_next 30 = .ok (.putfield 116, 3) := dk_181 0 116 (dk_at dksX1_next_1 6 rfl rfl)
theorem dX1_next_33 : decode cX1_next 33 = .ok (.aload_n 0, 1) := dk_42 (dk_at dksX1_next_1 9 rfl rfl)
theorem dX1_next_34 : decode cX1_next 34 = .ok (.dup, 1) := dk_89 (dk_at dksX1_next_1 10 rfl rfl)
theorem dX1_next_35 : decode cX1_next 35 = .ok (.getfield 119, 3) := dk_180 0 119 (dk_at dksX1_next_1 11 rfl rfl)
theorem dX1_next_38 : decode cX1_next 38 = .ok (.iconst 1, 1) := dk_4 (dk_at dksX1_next_1 14 rfl rfl)
theorem dX1_next_39 : decode cX1_next 39 = .ok (.iadd, 1) := dk_96 (dk_at dksX1_next_1 15 rfl rfl)
theorem dX1_next_40 : decode cX1_next 40 = .ok (.putfield 119, 3) := dk_181 0 119 (dk_at dksX1_next_1 16 rfl rfl)
theorem dX1_next_43 : decode cX1_next 43 = .ok (.aload_n 0, 1) := dk_42 (dk_at dksX1_next_1 19 rfl rfl)
theorem dX1_next_44 : decode cX1_next 44 = .ok (.getfield 116, 3) := dk_180 0 116 (dk_at dksX1_next_1 20 rfl rfl)
theorem dX1_next_47 : decode cX1_next 47 = .ok (.ireturn, 1) := dk_172 (dk_at dksX1_next_1 23 rfl rfl)
abbrev cX1_opera : ByteArray := prog_1_method_9_code
def yX1_opera : MethodName := ⟨RX1, "opera", "(IIZI)I"⟩
def dkwX1_opera_13 : List UInt8 := [172]
abbrev dktX1_opera_13 : List UInt8 := dkwX1_opera_13 ++ []
def dkwX1_opera_12 : List UInt8 := [180, 0, 30, 25, 6, 182, 0, 145, 87, 42, 89, 180, 0, 119, 4, 96, 181, 0, 119, 25, 6, 180, 0, 149]
abbrev dktX1_opera_12 : List UInt8 := dkwX1_opera_12 ++ dktX1_opera_13
def dkwX1_opera_11 : List UInt8 := [42, 180, 0, 9, 21, 7, 6, 96, 51, 183, 0, 142, 182, 0, 145, 87, 132, 7, 4, 167, 255, 126, 42]
abbrev dktX1_opera_11 : List UInt8 := dkwX1_opera_11 ++ dktX1_opera_12
def dkwX1_opera_10 : List UInt8 := [180, 0, 9, 21, 7, 51, 42, 180, 0, 9, 21, 7, 4, 96, 51, 42, 180, 0, 9, 21, 7, 5, 96, 51]
abbrev dktX1_opera_10 : List UInt8 := dkwX1_opera_10 ++ dktX1_opera_11
def dkwX1_opera_9 : List UInt8 := [96, 51, 3, 16, 9, 184, 0, 112, 154, 0, 5, 2, 172, 25, 6, 180, 0, 137, 187, 0, 140, 89, 42]
abbrev dktX1_opera_9 : List UInt8 := dkwX1_opera_9 ++ dktX1_opera_10
def dkwX1_opera_8 : List UInt8 := [42, 180, 0, 9, 21, 7, 5, 96, 51, 3, 8, 184, 0, 112, 153, 0, 21, 42, 180, 0, 9, 21, 7, 6]
abbrev dktX1_opera_8 : List UInt8 := dkwX1_opera_8 ++ dktX1_opera_9
def dkwX1_opera_7 : List UInt8 := [184, 0, 112, 153, 0, 56, 42, 180, 0, 9, 21, 7, 4, 96, 51, 4, 16, 30, 184, 0, 112, 153, 0, 38]
abbrev dktX1_opera_7 : List UInt8 := dkwX1_opera_7 ++ dktX1_opera_8
def dkwX1_opera_6 : List UInt8 := [167, 255, 213, 7, 54, 7, 21, 7, 21, 5, 162, 0, 129, 42, 180, 0, 9, 21, 7, 51, 3, 8]
abbrev dktX1_opera_6 : List UInt8 := dkwX1_opera_6 ++ dktX1_opera_7
def dkwX1_opera_5 : List UInt8 := [17, 0, 255, 126, 79, 25, 6, 180, 0, 134, 21, 7, 46, 16, 40, 164, 0, 5, 2, 172, 132, 7, 1]
abbrev dktX1_opera_5 : List UInt8 := dkwX1_opera_5 ++ dktX1_opera_6
def dkwX1_opera_4 : List UInt8 := [54, 7, 21, 7, 7, 162, 0, 43, 25, 6, 180, 0, 134, 21, 7, 42, 180, 0, 9, 21, 7, 51]
abbrev dktX1_opera_4 : List UInt8 := dkwX1_opera_4 ++ dktX1_opera_5
def dkwX1_opera_3 : List UInt8 := [172, 187, 0, 129, 89, 42, 180, 0, 30, 182, 0, 126, 27, 28, 29, 21, 4, 183, 0, 131, 58, 6, 3]
abbrev dktX1_opera_3 : List UInt8 := dkwX1_opera_3 ++ dktX1_opera_4
def dkwX1_opera_2 : List UInt8 := [153, 0, 23, 21, 5, 7, 112, 154, 0, 16, 21, 5, 7, 108, 5, 16, 9, 184, 0, 112, 154, 0, 5, 2]
abbrev dktX1_opera_2 : List UInt8 := dkwX1_opera_2 ++ dktX1_opera_3
def dkwX1_opera_1 : List UInt8 := [184, 0, 112, 153, 0, 43, 28, 3, 6, 184, 0, 112, 153, 0, 34, 21, 4, 4, 16, 60, 184, 0, 112]
abbrev dktX1_opera_1 : List UInt8 := dkwX1_opera_1 ++ dktX1_opera_2
def dkwX1_opera_0 : List UInt8 := [42, 182, 0, 122, 54, 5, 42, 180, 0, 30, 182, 0, 126, 16, 9, 159, 0, 53, 27, 5, 16, 6]
abbrev dktX1_opera_0 : List UInt8 := dkwX1_opera_0 ++ dktX1_opera_1
theorem dksX1_opera_0 : cX1_opera.data.toList.drop 0 = dktX1_opera_0 := by decide +kernel
theorem dksX1_opera_1 : cX1_opera.data.toList.drop 22 = dktX1_opera_1 := dk_seg dksX1_opera_0 22 rfl rfl
theorem dksX1_opera_2 : cX1_opera.data.toList.drop 45 = dktX1_opera_2 := dk_seg dksX1_opera_1 23 rfl rfl
theorem dksX1_opera_3 : cX1_opera.data.toList.drop 69 = dktX1_opera_3 := dk_seg dksX1_opera_2 24 rfl rfl
theorem dksX1_opera_4 : cX1_opera.data.toList.drop 92 = dktX1_opera_4 := dk_seg dksX1_opera_3 23 rfl rfl
theorem dksX1_opera_5 : cX1_opera.data.toList.drop 114 = dktX1_opera_5 := dk_seg dksX1_opera_4 22 rfl rfl
theorem dksX1_opera_6 : cX1_opera.data.toList.drop 137 = dktX1_opera_6 := dk_seg dksX1_opera_5 23 rfl rfl
theorem dksX1_opera_7 : cX1_opera.data.toList.drop 159 = dktX1_opera_7 := dk_seg dksX1_opera_6 22 rfl rfl
theorem dksX1_opera_8 : cX1_opera.data.toList.drop 183 = dktX1_opera_8 := dk_seg dksX1_opera_7 24 rfl rfl
theorem dksX1_opera_9 : cX1_opera.data.toList.drop 207 = dktX1_opera_9 := dk_seg dksX1_opera_8 24 rfl rfl
theorem dksX1_opera_10 : cX1_opera.data.toList.drop 230 = dktX1_opera_10 := dk_seg dksX1_opera_9 23 rfl rfl
theorem dksX1_opera_11 : cX1_opera.data.toList.drop 254 = dktX1_opera_11 := dk_seg dksX1_opera_10 24 rfl rfl
theorem dksX1_opera_12 : cX1_opera.data.toList.drop 277 = dktX1_opera_12 := dk_seg dksX1_opera_11 23 rfl rfl
theorem dksX1_opera_13 : cX1_opera.data.toList.drop 301 = dktX1_opera_13 := dk_seg dksX1_opera_12 24 rfl rfl
theorem dX1_opera_0 : decode cX1_opera 0 = .ok (.aload_n 0, 1) := dk_42 (dk_at dksX1_opera_0 0 rfl rfl)
theorem dX1_opera_1 : decode cX1_opera 1 = .ok (.invokevirtual 122, 3) := dk_182 0 122 (dk_at dksX1_opera_0 1 rfl rfl)
theorem dX1_opera_4 : decode cX1_opera 4 = .ok (.istore 5, 2) := dk_54 5 (dk_at dksX1_opera_0 4 rfl rfl)
theorem dX1_opera_6 : decode cX1_opera 6 = .ok (.aload_n 0, 1) := dk_42 (dk_at dksX1_opera_0 6 rfl rfl)
theorem dX1_opera_7 : decode cX1_opera 7 = .ok (.getfield 30, 3) := dk_180 0 30 (dk_at dksX1_opera_0 7 rfl rfl)
theorem dX1_opera_10 : decode cX1_opera 10 = .ok (.invokevirtual 126, 3) := dk_182 0 126 (dk_at dksX1_opera_0 10 rfl rfl)
theorem dX1_opera_13 : decode cX1_opera 13 = .ok (.bipush 9, 2) := dk_16 9 (dk_at dksX1_opera_0 13 rfl rfl)
theorem dX1_opera_15 : decode cX1_opera 15 = .ok (.if_icmp .eq 53, 3) := dk_159 0 53 (dk_at dksX1_opera_0 15 rfl rfl)
theorem dX1_opera_18 : decode cX1_opera 18 = .ok (.iload_n 1, 1) := dk_27 (dk_at dksX1_opera_0 18 rfl rfl)
theorem dX1_opera_19 : decode cX1_opera 19 = .ok (.iconst 2, 1) := dk_5 (dk_at dksX1_opera_0 19 rfl rfl)
theorem dX1_opera_20 : decode cX1_opera 20 = .ok (.bipush 6, 2) := dk_16 6 (dk_at dksX1_opera_0 20 rfl rfl)
theorem dX1_opera_22 : decode cX1_opera 22 = .ok (.invokestatic 112, 3) := dk_184 0 112 (dk_at dksX1_opera_1 0 rfl rfl)
theorem dX1_opera_25 : decode cX1_opera 25 = .ok (.ifCond .eq 43, 3) := dk_153 0 43 (dk_at dksX1_opera_1 3 rfl rfl)
theorem dX1_opera_28 : decode cX1_opera 28 = .ok (.iload_n 2, 1) := dk_28 (dk_at dksX1_opera_1 6 rfl rfl)
theorem dX1_opera_29 : decode cX1_opera 29 = .ok (.iconst 0, 1) := dk_3 (dk_at dksX1_opera_1 7 rfl rfl)
theorem dX1_opera_30 : decode cX1_opera 30 = .ok (.iconst 3, 1) := dk_6 (dk_at dksX1_opera_1 8 rfl rfl)
theorem dX1_opera_31 : decode cX1_opera 31 = .ok (.invokestatic 112, 3) := dk_184 0 112 (dk_at dksX1_opera_1 9 rfl rfl)
theorem dX1_opera_34 : decode cX1_opera 34 = .ok (.ifCond .eq 34, 3) := dk_153 0 34 (dk_at dksX1_opera_1 12 rfl rfl)
theorem dX1_opera_37 : decode cX1_opera 37 = .ok (.iload 4, 2) := dk_21 4 (dk_at dksX1_opera_1 15 rfl rfl)
theorem dX1_opera_39 : decode cX1_opera 39 = .ok (.iconst 1, 1) := dk_4 (dk_at dksX1_opera_1 17 rfl rfl)
theorem dX1_opera_40 : decode cX1_opera 40 = .ok (.bipush 60, 2) := dk_16 60 (dk_at dksX1_opera_1 18 rfl rfl)
theorem dX1_opera_42 : decode cX1_opera 42 = .ok (.invokestatic 112, 3) := dk_184 0 112 (dk_at dksX1_opera_1 20 rfl rfl)
theorem dX1_opera_45 : decode cX1_opera 45 = .ok (.ifCond .eq 23, 3) := dk_153 0 23 (dk_at dksX1_opera_2 0 rfl rfl)
theorem dX1_opera_48 : decode cX1_opera 48 = .ok (.iload 5, 2) := dk_21 5 (dk_at dksX1_opera_2 3 rfl rfl)
theorem dX1_opera_50 : decode cX1_opera 50 = .ok (.iconst 4, 1) := dk_7 (dk_at dksX1_opera_2 5 rfl rfl)
theorem dX1_opera_51 : decode cX1_opera 51 = .ok (.irem, 1) := dk_112 (dk_at dksX1_opera_2 6 rfl rfl)
theorem dX1_opera_52 : decode cX1_opera 52 = .ok (.ifCond .ne 16, 3) := dk_154 0 16 (dk_at dksX1_opera_2 7 rfl rfl)
theorem dX1_opera_55 : decode cX1_opera 55 = .ok (.iload 5, 2) := dk_21 5 (dk_at dksX1_opera_2 10 rfl rfl)
theorem dX1_opera_57 : decode cX1_opera 57 = .ok (.iconst 4, 1) := dk_7 (dk_at dksX1_opera_2 12 rfl rfl)
theorem dX1_opera_58 : decode cX1_opera 58 = .ok (.idiv, 1) := dk_108 (dk_at dksX1_opera_2 13 rfl rfl)
theorem dX1_opera_59 : decode cX1_opera 59 = .ok (.iconst 2, 1) := dk_5 (dk_at dksX1_opera_2 14 rfl rfl)
theorem dX1_opera_60 : decode cX1_opera 60 = .ok (.bipush 9, 2) := dk_16 9 (dk_at dksX1_opera_2 15 rfl rfl)
theorem dX1_opera_62 : decode cX1_opera 62 = .ok (.invokestatic 112, 3) := dk_184 0 112 (dk_at dksX1_opera_2 17 rfl rfl)
theorem dX1_opera_65 : decode cX1_opera 65 = .ok (.ifCond .ne 5, 3) := dk_154 0 5 (dk_at dksX1_opera_2 20 rfl rfl)
theorem dX1_opera_68 : decode cX1_opera 68 = .ok (.iconst (-1), 1) := dk_2 (dk_at dksX1_opera_2 23 rfl rfl)
theorem dX1_opera_69 : decode cX1_opera 69 = .ok (.ireturn, 1) := dk_172 (dk_at dksX1_opera_3 0 rfl rfl)
theorem dX1_opera_70 : decode cX1_opera 70 = .ok (.new 129, 3) := dk_187 0 129 (dk_at dksX1_opera_3 1 rfl rfl)
theorem dX1_opera_73 : decode cX1_opera 73 = .ok (.dup, 1) := dk_89 (dk_at dksX1_opera_3 4 rfl rfl)
theorem dX1_opera_74 : decode cX1_opera 74 = .ok (.aload_n 0, 1) := dk_42 (dk_at dksX1_opera_3 5 rfl rfl)
theorem dX1_opera_75 : decode cX1_opera 75 = .ok (.getfield 30, 3) := dk_180 0 30 (dk_at dksX1_opera_3 6 rfl rfl)
theorem dX1_opera_78 : decode cX1_opera 78 = .ok (.invokevirtual 126, 3) := dk_182 0 126 (dk_at dksX1_opera_3 9 rfl rfl)
theorem dX1_opera_81 : decode cX1_opera 81 = .ok (.iload_n 1, 1) := dk_27 (dk_at dksX1_opera_3 12 rfl rfl)
theorem dX1_opera_82 : decode cX1_opera 82 = .ok (.iload_n 2, 1) := dk_28 (dk_at dksX1_opera_3 13 rfl rfl)
theorem dX1_opera_83 : decode cX1_opera 83 = .ok (.iload_n 3, 1) := dk_29 (dk_at dksX1_opera_3 14 rfl rfl)
theorem dX1_opera_84 : decode cX1_opera 84 = .ok (.iload 4, 2) := dk_21 4 (dk_at dksX1_opera_3 15 rfl rfl)
theorem dX1_opera_86 : decode cX1_opera 86 = .ok (.invokespecial 131, 3) := dk_183 0 131 (dk_at dksX1_opera_3 17 rfl rfl)
theorem dX1_opera_89 : decode cX1_opera 89 = .ok (.astore 6, 2) := dk_58 6 (dk_at dksX1_opera_3 20 rfl rfl)
theorem dX1_opera_91 : decode cX1_opera 91 = .ok (.iconst 0, 1) := dk_3 (dk_at dksX1_opera_3 22 rfl rfl)
theorem dX1_opera_92 : decode cX1_opera 92 = .ok (.istore 7, 2) := dk_54 7 (dk_at dksX1_opera_4 0 rfl rfl)
theorem dX1_opera_94 : decode cX1_opera 94 = .ok (.iload 7, 2) := dk_21 7 (dk_at dksX1_opera_4 2 rfl rfl)
theorem dX1_opera_96 : decode cX1_opera 96 = .ok (.iconst 4, 1) := dk_7 (dk_at dksX1_opera_4 4 rfl rfl)
theorem dX1_opera_97 : decode cX1_opera 97 = .ok (.if_icmp .ge 43, 3) := dk_162 0 43 (dk_at dksX1_opera_4 5 rfl rfl)
theorem dX1_opera_100 : decode cX1_opera 100 = .ok (.aload 6, 2) := dk_25 6 (dk_at dksX1_opera_4 8 rfl rfl)
theorem dX1_opera_102 : decode cX1_opera 102 = .ok (.getfield 134, 3) := dk_180 0 134 (dk_at dksX1_opera_4 10 rfl rfl)
theorem dX1_opera_105 : decode cX1_opera 105 = .ok (.iload 7, 2) := dk_21 7 (dk_at dksX1_opera_4 13 rfl rfl)
theorem dX1_opera_107 : decode cX1_opera 107 = .ok (.aload_n 0, 1) := dk_42 (dk_at dksX1_opera_4 15 rfl rfl)
theorem dX1_opera_108 : decode cX1_opera 108 = .ok (.getfield 9, 3) := dk_180 0 9 (dk_at dksX1_opera_4 16 rfl rfl)
theorem dX1_opera_111 : decode cX1_opera 111 = .ok (.iload 7, 2) := dk_21 7 (dk_at dksX1_opera_4 19 rfl rfl)
theorem dX1_opera_113 : decode cX1_opera 113 = .ok (.baload, 1) := dk_51 (dk_at dksX1_opera_4 21 rfl rfl)
theorem dX1_opera_114 : decode cX1_opera 114 = .ok (.sipush 255, 3) := dk_17 0 255 (dk_at dksX1_opera_5 0 rfl rfl)
theorem dX1_opera_117 : decode cX1_opera 117 = .ok (.iand, 1) := dk_126 (dk_at dksX1_opera_5 3 rfl rfl)
theorem dX1_opera_118 : decode cX1_opera 118 = .ok (.iastore, 1) := dk_79 (dk_at dksX1_opera_5 4 rfl rfl)
theorem dX1_opera_119 : decode cX1_opera 119 = .ok (.aload 6, 2) := dk_25 6 (dk_at dksX1_opera_5 5 rfl rfl)
theorem dX1_opera_121 : decode cX1_opera 121 = .ok (.getfield 134, 3) := dk_180 0 134 (dk_at dksX1_opera_5 7 rfl rfl)
theorem dX1_opera_124 : decode cX1_opera 124 = .ok (.iload 7, 2) := dk_21 7 (dk_at dksX1_opera_5 10 rfl rfl)
theorem dX1_opera_126 : decode cX1_opera 126 = .ok (.iaload, 1) := dk_46 (dk_at dksX1_opera_5 12 rfl rfl)
theorem dX1_opera_127 : decode cX1_opera 127 = .ok (.bipush 40, 2) := dk_16 40 (dk_at dksX1_opera_5 13 rfl rfl)
theorem dX1_opera_129 : decode cX1_opera 129 = .ok (.if_icmp .le 5, 3) := dk_164 0 5 (dk_at dksX1_opera_5 15 rfl rfl)
theorem dX1_opera_132 : decode cX1_opera 132 = .ok (.iconst (-1), 1) := dk_2 (dk_at dksX1_opera_5 18 rfl rfl)
theorem dX1_opera_133 : decode cX1_opera 133 = .ok (.ireturn, 1) := dk_172 (dk_at dksX1_opera_5 19 rfl rfl)
theorem dX1_opera_134 : decode cX1_opera 134 = .ok (.iinc 7 1, 3) := dk_132 7 1 (dk_at dksX1_opera_5 20 rfl rfl)
theorem dX1_opera_137 : decode cX1_opera 137 = .ok (.goto (-43), 3) := dk_167 255 213 (dk_at dksX1_opera_6 0 rfl rfl)
theorem dX1_opera_140 : decode cX1_opera 140 = .ok (.iconst 4, 1) := dk_7 (dk_at dksX1_opera_6 3 rfl rfl)
theorem dX1_opera_141 : decode cX1_opera 141 = .ok (.istore 7, 2) := dk_54 7 (dk_at dksX1_opera_6 4 rfl rfl)
theorem dX1_opera_143 : decode cX1_opera 143 = .ok (.iload 7, 2) := dk_21 7 (dk_at dksX1_opera_6 6 rfl rfl)
theorem dX1_opera_145 : decode cX1_opera 145 = .ok (.iload 5, 2) := dk_21 5 (dk_at dksX1_opera_6 8 rfl rfl)
theorem dX1_opera_147 : decode cX1_opera 147 = .ok (.if_icmp .ge 129, 3) := dk_162 0 129 (dk_at dksX1_opera_6 10 rfl rfl)
theorem dX1_opera_150 : decode cX1_opera 150 = .ok (.aload_n 0, 1) := dk_42 (dk_at dksX1_opera_6 13 rfl rfl)
theorem dX1_opera_151 : decode cX1_opera 151 = .ok (.getfield 9, 3) := dk_180 0 9 (dk_at dksX1_opera_6 14 rfl rfl)
theorem dX1_opera_154 : decode cX1_opera 154 = .ok (.iload 7, 2) := dk_21 7 (dk_at dksX1_opera_6 17 rfl rfl)
theorem dX1_opera_156 : decode cX1_opera 156 = .ok (.baload, 1) := dk_51 (dk_at dksX1_opera_6 19 rfl rfl)
theorem dX1_opera_157 : decode cX1_opera 157 = .ok (.iconst 0, 1) := dk_3 (dk_at dksX1_opera_6 20 rfl rfl)
theorem dX1_opera_158 : decode cX1_opera 158 = .ok (.iconst 5, 1) := dk_8 (dk_at dksX1_opera_6 21 rfl rfl)
theorem dX1_opera_159 : decode cX1_opera 159 = .ok (.invokestatic 112, 3) := dk_184 0 112 (dk_at dksX1_opera_7 0 rfl rfl)
theorem dX1_opera_162 : decode cX1_opera 162 = .ok (.ifCond .eq 56, 3) := dk_153 0 56 (dk_at dksX1_opera_7 3 rfl rfl)
theorem dX1_opera_165 : decode cX1_opera 165 = .ok (.aload_n 0, 1) := dk_42 (dk_at dksX1_opera_7 6 rfl rfl)
theorem dX1_opera_166 : decode cX1_opera 166 = .ok (.getfield 9, 3) := dk_180 0 9 (dk_at dksX1_opera_7 7 rfl rfl)
theorem dX1_opera_169 : decode cX1_opera 169 = .ok (.iload 7, 2) := dk_21 7 (dk_at dksX1_opera_7 10 rfl rfl)
theorem dX1_opera_171 : decode cX1_opera 171 = .ok (.iconst 1, 1) := dk_4 (dk_at dksX1_opera_7 12 rfl rfl)
theorem dX1_opera_172 : decode cX1_opera 172 = .ok (.iadd, 1) := dk_96 (dk_at dksX1_opera_7 13 rfl rfl)
theorem dX1_opera_173 : decode cX1_opera 173 = .ok (.baload, 1) := dk_51 (dk_at dksX1_opera_7 14 rfl rfl)
theorem dX1_opera_174 : decode cX1_opera 174 = .ok (.iconst 1, 1) := dk_4 (dk_at dksX1_opera_7 15 rfl rfl)
theorem dX1_opera_175 : decode cX1_opera 175 = .ok (.bipush 30, 2) := dk_16 30 (dk_at dksX1_opera_7 16 rfl rfl)
theorem dX1_opera_177 : decode cX1_opera 177 = .ok (.invokestatic 112, 3) := dk_184 0 112 (dk_at dksX1_opera_7 18 rfl rfl)
theorem dX1_opera_180 : decode cX1_opera 180 = .ok (.ifCond .eq 38, 3) := dk_153 0 38 (dk_at dksX1_opera_7 21 rfl rfl)
theorem dX1_opera_183 : decode cX1_opera 183 = .ok (.aload_n 0, 1) := dk_42 (dk_at dksX1_opera_8 0 rfl rfl)
theorem dX1_opera_184 : decode cX1_opera 184 = .ok (.getfield 9, 3) := dk_180 0 9 (dk_at dksX1_opera_8 1 rfl rfl)
theorem dX1_opera_187 : decode cX1_opera 187 = .ok (.iload 7, 2) := dk_21 7 (dk_at dksX1_opera_8 4 rfl rfl)
theorem dX1_opera_189 : decode cX1_opera 189 = .ok (.iconst 2, 1) := dk_5 (dk_at dksX1_opera_8 6 rfl rfl)
theorem dX1_opera_190 : decode cX1_opera 190 = .ok (.iadd, 1) := dk_96 (dk_at dksX1_opera_8 7 rfl rfl)
theorem dX1_opera_191 : decode cX1_opera 191 = .ok (.baload, 1) := dk_51 (dk_at dksX1_opera_8 8 rfl rfl)
theorem dX1_opera_192 : decode cX1_opera 192 = .ok (.iconst 0, 1) := dk_3 (dk_at dksX1_opera_8 9 rfl rfl)
theorem dX1_opera_193 : decode cX1_opera 193 = .ok (.iconst 5, 1) := dk_8 (dk_at dksX1_opera_8 10 rfl rfl)
theorem dX1_opera_194 : decode cX1_opera 194 = .ok (.invokestatic 112, 3) := dk_184 0 112 (dk_at dksX1_opera_8 11 rfl rfl)
theorem dX1_opera_197 : decode cX1_opera 197 = .ok (.ifCond .eq 21, 3) := dk_153 0 21 (dk_at dksX1_opera_8 14 rfl rfl)
theorem dX1_opera_200 : decode cX1_opera 200 = .ok (.aload_n 0, 1) := dk_42 (dk_at dksX1_opera_8 17 rfl rfl)
theorem dX1_opera_201 : decode cX1_opera 201 = .ok (.getfield 9, 3) := dk_180 0 9 (dk_at dksX1_opera_8 18 rfl rfl)
theorem dX1_opera_204 : decode cX1_opera 204 = .ok (.iload 7, 2) := dk_21 7 (dk_at dksX1_opera_8 21 rfl rfl)
theorem dX1_opera_206 : decode cX1_opera 206 = .ok (.iconst 3, 1) := dk_6 (dk_at dksX1_opera_8 23 rfl rfl)
theorem dX1_opera_207 : decode cX1_opera 207 = .ok (.iadd, 1) := dk_96 (dk_at dksX1_opera_9 0 rfl rfl)
theorem dX1_opera_208 : decode cX1_opera 208 = .ok (.baload, 1) := dk_51 (dk_at dksX1_opera_9 1 rfl rfl)
theorem dX1_opera_209 : decode cX1_opera 209 = .ok (.iconst 0, 1) := dk_3 (dk_at dksX1_opera_9 2 rfl rfl)
theorem dX1_opera_210 : decode cX1_opera 210 = .ok (.bipush 9, 2) := dk_16 9 (dk_at dksX1_opera_9 3 rfl rfl)
theorem dX1_opera_212 : decode cX1_opera 212 = .ok (.invokestatic 112, 3) := dk_184 0 112 (dk_at dksX1_opera_9 5 rfl rfl)
theorem dX1_opera_215 : decode cX1_opera 215 = .ok (.ifCond .ne 5, 3) := dk_154 0 5 (dk_at dksX1_opera_9 8 rfl rfl)
theorem dX1_opera_218 : decode cX1_opera 218 = .ok (.iconst (-1), 1) := dk_2 (dk_at dksX1_opera_9 11 rfl rfl)
theorem dX1_opera_219 : decode cX1_opera 219 = .ok (.ireturn, 1) := dk_172 (dk_at dksX1_opera_9 12 rfl rfl)
theorem dX1_opera_220 : decode cX1_opera 220 = .ok (.aload 6, 2) := dk_25 6 (dk_at dksX1_opera_9 13 rfl rfl)
theorem dX1_opera_222 : decode cX1_opera 222 = .ok (.getfield 137, 3) := dk_180 0 137 (dk_at dksX1_opera_9 15 rfl rfl)
theorem dX1_opera_225 : decode cX1_opera 225 = .ok (.new 140, 3) := dk_187 0 140 (dk_at dksX1_opera_9 18 rfl rfl)
theorem dX1_opera_228 : decode cX1_opera 228 = .ok (.dup, 1) := dk_89 (dk_at dksX1_opera_9 21 rfl rfl)
theorem dX1_opera_229 : decode cX1_opera 229 = .ok (.aload_n 0, 1) := dk_42 (dk_at dksX1_opera_9 22 rfl rfl)
theorem dX1_opera_230 : decode cX1_opera 230 = .ok (.getfield 9, 3) := dk_180 0 9 (dk_at dksX1_opera_10 0 rfl rfl)
theorem dX1_opera_233 : decode cX1_opera 233 = .ok (.iload 7, 2) := dk_21 7 (dk_at dksX1_opera_10 3 rfl rfl)
theorem dX1_opera_235 : decode cX1_opera 235 = .ok (.baload, 1) := dk_51 (dk_at dksX1_opera_10 5 rfl rfl)
theorem dX1_opera_236 : decode cX1_opera 236 = .ok (.aload_n 0, 1) := dk_42 (dk_at dksX1_opera_10 6 rfl rfl)
theorem dX1_opera_237 : decode cX1_opera 237 = .ok (.getfield 9, 3) := dk_180 0 9 (dk_at dksX1_opera_10 7 rfl rfl)
theorem dX1_opera_240 : decode cX1_opera 240 = .ok (.iload 7, 2) := dk_21 7 (dk_at dksX1_opera_10 10 rfl rfl)
theorem dX1_opera_242 : decode cX1_opera 242 = .ok (.iconst 1, 1) := dk_4 (dk_at dksX1_opera_10 12 rfl rfl)
theorem dX1_opera_243 : decode cX1_opera 243 = .ok (.iadd, 1) := dk_96 (dk_at dksX1_opera_10 13 rfl rfl)
theorem dX1_opera_244 : decode cX1_opera 244 = .ok (.baload, 1) := dk_51 (dk_at dksX1_opera_10 14 rfl rfl)
theorem dX1_opera_245 : decode cX1_opera 245 = .ok (.aload_n 0, 1) := dk_42 (dk_at dksX1_opera_10 15 rfl rfl)
theorem dX1_opera_246 : decode cX1_opera 246 = .ok (.getfield 9, 3) := dk_180 0 9 (dk_at dksX1_opera_10 16 rfl rfl)
theorem dX1_opera_249 : decode cX1_opera 249 = .ok (.iload 7, 2) := dk_21 7 (dk_at dksX1_opera_10 19 rfl rfl)
theorem dX1_opera_251 : decode cX1_opera 251 = .ok (.iconst 2, 1) := dk_5 (dk_at dksX1_opera_10 21 rfl rfl)
theorem dX1_opera_252 : decode cX1_opera 252 = .ok (.iadd, 1) := dk_96 (dk_at dksX1_opera_10 22 rfl rfl)
theorem dX1_opera_253 : decode cX1_opera 253 = .ok (.baload, 1) := dk_51 (dk_at dksX1_opera_10 23 rfl rfl)
theorem dX1_opera_254 : decode cX1_opera 254 = .ok (.aload_n 0, 1) := dk_42 (dk_at dksX1_opera_11 0 rfl rfl)
theorem dX1_opera_255 : decode cX1_opera 255 = .ok (.getfield 9, 3) := dk_180 0 9 (dk_at dksX1_opera_11 1 rfl rfl)
theorem dX1_opera_258 : decode cX1_opera 258 = .ok (.iload 7, 2) := dk_21 7 (dk_at dksX1_opera_11 4 rfl rfl)
theorem dX1_opera_260 : decode cX1_opera 260 = .ok (.iconst 3, 1) := dk_6 (dk_at dksX1_opera_11 6 rfl rfl)
theorem dX1_opera_261 : decode cX1_opera 261 = .ok (.iadd, 1) := dk_96 (dk_at dksX1_opera_11 7 rfl rfl)
theorem dX1_opera_262 : decode cX1_opera 262 = .ok (.baload, 1) := dk_51 (dk_at dksX1_opera_11 8 rfl rfl)
theorem dX1_opera_263 : decode cX1_opera 263 = .ok (.invokespecial 142, 3) := dk_183 0 142 (dk_at dksX1_opera_11 9 rfl rfl)
theorem dX1_opera_266 : decode cX1_opera 266 = .ok (.invokevirtual 145, 3) := dk_182 0 145 (dk_at dksX1_opera_11 12 rfl rfl)
theorem dX1_opera_269 : decode cX1_opera 269 = .ok (.pop, 1) := dk_87 (dk_at dksX1_opera_11 15 rfl rfl)
theorem dX1_opera_270 : decode cX1_opera 270 = .ok (.iinc 7 4, 3) := dk_132 7 4 (dk_at dksX1_opera_11 16 rfl rfl)
theorem dX1_opera_273 : decode cX1_opera 273 = .ok (.goto (-130), 3) := dk_167 255 126 (dk_at dksX1_opera_11 19 rfl rfl)
theorem dX1_opera_276 : decode cX1_opera 276 = .ok (.aload_n 0, 1) := dk_42 (dk_at dksX1_opera_11 22 rfl rfl)
theorem dX1_opera_277 : decode cX1_opera 277 = .ok (.getfield 30, 3) := dk_180 0 30 (dk_at dksX1_opera_12 0 rfl rfl)
theorem dX1_opera_280 : decode cX1_opera 280 = .ok (.aload 6, 2) := dk_25 6 (dk_at dksX1_opera_12 3 rfl rfl)
theorem dX1_opera_282 : decode cX1_opera 282 = .ok (.invokevirtual 145, 3) := dk_182 0 145 (dk_at dksX1_opera_12 5 rfl rfl)
theorem dX1_opera_285 : decode cX1_opera 285 = .ok (.pop, 1) := dk_87 (dk_at dksX1_opera_12 8 rfl rfl)
theorem dX1_opera_286 : decode cX1_opera 286 = .ok (.aload_n 0, 1) := dk_42 (dk_at dksX1_opera_12 9 rfl rfl)
theorem dX1_opera_287 : decode cX1_opera 287 = .ok (.dup, 1) := dk_89 (dk_at dksX1_opera_12 10 rfl rfl)
theorem dX1_opera_288 : decode cX1_opera 288 = .ok (.getfield 119, 3) := dk_180 0 119 (dk_at dksX1_opera_12 11 rfl rfl)
theorem dX1_opera_291 : decode cX1_opera 291 = .ok (.iconst 1, 1) := dk_4 (dk_at dksX1_opera_12 14 rfl rfl)
theorem dX1_opera_292 : decode cX1_opera 292 = .ok (.iadd, 1) := dk_96 (dk_at dksX1_opera_12 15 rfl rfl)
theorem dX1_opera_293 : decode cX1_opera 293 = .ok (.putfield 119, 3) := dk_181 0 119 (dk_at dksX1_opera_12 16 rfl rfl)
theorem dX1_opera_296 : decode cX1_opera 296 = .ok (.aload 6, 2) := dk_25 6 (dk_at dksX1_opera_12 19 rfl rfl)
theorem dX1_opera_298 : decode cX1_opera 298 = .ok (.getfield 149, 3) := dk_180 0 149 (dk_at dksX1_opera_12 21 rfl rfl)
theorem dX1_opera_301 : decode cX1_opera 301 = .ok (.ireturn, 1) := dk_172 (dk_at dksX1_opera_13 0 rfl rfl)
abbrev cX1_take : ByteArray := prog_1_method_6_code
def yX1_take : MethodName := ⟨RX1, "take", "()I"⟩
def dkwX1_take_0 : List UInt8 := [42, 180, 0, 105, 60, 42, 3, 181, 0, 105, 27, 172]
abbrev dktX1_take_0 : List UInt8 := dkwX1_take_0 ++ []
theorem dksX1_take_0 : cX1_take.data.toList.drop 0 = dktX1_take_0 := by decide +kernel
theorem dX1_take_0 : decode cX1_take 0 = .ok (.aload_n 0, 1) := dk_42 (dk_at dksX1_take_0 0 rfl rfl)
theorem dX1_take_1 : decode cX1_take 1 = .ok (.getfield 105, 3) := dk_180 0 105 (dk_at dksX1_take_0 1 rfl rfl)
theorem dX1_take_4 : decode cX1_take 4 = .ok (.istore_n 1, 1) := dk_60 (dk_at dksX1_take_0 4 rfl rfl)
theorem dX1_take_5 : decode cX1_take 5 = .ok (.aload_n 0, 1) := dk_42 (dk_at dksX1_take_0 5 rfl rfl)
theorem dX1_take_6 : decode cX1_take 6 = .ok (.iconst 0, 1) := dk_3 (dk_at dksX1_take_0 6 rfl rfl)
theorem dX1_take_7 : decode cX1_take 7 = .ok (.putfield 105, 3) := dk_181 0 105 (dk_at dksX1_take_0 7 rfl rfl)
theorem dX1_take_10 : decode cX1_take 10 = .ok (.iload_n 1, 1) := dk_27 (dk_at dksX1_take_0 10 rfl rfl)
theorem dX1_take_11 : decode cX1_take 11 = .ok (.ireturn, 1) := dk_172 (dk_at dksX1_take_0 11 rfl rfl)
abbrev cX1_singer : ByteArray := prog_1_method_10_code
def yX1_singer : MethodName := ⟨RX1, "singer", "(III)I"⟩
def dkwX1_singer_3 : List UInt8 := [180, 0, 119, 4, 96, 181, 0, 119, 42, 180, 0, 34, 182, 0, 126, 4, 100, 172]
abbrev dktX1_singer_3 : List UInt8 := dkwX1_singer_3 ++ []
def dkwX1_singer_2 : List UInt8 := [187, 0, 152, 89, 42, 180, 0, 34, 182, 0, 126, 27, 28, 29, 183, 0, 154, 182, 0, 145, 87, 42, 89]
abbrev dktX1_singer_2 : List UInt8 := dkwX1_singer_2 ++ dktX1_singer_3
def dkwX1_singer_1 : List UInt8 := [16, 63, 184, 0, 112, 153, 0, 13, 29, 3, 16, 9, 184, 0, 112, 154, 0, 5, 2, 172, 42, 180, 0, 34]
abbrev dktX1_singer_1 : List UInt8 := dkwX1_singer_1 ++ dktX1_singer_2
def dkwX1_singer_0 : List UInt8 := [42, 180, 0, 34, 182, 0, 126, 16, 20, 159, 0, 33, 27, 3, 16, 63, 184, 0, 112, 153, 0, 23, 28, 3]
abbrev dktX1_singer_0 : List UInt8 := dkwX1_singer_0 ++ dktX1_singer_1
theorem dksX1_singer_0 : cX1_singer.data.toList.drop 0 = dktX1_singer_0 := by decide +kernel
theorem dksX1_singer_1 : cX1_singer.data.toList.drop 24 = dktX1_singer_1 := dk_seg dksX1_singer_0 24 rfl rfl
theorem dksX1_singer_2 : cX1_singer.data.toList.drop 48 = dktX1_singer_2 := dk_seg dksX1_singer_1 24 rfl rfl
theorem dksX1_singer_3 : cX1_singer.data.toList.drop 71 = dktX1_singer_3 := dk_seg dksX1_singer_2 23 rfl rfl
theorem dX1_singer_0 : decode cX1_singer 0 = .ok (.aload_n 0, 1) := dk_42 (dk_at dksX1_singer_0 0 rfl rfl)
theorem dX1_singer_1 : decode cX1_singer 1 = .ok (.getfield 34, 3) := dk_180 0 34 (dk_at dksX1_singer_0 1 rfl rfl)
theorem dX1_singer_4 : decode cX1_singer 4 = .ok (.invokevirtual 126, 3) := dk_182 0 126 (dk_at dksX1_singer_0 4 rfl rfl)
theorem dX1_singer_7 : decode cX1_singer 7 = .ok (.bipush 20, 2) := dk_16 20 (dk_at dksX1_singer_0 7 rfl rfl)
theorem dX1_singer_9 : decode cX1_singer 9 = .ok (.if_icmp .eq 33, 3) := dk_159 0 33 (dk_at dksX1_singer_0 9 rfl rfl)
theorem dX1_singer_12 : decode cX1_singer 12 = .ok (.iload_n 1, 1) := dk_27 (dk_at dksX1_singer_0 12 rfl rfl)
theorem dX1_singer_13 : decode cX1_singer 13 = .ok (.iconst 0, 1) := dk_3 (dk_at dksX1_singer_0 13 rfl rfl)
theorem dX1_singer_14 : decode cX1_singer 14 = .ok (.bipush 63, 2) := dk_16 63 (dk_at dksX1_singer_0 14 rfl rfl)
theorem dX1_singer_16 : decode cX1_singer 16 = .ok (.invokestatic 112, 3) := dk_184 0 112 (dk_at dksX1_singer_0 16 rfl rfl)
theorem dX1_singer_19 : decode cX1_singer 19 = .ok (.ifCond .eq 23, 3) := dk_153 0 23 (dk_at dksX1_singer_0 19 rfl rfl)
theorem dX1_singer_22 : decode cX1_singer 22 = .ok (.iload_n 2, 1) := dk_28 (dk_at dksX1_singer_0 22 rfl rfl)
theorem dX1_singer_23 : decode cX1_singer 23 = .ok (.iconst 0, 1) := dk_3 (dk_at dksX1_singer_0 23 rfl rfl)
theorem dX1_singer_24 : decode cX1_singer 24 = .ok (.bipush 63, 2) := dk_16 63 (dk_at dksX1_singer_1 0 rfl rfl)
theorem dX1_singer_26 : decode cX1_singer 26 = .ok (.invokestatic 112, 3) := dk_184 0 112 (dk_at dksX1_singer_1 2 rfl rfl)
theorem dX1_singer_29 : decode cX1_singer 29 = .ok (.ifCond .eq 13, 3) := dk_153 0 13 (dk_at dksX1_singer_1 5 rfl rfl)
theorem dX1_singer_32 : decode cX1_singer 32 = .ok (.iload_n 3, 1) := dk_29 (dk_at dksX1_singer_1 8 rfl rfl)
theorem dX1_singer_33 : decode cX1_singer 33 = .ok (.iconst 0, 1) := dk_3 (dk_at dksX1_singer_1 9 rfl rfl)
theorem dX1_singer_34 : decode cX1_singer 34 = .ok (.bipush 9, 2) := dk_16 9 (dk_at dksX1_singer_1 10 rfl rfl)
theorem dX1_singer_36 : decode cX1_singer 36 = .ok (.invokestatic 112, 3) := dk_184 0 112 (dk_at dksX1_singer_1 12 rfl rfl)
theorem dX1_singer_39 : decode cX1_singer 39 = .ok (.ifCond .ne 5, 3) := dk_154 0 5 (dk_at dksX1_singer_1 15 rfl rfl)
theorem dX1_singer_42 : decode cX1_singer 42 = .ok (.iconst (-1), 1) := dk_2 (dk_at dksX1_singer_1 18 rfl rfl)
theorem dX1_singer_43 : decode cX1_singer 43 = .ok (.ireturn, 1) := dk_172 (dk_at dksX1_singer_1 19 rfl rfl)
theorem dX1_singer_44 : decode cX1_singer 44 = .ok (.aload_n 0, 1) := dk_42 (dk_at dksX1_singer_1 20 rfl rfl)
theorem dX1_singer_45 : decode cX1_singer 45 = .ok (.getfield 34, 3) := dk_180 0 34 (dk_at dksX1_singer_1 21 rfl rfl)
theorem dX1_singer_48 : decode cX1_singer 48 = .ok (.new 152, 3) := dk_187 0 152 (dk_at dksX1_singer_2 0 rfl rfl)
theorem dX1_singer_51 : decode cX1_singer 51 = .ok (.dup, 1) := dk_89 (dk_at dksX1_singer_2 3 rfl rfl)
theorem dX1_singer_52 : decode cX1_singer 52 = .ok (.aload_n 0, 1) := dk_42 (dk_at dksX1_singer_2 4 rfl rfl)
theorem dX1_singer_53 : decode cX1_singer 53 = .ok (.getfield 34, 3) := dk_180 0 34 (dk_at dksX1_singer_2 5 rfl rfl)
theorem dX1_singer_56 : decode cX1_singer 56 = .ok (.invokevirtual 126, 3) := dk_182 0 126 (dk_at dksX1_singer_2 8 rfl rfl)
theorem dX1_singer_59 : decode cX1_singer 59 = .ok (.iload_n 1, 1) := dk_27 (dk_at dksX1_singer_2 11 rfl rfl)
theorem dX1_singer_60 : decode cX1_singer 60 = .ok (.iload_n 2, 1) := dk_28 (dk_at dksX1_singer_2 12 rfl rfl)
theorem dX1_singer_61 : decode cX1_singer 61 = .ok (.iload_n 3, 1) := dk_29 (dk_at dksX1_singer_2 13 rfl rfl)
theorem dX1_singer_62 : decode cX1_singer 62 = .ok (.invokespecial 154, 3) := dk_183 0 154 (dk_at dksX1_singer_2 14 rfl rfl)
theorem dX1_singer_65 : decode cX1_singer 65 = .ok (.invokevirtual 145, 3) := dk_182 0 145 (dk_at dksX1_singer_2 17 rfl rfl)
theorem dX1_singer_68 : decode cX1_singer 68 = .ok (.pop, 1) := dk_87 (dk_at dksX1_singer_2 20 rfl rfl)
theorem dX1_singer_69 : decode cX1_singer 69 = .ok (.aload_n 0, 1) := dk_42 (dk_at dksX1_singer_2 21 rfl rfl)
theorem dX1_singer_70 : decode cX1_singer 70 = .ok (.dup, 1) := dk_89 (dk_at dksX1_singer_2 22 rfl rfl)
theorem dX1_singer_71 : decode cX1_singer 71 = .ok (.getfield 119, 3) := dk_180 0 119 (dk_at dksX1_singer_3 0 rfl rfl)
theorem dX1_singer_74 : decode cX1_singer 74 = .ok (.iconst 1, 1) := dk_4 (dk_at dksX1_singer_3 3 rfl rfl)
theorem dX1_singer_75 : decode cX1_singer 75 = .ok (.iadd, 1) := dk_96 (dk_at dksX1_singer_3 4 rfl rfl)
theorem dX1_singer_76 : decode cX1_singer 76 = .ok (.putfield 119, 3) := dk_181 0 119 (dk_at dksX1_singer_3 5 rfl rfl)
theorem dX1_singer_79 : decode cX1_singer 79 = .ok (.aload_n 0, 1) := dk_42 (dk_at dksX1_singer_3 8 rfl rfl)
theorem dX1_singer_80 : decode cX1_singer 80 = .ok (.getfield 34, 3) := dk_180 0 34 (dk_at dksX1_singer_3 9 rfl rfl)
theorem dX1_singer_83 : decode cX1_singer 83 = .ok (.invokevirtual 126, 3) := dk_182 0 126 (dk_at dksX1_singer_3 12 rfl rfl)
theorem dX1_singer_86 : decode cX1_singer 86 = .ok (.iconst 1, 1) := dk_4 (dk_at dksX1_singer_3 15 rfl rfl)
theorem dX1_singer_87 : decode cX1_singer 87 = .ok (.isub, 1) := dk_100 (dk_at dksX1_singer_3 16 rfl rfl)
theorem dX1_singer_88 : decode cX1_singer 88 = .ok (.ireturn, 1) := dk_172 (dk_at dksX1_singer_3 17 rfl rfl)
abbrev cX1_players : ByteArray := prog_1_method_11_code
def yX1_players : MethodName := ⟨RX1, "players", "(III)Z"⟩
def dkwX1_players_2 : List UInt8 := [180, 0, 119, 4, 96, 181, 0, 119, 4, 172]
abbrev dktX1_players_2 : List UInt8 := dkwX1_players_2 ++ []
def dkwX1_players_1 : List UInt8 := [184, 0, 112, 154, 0, 5, 3, 172, 42, 180, 0, 20, 27, 28, 79, 42, 180, 0, 24, 27, 29, 79, 42, 89]
abbrev dktX1_players_1 : List UInt8 := dkwX1_players_1 ++ dktX1_players_2
def dkwX1_players_0 : List UInt8 := [27, 3, 6, 184, 0, 112, 153, 0, 23, 28, 3, 16, 60, 184, 0, 112, 153, 0, 13, 29, 3, 16, 60]
abbrev dktX1_players_0 : List UInt8 := dkwX1_players_0 ++ dktX1_players_1
theorem dksX1_players_0 : cX1_players.data.toList.drop 0 = dktX1_players_0 := by decide +kernel
theorem dksX1_players_1 : cX1_players.data.toList.drop 23 = dktX1_players_1 := dk_seg dksX1_players_0 23 rfl rfl
theorem dksX1_players_2 : cX1_players.data.toList.drop 47 = dktX1_players_2 := dk_seg dksX1_players_1 24 rfl rfl
theorem dX1_players_0 : decode cX1_players 0 = .ok (.iload_n 1, 1) := dk_27 (dk_at dksX1_players_0 0 rfl rfl)
theorem dX1_players_1 : decode cX1_players 1 = .ok (.iconst 0, 1) := dk_3 (dk_at dksX1_players_0 1 rfl rfl)
theorem dX1_players_2 : decode cX1_players 2 = .ok (.iconst 3, 1) := dk_6 (dk_at dksX1_players_0 2 rfl rfl)
theorem dX1_players_3 : decode cX1_players 3 = .ok (.invokestatic 112, 3) := dk_184 0 112 (dk_at dksX1_players_0 3 rfl rfl)
theorem dX1_players_6 : decode cX1_players 6 = .ok (.ifCond .eq 23, 3) := dk_153 0 23 (dk_at dksX1_players_0 6 rfl rfl)
theorem dX1_players_9 : decode cX1_players 9 = .ok (.iload_n 2, 1) := dk_28 (dk_at dksX1_players_0 9 rfl rfl)
theorem dX1_players_10 : decode cX1_players 10 = .ok (.iconst 0, 1) := dk_3 (dk_at dksX1_players_0 10 rfl rfl)
theorem dX1_players_11 : decode cX1_players 11 = .ok (.bipush 60, 2) := dk_16 60 (dk_at dksX1_players_0 11 rfl rfl)
theorem dX1_players_13 : decode cX1_players 13 = .ok (.invokestatic 112, 3) := dk_184 0 112 (dk_at dksX1_players_0 13 rfl rfl)
theorem dX1_players_16 : decode cX1_players 16 = .ok (.ifCond .eq 13, 3) := dk_153 0 13 (dk_at dksX1_players_0 16 rfl rfl)
theorem dX1_players_19 : decode cX1_players 19 = .ok (.iload_n 3, 1) := dk_29 (dk_at dksX1_players_0 19 rfl rfl)
theorem dX1_players_20 : decode cX1_players 20 = .ok (.iconst 0, 1) := dk_3 (dk_at dksX1_players_0 20 rfl rfl)
theorem dX1_players_21 : decode cX1_players 21 = .ok (.bipush 60, 2) := dk_16 60 (dk_at dksX1_players_0 21 rfl rfl)
theorem dX1_players_23 : decode cX1_players 23 = .ok (.invokestatic 112, 3) := dk_184 0 112 (dk_at dksX1_players_1 0 rfl rfl)
theorem dX1_players_26 : decode cX1_players 26 = .ok (.ifCond .ne 5, 3) := dk_154 0 5 (dk_at dksX1_players_1 3 rfl rfl)
theorem dX1_players_29 : decode cX1_players 29 = .ok (.iconst 0, 1) := dk_3 (dk_at dksX1_players_1 6 rfl rfl)
theorem dX1_players_30 : decode cX1_players 30 = .ok (.ireturn, 1) := dk_172 (dk_at dksX1_players_1 7 rfl rfl)
theorem dX1_players_31 : decode cX1_players 31 = .ok (.aload_n 0, 1) := dk_42 (dk_at dksX1_players_1 8 rfl rfl)
theorem dX1_players_32 : decode cX1_players 32 = .ok (.getfield 20, 3) := dk_180 0 20 (dk_at dksX1_players_1 9 rfl rfl)
theorem dX1_players_35 : decode cX1_players 35 = .ok (.iload_n 1, 1) := dk_27 (dk_at dksX1_players_1 12 rfl rfl)
theorem dX1_players_36 : decode cX1_players 36 = .ok (.iload_n 2, 1) := dk_28 (dk_at dksX1_players_1 13 rfl rfl)
theorem dX1_players_37 : decode cX1_players 37 = .ok (.iastore, 1) := dk_79 (dk_at dksX1_players_1 14 rfl rfl)
theorem dX1_players_38 : decode cX1_players 38 = .ok (.aload_n 0, 1) := dk_42 (dk_at dksX1_players_1 15 rfl rfl)
theorem dX1_players_39 : decode cX1_players 39 = .ok (.getfield 24, 3) := dk_180 0 24 (dk_at dksX1_players_1 16 rfl rfl)
theorem dX1_players_42 : decode cX1_players 42 = .ok (.iload_n 1, 1) := dk_27 (dk_at dksX1_players_1 19 rfl rfl)
theorem dX1_players_43 : decode cX1_players 43 = .ok (.iload_n 3, 1) := dk_29 (dk_at dksX1_players_1 20 rfl rfl)
theorem dX1_players_44 : decode cX1_players 44 = .ok (.iastore, 1) := dk_79 (dk_at dksX1_players_1 21 rfl rfl)
theorem dX1_players_45 : decode cX1_players 45 = .ok (.aload_n 0, 1) := dk_42 (dk_at dksX1_players_1 22 rfl rfl)
theorem dX1_players_46 : decode cX1_players 46 = .ok (.dup, 1) := dk_89 (dk_at dksX1_players_1 23 rfl rfl)
theorem dX1_players_47 : decode cX1_players 47 = .ok (.getfield 119, 3) := dk_180 0 119 (dk_at dksX1_players_2 0 rfl rfl)
theorem dX1_players_50 : decode cX1_players 50 = .ok (.iconst 1, 1) := dk_4 (dk_at dksX1_players_2 3 rfl rfl)
theorem dX1_players_51 : decode cX1_players 51 = .ok (.iadd, 1) := dk_96 (dk_at dksX1_players_2 4 rfl rfl)
theorem dX1_players_52 : decode cX1_players 52 = .ok (.putfield 119, 3) := dk_181 0 119 (dk_at dksX1_players_2 5 rfl rfl)
theorem dX1_players_55 : decode cX1_players 55 = .ok (.iconst 1, 1) := dk_4 (dk_at dksX1_players_2 8 rfl rfl)
theorem dX1_players_56 : decode cX1_players 56 = .ok (.ireturn, 1) := dk_172 (dk_at dksX1_players_2 9 rfl rfl)
abbrev cX1_chorus : ByteArray := prog_1_method_12_code
def yX1_chorus : MethodName := ⟨RX1, "chorus", "(II)Z"⟩
def dkwX1_chorus_1 : List UInt8 := [27, 181, 0, 13, 42, 28, 181, 0, 17, 42, 89, 180, 0, 119, 4, 96, 181, 0, 119, 4, 172]
abbrev dktX1_chorus_1 : List UInt8 := dkwX1_chorus_1 ++ []
def dkwX1_chorus_0 : List UInt8 := [27, 3, 16, 24, 184, 0, 112, 153, 0, 14, 28, 3, 17, 0, 168, 184, 0, 112, 154, 0, 5, 3, 172, 42]
abbrev dktX1_chorus_0 : List UInt8 := dkwX1_chorus_0 ++ dktX1_chorus_1
theorem dksX1_chorus_0 : cX1_chorus.data.toList.drop 0 = dktX1_chorus_0 := by decide +kernel
theorem dksX1_chorus_1 : cX1_chorus.data.toList.drop 24 = dktX1_chorus_1 := dk_seg dksX1_chorus_0 24 rfl rfl
theorem dX1_chorus_0 : decode cX1_chorus 0 = .ok (.iload_n 1, 1) := dk_27 (dk_at dksX1_chorus_0 0 rfl rfl)
theorem dX1_chorus_1 : decode cX1_chorus 1 = .ok (.iconst 0, 1) := dk_3 (dk_at dksX1_chorus_0 1 rfl rfl)
theorem dX1_chorus_2 : decode cX1_chorus 2 = .ok (.bipush 24, 2) := dk_16 24 (dk_at dksX1_chorus_0 2 rfl rfl)
theorem dX1_chorus_4 : decode cX1_chorus 4 = .ok (.invokestatic 112, 3) := dk_184 0 112 (dk_at dksX1_chorus_0 4 rfl rfl)
theorem dX1_chorus_7 : decode cX1_chorus 7 = .ok (.ifCond .eq 14, 3) := dk_153 0 14 (dk_at dksX1_chorus_0 7 rfl rfl)
theorem dX1_chorus_10 : decode cX1_chorus 10 = .ok (.iload_n 2, 1) := dk_28 (dk_at dksX1_chorus_0 10 rfl rfl)
theorem dX1_chorus_11 : decode cX1_chorus 11 = .ok (.iconst 0, 1) := dk_3 (dk_at dksX1_chorus_0 11 rfl rfl)
theorem dX1_chorus_12 : decode cX1_chorus 12 = .ok (.sipush 168, 3) := dk_17 0 168 (dk_at dksX1_chorus_0 12 rfl rfl)
theorem dX1_chorus_15 : decode cX1_chorus 15 = .ok (.invokestatic 112, 3) := dk_184 0 112 (dk_at dksX1_chorus_0 15 rfl rfl)
theorem dX1_chorus_18 : decode cX1_chorus 18 = .ok (.ifCond .ne 5, 3) := dk_154 0 5 (dk_at dksX1_chorus_0 18 rfl rfl)
theorem dX1_chorus_21 : decode cX1_chorus 21 = .ok (.iconst 0, 1) := dk_3 (dk_at dksX1_chorus_0 21 rfl rfl)
theorem dX1_chorus_22 : decode cX1_chorus 22 = .ok (.ireturn, 1) := dk_172 (dk_at dksX1_chorus_0 22 rfl rfl)
theorem dX1_chorus_23 : decode cX1_chorus 23 = .ok (.aload_n 0, 1) := dk_42 (dk_at dksX1_chorus_0 23 rfl rfl)
theorem dX1_chorus_24 : decode cX1_chorus 24 = .ok (.iload_n 1, 1) := dk_27 (dk_at dksX1_chorus_1 0 rfl rfl)
theorem dX1_chorus_25 : decode cX1_chorus 25 = .ok (.putfield 13, 3) := dk_181 0 13 (dk_at dksX1_chorus_1 1 rfl rfl)
theorem dX1_chorus_28 : decode cX1_chorus 28 = .ok (.aload_n 0, 1) := dk_42 (dk_at dksX1_chorus_1 4 rfl rfl)
theorem dX1_chorus_29 : decode cX1_chorus 29 = .ok (.iload_n 2, 1) := dk_28 (dk_at dksX1_chorus_1 5 rfl rfl)
theorem dX1_chorus_30 : decode cX1_chorus 30 = .ok (.putfield 17, 3) := dk_181 0 17 (dk_at dksX1_chorus_1 6 rfl rfl)
theorem dX1_chorus_33 : decode cX1_chorus 33 = .ok (.aload_n 0, 1) := dk_42 (dk_at dksX1_chorus_1 9 rfl rfl)
theorem dX1_chorus_34 : decode cX1_chorus 34 = .ok (.dup, 1) := dk_89 (dk_at dksX1_chorus_1 10 rfl rfl)
theorem dX1_chorus_35 : decode cX1_chorus 35 = .ok (.getfield 119, 3) := dk_180 0 119 (dk_at dksX1_chorus_1 11 rfl rfl)
theorem dX1_chorus_38 : decode cX1_chorus 38 = .ok (.iconst 1, 1) := dk_4 (dk_at dksX1_chorus_1 14 rfl rfl)
theorem dX1_chorus_39 : decode cX1_chorus 39 = .ok (.iadd, 1) := dk_96 (dk_at dksX1_chorus_1 15 rfl rfl)
theorem dX1_chorus_40 : decode cX1_chorus 40 = .ok (.putfield 119, 3) := dk_181 0 119 (dk_at dksX1_chorus_1 16 rfl rfl)
theorem dX1_chorus_43 : decode cX1_chorus 43 = .ok (.iconst 1, 1) := dk_4 (dk_at dksX1_chorus_1 19 rfl rfl)
theorem dX1_chorus_44 : decode cX1_chorus 44 = .ok (.ireturn, 1) := dk_172 (dk_at dksX1_chorus_1 20 rfl rfl)
abbrev cX1_contract : ByteArray := prog_1_method_15_code
def yX1_contract : MethodName := ⟨RX1, "contract", "(I)I"⟩
def dkwX1_contract_3 : List UInt8 := [2, 25, 4, 180, 0, 189, 100, 172]
abbrev dktX1_contract_3 : List UInt8 := dkwX1_contract_3 ++ []
def dkwX1_contract_2 : List UInt8 := [4, 96, 181, 0, 119, 45, 180, 0, 175, 180, 0, 179, 172, 58, 4, 42, 25, 4, 180, 0, 186, 181, 0, 163]
abbrev dktX1_contract_2 : List UInt8 := dkwX1_contract_2 ++ dktX1_contract_3
def dkwX1_contract_1 : List UInt8 := [45, 187, 0, 166, 89, 42, 180, 0, 9, 28, 183, 0, 168, 182, 0, 171, 181, 0, 175, 42, 89, 180, 0, 119]
abbrev dktX1_contract_1 : List UInt8 := dkwX1_contract_1 ++ dktX1_contract_2
def dkwX1_contract_0 : List UInt8 := [42, 182, 0, 122, 61, 42, 27, 182, 0, 159, 78, 45, 199, 0, 7, 17, 252, 24, 172, 42, 3, 181, 0, 163]
abbrev dktX1_contract_0 : List UInt8 := dkwX1_contract_0 ++ dktX1_contract_1
theorem dksX1_contract_0 : cX1_contract.data.toList.drop 0 = dktX1_contract_0 := by decide +kernel
theorem dksX1_contract_1 : cX1_contract.data.toList.drop 24 = dktX1_contract_1 := dk_seg dksX1_contract_0 24 rfl rfl
theorem dksX1_contract_2 : cX1_contract.data.toList.drop 48 = dktX1_contract_2 := dk_seg dksX1_contract_1 24 rfl rfl
theorem dksX1_contract_3 : cX1_contract.data.toList.drop 72 = dktX1_contract_3 := dk_seg dksX1_contract_2 24 rfl rfl
theorem dX1_contract_0 : decode cX1_contract 0 = .ok (.aload_n 0, 1) := dk_42 (dk_at dksX1_contract_0 0 rfl rfl)
theorem dX1_contract_1 : decode cX1_contract 1 = .ok (.invokevirtual 122, 3) := dk_182 0 122 (dk_at dksX1_contract_0 1 rfl rfl)
theorem dX1_contract_4 : decode cX1_contract 4 = .ok (.istore_n 2, 1) := dk_61 (dk_at dksX1_contract_0 4 rfl rfl)
theorem dX1_contract_5 : decode cX1_contract 5 = .ok (.aload_n 0, 1) := dk_42 (dk_at dksX1_contract_0 5 rfl rfl)
theorem dX1_contract_6 : decode cX1_contract 6 = .ok (.iload_n 1, 1) := dk_27 (dk_at dksX1_contract_0 6 rfl rfl)
theorem dX1_contract_7 : decode cX1_contract 7 = .ok (.invokevirtual 159, 3) := dk_182 0 159 (dk_at dksX1_contract_0 7 rfl rfl)
theorem dX1_contract_10 : decode cX1_contract 10 = .ok (.astore_n 3, 1) := dk_78 (dk_at dksX1_contract_0 10 rfl rfl)
theorem dX1_contract_11 : decode cX1_contract 11 = .ok (.aload_n 3, 1) := dk_45 (dk_at dksX1_contract_0 11 rfl rfl)
theorem dX1_contract_12 : decode cX1_contract 12 = .ok (.ifnonnull 7, 3) := dk_199 0 7 (dk_at dksX1_contract_0 12 rfl rfl)
theorem dX1_contract_15 : decode cX1_contract 15 = .ok (.sipush (-1000), 3) := dk_17 252 24 (dk_at dksX1_contract_0 15 rfl rfl)
theorem dX1_contract_18 : decode cX1_contract 18 = .ok (.ireturn, 1) := dk_172 (dk_at dksX1_contract_0 18 rfl rfl)
theorem dX1_contract_19 : decode cX1_contract 19 = .ok (.aload_n 0, 1) := dk_42 (dk_at dksX1_contract_0 19 rfl rfl)
theorem dX1_contract_20 : decode cX1_contract 20 = .ok (.iconst 0, 1) := dk_3 (dk_at dksX1_contract_0 20 rfl rfl)
theorem dX1_contract_21 : decode cX1_contract 21 = .ok (.putfield 163, 3) := dk_181 0 163 (dk_at dksX1_contract_0 21 rfl rfl)
theorem dX1_contract_24 : decode cX1_contract 24 = .ok (.aload_n 3, 1) := dk_45 (dk_at dksX1_contract_1 0 rfl rfl)
theorem dX1_contract_25 : decode cX1_contract 25 = .ok (.new 166, 3) := dk_187 0 166 (dk_at dksX1_contract_1 1 rfl rfl)
theorem dX1_contract_28 : decode cX1_contract 28 = .ok (.dup, 1) := dk_89 (dk_at dksX1_contract_1 4 rfl rfl)
theorem dX1_contract_29 : decode cX1_contract 29 = .ok (.aload_n 0, 1) := dk_42 (dk_at dksX1_contract_1 5 rfl rfl)
theorem dX1_contract_30 : decode cX1_contract 30 = .ok (.getfield 9, 3) := dk_180 0 9 (dk_at dksX1_contract_1 6 rfl rfl)
theorem dX1_contract_33 : decode cX1_contract 33 = .ok (.iload_n 2, 1) := dk_28 (dk_at dksX1_contract_1 9 rfl rfl)
theorem dX1_contract_34 : decode cX1_contract 34 = .ok (.invokespecial 168, 3) := dk_183 0 168 (dk_at dksX1_contract_1 10 rfl rfl)
theorem dX1_contract_37 : decode cX1_contract 37 = .ok (.invokevirtual 171, 3) := dk_182 0 171 (dk_at dksX1_contract_1 13 rfl rfl)
theorem dX1_contract_40 : decode cX1_contract 40 = .ok (.putfield 175, 3) := dk_181 0 175 (dk_at dksX1_contract_1 16 rfl rfl)
theorem dX1_contract_43 : decode cX1_contract 43 = .ok (.aload_n 0, 1) := dk_42 (dk_at dksX1_contract_1 19 rfl rfl)
theorem dX1_contract_44 : decode cX1_contract 44 = .ok (.dup, 1) := dk_89 (dk_at dksX1_contract_1 20 rfl rfl)
theorem dX1_contract_45 : decode cX1_contract 45 = .ok (.getfield 119, 3) := dk_180 0 119 (dk_at dksX1_contract_1 21 rfl rfl)
theorem dX1_contract_48 : decode cX1_contract 48 = .ok (.iconst 1, 1) := dk_4 (dk_at dksX1_contract_2 0 rfl rfl)
theorem dX1_contract_49 : decode cX1_contract 49 = .ok (.iadd, 1) := dk_96 (dk_at dksX1_contract_2 1 rfl rfl)
theorem dX1_contract_50 : decode cX1_contract 50 = .ok (.putfield 119, 3) := dk_181 0 119 (dk_at dksX1_contract_2 2 rfl rfl)
theorem dX1_contract_53 : decode cX1_contract 53 = .ok (.aload_n 3, 1) := dk_45 (dk_at dksX1_contract_2 5 rfl rfl)
theorem dX1_contract_54 : decode cX1_contract 54 = .ok (.getfield 175, 3) := dk_180 0 175 (dk_at dksX1_contract_2 6 rfl rfl)
theorem dX1_contract_57 : decode cX1_contract 57 = .ok (.getfield 179, 3) := dk_180 0 179 (dk_at dksX1_contract_2 9 rfl rfl)
theorem dX1_contract_60 : decode cX1_contract 60 = .ok (.ireturn, 1) := dk_172 (dk_at dksX1_contract_2 12 rfl rfl)
theorem dX1_contract_61 : decode cX1_contract 61 = .ok (.astore 4, 2) := dk_58 4 (dk_at dksX1_contract_2 13 rfl rfl)
theorem dX1_contract_63 : decode cX1_contract 63 = .ok (.aload_n 0, 1) := dk_42 (dk_at dksX1_contract_2 15 rfl rfl)
theorem dX1_contract_64 : decode cX1_contract 64 = .ok (.aload 4, 2) := dk_25 4 (dk_at dksX1_contract_2 16 rfl rfl)
theorem dX1_contract_66 : decode cX1_contract 66 = .ok (.getfield 186, 3) := dk_180 0 186 (dk_at dksX1_contract_2 18 rfl rfl)
theorem dX1_contract_69 : decode cX1_contract 69 = .ok (.putfield 163, 3) := dk_181 0 163 (dk_at dksX1_contract_2 21 rfl rfl)
theorem dX1_contract_72 : decode cX1_contract 72 = .ok (.iconst (-1), 1) := dk_2 (dk_at dksX1_contract_3 0 rfl rfl)
theorem dX1_contract_73 : decode cX1_contract 73 = .ok (.aload 4, 2) := dk_25 4 (dk_at dksX1_contract_3 1 rfl rfl)
theorem dX1_contract_75 : decode cX1_contract 75 = .ok (.getfield 189, 3) := dk_180 0 189 (dk_at dksX1_contract_3 3 rfl rfl)
theorem dX1_contract_78 : decode cX1_contract 78 = .ok (.isub, 1) := dk_100 (dk_at dksX1_contract_3 6 rfl rfl)
theorem dX1_contract_79 : decode cX1_contract 79 = .ok (.ireturn, 1) := dk_172 (dk_at dksX1_contract_3 7 rfl rfl)
abbrev cX1_singerOf : ByteArray := prog_1_method_13_code
def yX1_singerOf : MethodName := ⟨RX1, "singerOf", "(I)LOperaHouse$Singer;"⟩
def dkwX1_singerOf_1 : List UInt8 := [182, 0, 155, 192, 0, 152, 167, 0, 4, 1, 176]
abbrev dktX1_singerOf_1 : List UInt8 := dkwX1_singerOf_1 ++ []
def dkwX1_singerOf_0 : List UInt8 := [27, 3, 42, 180, 0, 34, 182, 0, 126, 4, 100, 184, 0, 112, 153, 0, 17, 42, 180, 0, 34, 27]
abbrev dktX1_singerOf_0 : List UInt8 := dkwX1_singerOf_0 ++ dktX1_singerOf_1
theorem dksX1_singerOf_0 : cX1_singerOf.data.toList.drop 0 = dktX1_singerOf_0 := by decide +kernel
theorem dksX1_singerOf_1 : cX1_singerOf.data.toList.drop 22 = dktX1_singerOf_1 := dk_seg dksX1_singerOf_0 22 rfl rfl
theorem dX1_singerOf_0 : decode cX1_singerOf 0 = .ok (.iload_n 1, 1) := dk_27 (dk_at dksX1_singerOf_0 0 rfl rfl)
theorem dX1_singerOf_1 : decode cX1_singerOf 1 = .ok (.iconst 0, 1) := dk_3 (dk_at dksX1_singerOf_0 1 rfl rfl)
theorem dX1_singerOf_2 : decode cX1_singerOf 2 = .ok (.aload_n 0, 1) := dk_42 (dk_at dksX1_singerOf_0 2 rfl rfl)
theorem dX1_singerOf_3 : decode cX1_singerOf 3 = .ok (.getfield 34, 3) := dk_180 0 34 (dk_at dksX1_singerOf_0 3 rfl rfl)
theorem dX1_singerOf_6 : decode cX1_singerOf 6 = .ok (.invokevirtual 126, 3) := dk_182 0 126 (dk_at dksX1_singerOf_0 6 rfl rfl)
theorem dX1_singerOf_9 : decode cX1_singerOf 9 = .ok (.iconst 1, 1) := dk_4 (dk_at dksX1_singerOf_0 9 rfl rfl)
theorem dX1_singerOf_10 : decode cX1_singerOf 10 = .ok (.isub, 1) := dk_100 (dk_at dksX1_singerOf_0 10 rfl rfl)
theorem dX1_singerOf_11 : decode cX1_singerOf 11 = .ok (.invokestatic 112, 3) := dk_184 0 112 (dk_at dksX1_singerOf_0 11 rfl rfl)
theorem dX1_singerOf_14 : decode cX1_singerOf 14 = .ok (.ifCond .eq 17, 3) := dk_153 0 17 (dk_at dksX1_singerOf_0 14 rfl rfl)
theorem dX1_singerOf_17 : decode cX1_singerOf 17 = .ok (.aload_n 0, 1) := dk_42 (dk_at dksX1_singerOf_0 17 rfl rfl)
theorem dX1_singerOf_18 : decode cX1_singerOf 18 = .ok (.getfield 34, 3) := dk_180 0 34 (dk_at dksX1_singerOf_0 18 rfl rfl)
theorem dX1_singerOf_21 : decode cX1_singerOf 21 = .ok (.iload_n 1, 1) := dk_27 (dk_at dksX1_singerOf_0 21 rfl rfl)
theorem dX1_singerOf_22 : decode cX1_singerOf 22 = .ok (.invokevirtual 155, 3) := dk_182 0 155 (dk_at dksX1_singerOf_1 0 rfl rfl)
theorem dX1_singerOf_25 : decode cX1_singerOf 25 = .ok (.checkcast 152, 3) := dk_192 0 152 (dk_at dksX1_singerOf_1 3 rfl rfl)
theorem dX1_singerOf_28 : decode cX1_singerOf 28 = .ok (.goto 4, 3) := dk_167 0 4 (dk_at dksX1_singerOf_1 6 rfl rfl)
theorem dX1_singerOf_31 : decode cX1_singerOf 31 = .ok (.aconst_null, 1) := dk_1 (dk_at dksX1_singerOf_1 9 rfl rfl)
theorem dX1_singerOf_32 : decode cX1_singerOf 32 = .ok (.areturn, 1) := dk_176 (dk_at dksX1_singerOf_1 10 rfl rfl)
abbrev cX1_fault : ByteArray := prog_1_method_16_code
def yX1_fault : MethodName := ⟨RX1, "fault", "()I"⟩
theorem dX1_fault_0 : decode cX1_fault 0 = .ok (.aload_n 0, 1) := by decide +kernel
theorem dX1_fault_1 : decode cX1_fault 1 = .ok (.getfield 163, 3) := by decide +kernel
theorem dX1_fault_4 : decode cX1_fault 4 = .ok (.ireturn, 1) := by decide +kernel
abbrev cX1_learn : ByteArray := prog_1_method_17_code
def yX1_learn : MethodName := ⟨RX1, "learn", "(IIII)Z"⟩
def dkwX1_learn_4 : List UInt8 := [180, 0, 116, 183, 0, 194, 182, 0, 145, 87, 42, 89, 180, 0, 119, 4, 96, 181, 0, 119, 4, 172]
abbrev dktX1_learn_4 : List UInt8 := dkwX1_learn_4 ++ []
def dkwX1_learn_3 : List UInt8 := [17, 0, 200, 160, 0, 5, 3, 172, 42, 180, 0, 46, 187, 0, 192, 89, 27, 28, 29, 21, 4, 42]
abbrev dktX1_learn_3 : List UInt8 := dkwX1_learn_3 ++ dktX1_learn_4
def dkwX1_learn_2 : List UInt8 := [184, 0, 112, 153, 0, 27, 21, 4, 4, 16, 99, 184, 0, 112, 153, 0, 16, 42, 180, 0, 46, 182, 0, 126]
abbrev dktX1_learn_2 : List UInt8 := dkwX1_learn_2 ++ dktX1_learn_3
def dkwX1_learn_1 : List UInt8 := [153, 0, 54, 29, 3, 42, 180, 0, 30, 28, 182, 0, 155, 192, 0, 129, 180, 0, 137, 182, 0, 126, 4, 100]
abbrev dktX1_learn_1 : List UInt8 := dkwX1_learn_1 ++ dktX1_learn_2
def dkwX1_learn_0 : List UInt8 := [42, 27, 182, 0, 159, 198, 0, 71, 28, 3, 42, 180, 0, 30, 182, 0, 126, 4, 100, 184, 0, 112]
abbrev dktX1_learn_0 : List UInt8 := dkwX1_learn_0 ++ dktX1_learn_1
theorem dksX1_learn_0 : cX1_learn.data.toList.drop 0 = dktX1_learn_0 := by decide +kernel
theorem dksX1_learn_1 : cX1_learn.data.toList.drop 22 = dktX1_learn_1 := dk_seg dksX1_learn_0 22 rfl rfl
theorem dksX1_learn_2 : cX1_learn.data.toList.drop 46 = dktX1_learn_2 := dk_seg dksX1_learn_1 24 rfl rfl
theorem dksX1_learn_3 : cX1_learn.data.toList.drop 70 = dktX1_learn_3 := dk_seg dksX1_learn_2 24 rfl rfl
theorem dksX1_learn_4 : cX1_learn.data.toList.drop 92 = dktX1_learn_4 := dk_seg dksX1_learn_3 22 rfl rfl
theorem dX1_learn_0 : decode cX1_learn 0 = .ok (.aload_n 0, 1) := dk_42 (dk_at dksX1_learn_0 0 rfl rfl)
theorem dX1_learn_1 : decode cX1_learn 1 = .ok (.iload_n 1, 1) := dk_27 (dk_at dksX1_learn_0 1 rfl rfl)
theorem dX1_learn_2 : decode cX1_learn 2 = .ok (.invokevirtual 159, 3) := dk_182 0 159 (dk_at dksX1_learn_0 2 rfl rfl)
theorem dX1_learn_5 : decode cX1_learn 5 = .ok (.ifnull 71, 3) := dk_198 0 71 (dk_at dksX1_learn_0 5 rfl rfl)
theorem dX1_learn_8 : decode cX1_learn 8 = .ok (.iload_n 2, 1) := dk_28 (dk_at dksX1_learn_0 8 rfl rfl)
theorem dX1_learn_9 : decode cX1_learn 9 = .ok (.iconst 0, 1) := dk_3 (dk_at dksX1_learn_0 9 rfl rfl)
theorem dX1_learn_10 : decode cX1_learn 10 = .ok (.aload_n 0, 1) := dk_42 (dk_at dksX1_learn_0 10 rfl rfl)
theorem dX1_learn_11 : decode cX1_learn 11 = .ok (.getfield 30, 3) := dk_180 0 30 (dk_at dksX1_learn_0 11 rfl rfl)
theorem dX1_learn_14 : decode cX1_learn 14 = .ok (.invokevirtual 126, 3) := dk_182 0 126 (dk_at dksX1_learn_0 14 rfl rfl)
theorem dX1_learn_17 : decode cX1_learn 17 = .ok (.iconst 1, 1) := dk_4 (dk_at dksX1_learn_0 17 rfl rfl)
theorem dX1_learn_18 : decode cX1_learn 18 = .ok (.isub, 1) := dk_100 (dk_at dksX1_learn_0 18 rfl rfl)
theorem dX1_learn_19 : decode cX1_learn 19 = .ok (.invokestatic 112, 3) := dk_184 0 112 (dk_at dksX1_learn_0 19 rfl rfl)
theorem dX1_learn_22 : decode cX1_learn 22 = .ok (.ifCond .eq 54, 3) := dk_153 0 54 (dk_at dksX1_learn_1 0 rfl rfl)
theorem dX1_learn_25 : decode cX1_learn 25 = .ok (.iload_n 3, 1) := dk_29 (dk_at dksX1_learn_1 3 rfl rfl)
theorem dX1_learn_26 : decode cX1_learn 26 = .ok (.iconst 0, 1) := dk_3 (dk_at dksX1_learn_1 4 rfl rfl)
theorem dX1_learn_27 : decode cX1_learn 27 = .ok (.aload_n 0, 1) := dk_42 (dk_at dksX1_learn_1 5 rfl rfl)
theorem dX1_learn_28 : decode cX1_learn 28 = .ok (.getfield 30, 3) := dk_180 0 30 (dk_at dksX1_learn_1 6 rfl rfl)
theorem dX1_learn_31 : decode cX1_learn 31 = .ok (.iload_n 2, 1) := dk_28 (dk_at dksX1_learn_1 9 rfl rfl)
theorem dX1_learn_32 : decode cX1_learn 32 = .ok (.invokevirtual 155, 3) := dk_182 0 155 (dk_at dksX1_learn_1 10 rfl rfl)
theorem dX1_learn_35 : decode cX1_learn 35 = .ok (.checkcast 129, 3) := dk_192 0 129 (dk_at dksX1_learn_1 13 rfl rfl)
theorem dX1_learn_38 : decode cX1_learn 38 = .ok (.getfield 137, 3) := dk_180 0 137 (dk_at dksX1_learn_1 16 rfl rfl)
theorem dX1_learn_41 : decode cX1_learn 41 = .ok (.invokevirtual 126, 3) := dk_182 0 126 (dk_at dksX1_learn_1 19 rfl rfl)
theorem dX1_learn_44 : decode cX1_learn 44 = .ok (.iconst 1, 1) := dk_4 (dk_at dksX1_learn_1 22 rfl rfl)
theorem dX1_learn_45 : decode cX1_learn 45 = .ok (.isub, 1) := dk_100 (dk_at dksX1_learn_1 23 rfl rfl)
theorem dX1_learn_46 : decode cX1_learn 46 = .ok (.invokestatic 112, 3) := dk_184 0 112 (dk_at dksX1_learn_2 0 rfl rfl)
theorem dX1_learn_49 : decode cX1_learn 49 = .ok (.ifCond .eq 27, 3) := dk_153 0 27 (dk_at dksX1_learn_2 3 rfl rfl)
theorem dX1_learn_52 : decode cX1_learn 52 = .ok (.iload 4, 2) := dk_21 4 (dk_at dksX1_learn_2 6 rfl rfl)
theorem dX1_learn_54 : decode cX1_learn 54 = .ok (.iconst 1, 1) := dk_4 (dk_at dksX1_learn_2 8 rfl rfl)
theorem dX1_learn_55 : decode cX1_learn 55 = .ok (.bipush 99, 2) := dk_16 99 (dk_at dksX1_learn_2 9 rfl rfl)
theorem dX1_learn_57 : decode cX1_learn 57 = .ok (.invokestatic 112, 3) := dk_184 0 112 (dk_at dksX1_learn_2 11 rfl rfl)
theorem dX1_learn_60 : decode cX1_learn 60 = .ok (.ifCond .eq 16, 3) := dk_153 0 16 (dk_at dksX1_learn_2 14 rfl rfl)
theorem dX1_learn_63 : decode cX1_learn 63 = .ok (.aload_n 0, 1) := dk_42 (dk_at dksX1_learn_2 17 rfl rfl)
theorem dX1_learn_64 : decode cX1_learn 64 = .ok (.getfield 46, 3) := dk_180 0 46 (dk_at dksX1_learn_2 18 rfl rfl)
theorem dX1_learn_67 : decode cX1_learn 67 = .ok (.invokevirtual 126, 3) := dk_182 0 126 (dk_at dksX1_learn_2 21 rfl rfl)
theorem dX1_learn_70 : decode cX1_learn 70 = .ok (.sipush 200, 3) := dk_17 0 200 (dk_at dksX1_learn_3 0 rfl rfl)
theorem dX1_learn_73 : decode cX1_learn 73 = .ok (.if_icmp .ne 5, 3) := dk_160 0 5 (dk_at dksX1_learn_3 3 rfl rfl)
theorem dX1_learn_76 : decode cX1_learn 76 = .ok (.iconst 0, 1) := dk_3 (dk_at dksX1_learn_3 6 rfl rfl)
theorem dX1_learn_77 : decode cX1_learn 77 = .ok (.ireturn, 1) := dk_172 (dk_at dksX1_learn_3 7 rfl rfl)
theorem dX1_learn_78 : decode cX1_learn 78 = .ok (.aload_n 0, 1) := dk_42 (dk_at dksX1_learn_3 8 rfl rfl)
theorem dX1_learn_79 : decode cX1_learn 79 = .ok (.getfield 46, 3) := dk_180 0 46 (dk_at dksX1_learn_3 9 rfl rfl)
theorem dX1_learn_82 : decode cX1_learn 82 = .ok (.new 192, 3) := dk_187 0 192 (dk_at dksX1_learn_3 12 rfl rfl)
theorem dX1_learn_85 : decode cX1_learn 85 = .ok (.dup, 1) := dk_89 (dk_at dksX1_learn_3 15 rfl rfl)
theorem dX1_learn_86 : decode cX1_learn 86 = .ok (.iload_n 1, 1) := dk_27 (dk_at dksX1_learn_3 16 rfl rfl)
theorem dX1_learn_87 : decode cX1_learn 87 = .ok (.iload_n 2, 1) := dk_28 (dk_at dksX1_learn_3 17 rfl rfl)
theorem dX1_learn_88 : decode cX1_learn 88 = .ok (.iload_n 3, 1) := dk_29 (dk_at dksX1_learn_3 18 rfl rfl)
theorem dX1_learn_89 : decode cX1_learn 89 = .ok (.iload 4, 2) := dk_21 4 (dk_at dksX1_learn_3 19 rfl rfl)
theorem dX1_learn_91 : decode cX1_learn 91 = .ok (.aload_n 0, 1) := dk_42 (dk_at dksX1_learn_3 21 rfl rfl)
theorem dX1_learn_92 : decode cX1_learn 92 = .ok (.getfield 116, 3) := dk_180 0 116 (dk_at dksX1_learn_4 0 rfl rfl)
theorem dX1_learn_95 : decode cX1_learn 95 = .ok (.invokespecial 194, 3) := dk_183 0 194 (dk_at dksX1_learn_4 3 rfl rfl)
theorem dX1_learn_98 : decode cX1_learn 98 = .ok (.invokevirtual 145, 3) := dk_182 0 145 (dk_at dksX1_learn_4 6 rfl rfl)
theorem dX1_learn_101 : decode cX1_learn 101 = .ok (.pop, 1) := dk_87 (dk_at dksX1_learn_4 9 rfl rfl)
theorem dX1_learn_102 : decode cX1_learn 102 = .ok (.aload_n 0, 1) := dk_42 (dk_at dksX1_learn_4 10 rfl rfl)
theorem dX1_learn_103 : decode cX1_learn 103 = .ok (.dup, 1) := dk_89 (dk_at dksX1_learn_4 11 rfl rfl)
theorem dX1_learn_104 : decode cX1_learn 104 = .ok (.getfield 119, 3) := dk_180 0 119 (dk_at dksX1_learn_4 12 rfl rfl)
theorem dX1_learn_107 : decode cX1_learn 107 = .ok (.iconst 1, 1) := dk_4 (dk_at dksX1_learn_4 15 rfl rfl)
theorem dX1_learn_108 : decode cX1_learn 108 = .ok (.iadd, 1) := dk_96 (dk_at dksX1_learn_4 16 rfl rfl)
theorem dX1_learn_109 : decode cX1_learn 109 = .ok (.putfield 119, 3) := dk_181 0 119 (dk_at dksX1_learn_4 17 rfl rfl)
theorem dX1_learn_112 : decode cX1_learn 112 = .ok (.iconst 1, 1) := dk_4 (dk_at dksX1_learn_4 20 rfl rfl)
theorem dX1_learn_113 : decode cX1_learn 113 = .ok (.ireturn, 1) := dk_172 (dk_at dksX1_learn_4 21 rfl rfl)
abbrev cX1_call : ByteArray := prog_1_method_19_code
def yX1_call : MethodName := ⟨RX1, "call", "(IIIII)I"⟩
def dkwX1_call_3 : List UInt8 := [180, 0, 119, 4, 96, 181, 0, 119, 42, 180, 0, 37, 182, 0, 126, 4, 100, 172]
abbrev dktX1_call_3 : List UInt8 := dkwX1_call_3 ++ []
def dkwX1_call_2 : List UInt8 := [180, 0, 30, 21, 4, 182, 0, 155, 192, 0, 129, 21, 5, 183, 0, 205, 182, 0, 145, 87, 42, 89]
abbrev dktX1_call_2 : List UInt8 := dkwX1_call_2 ++ dktX1_call_3
def dkwX1_call_1 : List UInt8 := [154, 0, 5, 2, 172, 42, 180, 0, 37, 187, 0, 56, 89, 42, 180, 0, 37, 182, 0, 126, 27, 28, 29, 42]
abbrev dktX1_call_1 : List UInt8 := dkwX1_call_1 ++ dktX1_call_2
def dkwX1_call_0 : List UInt8 := [42, 180, 0, 37, 182, 0, 126, 16, 60, 159, 0, 17, 42, 27, 28, 29, 21, 4, 21, 5, 182, 0, 201]
abbrev dktX1_call_0 : List UInt8 := dkwX1_call_0 ++ dktX1_call_1
theorem dksX1_call_0 : cX1_call.data.toList.drop 0 = dktX1_call_0 := by decide +kernel
theorem dksX1_call_1 : cX1_call.data.toList.drop 23 = dktX1_call_1 := dk_seg dksX1_call_0 23 rfl rfl
theorem dksX1_call_2 : cX1_call.data.toList.drop 47 = dktX1_call_2 := dk_seg dksX1_call_1 24 rfl rfl
theorem dksX1_call_3 : cX1_call.data.toList.drop 69 = dktX1_call_3 := dk_seg dksX1_call_2 22 rfl rfl
theorem dX1_call_0 : decode cX1_call 0 = .ok (.aload_n 0, 1) := dk_42 (dk_at dksX1_call_0 0 rfl rfl)
theorem dX1_call_1 : decode cX1_call 1 = .ok (.getfield 37, 3) := dk_180 0 37 (dk_at dksX1_call_0 1 rfl rfl)
theorem dX1_call_4 : decode cX1_call 4 = .ok (.invokevirtual 126, 3) := dk_182 0 126 (dk_at dksX1_call_0 4 rfl rfl)
theorem dX1_call_7 : decode cX1_call 7 = .ok (.bipush 60, 2) := dk_16 60 (dk_at dksX1_call_0 7 rfl rfl)
theorem dX1_call_9 : decode cX1_call 9 = .ok (.if_icmp .eq 17, 3) := dk_159 0 17 (dk_at dksX1_call_0 9 rfl rfl)
theorem dX1_call_12 : decode cX1_call 12 = .ok (.aload_n 0, 1) := dk_42 (dk_at dksX1_call_0 12 rfl rfl)
theorem dX1_call_13 : decode cX1_call 13 = .ok (.iload_n 1, 1) := dk_27 (dk_at dksX1_call_0 13 rfl rfl)
theorem dX1_call_14 : decode cX1_call 14 = .ok (.iload_n 2, 1) := dk_28 (dk_at dksX1_call_0 14 rfl rfl)
theorem dX1_call_15 : decode cX1_call 15 = .ok (.iload_n 3, 1) := dk_29 (dk_at dksX1_call_0 15 rfl rfl)
theorem dX1_call_16 : decode cX1_call 16 = .ok (.iload 4, 2) := dk_21 4 (dk_at dksX1_call_0 16 rfl rfl)
theorem dX1_call_18 : decode cX1_call 18 = .ok (.iload 5, 2) := dk_21 5 (dk_at dksX1_call_0 18 rfl rfl)
theorem dX1_call_20 : decode cX1_call 20 = .ok (.invokevirtual 201, 3) := dk_182 0 201 (dk_at dksX1_call_0 20 rfl rfl)
theorem dX1_call_23 : decode cX1_call 23 = .ok (.ifCond .ne 5, 3) := dk_154 0 5 (dk_at dksX1_call_1 0 rfl rfl)
theorem dX1_call_26 : decode cX1_call 26 = .ok (.iconst (-1), 1) := dk_2 (dk_at dksX1_call_1 3 rfl rfl)
theorem dX1_call_27 : decode cX1_call 27 = .ok (.ireturn, 1) := dk_172 (dk_at dksX1_call_1 4 rfl rfl)
theorem dX1_call_28 : decode cX1_call 28 = .ok (.aload_n 0, 1) := dk_42 (dk_at dksX1_call_1 5 rfl rfl)
theorem dX1_call_29 : decode cX1_call 29 = .ok (.getfield 37, 3) := dk_180 0 37 (dk_at dksX1_call_1 6 rfl rfl)
theorem dX1_call_32 : decode cX1_call 32 = .ok (.new 56, 3) := dk_187 0 56 (dk_at dksX1_call_1 9 rfl rfl)
theorem dX1_call_35 : decode cX1_call 35 = .ok (.dup, 1) := dk_89 (dk_at dksX1_call_1 12 rfl rfl)
theorem dX1_call_36 : decode cX1_call 36 = .ok (.aload_n 0, 1) := dk_42 (dk_at dksX1_call_1 13 rfl rfl)
theorem dX1_call_37 : decode cX1_call 37 = .ok (.getfield 37, 3) := dk_180 0 37 (dk_at dksX1_call_1 14 rfl rfl)
theorem dX1_call_40 : decode cX1_call 40 = .ok (.invokevirtual 126, 3) := dk_182 0 126 (dk_at dksX1_call_1 17 rfl rfl)
theorem dX1_call_43 : decode cX1_call 43 = .ok (.iload_n 1, 1) := dk_27 (dk_at dksX1_call_1 20 rfl rfl)
theorem dX1_call_44 : decode cX1_call 44 = .ok (.iload_n 2, 1) := dk_28 (dk_at dksX1_call_1 21 rfl rfl)
theorem dX1_call_45 : decode cX1_call 45 = .ok (.iload_n 3, 1) := dk_29 (dk_at dksX1_call_1 22 rfl rfl)
theorem dX1_call_46 : decode cX1_call 46 = .ok (.aload_n 0, 1) := dk_42 (dk_at dksX1_call_1 23 rfl rfl)
theorem dX1_call_47 : decode cX1_call 47 = .ok (.getfield 30, 3) := dk_180 0 30 (dk_at dksX1_call_2 0 rfl rfl)
theorem dX1_call_50 : decode cX1_call 50 = .ok (.iload 4, 2) := dk_21 4 (dk_at dksX1_call_2 3 rfl rfl)
theorem dX1_call_52 : decode cX1_call 52 = .ok (.invokevirtual 155, 3) := dk_182 0 155 (dk_at dksX1_call_2 5 rfl rfl)
theorem dX1_call_55 : decode cX1_call 55 = .ok (.checkcast 129, 3) := dk_192 0 129 (dk_at dksX1_call_2 8 rfl rfl)
theorem dX1_call_58 : decode cX1_call 58 = .ok (.iload 5, 2) := dk_21 5 (dk_at dksX1_call_2 11 rfl rfl)
theorem dX1_call_60 : decode cX1_call 60 = .ok (.invokespecial 205, 3) := dk_183 0 205 (dk_at dksX1_call_2 13 rfl rfl)
theorem dX1_call_63 : decode cX1_call 63 = .ok (.invokevirtual 145, 3) := dk_182 0 145 (dk_at dksX1_call_2 16 rfl rfl)
theorem dX1_call_66 : decode cX1_call 66 = .ok (.pop, 1) := dk_87 (dk_at dksX1_call_2 19 rfl rfl)
theorem dX1_call_67 : decode cX1_call 67 = .ok (.aload_n 0, 1) := dk_42 (dk_at dksX1_call_2 20 rfl rfl)
theorem dX1_call_68 : decode cX1_call 68 = .ok (.dup, 1) := dk_89 (dk_at dksX1_call_2 21 rfl rfl)
theorem dX1_call_69 : decode cX1_call 69 = .ok (.getfield 119, 3) := dk_180 0 119 (dk_at dksX1_call_3 0 rfl rfl)
theorem dX1_call_72 : decode cX1_call 72 = .ok (.iconst 1, 1) := dk_4 (dk_at dksX1_call_3 3 rfl rfl)
theorem dX1_call_73 : decode cX1_call 73 = .ok (.iadd, 1) := dk_96 (dk_at dksX1_call_3 4 rfl rfl)
theorem dX1_call_74 : decode cX1_call 74 = .ok (.putfield 119, 3) := dk_181 0 119 (dk_at dksX1_call_3 5 rfl rfl)
theorem dX1_call_77 : decode cX1_call 77 = .ok (.aload_n 0, 1) := dk_42 (dk_at dksX1_call_3 8 rfl rfl)
theorem dX1_call_78 : decode cX1_call 78 = .ok (.getfield 37, 3) := dk_180 0 37 (dk_at dksX1_call_3 9 rfl rfl)
theorem dX1_call_81 : decode cX1_call 81 = .ok (.invokevirtual 126, 3) := dk_182 0 126 (dk_at dksX1_call_3 12 rfl rfl)
theorem dX1_call_84 : decode cX1_call 84 = .ok (.iconst 1, 1) := dk_4 (dk_at dksX1_call_3 15 rfl rfl)
theorem dX1_call_85 : decode cX1_call 85 = .ok (.isub, 1) := dk_100 (dk_at dksX1_call_3 16 rfl rfl)
theorem dX1_call_86 : decode cX1_call 86 = .ok (.ireturn, 1) := dk_172 (dk_at dksX1_call_3 17 rfl rfl)
abbrev cX1_mayBe : ByteArray := prog_1_method_18_code
def yX1_mayBe : MethodName := ⟨RX1, "mayBe", "(IIIII)Z"⟩
def dkwX1_mayBe_3 : List UInt8 := [192, 0, 129, 184, 0, 197, 96, 16, 24, 163, 0, 7, 4, 167, 0, 4, 3, 172]
abbrev dktX1_mayBe_3 : List UInt8 := dkwX1_mayBe_3 ++ []
def dkwX1_mayBe_2 : List UInt8 := [153, 0, 40, 21, 5, 3, 6, 184, 0, 112, 153, 0, 30, 28, 29, 42, 180, 0, 30, 21, 4, 182, 0, 155]
abbrev dktX1_mayBe_2 : List UInt8 := dkwX1_mayBe_2 ++ dktX1_mayBe_3
def dkwX1_mayBe_1 : List UInt8 := [3, 6, 184, 0, 112, 153, 0, 58, 21, 4, 3, 42, 180, 0, 30, 182, 0, 126, 4, 100, 184, 0, 112]
abbrev dktX1_mayBe_1 : List UInt8 := dkwX1_mayBe_1 ++ dktX1_mayBe_2
def dkwX1_mayBe_0 : List UInt8 := [27, 42, 180, 0, 116, 16, 29, 184, 0, 112, 153, 0, 77, 28, 3, 16, 23, 184, 0, 112, 153, 0, 67, 29]
abbrev dktX1_mayBe_0 : List UInt8 := dkwX1_mayBe_0 ++ dktX1_mayBe_1
theorem dksX1_mayBe_0 : cX1_mayBe.data.toList.drop 0 = dktX1_mayBe_0 := by decide +kernel
theorem dksX1_mayBe_1 : cX1_mayBe.data.toList.drop 24 = dktX1_mayBe_1 := dk_seg dksX1_mayBe_0 24 rfl rfl
theorem dksX1_mayBe_2 : cX1_mayBe.data.toList.drop 47 = dktX1_mayBe_2 := dk_seg dksX1_mayBe_1 23 rfl rfl
theorem dksX1_mayBe_3 : cX1_mayBe.data.toList.drop 71 = dktX1_mayBe_3 := dk_seg dksX1_mayBe_2 24 rfl rfl
theorem dX1_mayBe_0 : decode cX1_mayBe 0 = .ok (.iload_n 1, 1) := dk_27 (dk_at dksX1_mayBe_0 0 rfl rfl)
theorem dX1_mayBe_1 : decode cX1_mayBe 1 = .ok (.aload_n 0, 1) := dk_42 (dk_at dksX1_mayBe_0 1 rfl rfl)
theorem dX1_mayBe_2 : decode cX1_mayBe 2 = .ok (.getfield 116, 3) := dk_180 0 116 (dk_at dksX1_mayBe_0 2 rfl rfl)
theorem dX1_mayBe_5 : decode cX1_mayBe 5 = .ok (.bipush 29, 2) := dk_16 29 (dk_at dksX1_mayBe_0 5 rfl rfl)
theorem dX1_mayBe_7 : decode cX1_mayBe 7 = .ok (.invokestatic 112, 3) := dk_184 0 112 (dk_at dksX1_mayBe_0 7 rfl rfl)
theorem dX1_mayBe_10 : decode cX1_mayBe 10 = .ok (.ifCond .eq 77, 3) := dk_153 0 77 (dk_at dksX1_mayBe_0 10 rfl rfl)
theorem dX1_mayBe_13 : decode cX1_mayBe 13 = .ok (.iload_n 2, 1) := dk_28 (dk_at dksX1_mayBe_0 13 rfl rfl)
theorem dX1_mayBe_14 : decode cX1_mayBe 14 = .ok (.iconst 0, 1) := dk_3 (dk_at dksX1_mayBe_0 14 rfl rfl)
theorem dX1_mayBe_15 : decode cX1_mayBe 15 = .ok (.bipush 23, 2) := dk_16 23 (dk_at dksX1_mayBe_0 15 rfl rfl)
theorem dX1_mayBe_17 : decode cX1_mayBe 17 = .ok (.invokestatic 112, 3) := dk_184 0 112 (dk_at dksX1_mayBe_0 17 rfl rfl)
theorem dX1_mayBe_20 : decode cX1_mayBe 20 = .ok (.ifCond .eq 67, 3) := dk_153 0 67 (dk_at dksX1_mayBe_0 20 rfl rfl)
theorem dX1_mayBe_23 : decode cX1_mayBe 23 = .ok (.iload_n 3, 1) := dk_29 (dk_at dksX1_mayBe_0 23 rfl rfl)
theorem dX1_mayBe_24 : decode cX1_mayBe 24 = .ok (.iconst 0, 1) := dk_3 (dk_at dksX1_mayBe_1 0 rfl rfl)
theorem dX1_mayBe_25 : decode cX1_mayBe 25 = .ok (.iconst 3, 1) := dk_6 (dk_at dksX1_mayBe_1 1 rfl rfl)
theorem dX1_mayBe_26 : decode cX1_mayBe 26 = .ok (.invokestatic 112, 3) := dk_184 0 112 (dk_at dksX1_mayBe_1 2 rfl rfl)
theorem dX1_mayBe_29 : decode cX1_mayBe 29 = .ok (.ifCond .eq 58, 3) := dk_153 0 58 (dk_at dksX1_mayBe_1 5 rfl rfl)
theorem dX1_mayBe_32 : decode cX1_mayBe 32 = .ok (.iload 4, 2) := dk_21 4 (dk_at dksX1_mayBe_1 8 rfl rfl)
theorem dX1_mayBe_34 : decode cX1_mayBe 34 = .ok (.iconst 0, 1) := dk_3 (dk_at dksX1_mayBe_1 10 rfl rfl)
theorem dX1_mayBe_35 : decode cX1_mayBe 35 = .ok (.aload_n 0, 1) := dk_42 (dk_at dksX1_mayBe_1 11 rfl rfl)
theorem dX1_mayBe_36 : decode cX1_mayBe 36 = .ok (.getfield 30, 3) := dk_180 0 30 (dk_at dksX1_mayBe_1 12 rfl rfl)
theorem dX1_mayBe_39 : decode cX1_mayBe 39 = .ok (.invokevirtual 126, 3) := dk_182 0 126 (dk_at dksX1_mayBe_1 15 rfl rfl)
theorem dX1_mayBe_42 : decode cX1_mayBe 42 = .ok (.iconst 1, 1) := dk_4 (dk_at dksX1_mayBe_1 18 rfl rfl)
theorem dX1_mayBe_43 : decode cX1_mayBe 43 = .ok (.isub, 1) := dk_100 (dk_at dksX1_mayBe_1 19 rfl rfl)
theorem dX1_mayBe_44 : decode cX1_mayBe 44 = .ok (.invokestatic 112, 3) := dk_184 0 112 (dk_at dksX1_mayBe_1 20 rfl rfl)
theorem dX1_mayBe_47 : decode cX1_mayBe 47 = .ok (.ifCond .eq 40, 3) := dk_153 0 40 (dk_at dksX1_mayBe_2 0 rfl rfl)
theorem dX1_mayBe_50 : decode cX1_mayBe 50 = .ok (.iload 5, 2) := dk_21 5 (dk_at dksX1_mayBe_2 3 rfl rfl)
theorem dX1_mayBe_52 : decode cX1_mayBe 52 = .ok (.iconst 0, 1) := dk_3 (dk_at dksX1_mayBe_2 5 rfl rfl)
theorem dX1_mayBe_53 : decode cX1_mayBe 53 = .ok (.iconst 3, 1) := dk_6 (dk_at dksX1_mayBe_2 6 rfl rfl)
theorem dX1_mayBe_54 : decode cX1_mayBe 54 = .ok (.invokestatic 112, 3) := dk_184 0 112 (dk_at dksX1_mayBe_2 7 rfl rfl)
theorem dX1_mayBe_57 : decode cX1_mayBe 57 = .ok (.ifCond .eq 30, 3) := dk_153 0 30 (dk_at dksX1_mayBe_2 10 rfl rfl)
theorem dX1_mayBe_60 : decode cX1_mayBe 60 = .ok (.iload_n 2, 1) := dk_28 (dk_at dksX1_mayBe_2 13 rfl rfl)
theorem dX1_mayBe_61 : decode cX1_mayBe 61 = .ok (.iload_n 3, 1) := dk_29 (dk_at dksX1_mayBe_2 14 rfl rfl)
theorem dX1_mayBe_62 : decode cX1_mayBe 62 = .ok (.aload_n 0, 1) := dk_42 (dk_at dksX1_mayBe_2 15 rfl rfl)
theorem dX1_mayBe_63 : decode cX1_mayBe 63 = .ok (.getfield 30, 3) := dk_180 0 30 (dk_at dksX1_mayBe_2 16 rfl rfl)
theorem dX1_mayBe_66 : decode cX1_mayBe 66 = .ok (.iload 4, 2) := dk_21 4 (dk_at dksX1_mayBe_2 19 rfl rfl)
theorem dX1_mayBe_68 : decode cX1_mayBe 68 = .ok (.invokevirtual 155, 3) := dk_182 0 155 (dk_at dksX1_mayBe_2 21 rfl rfl)
theorem dX1_mayBe_71 : decode cX1_mayBe 71 = .ok (.checkcast 129, 3) := dk_192 0 129 (dk_at dksX1_mayBe_3 0 rfl rfl)
theorem dX1_mayBe_74 : decode cX1_mayBe 74 = .ok (.invokestatic 197, 3) := dk_184 0 197 (dk_at dksX1_mayBe_3 3 rfl rfl)
theorem dX1_mayBe_77 : decode cX1_mayBe 77 = .ok (.iadd, 1) := dk_96 (dk_at dksX1_mayBe_3 6 rfl rfl)
theorem dX1_mayBe_78 : decode cX1_mayBe 78 = .ok (.bipush 24, 2) := dk_16 24 (dk_at dksX1_mayBe_3 7 rfl rfl)
theorem dX1_mayBe_80 : decode cX1_mayBe 80 = .ok (.if_icmp .gt 7, 3) := dk_163 0 7 (dk_at dksX1_mayBe_3 9 rfl rfl)
theorem dX1_mayBe_83 : decode cX1_mayBe 83 = .ok (.iconst 1, 1) := dk_4 (dk_at dksX1_mayBe_3 12 rfl rfl)
theorem dX1_mayBe_84 : decode cX1_mayBe 84 = .ok (.goto 4, 3) := dk_167 0 4 (dk_at dksX1_mayBe_3 13 rfl rfl)
theorem dX1_mayBe_87 : decode cX1_mayBe 87 = .ok (.iconst 0, 1) := dk_3 (dk_at dksX1_mayBe_3 16 rfl rfl)
theorem dX1_mayBe_88 : decode cX1_mayBe 88 = .ok (.ireturn, 1) := dk_172 (dk_at dksX1_mayBe_3 17 rfl rfl)
abbrev cX1_cast : ByteArray := prog_1_method_20_code
def yX1_cast : MethodName := ⟨RX1, "cast", "(IIIZ)Z"⟩
def dkwX1_cast_4 : List UInt8 := [89, 180, 0, 119, 4, 96, 181, 0, 119, 4, 172]
abbrev dktX1_cast_4 : List UInt8 := dkwX1_cast_4 ++ []
def dkwX1_cast_3 : List UInt8 := [180, 0, 40, 187, 0, 217, 89, 27, 28, 29, 21, 4, 42, 180, 0, 116, 183, 0, 219, 182, 0, 145, 87, 42]
abbrev dktX1_cast_3 : List UInt8 := dkwX1_cast_3 ++ dktX1_cast_4
def dkwX1_cast_2 : List UInt8 := [180, 0, 116, 161, 0, 16, 42, 180, 0, 40, 182, 0, 126, 17, 1, 144, 160, 0, 5, 3, 172, 42]
abbrev dktX1_cast_2 : List UInt8 := dkwX1_cast_2 ++ dktX1_cast_3
def dkwX1_cast_1 : List UInt8 := [153, 0, 41, 29, 2, 159, 0, 11, 42, 29, 182, 0, 159, 198, 0, 28, 25, 5, 180, 0, 214, 42]
abbrev dktX1_cast_1 : List UInt8 := dkwX1_cast_1 ++ dktX1_cast_2
def dkwX1_cast_0 : List UInt8 := [42, 27, 182, 0, 208, 58, 5, 25, 5, 198, 0, 56, 28, 3, 25, 5, 182, 0, 212, 4, 100, 184, 0, 112]
abbrev dktX1_cast_0 : List UInt8 := dkwX1_cast_0 ++ dktX1_cast_1
theorem dksX1_cast_0 : cX1_cast.data.toList.drop 0 = dktX1_cast_0 := by decide +kernel
theorem dksX1_cast_1 : cX1_cast.data.toList.drop 24 = dktX1_cast_1 := dk_seg dksX1_cast_0 24 rfl rfl
theorem dksX1_cast_2 : cX1_cast.data.toList.drop 46 = dktX1_cast_2 := dk_seg dksX1_cast_1 22 rfl rfl
theorem dksX1_cast_3 : cX1_cast.data.toList.drop 68 = dktX1_cast_3 := dk_seg dksX1_cast_2 22 rfl rfl
theorem dksX1_cast_4 : cX1_cast.data.toList.drop 92 = dktX1_cast_4 := dk_seg dksX1_cast_3 24 rfl rfl
theorem dX1_cast_0 : decode cX1_cast 0 = .ok (.aload_n 0, 1) := dk_42 (dk_at dksX1_cast_0 0 rfl rfl)
theorem dX1_cast_1 : decode cX1_cast 1 = .ok (.iload_n 1, 1) := dk_27 (dk_at dksX1_cast_0 1 rfl rfl)
theorem dX1_cast_2 : decode cX1_cast 2 = .ok (.invokevirtual 208, 3) := dk_182 0 208 (dk_at dksX1_cast_0 2 rfl rfl)
theorem dX1_cast_5 : decode cX1_cast 5 = .ok (.astore 5, 2) := dk_58 5 (dk_at dksX1_cast_0 5 rfl rfl)
theorem dX1_cast_7 : decode cX1_cast 7 = .ok (.aload 5, 2) := dk_25 5 (dk_at dksX1_cast_0 7 rfl rfl)
theorem dX1_cast_9 : decode cX1_cast 9 = .ok (.ifnull 56, 3) := dk_198 0 56 (dk_at dksX1_cast_0 9 rfl rfl)
theorem dX1_cast_12 : decode cX1_cast 12 = .ok (.iload_n 2, 1) := dk_28 (dk_at dksX1_cast_0 12 rfl rfl)
theorem dX1_cast_13 : decode cX1_cast 13 = .ok (.iconst 0, 1) := dk_3 (dk_at dksX1_cast_0 13 rfl rfl)
theorem dX1_cast_14 : decode cX1_cast 14 = .ok (.aload 5, 2) := dk_25 5 (dk_at dksX1_cast_0 14 rfl rfl)
theorem dX1_cast_16 : decode cX1_cast 16 = .ok (.invokevirtual 212, 3) := dk_182 0 212 (dk_at dksX1_cast_0 16 rfl rfl)
theorem dX1_cast_19 : decode cX1_cast 19 = .ok (.iconst 1, 1) := dk_4 (dk_at dksX1_cast_0 19 rfl rfl)
theorem dX1_cast_20 : decode cX1_cast 20 = .ok (.isub, 1) := dk_100 (dk_at dksX1_cast_0 20 rfl rfl)
theorem dX1_cast_21 : decode cX1_cast 21 = .ok (.invokestatic 112, 3) := dk_184 0 112 (dk_at dksX1_cast_0 21 rfl rfl)
theorem dX1_cast_24 : decode cX1_cast 24 = .ok (.ifCond .eq 41, 3) := dk_153 0 41 (dk_at dksX1_cast_1 0 rfl rfl)
theorem dX1_cast_27 : decode cX1_cast 27 = .ok (.iload_n 3, 1) := dk_29 (dk_at dksX1_cast_1 3 rfl rfl)
theorem dX1_cast_28 : decode cX1_cast 28 = .ok (.iconst (-1), 1) := dk_2 (dk_at dksX1_cast_1 4 rfl rfl)
theorem dX1_cast_29 : decode cX1_cast 29 = .ok (.if_icmp .eq 11, 3) := dk_159 0 11 (dk_at dksX1_cast_1 5 rfl rfl)
theorem dX1_cast_32 : decode cX1_cast 32 = .ok (.aload_n 0, 1) := dk_42 (dk_at dksX1_cast_1 8 rfl rfl)
theorem dX1_cast_33 : decode cX1_cast 33 = .ok (.iload_n 3, 1) := dk_29 (dk_at dksX1_cast_1 9 rfl rfl)
theorem dX1_cast_34 : decode cX1_cast 34 = .ok (.invokevirtual 159, 3) := dk_182 0 159 (dk_at dksX1_cast_1 10 rfl rfl)
theorem dX1_cast_37 : decode cX1_cast 37 = .ok (.ifnull 28, 3) := dk_198 0 28 (dk_at dksX1_cast_1 13 rfl rfl)
theorem dX1_cast_40 : decode cX1_cast 40 = .ok (.aload 5, 2) := dk_25 5 (dk_at dksX1_cast_1 16 rfl rfl)
theorem dX1_cast_42 : decode cX1_cast 42 = .ok (.getfield 214, 3) := dk_180 0 214 (dk_at dksX1_cast_1 18 rfl rfl)
theorem dX1_cast_45 : decode cX1_cast 45 = .ok (.aload_n 0, 1) := dk_42 (dk_at dksX1_cast_1 21 rfl rfl)
theorem dX1_cast_46 : decode cX1_cast 46 = .ok (.getfield 116, 3) := dk_180 0 116 (dk_at dksX1_cast_2 0 rfl rfl)
theorem dX1_cast_49 : decode cX1_cast 49 = .ok (.if_icmp .lt 16, 3) := dk_161 0 16 (dk_at dksX1_cast_2 3 rfl rfl)
theorem dX1_cast_52 : decode cX1_cast 52 = .ok (.aload_n 0, 1) := dk_42 (dk_at dksX1_cast_2 6 rfl rfl)
theorem dX1_cast_53 : decode cX1_cast 53 = .ok (.getfield 40, 3) := dk_180 0 40 (dk_at dksX1_cast_2 7 rfl rfl)
theorem dX1_cast_56 : decode cX1_cast 56 = .ok (.invokevirtual 126, 3) := dk_182 0 126 (dk_at dksX1_cast_2 10 rfl rfl)
theorem dX1_cast_59 : decode cX1_cast 59 = .ok (.sipush 400, 3) := dk_17 1 144 (dk_at dksX1_cast_2 13 rfl rfl)
theorem dX1_cast_62 : decode cX1_cast 62 = .ok (.if_icmp .ne 5, 3) := dk_160 0 5 (dk_at dksX1_cast_2 16 rfl rfl)
theorem dX1_cast_65 : decode cX1_cast 65 = .ok (.iconst 0, 1) := dk_3 (dk_at dksX1_cast_2 19 rfl rfl)
theorem dX1_cast_66 : decode cX1_cast 66 = .ok (.ireturn, 1) := dk_172 (dk_at dksX1_cast_2 20 rfl rfl)
theorem dX1_cast_67 : decode cX1_cast 67 = .ok (.aload_n 0, 1) := dk_42 (dk_at dksX1_cast_2 21 rfl rfl)
theorem dX1_cast_68 : decode cX1_cast 68 = .ok (.getfield 40, 3) := dk_180 0 40 (dk_at dksX1_cast_3 0 rfl rfl)
theorem dX1_cast_71 : decode cX1_cast 71 = .ok (.new 217, 3) := dk_187 0 217 (dk_at dksX1_cast_3 3 rfl rfl)
theorem dX1_cast_74 : decode cX1_cast 74 = .ok (.dup, 1) := dk_89 (dk_at dksX1_cast_3 6 rfl rfl)
theorem dX1_cast_75 : decode cX1_cast 75 = .ok (.iload_n 1, 1) := dk_27 (dk_at dksX1_cast_3 7 rfl rfl)
theorem dX1_cast_76 : decode cX1_cast 76 = .ok (.iload_n 2, 1) := dk_28 (dk_at dksX1_cast_3 8 rfl rfl)
theorem dX1_cast_77 : decode cX1_cast 77 = .ok (.iload_n 3, 1) := dk_29 (dk_at dksX1_cast_3 9 rfl rfl)
theorem dX1_cast_78 : decode cX1_cast 78 = .ok (.iload 4, 2) := dk_21 4 (dk_at dksX1_cast_3 10 rfl rfl)
theorem dX1_cast_80 : decode cX1_cast 80 = .ok (.aload_n 0, 1) := dk_42 (dk_at dksX1_cast_3 12 rfl rfl)
theorem dX1_cast_81 : decode cX1_cast 81 = .ok (.getfield 116, 3) := dk_180 0 116 (dk_at dksX1_cast_3 13 rfl rfl)
theorem dX1_cast_84 : decode cX1_cast 84 = .ok (.invokespecial 219, 3) := dk_183 0 219 (dk_at dksX1_cast_3 16 rfl rfl)
theorem dX1_cast_87 : decode cX1_cast 87 = .ok (.invokevirtual 145, 3) := dk_182 0 145 (dk_at dksX1_cast_3 19 rfl rfl)
theorem dX1_cast_90 : decode cX1_cast 90 = .ok (.pop, 1) := dk_87 (dk_at dksX1_cast_3 22 rfl rfl)
theorem dX1_cast_91 : decode cX1_cast 91 = .ok (.aload_n 0, 1) := dk_42 (dk_at dksX1_cast_3 23 rfl rfl)
theorem dX1_cast_92 : decode cX1_cast 92 = .ok (.dup, 1) := dk_89 (dk_at dksX1_cast_4 0 rfl rfl)
theorem dX1_cast_93 : decode cX1_cast 93 = .ok (.getfield 119, 3) := dk_180 0 119 (dk_at dksX1_cast_4 1 rfl rfl)
theorem dX1_cast_96 : decode cX1_cast 96 = .ok (.iconst 1, 1) := dk_4 (dk_at dksX1_cast_4 4 rfl rfl)
theorem dX1_cast_97 : decode cX1_cast 97 = .ok (.iadd, 1) := dk_96 (dk_at dksX1_cast_4 5 rfl rfl)
theorem dX1_cast_98 : decode cX1_cast 98 = .ok (.putfield 119, 3) := dk_181 0 119 (dk_at dksX1_cast_4 6 rfl rfl)
theorem dX1_cast_101 : decode cX1_cast 101 = .ok (.iconst 1, 1) := dk_4 (dk_at dksX1_cast_4 9 rfl rfl)
theorem dX1_cast_102 : decode cX1_cast 102 = .ok (.ireturn, 1) := dk_172 (dk_at dksX1_cast_4 10 rfl rfl)
abbrev cX1_callOf : ByteArray := prog_1_method_14_code
def yX1_callOf : MethodName := ⟨RX1, "callOf", "(I)LOperaHouse$Call;"⟩
def dkwX1_callOf_1 : List UInt8 := [182, 0, 155, 192, 0, 56, 167, 0, 4, 1, 176]
abbrev dktX1_callOf_1 : List UInt8 := dkwX1_callOf_1 ++ []
def dkwX1_callOf_0 : List UInt8 := [27, 3, 42, 180, 0, 37, 182, 0, 126, 4, 100, 184, 0, 112, 153, 0, 17, 42, 180, 0, 37, 27]
abbrev dktX1_callOf_0 : List UInt8 := dkwX1_callOf_0 ++ dktX1_callOf_1
theorem dksX1_callOf_0 : cX1_callOf.data.toList.drop 0 = dktX1_callOf_0 := by decide +kernel
theorem dksX1_callOf_1 : cX1_callOf.data.toList.drop 22 = dktX1_callOf_1 := dk_seg dksX1_callOf_0 22 rfl rfl
theorem dX1_callOf_0 : decode cX1_callOf 0 = .ok (.iload_n 1, 1) := dk_27 (dk_at dksX1_callOf_0 0 rfl rfl)
theorem dX1_callOf_1 : decode cX1_callOf 1 = .ok (.iconst 0, 1) := dk_3 (dk_at dksX1_callOf_0 1 rfl rfl)
theorem dX1_callOf_2 : decode cX1_callOf 2 = .ok (.aload_n 0, 1) := dk_42 (dk_at dksX1_callOf_0 2 rfl rfl)
theorem dX1_callOf_3 : decode cX1_callOf 3 = .ok (.getfield 37, 3) := dk_180 0 37 (dk_at dksX1_callOf_0 3 rfl rfl)
theorem dX1_callOf_6 : decode cX1_callOf 6 = .ok (.invokevirtual 126, 3) := dk_182 0 126 (dk_at dksX1_callOf_0 6 rfl rfl)
theorem dX1_callOf_9 : decode cX1_callOf 9 = .ok (.iconst 1, 1) := dk_4 (dk_at dksX1_callOf_0 9 rfl rfl)
theorem dX1_callOf_10 : decode cX1_callOf 10 = .ok (.isub, 1) := dk_100 (dk_at dksX1_callOf_0 10 rfl rfl)
theorem dX1_callOf_11 : decode cX1_callOf 11 = .ok (.invokestatic 112, 3) := dk_184 0 112 (dk_at dksX1_callOf_0 11 rfl rfl)
theorem dX1_callOf_14 : decode cX1_callOf 14 = .ok (.ifCond .eq 17, 3) := dk_153 0 17 (dk_at dksX1_callOf_0 14 rfl rfl)
theorem dX1_callOf_17 : decode cX1_callOf 17 = .ok (.aload_n 0, 1) := dk_42 (dk_at dksX1_callOf_0 17 rfl rfl)
theorem dX1_callOf_18 : decode cX1_callOf 18 = .ok (.getfield 37, 3) := dk_180 0 37 (dk_at dksX1_callOf_0 18 rfl rfl)
theorem dX1_callOf_21 : decode cX1_callOf 21 = .ok (.iload_n 1, 1) := dk_27 (dk_at dksX1_callOf_0 21 rfl rfl)
theorem dX1_callOf_22 : decode cX1_callOf 22 = .ok (.invokevirtual 155, 3) := dk_182 0 155 (dk_at dksX1_callOf_1 0 rfl rfl)
theorem dX1_callOf_25 : decode cX1_callOf 25 = .ok (.checkcast 56, 3) := dk_192 0 56 (dk_at dksX1_callOf_1 3 rfl rfl)
theorem dX1_callOf_28 : decode cX1_callOf 28 = .ok (.goto 4, 3) := dk_167 0 4 (dk_at dksX1_callOf_1 6 rfl rfl)
theorem dX1_callOf_31 : decode cX1_callOf 31 = .ok (.aconst_null, 1) := dk_1 (dk_at dksX1_callOf_1 9 rfl rfl)
theorem dX1_callOf_32 : decode cX1_callOf 32 = .ok (.areturn, 1) := dk_176 (dk_at dksX1_callOf_1 10 rfl rfl)
abbrev cX1_ill : ByteArray := prog_1_method_21_code
def yX1_ill : MethodName := ⟨RX1, "ill", "(III)Z"⟩
def dkwX1_ill_3 : List UInt8 := [181, 0, 119, 4, 172]
abbrev dktX1_ill_3 : List UInt8 := dkwX1_ill_3 ++ []
def dkwX1_ill_2 : List UInt8 := [89, 27, 28, 29, 42, 180, 0, 116, 183, 0, 226, 182, 0, 145, 87, 42, 89, 180, 0, 119, 4, 96]
abbrev dktX1_ill_2 : List UInt8 := dkwX1_ill_2 ++ dktX1_ill_3
def dkwX1_ill_1 : List UInt8 := [153, 0, 15, 42, 180, 0, 43, 182, 0, 126, 16, 60, 160, 0, 5, 3, 172, 42, 180, 0, 43, 187, 0, 224]
abbrev dktX1_ill_1 : List UInt8 := dkwX1_ill_1 ++ dktX1_ill_2
def dkwX1_ill_0 : List UInt8 := [42, 27, 182, 0, 159, 198, 0, 32, 28, 184, 0, 220, 153, 0, 25, 29, 28, 16, 29, 184, 0, 112]
abbrev dktX1_ill_0 : List UInt8 := dkwX1_ill_0 ++ dktX1_ill_1
theorem dksX1_ill_0 : cX1_ill.data.toList.drop 0 = dktX1_ill_0 := by decide +kernel
theorem dksX1_ill_1 : cX1_ill.data.toList.drop 22 = dktX1_ill_1 := dk_seg dksX1_ill_0 22 rfl rfl
theorem dksX1_ill_2 : cX1_ill.data.toList.drop 46 = dktX1_ill_2 := dk_seg dksX1_ill_1 24 rfl rfl
theorem dksX1_ill_3 : cX1_ill.data.toList.drop 68 = dktX1_ill_3 := dk_seg dksX1_ill_2 22 rfl rfl
theorem dX1_ill_0 : decode cX1_ill 0 = .ok (.aload_n 0, 1) := dk_42 (dk_at dksX1_ill_0 0 rfl rfl)
theorem dX1_ill_1 : decode cX1_ill 1 = .ok (.iload_n 1, 1) := dk_27 (dk_at dksX1_ill_0 1 rfl rfl)
theorem dX1_ill_2 : decode cX1_ill 2 = .ok (.invokevirtual 159, 3) := dk_182 0 159 (dk_at dksX1_ill_0 2 rfl rfl)
theorem dX1_ill_5 : decode cX1_ill 5 = .ok (.ifnull 32, 3) := dk_198 0 32 (dk_at dksX1_ill_0 5 rfl rfl)
theorem dX1_ill_8 : decode cX1_ill 8 = .ok (.iload_n 2, 1) := dk_28 (dk_at dksX1_ill_0 8 rfl rfl)
theorem dX1_ill_9 : decode cX1_ill 9 = .ok (.invokestatic 220, 3) := dk_184 0 220 (dk_at dksX1_ill_0 9 rfl rfl)
theorem dX1_ill_12 : decode cX1_ill 12 = .ok (.ifCond .eq 25, 3) := dk_153 0 25 (dk_at dksX1_ill_0 12 rfl rfl)
theorem dX1_ill_15 : decode cX1_ill 15 = .ok (.iload_n 3, 1) := dk_29 (dk_at dksX1_ill_0 15 rfl rfl)
theorem dX1_ill_16 : decode cX1_ill 16 = .ok (.iload_n 2, 1) := dk_28 (dk_at dksX1_ill_0 16 rfl rfl)
theorem dX1_ill_17 : decode cX1_ill 17 = .ok (.bipush 29, 2) := dk_16 29 (dk_at dksX1_ill_0 17 rfl rfl)
theorem dX1_ill_19 : decode cX1_ill 19 = .ok (.invokestatic 112, 3) := dk_184 0 112 (dk_at dksX1_ill_0 19 rfl rfl)
theorem dX1_ill_22 : decode cX1_ill 22 = .ok (.ifCond .eq 15, 3) := dk_153 0 15 (dk_at dksX1_ill_1 0 rfl rfl)
theorem dX1_ill_25 : decode cX1_ill 25 = .ok (.aload_n 0, 1) := dk_42 (dk_at dksX1_ill_1 3 rfl rfl)
theorem dX1_ill_26 : decode cX1_ill 26 = .ok (.getfield 43, 3) := dk_180 0 43 (dk_at dksX1_ill_1 4 rfl rfl)
theorem dX1_ill_29 : decode cX1_ill 29 = .ok (.invokevirtual 126, 3) := dk_182 0 126 (dk_at dksX1_ill_1 7 rfl rfl)
theorem dX1_ill_32 : decode cX1_ill 32 = .ok (.bipush 60, 2) := dk_16 60 (dk_at dksX1_ill_1 10 rfl rfl)
theorem dX1_ill_34 : decode cX1_ill 34 = .ok (.if_icmp .ne 5, 3) := dk_160 0 5 (dk_at dksX1_ill_1 12 rfl rfl)
theorem dX1_ill_37 : decode cX1_ill 37 = .ok (.iconst 0, 1) := dk_3 (dk_at dksX1_ill_1 15 rfl rfl)
theorem dX1_ill_38 : decode cX1_ill 38 = .ok (.ireturn, 1) := dk_172 (dk_at dksX1_ill_1 16 rfl rfl)
theorem dX1_ill_39 : decode cX1_ill 39 = .ok (.aload_n 0, 1) := dk_42 (dk_at dksX1_ill_1 17 rfl rfl)
theorem dX1_ill_40 : decode cX1_ill 40 = .ok (.getfield 43, 3) := dk_180 0 43 (dk_at dksX1_ill_1 18 rfl rfl)
theorem dX1_ill_43 : decode cX1_ill 43 = .ok (.new 224, 3) := dk_187 0 224 (dk_at dksX1_ill_1 21 rfl rfl)
theorem dX1_ill_46 : decode cX1_ill 46 = .ok (.dup, 1) := dk_89 (dk_at dksX1_ill_2 0 rfl rfl)
theorem dX1_ill_47 : decode cX1_ill 47 = .ok (.iload_n 1, 1) := dk_27 (dk_at dksX1_ill_2 1 rfl rfl)
theorem dX1_ill_48 : decode cX1_ill 48 = .ok (.iload_n 2, 1) := dk_28 (dk_at dksX1_ill_2 2 rfl rfl)
theorem dX1_ill_49 : decode cX1_ill 49 = .ok (.iload_n 3, 1) := dk_29 (dk_at dksX1_ill_2 3 rfl rfl)
theorem dX1_ill_50 : decode cX1_ill 50 = .ok (.aload_n 0, 1) := dk_42 (dk_at dksX1_ill_2 4 rfl rfl)
theorem dX1_ill_51 : decode cX1_ill 51 = .ok (.getfield 116, 3) := dk_180 0 116 (dk_at dksX1_ill_2 5 rfl rfl)
theorem dX1_ill_54 : decode cX1_ill 54 = .ok (.invokespecial 226, 3) := dk_183 0 226 (dk_at dksX1_ill_2 8 rfl rfl)
theorem dX1_ill_57 : decode cX1_ill 57 = .ok (.invokevirtual 145, 3) := dk_182 0 145 (dk_at dksX1_ill_2 11 rfl rfl)
theorem dX1_ill_60 : decode cX1_ill 60 = .ok (.pop, 1) := dk_87 (dk_at dksX1_ill_2 14 rfl rfl)
theorem dX1_ill_61 : decode cX1_ill 61 = .ok (.aload_n 0, 1) := dk_42 (dk_at dksX1_ill_2 15 rfl rfl)
theorem dX1_ill_62 : decode cX1_ill 62 = .ok (.dup, 1) := dk_89 (dk_at dksX1_ill_2 16 rfl rfl)
theorem dX1_ill_63 : decode cX1_ill 63 = .ok (.getfield 119, 3) := dk_180 0 119 (dk_at dksX1_ill_2 17 rfl rfl)
theorem dX1_ill_66 : decode cX1_ill 66 = .ok (.iconst 1, 1) := dk_4 (dk_at dksX1_ill_2 20 rfl rfl)
theorem dX1_ill_67 : decode cX1_ill 67 = .ok (.iadd, 1) := dk_96 (dk_at dksX1_ill_2 21 rfl rfl)
theorem dX1_ill_68 : decode cX1_ill 68 = .ok (.putfield 119, 3) := dk_181 0 119 (dk_at dksX1_ill_3 0 rfl rfl)
theorem dX1_ill_71 : decode cX1_ill 71 = .ok (.iconst 1, 1) := dk_4 (dk_at dksX1_ill_3 3 rfl rfl)
theorem dX1_ill_72 : decode cX1_ill 72 = .ok (.ireturn, 1) := dk_172 (dk_at dksX1_ill_3 4 rfl rfl)
abbrev cX1_isDay : ByteArray := prog_1_method_7_code
def yX1_isDay : MethodName := ⟨RX1, "isDay", "(I)Z"⟩
def dkwX1_isDay_0 : List UInt8 := [26, 3, 16, 29, 184, 0, 112, 172]
abbrev dktX1_isDay_0 : List UInt8 := dkwX1_isDay_0 ++ []
theorem dksX1_isDay_0 : cX1_isDay.data.toList.drop 0 = dktX1_isDay_0 := by decide +kernel
theorem dX1_isDay_0 : decode cX1_isDay 0 = .ok (.iload_n 0, 1) := dk_26 (dk_at dksX1_isDay_0 0 rfl rfl)
theorem dX1_isDay_1 : decode cX1_isDay 1 = .ok (.iconst 0, 1) := dk_3 (dk_at dksX1_isDay_0 1 rfl rfl)
theorem dX1_isDay_2 : decode cX1_isDay 2 = .ok (.bipush 29, 2) := dk_16 29 (dk_at dksX1_isDay_0 2 rfl rfl)
theorem dX1_isDay_4 : decode cX1_isDay 4 = .ok (.invokestatic 112, 3) := dk_184 0 112 (dk_at dksX1_isDay_0 4 rfl rfl)
theorem dX1_isDay_7 : decode cX1_isDay 7 = .ok (.ireturn, 1) := dk_172 (dk_at dksX1_isDay_0 7 rfl rfl)
abbrev cX1_who : ByteArray := prog_1_method_43_code
def yX1_who : MethodName := ⟨RX1, "who", "(IIZI)I"⟩
def dkwX1_who_2 : List UInt8 := [167, 0, 11, 42, 180, 0, 64, 27, 50, 28, 46, 172]
abbrev dktX1_who_2 : List UInt8 := dkwX1_who_2 ++ []
def dkwX1_who_1 : List UInt8 := [154, 0, 5, 2, 172, 42, 21, 4, 182, 1, 151, 29, 153, 0, 14, 42, 180, 0, 70, 27, 50, 28, 46]
abbrev dktX1_who_1 : List UInt8 := dkwX1_who_1 ++ dktX1_who_2
def dkwX1_who_0 : List UInt8 := [42, 27, 182, 0, 208, 58, 5, 25, 5, 198, 0, 18, 28, 3, 25, 5, 182, 0, 212, 4, 100, 184, 0, 112]
abbrev dktX1_who_0 : List UInt8 := dkwX1_who_0 ++ dktX1_who_1
theorem dksX1_who_0 : cX1_who.data.toList.drop 0 = dktX1_who_0 := by decide +kernel
theorem dksX1_who_1 : cX1_who.data.toList.drop 24 = dktX1_who_1 := dk_seg dksX1_who_0 24 rfl rfl
theorem dksX1_who_2 : cX1_who.data.toList.drop 47 = dktX1_who_2 := dk_seg dksX1_who_1 23 rfl rfl
theorem dX1_who_0 : decode cX1_who 0 = .ok (.aload_n 0, 1) := dk_42 (dk_at dksX1_who_0 0 rfl rfl)
theorem dX1_who_1 : decode cX1_who 1 = .ok (.iload_n 1, 1) := dk_27 (dk_at dksX1_who_0 1 rfl rfl)
theorem dX1_who_2 : decode cX1_who 2 = .ok (.invokevirtual 208, 3) := dk_182 0 208 (dk_at dksX1_who_0 2 rfl rfl)
theorem dX1_who_5 : decode cX1_who 5 = .ok (.astore 5, 2) := dk_58 5 (dk_at dksX1_who_0 5 rfl rfl)
theorem dX1_who_7 : decode cX1_who 7 = .ok (.aload 5, 2) := dk_25 5 (dk_at dksX1_who_0 7 rfl rfl)
theorem dX1_who_9 : decode cX1_who 9 = .ok (.ifnull 18, 3) := dk_198 0 18 (dk_at dksX1_who_0 9 rfl rfl)
theorem dX1_who_12 : decode cX1_who 12 = .ok (.iload_n 2, 1) := dk_28 (dk_at dksX1_who_0 12 rfl rfl)
theorem dX1_who_13 : decode cX1_who 13 = .ok (.iconst 0, 1) := dk_3 (dk_at dksX1_who_0 13 rfl rfl)
theorem dX1_who_14 : decode cX1_who 14 = .ok (.aload 5, 2) := dk_25 5 (dk_at dksX1_who_0 14 rfl rfl)
theorem dX1_who_16 : decode cX1_who 16 = .ok (.invokevirtual 212, 3) := dk_182 0 212 (dk_at dksX1_who_0 16 rfl rfl)
theorem dX1_who_19 : decode cX1_who 19 = .ok (.iconst 1, 1) := dk_4 (dk_at dksX1_who_0 19 rfl rfl)
theorem dX1_who_20 : decode cX1_who 20 = .ok (.isub, 1) := dk_100 (dk_at dksX1_who_0 20 rfl rfl)
theorem dX1_who_21 : decode cX1_who 21 = .ok (.invokestatic 112, 3) := dk_184 0 112 (dk_at dksX1_who_0 21 rfl rfl)
theorem dX1_who_24 : decode cX1_who 24 = .ok (.ifCond .ne 5, 3) := dk_154 0 5 (dk_at dksX1_who_1 0 rfl rfl)
theorem dX1_who_27 : decode cX1_who 27 = .ok (.iconst (-1), 1) := dk_2 (dk_at dksX1_who_1 3 rfl rfl)
theorem dX1_who_28 : decode cX1_who 28 = .ok (.ireturn, 1) := dk_172 (dk_at dksX1_who_1 4 rfl rfl)
theorem dX1_who_29 : decode cX1_who 29 = .ok (.aload_n 0, 1) := dk_42 (dk_at dksX1_who_1 5 rfl rfl)
theorem dX1_who_30 : decode cX1_who 30 = .ok (.iload 4, 2) := dk_21 4 (dk_at dksX1_who_1 6 rfl rfl)
theorem dX1_who_32 : decode cX1_who 32 = .ok (.invokevirtual 407, 3) := dk_182 1 151 (dk_at dksX1_who_1 8 rfl rfl)
theorem dX1_who_35 : decode cX1_who 35 = .ok (.iload_n 3, 1) := dk_29 (dk_at dksX1_who_1 11 rfl rfl)
theorem dX1_who_36 : decode cX1_who 36 = .ok (.ifCond .eq 14, 3) := dk_153 0 14 (dk_at dksX1_who_1 12 rfl rfl)
theorem dX1_who_39 : decode cX1_who 39 = .ok (.aload_n 0, 1) := dk_42 (dk_at dksX1_who_1 15 rfl rfl)
theorem dX1_who_40 : decode cX1_who 40 = .ok (.getfield 70, 3) := dk_180 0 70 (dk_at dksX1_who_1 16 rfl rfl)
theorem dX1_who_43 : decode cX1_who 43 = .ok (.iload_n 1, 1) := dk_27 (dk_at dksX1_who_1 19 rfl rfl)
theorem dX1_who_44 : decode cX1_who 44 = .ok (.aaload, 1) := dk_50 (dk_at dksX1_who_1 20 rfl rfl)
theorem dX1_who_45 : decode cX1_who 45 = .ok (.iload_n 2, 1) := dk_28 (dk_at dksX1_who_1 21 rfl rfl)
theorem dX1_who_46 : decode cX1_who 46 = .ok (.iaload, 1) := dk_46 (dk_at dksX1_who_1 22 rfl rfl)
theorem dX1_who_47 : decode cX1_who 47 = .ok (.goto 11, 3) := dk_167 0 11 (dk_at dksX1_who_2 0 rfl rfl)
theorem dX1_who_50 : decode cX1_who 50 = .ok (.aload_n 0, 1) := dk_42 (dk_at dksX1_who_2 3 rfl rfl)
theorem dX1_who_51 : decode cX1_who 51 = .ok (.getfield 64, 3) := dk_180 0 64 (dk_at dksX1_who_2 4 rfl rfl)
theorem dX1_who_54 : decode cX1_who 54 = .ok (.iload_n 1, 1) := dk_27 (dk_at dksX1_who_2 7 rfl rfl)
theorem dX1_who_55 : decode cX1_who 55 = .ok (.aaload, 1) := dk_50 (dk_at dksX1_who_2 8 rfl rfl)
theorem dX1_who_56 : decode cX1_who 56 = .ok (.iload_n 2, 1) := dk_28 (dk_at dksX1_who_2 9 rfl rfl)
theorem dX1_who_57 : decode cX1_who 57 = .ok (.iaload, 1) := dk_46 (dk_at dksX1_who_2 10 rfl rfl)
theorem dX1_who_58 : decode cX1_who 58 = .ok (.ireturn, 1) := dk_172 (dk_at dksX1_who_2 11 rfl rfl)
abbrev cX1_layOut : ByteArray := prog_1_method_25_code
def yX1_layOut : MethodName := ⟨RX1, "layOut", "(I)V"⟩
def dkwX1_layOut_5 : List UInt8 := [180, 0, 248, 45, 180, 0, 251, 182, 0, 254, 132, 2, 1, 167, 255, 175, 177]
abbrev dktX1_layOut_5 : List UInt8 := dkwX1_layOut_5 ++ []
def dkwX1_layOut_4 : List UInt8 := [180, 0, 245, 50, 45, 180, 0, 248, 45, 180, 0, 251, 79, 167, 0, 19, 42, 45, 180, 0, 245, 45]
abbrev dktX1_layOut_4 : List UInt8 := dkwX1_layOut_4 ++ dktX1_layOut_5
def dkwX1_layOut_3 : List UInt8 := [180, 0, 241, 27, 164, 0, 6, 167, 0, 47, 45, 180, 0, 242, 153, 0, 24, 42, 180, 0, 70, 45]
abbrev dktX1_layOut_3 : List UInt8 := dkwX1_layOut_3 ++ dktX1_layOut_4
def dkwX1_layOut_2 : List UInt8 := [180, 0, 40, 182, 0, 126, 162, 0, 76, 42, 180, 0, 40, 28, 182, 0, 155, 192, 0, 217, 78, 45]
abbrev dktX1_layOut_2 : List UInt8 := dkwX1_layOut_2 ++ dktX1_layOut_3
def dkwX1_layOut_1 : List UInt8 := [42, 180, 0, 37, 28, 182, 0, 155, 192, 0, 56, 182, 0, 237, 132, 2, 1, 167, 255, 227, 3, 61, 28, 42]
abbrev dktX1_layOut_1 : List UInt8 := dkwX1_layOut_1 ++ dktX1_layOut_2
def dkwX1_layOut_0 : List UInt8 := [42, 3, 181, 0, 227, 42, 27, 181, 0, 234, 3, 61, 28, 42, 180, 0, 37, 182, 0, 126, 162, 0, 24, 42]
abbrev dktX1_layOut_0 : List UInt8 := dkwX1_layOut_0 ++ dktX1_layOut_1
theorem dksX1_layOut_0 : cX1_layOut.data.toList.drop 0 = dktX1_layOut_0 := by decide +kernel
theorem dksX1_layOut_1 : cX1_layOut.data.toList.drop 24 = dktX1_layOut_1 := dk_seg dksX1_layOut_0 24 rfl rfl
theorem dksX1_layOut_2 : cX1_layOut.data.toList.drop 48 = dktX1_layOut_2 := dk_seg dksX1_layOut_1 24 rfl rfl
theorem dksX1_layOut_3 : cX1_layOut.data.toList.drop 70 = dktX1_layOut_3 := dk_seg dksX1_layOut_2 22 rfl rfl
theorem dksX1_layOut_4 : cX1_layOut.data.toList.drop 92 = dktX1_layOut_4 := dk_seg dksX1_layOut_3 22 rfl rfl
theorem dksX1_layOut_5 : cX1_layOut.data.toList.drop 114 = dktX1_layOut_5 := dk_seg dksX1_layOut_4 22 rfl rfl
theorem dX1_layOut_0 : decode cX1_layOut 0 = .ok (.aload_n 0, 1) := dk_42 (dk_at dksX1_layOut_0 0 rfl rfl)
theorem dX1_layOut_1 : decode cX1_layOut 1 = .ok (.iconst 0, 1) := dk_3 (dk_at dksX1_layOut_0 1 rfl rfl)
theorem dX1_layOut_2 : decode cX1_layOut 2 = .ok (.putfield 227, 3) := dk_181 0 227 (dk_at dksX1_layOut_0 2 rfl rfl)
theorem dX1_layOut_5 : decode cX1_layOut 5 = .ok (.aload_n 0, 1) := dk_42 (dk_at dksX1_layOut_0 5 rfl rfl)
theorem dX1_layOut_6 : decode cX1_layOut 6 = .ok (.iload_n 1, 1) := dk_27 (dk_at dksX1_layOut_0 6 rfl rfl)
theorem dX1_layOut_7 : decode cX1_layOut 7 = .ok (.putfield 234, 3) := dk_181 0 234 (dk_at dksX1_layOut_0 7 rfl rfl)
theorem dX1_layOut_10 : decode cX1_layOut 10 = .ok (.iconst 0, 1) := dk_3 (dk_at dksX1_layOut_0 10 rfl rfl)
theorem dX1_layOut_11 : decode cX1_layOut 11 = .ok (.istore_n 2, 1) := dk_61 (dk_at dksX1_layOut_0 11 rfl rfl)
theorem dX1_layOut_12 : decode cX1_layOut 12 = .ok (.iload_n 2, 1) := dk_28 (dk_at dksX1_layOut_0 12 rfl rfl)
theorem dX1_layOut_13 : decode cX1_layOut 13 = .ok (.aload_n 0, 1) := dk_42 (dk_at dksX1_layOut_0 13 rfl rfl)
theorem dX1_layOut_14 : decode cX1_layOut 14 = .ok (.getfield 37, 3) := dk_180 0 37 (dk_at dksX1_layOut_0 14 rfl rfl)
theorem dX1_layOut_17 : decode cX1_layOut 17 = .ok (.invokevirtual 126, 3) := dk_182 0 126 (dk_at dksX1_layOut_0 17 rfl rfl)
theorem dX1_layOut_20 : decode cX1_layOut 20 = .ok (.if_icmp .ge 24, 3) := dk_162 0 24 (dk_at dksX1_layOut_0 20 rfl rfl)
theorem dX1_layOut_23 : decode cX1_layOut 23 = .ok (.aload_n 0, 1) := dk_42 (dk_at dksX1_layOut_0 23 rfl rfl)
theorem dX1_layOut_24 : decode cX1_layOut 24 = .ok (.aload_n 0, 1) := dk_42 (dk_at dksX1_layOut_1 0 rfl rfl)
theorem dX1_layOut_25 : decode cX1_layOut 25 = .ok (.getfield 37, 3) := dk_180 0 37 (dk_at dksX1_layOut_1 1 rfl rfl)
theorem dX1_layOut_28 : decode cX1_layOut 28 = .ok (.iload_n 2, 1) := dk_28 (dk_at dksX1_layOut_1 4 rfl rfl)
theorem dX1_layOut_29 : decode cX1_layOut 29 = .ok (.invokevirtual 155, 3) := dk_182 0 155 (dk_at dksX1_layOut_1 5 rfl rfl)
theorem dX1_layOut_32 : decode cX1_layOut 32 = .ok (.checkcast 56, 3) := dk_192 0 56 (dk_at dksX1_layOut_1 8 rfl rfl)
theorem dX1_layOut_35 : decode cX1_layOut 35 = .ok (.invokevirtual 237, 3) := dk_182 0 237 (dk_at dksX1_layOut_1 11 rfl rfl)
theorem dX1_layOut_38 : decode cX1_layOut 38 = .ok (.iinc 2 1, 3) := dk_132 2 1 (dk_at dksX1_layOut_1 14 rfl rfl)
theorem dX1_layOut_41 : decode cX1_layOut 41 = .ok (.goto (-29), 3) := dk_167 255 227 (dk_at dksX1_layOut_1 17 rfl rfl)
theorem dX1_layOut_44 : decode cX1_layOut 44 = .ok (.iconst 0, 1) := dk_3 (dk_at dksX1_layOut_1 20 rfl rfl)
theorem dX1_layOut_45 : decode cX1_layOut 45 = .ok (.istore_n 2, 1) := dk_61 (dk_at dksX1_layOut_1 21 rfl rfl)
theorem dX1_layOut_46 : decode cX1_layOut 46 = .ok (.iload_n 2, 1) := dk_28 (dk_at dksX1_layOut_1 22 rfl rfl)
theorem dX1_layOut_47 : decode cX1_layOut 47 = .ok (.aload_n 0, 1) := dk_42 (dk_at dksX1_layOut_1 23 rfl rfl)
theorem dX1_layOut_48 : decode cX1_layOut 48 = .ok (.getfield 40, 3) := dk_180 0 40 (dk_at dksX1_layOut_2 0 rfl rfl)
theorem dX1_layOut_51 : decode cX1_layOut 51 = .ok (.invokevirtual 126, 3) := dk_182 0 126 (dk_at dksX1_layOut_2 3 rfl rfl)
theorem dX1_layOut_54 : decode cX1_layOut 54 = .ok (.if_icmp .ge 76, 3) := dk_162 0 76 (dk_at dksX1_layOut_2 6 rfl rfl)
theorem dX1_layOut_57 : decode cX1_layOut 57 = .ok (.aload_n 0, 1) := dk_42 (dk_at dksX1_layOut_2 9 rfl rfl)
theorem dX1_layOut_58 : decode cX1_layOut 58 = .ok (.getfield 40, 3) := dk_180 0 40 (dk_at dksX1_layOut_2 10 rfl rfl)
theorem dX1_layOut_61 : decode cX1_layOut 61 = .ok (.iload_n 2, 1) := dk_28 (dk_at dksX1_layOut_2 13 rfl rfl)
theorem dX1_layOut_62 : decode cX1_layOut 62 = .ok (.invokevirtual 155, 3) := dk_182 0 155 (dk_at dksX1_layOut_2 14 rfl rfl)
theorem dX1_layOut_65 : decode cX1_layOut 65 = .ok (.checkcast 217, 3) := dk_192 0 217 (dk_at dksX1_layOut_2 17 rfl rfl)
theorem dX1_layOut_68 : decode cX1_layOut 68 = .ok (.astore_n 3, 1) := dk_78 (dk_at dksX1_layOut_2 20 rfl rfl)
theorem dX1_layOut_69 : decode cX1_layOut 69 = .ok (.aload_n 3, 1) := dk_45 (dk_at dksX1_layOut_2 21 rfl rfl)
theorem dX1_layOut_70 : decode cX1_layOut 70 = .ok (.getfield 241, 3) := dk_180 0 241 (dk_at dksX1_layOut_3 0 rfl rfl)
theorem dX1_layOut_73 : decode cX1_layOut 73 = .ok (.iload_n 1, 1) := dk_27 (dk_at dksX1_layOut_3 3 rfl rfl)
theorem dX1_layOut_74 : decode cX1_layOut 74 = .ok (.if_icmp .le 6, 3) := dk_164 0 6 (dk_at dksX1_layOut_3 4 rfl rfl)
theorem dX1_layOut_77 : decode cX1_layOut 77 = .ok (.goto 47, 3) := dk_167 0 47 (dk_at dksX1_layOut_3 7 rfl rfl)
theorem dX1_layOut_80 : decode cX1_layOut 80 = .ok (.aload_n 3, 1) := dk_45 (dk_at dksX1_layOut_3 10 rfl rfl)
theorem dX1_layOut_81 : decode cX1_layOut 81 = .ok (.getfield 242, 3) := dk_180 0 242 (dk_at dksX1_layOut_3 11 rfl rfl)
theorem dX1_layOut_84 : decode cX1_layOut 84 = .ok (.ifCond .eq 24, 3) := dk_153 0 24 (dk_at dksX1_layOut_3 14 rfl rfl)
theorem dX1_layOut_87 : decode cX1_layOut 87 = .ok (.aload_n 0, 1) := dk_42 (dk_at dksX1_layOut_3 17 rfl rfl)
theorem dX1_layOut_88 : decode cX1_layOut 88 = .ok (.getfield 70, 3) := dk_180 0 70 (dk_at dksX1_layOut_3 18 rfl rfl)
theorem dX1_layOut_91 : decode cX1_layOut 91 = .ok (.aload_n 3, 1) := dk_45 (dk_at dksX1_layOut_3 21 rfl rfl)
theorem dX1_layOut_92 : decode cX1_layOut 92 = .ok (.getfield 245, 3) := dk_180 0 245 (dk_at dksX1_layOut_4 0 rfl rfl)
theorem dX1_layOut_95 : decode cX1_layOut 95 = .ok (.aaload, 1) := dk_50 (dk_at dksX1_layOut_4 3 rfl rfl)
theorem dX1_layOut_96 : decode cX1_layOut 96 = .ok (.aload_n 3, 1) := dk_45 (dk_at dksX1_layOut_4 4 rfl rfl)
theorem dX1_layOut_97 : decode cX1_layOut 97 = .ok (.getfield 248, 3) := dk_180 0 248 (dk_at dksX1_layOut_4 5 rfl rfl)
theorem dX1_layOut_100 : decode cX1_layOut 100 = .ok (.aload_n 3, 1) := dk_45 (dk_at dksX1_layOut_4 8 rfl rfl)
theorem dX1_layOut_101 : decode cX1_layOut 101 = .ok (.getfield 251, 3) := dk_180 0 251 (dk_at dksX1_layOut_4 9 rfl rfl)
theorem dX1_layOut_104 : decode cX1_layOut 104 = .ok (.iastore, 1) := dk_79 (dk_at dksX1_layOut_4 12 rfl rfl)
theorem dX1_layOut_105 : decode cX1_layOut 105 = .ok (.goto 19, 3) := dk_167 0 19 (dk_at dksX1_layOut_4 13 rfl rfl)
theorem dX1_layOut_108 : decode cX1_layOut 108 = .ok (.aload_n 0, 1) := dk_42 (dk_at dksX1_layOut_4 16 rfl rfl)
theorem dX1_layOut_109 : decode cX1_layOut 109 = .ok (.aload_n 3, 1) := dk_45 (dk_at dksX1_layOut_4 17 rfl rfl)
theorem dX1_layOut_110 : decode cX1_layOut 110 = .ok (.getfield 245, 3) := dk_180 0 245 (dk_at dksX1_layOut_4 18 rfl rfl)
theorem dX1_layOut_113 : decode cX1_layOut 113 = .ok (.aload_n 3, 1) := dk_45 (dk_at dksX1_layOut_4 21 rfl rfl)
theorem dX1_layOut_114 : decode cX1_layOut 114 = .ok (.getfield 248, 3) := dk_180 0 248 (dk_at dksX1_layOut_5 0 rfl rfl)
theorem dX1_layOut_117 : decode cX1_layOut 117 = .ok (.aload_n 3, 1) := dk_45 (dk_at dksX1_layOut_5 3 rfl rfl)
theorem dX1_layOut_118 : decode cX1_layOut 118 = .ok (.getfield 251, 3) := dk_180 0 251 (dk_at dksX1_layOut_5 4 rfl rfl)
theorem dX1_layOut_121 : decode cX1_layOut 121 = .ok (.invokevirtual 254, 3) := dk_182 0 254 (dk_at dksX1_layOut_5 7 rfl rfl)
theorem dX1_layOut_124 : decode cX1_layOut 124 = .ok (.iinc 2 1, 3) := dk_132 2 1 (dk_at dksX1_layOut_5 10 rfl rfl)
theorem dX1_layOut_127 : decode cX1_layOut 127 = .ok (.goto (-81), 3) := dk_167 255 175 (dk_at dksX1_layOut_5 13 rfl rfl)
theorem dX1_layOut_130 : decode cX1_layOut 130 = .ok (.return_, 1) := dk_177 (dk_at dksX1_layOut_5 16 rfl rfl)
abbrev cX1_enter : ByteArray := prog_1_method_22_code
def yX1_enter : MethodName := ⟨RX1, "enter", "(LOperaHouse$Call;)V"⟩
def dkwX1_enter_4 : List UInt8 := [42, 180, 0, 70, 43, 180, 0, 233, 50, 29, 2, 79, 132, 3, 1, 167, 255, 211, 177]
abbrev dktX1_enter_4 : List UInt8 := dkwX1_enter_4 ++ []
def dkwX1_enter_3 : List UInt8 := [42, 180, 0, 64, 43, 180, 0, 233, 50, 29, 2, 79, 42, 180, 0, 67, 43, 180, 0, 233, 50, 29, 2, 79]
abbrev dktX1_enter_3 : List UInt8 := dkwX1_enter_3 ++ dktX1_enter_4
def dkwX1_enter_2 : List UInt8 := [180, 0, 58, 28, 43, 83, 42, 89, 180, 0, 227, 4, 96, 181, 0, 227, 3, 62, 29, 16, 8, 162, 0, 45]
abbrev dktX1_enter_2 : List UInt8 := dkwX1_enter_2 ++ dktX1_enter_3
def dkwX1_enter_1 : List UInt8 := [164, 0, 23, 42, 180, 0, 58, 28, 42, 180, 0, 58, 28, 4, 100, 50, 83, 132, 2, 255, 167, 255, 217, 42]
abbrev dktX1_enter_1 : List UInt8 := dkwX1_enter_1 ++ dktX1_enter_2
def dkwX1_enter_0 : List UInt8 := [42, 180, 0, 227, 61, 28, 158, 0, 41, 42, 180, 0, 58, 28, 4, 100, 50, 180, 0, 230, 43, 180, 0, 230]
abbrev dktX1_enter_0 : List UInt8 := dkwX1_enter_0 ++ dktX1_enter_1
theorem dksX1_enter_0 : cX1_enter.data.toList.drop 0 = dktX1_enter_0 := by decide +kernel
theorem dksX1_enter_1 : cX1_enter.data.toList.drop 24 = dktX1_enter_1 := dk_seg dksX1_enter_0 24 rfl rfl
theorem dksX1_enter_2 : cX1_enter.data.toList.drop 48 = dktX1_enter_2 := dk_seg dksX1_enter_1 24 rfl rfl
theorem dksX1_enter_3 : cX1_enter.data.toList.drop 72 = dktX1_enter_3 := dk_seg dksX1_enter_2 24 rfl rfl
theorem dksX1_enter_4 : cX1_enter.data.toList.drop 96 = dktX1_enter_4 := dk_seg dksX1_enter_3 24 rfl rfl
theorem dX1_enter_0 : decode cX1_enter 0 = .ok (.aload_n 0, 1) := dk_42 (dk_at dksX1_enter_0 0 rfl rfl)
theorem dX1_enter_1 : decode cX1_enter 1 = .ok (.getfield 227, 3) := dk_180 0 227 (dk_at dksX1_enter_0 1 rfl rfl)
theorem dX1_enter_4 : decode cX1_enter 4 = .ok (.istore_n 2, 1) := dk_61 (dk_at dksX1_enter_0 4 rfl rfl)
theorem dX1_enter_5 : decode cX1_enter 5 = .ok (.iload_n 2, 1) := dk_28 (dk_at dksX1_enter_0 5 rfl rfl)
theorem dX1_enter_6 : decode cX1_enter 6 = .ok (.ifCond .le 41, 3) := dk_158 0 41 (dk_at dksX1_enter_0 6 rfl rfl)
theorem dX1_enter_9 : decode cX1_enter 9 = .ok (.aload_n 0, 1) := dk_42 (dk_at dksX1_enter_0 9 rfl rfl)
theorem dX1_enter_10 : decode cX1_enter 10 = .ok (.getfield 58, 3) := dk_180 0 58 (dk_at dksX1_enter_0 10 rfl rfl)
theorem dX1_enter_13 : decode cX1_enter 13 = .ok (.iload_n 2, 1) := dk_28 (dk_at dksX1_enter_0 13 rfl rfl)
theorem dX1_enter_14 : decode cX1_enter 14 = .ok (.iconst 1, 1) := dk_4 (dk_at dksX1_enter_0 14 rfl rfl)
theorem dX1_enter_15 : decode cX1_enter 15 = .ok (.isub, 1) := dk_100 (dk_at dksX1_enter_0 15 rfl rfl)
theorem dX1_enter_16 : decode cX1_enter 16 = .ok (.aaload, 1) := dk_50 (dk_at dksX1_enter_0 16 rfl rfl)
theorem dX1_enter_17 : decode cX1_enter 17 = .ok (.getfield 230, 3) := dk_180 0 230 (dk_at dksX1_enter_0 17 rfl rfl)
theorem dX1_enter_20 : decode cX1_enter 20 = .ok (.aload_n 1, 1) := dk_43 (dk_at dksX1_enter_0 20 rfl rfl)
theorem dX1_enter_21 : decode cX1_enter 21 = .ok (.getfield 230, 3) := dk_180 0 230 (dk_at dksX1_enter_0 21 rfl rfl)
theorem dX1_enter_24 : decode cX1_enter 24 = .ok (.if_icmp .le 23, 3) := dk_164 0 23 (dk_at dksX1_enter_1 0 rfl rfl)
theorem dX1_enter_27 : decode cX1_enter 27 = .ok (.aload_n 0, 1) := dk_42 (dk_at dksX1_enter_1 3 rfl rfl)
theorem dX1_enter_28 : decode cX1_enter 28 = .ok (.getfield 58, 3) := dk_180 0 58 (dk_at dksX1_enter_1 4 rfl rfl)
theorem dX1_enter_31 : decode cX1_enter 31 = .ok (.iload_n 2, 1) := dk_28 (dk_at dksX1_enter_1 7 rfl rfl)
theorem dX1_enter_32 : decode cX1_enter 32 = .ok (.aload_n 0, 1) := dk_42 (dk_at dksX1_enter_1 8 rfl rfl)
theorem dX1_enter_33 : decode cX1_enter 33 = .ok (.getfield 58, 3) := dk_180 0 58 (dk_at dksX1_enter_1 9 rfl rfl)
theorem dX1_enter_36 : decode cX1_enter 36 = .ok (.iload_n 2, 1) := dk_28 (dk_at dksX1_enter_1 12 rfl rfl)
theorem dX1_enter_37 : decode cX1_enter 37 = .ok (.iconst 1, 1) := dk_4 (dk_at dksX1_enter_1 13 rfl rfl)
theorem dX1_enter_38 : decode cX1_enter 38 = .ok (.isub, 1) := dk_100 (dk_at dksX1_enter_1 14 rfl rfl)
theorem dX1_enter_39 : decode cX1_enter 39 = .ok (.aaload, 1) := dk_50 (dk_at dksX1_enter_1 15 rfl rfl)
theorem dX1_enter_40 : decode cX1_enter 40 = .ok (.aastore, 1) := dk_83 (dk_at dksX1_enter_1 16 rfl rfl)
theorem dX1_enter_41 : decode cX1_enter 41 = .ok (.iinc 2 (-1), 3) := dk_132 2 255 (dk_at dksX1_enter_1 17 rfl rfl)
theorem dX1_enter_44 : decode cX1_enter 44 = .ok (.goto (-39), 3) := dk_167 255 217 (dk_at dksX1_enter_1 20 rfl rfl)
theorem dX1_enter_47 : decode cX1_enter 47 = .ok (.aload_n 0, 1) := dk_42 (dk_at dksX1_enter_1 23 rfl rfl)
theorem dX1_enter_48 : decode cX1_enter 48 = .ok (.getfield 58, 3) := dk_180 0 58 (dk_at dksX1_enter_2 0 rfl rfl)
theorem dX1_enter_51 : decode cX1_enter 51 = .ok (.iload_n 2, 1) := dk_28 (dk_at dksX1_enter_2 3 rfl rfl)
theorem dX1_enter_52 : decode cX1_enter 52 = .ok (.aload_n 1, 1) := dk_43 (dk_at dksX1_enter_2 4 rfl rfl)
theorem dX1_enter_53 : decode cX1_enter 53 = .ok (.aastore, 1) := dk_83 (dk_at dksX1_enter_2 5 rfl rfl)
theorem dX1_enter_54 : decode cX1_enter 54 = .ok (.aload_n 0, 1) := dk_42 (dk_at dksX1_enter_2 6 rfl rfl)
theorem dX1_enter_55 : decode cX1_enter 55 = .ok (.dup, 1) := dk_89 (dk_at dksX1_enter_2 7 rfl rfl)
theorem dX1_enter_56 : decode cX1_enter 56 = .ok (.getfield 227, 3) := dk_180 0 227 (dk_at dksX1_enter_2 8 rfl rfl)
theorem dX1_enter_59 : decode cX1_enter 59 = .ok (.iconst 1, 1) := dk_4 (dk_at dksX1_enter_2 11 rfl rfl)
theorem dX1_enter_60 : decode cX1_enter 60 = .ok (.iadd, 1) := dk_96 (dk_at dksX1_enter_2 12 rfl rfl)
theorem dX1_enter_61 : decode cX1_enter 61 = .ok (.putfield 227, 3) := dk_181 0 227 (dk_at dksX1_enter_2 13 rfl rfl)
theorem dX1_enter_64 : decode cX1_enter 64 = .ok (.iconst 0, 1) := dk_3 (dk_at dksX1_enter_2 16 rfl rfl)
theorem dX1_enter_65 : decode cX1_enter 65 = .ok (.istore_n 3, 1) := dk_62 (dk_at dksX1_enter_2 17 rfl rfl)
theorem dX1_enter_66 : decode cX1_enter 66 = .ok (.iload_n 3, 1) := dk_29 (dk_at dksX1_enter_2 18 rfl rfl)
theorem dX1_enter_67 : decode cX1_enter 67 = .ok (.bipush 8, 2) := dk_16 8 (dk_at dksX1_enter_2 19 rfl rfl)
theorem dX1_enter_69 : decode cX1_enter 69 = .ok (.if_icmp .ge 45, 3) := dk_162 0 45 (dk_at dksX1_enter_2 21 rfl rfl)
theorem dX1_enter_72 : decode cX1_enter 72 = .ok (.aload_n 0, 1) := dk_42 (dk_at dksX1_enter_3 0 rfl rfl)
theorem dX1_enter_73 : decode cX1_enter 73 = .ok (.getfield 64, 3) := dk_180 0 64 (dk_at dksX1_enter_3 1 rfl rfl)
theorem dX1_enter_76 : decode cX1_enter 76 = .ok (.aload_n 1, 1) := dk_43 (dk_at dksX1_enter_3 4 rfl rfl)
theorem dX1_enter_77 : decode cX1_enter 77 = .ok (.getfield 233, 3) := dk_180 0 233 (dk_at dksX1_enter_3 5 rfl rfl)
theorem dX1_enter_80 : decode cX1_enter 80 = .ok (.aaload, 1) := dk_50 (dk_at dksX1_enter_3 8 rfl rfl)
theorem dX1_enter_81 : decode cX1_enter 81 = .ok (.iload_n 3, 1) := dk_29 (dk_at dksX1_enter_3 9 rfl rfl)
theorem dX1_enter_82 : decode cX1_enter 82 = .ok (.iconst (-1), 1) := dk_2 (dk_at dksX1_enter_3 10 rfl rfl)
theorem dX1_enter_83 : decode cX1_enter 83 = .ok (.iastore, 1) := dk_79 (dk_at dksX1_enter_3 11 rfl rfl)
theorem dX1_enter_84 : decode cX1_enter 84 = .ok (.aload_n 0, 1) := dk_42 (dk_at dksX1_enter_3 12 rfl rfl)
theorem dX1_enter_85 : decode cX1_enter 85 = .ok (.getfield 67, 3) := dk_180 0 67 (dk_at dksX1_enter_3 13 rfl rfl)
theorem dX1_enter_88 : decode cX1_enter 88 = .ok (.aload_n 1, 1) := dk_43 (dk_at dksX1_enter_3 16 rfl rfl)
theorem dX1_enter_89 : decode cX1_enter 89 = .ok (.getfield 233, 3) := dk_180 0 233 (dk_at dksX1_enter_3 17 rfl rfl)
theorem dX1_enter_92 : decode cX1_enter 92 = .ok (.aaload, 1) := dk_50 (dk_at dksX1_enter_3 20 rfl rfl)
theorem dX1_enter_93 : decode cX1_enter 93 = .ok (.iload_n 3, 1) := dk_29 (dk_at dksX1_enter_3 21 rfl rfl)
theorem dX1_enter_94 : decode cX1_enter 94 = .ok (.iconst (-1), 1) := dk_2 (dk_at dksX1_enter_3 22 rfl rfl)
theorem dX1_enter_95 : decode cX1_enter 95 = .ok (.iastore, 1) := dk_79 (dk_at dksX1_enter_3 23 rfl rfl)
theorem dX1_enter_96 : decode cX1_enter 96 = .ok (.aload_n 0, 1) := dk_42 (dk_at dksX1_enter_4 0 rfl rfl)
theorem dX1_enter_97 : decode cX1_enter 97 = .ok (.getfield 70, 3) := dk_180 0 70 (dk_at dksX1_enter_4 1 rfl rfl)
theorem dX1_enter_100 : decode cX1_enter 100 = .ok (.aload_n 1, 1) := dk_43 (dk_at dksX1_enter_4 4 rfl rfl)
theorem dX1_enter_101 : decode cX1_enter 101 = .ok (.getfield 233, 3) := dk_180 0 233 (dk_at dksX1_enter_4 5 rfl rfl)
theorem dX1_enter_104 : decode cX1_enter 104 = .ok (.aaload, 1) := dk_50 (dk_at dksX1_enter_4 8 rfl rfl)
theorem dX1_enter_105 : decode cX1_enter 105 = .ok (.iload_n 3, 1) := dk_29 (dk_at dksX1_enter_4 9 rfl rfl)
theorem dX1_enter_106 : decode cX1_enter 106 = .ok (.iconst (-1), 1) := dk_2 (dk_at dksX1_enter_4 10 rfl rfl)
theorem dX1_enter_107 : decode cX1_enter 107 = .ok (.iastore, 1) := dk_79 (dk_at dksX1_enter_4 11 rfl rfl)
theorem dX1_enter_108 : decode cX1_enter 108 = .ok (.iinc 3 1, 3) := dk_132 3 1 (dk_at dksX1_enter_4 12 rfl rfl)
theorem dX1_enter_111 : decode cX1_enter 111 = .ok (.goto (-45), 3) := dk_167 255 211 (dk_at dksX1_enter_4 15 rfl rfl)
theorem dX1_enter_114 : decode cX1_enter 114 = .ok (.return_, 1) := dk_177 (dk_at dksX1_enter_4 18 rfl rfl)
abbrev cX1_give : ByteArray := prog_1_method_24_code
def yX1_give : MethodName := ⟨RX1, "give", "(III)V"⟩
def dkwX1_give_1 : List UInt8 := [79, 177]
abbrev dktX1_give_1 : List UInt8 := dkwX1_give_1 ++ []
def dkwX1_give_0 : List UInt8 := [42, 180, 0, 67, 27, 50, 28, 42, 180, 0, 64, 27, 50, 28, 46, 79, 42, 180, 0, 64, 27, 50, 28, 29]
abbrev dktX1_give_0 : List UInt8 := dkwX1_give_0 ++ dktX1_give_1
theorem dksX1_give_0 : cX1_give.data.toList.drop 0 = dktX1_give_0 := by decide +kernel
theorem dksX1_give_1 : cX1_give.data.toList.drop 24 = dktX1_give_1 := dk_seg dksX1_give_0 24 rfl rfl
theorem dX1_give_0 : decode cX1_give 0 = .ok (.aload_n 0, 1) := dk_42 (dk_at dksX1_give_0 0 rfl rfl)
theorem dX1_give_1 : decode cX1_give 1 = .ok (.getfield 67, 3) := dk_180 0 67 (dk_at dksX1_give_0 1 rfl rfl)
theorem dX1_give_4 : decode cX1_give 4 = .ok (.iload_n 1, 1) := dk_27 (dk_at dksX1_give_0 4 rfl rfl)
theorem dX1_give_5 : decode cX1_give 5 = .ok (.aaload, 1) := dk_50 (dk_at dksX1_give_0 5 rfl rfl)
theorem dX1_give_6 : decode cX1_give 6 = .ok (.iload_n 2, 1) := dk_28 (dk_at dksX1_give_0 6 rfl rfl)
theorem dX1_give_7 : decode cX1_give 7 = .ok (.aload_n 0, 1) := dk_42 (dk_at dksX1_give_0 7 rfl rfl)
theorem dX1_give_8 : decode cX1_give 8 = .ok (.getfield 64, 3) := dk_180 0 64 (dk_at dksX1_give_0 8 rfl rfl)
theorem dX1_give_11 : decode cX1_give 11 = .ok (.iload_n 1, 1) := dk_27 (dk_at dksX1_give_0 11 rfl rfl)
theorem dX1_give_12 : decode cX1_give 12 = .ok (.aaload, 1) := dk_50 (dk_at dksX1_give_0 12 rfl rfl)
theorem dX1_give_13 : decode cX1_give 13 = .ok (.iload_n 2, 1) := dk_28 (dk_at dksX1_give_0 13 rfl rfl)
theorem dX1_give_14 : decode cX1_give 14 = .ok (.iaload, 1) := dk_46 (dk_at dksX1_give_0 14 rfl rfl)
theorem dX1_give_15 : decode cX1_give 15 = .ok (.iastore, 1) := dk_79 (dk_at dksX1_give_0 15 rfl rfl)
theorem dX1_give_16 : decode cX1_give 16 = .ok (.aload_n 0, 1) := dk_42 (dk_at dksX1_give_0 16 rfl rfl)
theorem dX1_give_17 : decode cX1_give 17 = .ok (.getfield 64, 3) := dk_180 0 64 (dk_at dksX1_give_0 17 rfl rfl)
theorem dX1_give_20 : decode cX1_give 20 = .ok (.iload_n 1, 1) := dk_27 (dk_at dksX1_give_0 20 rfl rfl)
theorem dX1_give_21 : decode cX1_give 21 = .ok (.aaload, 1) := dk_50 (dk_at dksX1_give_0 21 rfl rfl)
theorem dX1_give_22 : decode cX1_give 22 = .ok (.iload_n 2, 1) := dk_28 (dk_at dksX1_give_0 22 rfl rfl)
theorem dX1_give_23 : decode cX1_give 23 = .ok (.iload_n 3, 1) := dk_29 (dk_at dksX1_give_0 23 rfl rfl)
theorem dX1_give_24 : decode cX1_give 24 = .ok (.iastore, 1) := dk_79 (dk_at dksX1_give_1 0 rfl rfl)
theorem dX1_give_25 : decode cX1_give 25 = .ok (.return_, 1) := dk_177 (dk_at dksX1_give_1 1 rfl rfl)
abbrev cX1_wrong : ByteArray := prog_1_method_44_code
def yX1_wrong : MethodName := ⟨RX1, "wrong", "(I)I"⟩
def dkwX1_wrong_8 : List UInt8 := [167, 255, 186, 132, 4, 1, 167, 255, 156, 28, 172]
abbrev dktX1_wrong_8 : List UInt8 := dkwX1_wrong_8 ++ []
def dkwX1_wrong_7 : List UInt8 := [21, 5, 96, 16, 10, 104, 21, 7, 96, 79, 132, 3, 1, 132, 7, 1, 167, 255, 202, 132, 6, 1]
abbrev dktX1_wrong_7 : List UInt8 := dkwX1_wrong_7 ++ dktX1_wrong_8
def dkwX1_wrong_6 : List UInt8 := [21, 7, 46, 21, 6, 122, 4, 126, 154, 0, 6, 167, 0, 26, 42, 180, 0, 86, 29, 21, 6, 16, 100, 104]
abbrev dktX1_wrong_6 : List UInt8 := dkwX1_wrong_6 ++ dktX1_wrong_7
def dkwX1_wrong_5 : List UInt8 := [21, 6, 16, 15, 163, 0, 69, 3, 54, 7, 21, 7, 16, 8, 163, 0, 53, 42, 180, 0, 73, 21, 5, 50]
abbrev dktX1_wrong_5 : List UInt8 := dkwX1_wrong_5 ++ dktX1_wrong_6
def dkwX1_wrong_4 : List UInt8 := [21, 4, 42, 180, 0, 227, 162, 0, 97, 42, 180, 0, 58, 21, 4, 50, 180, 0, 233, 54, 5, 4, 54, 6]
abbrev dktX1_wrong_4 : List UInt8 := dkwX1_wrong_4 ++ dktX1_wrong_5
def dkwX1_wrong_3 : List UInt8 := [132, 6, 1, 167, 255, 231, 132, 3, 1, 167, 255, 193, 42, 28, 188, 10, 181, 0, 86, 3, 62, 3, 54, 4]
abbrev dktX1_wrong_3 : List UInt8 := dkwX1_wrong_3 ++ dktX1_wrong_4
def dkwX1_wrong_2 : List UInt8 := [21, 6, 21, 5, 162, 0, 24, 25, 4, 21, 6, 46, 54, 7, 28, 21, 7, 184, 1, 157, 96, 61]
abbrev dktX1_wrong_2 : List UInt8 := dkwX1_wrong_2 ++ dktX1_wrong_3
def dkwX1_wrong_1 : List UInt8 := [180, 0, 73, 42, 180, 0, 58, 29, 50, 180, 0, 233, 50, 58, 4, 25, 4, 190, 54, 5, 3, 54, 6]
abbrev dktX1_wrong_1 : List UInt8 := dkwX1_wrong_1 ++ dktX1_wrong_2
def dkwX1_wrong_0 : List UInt8 := [42, 27, 182, 1, 151, 42, 182, 1, 154, 3, 61, 3, 62, 29, 42, 180, 0, 227, 162, 0, 61, 42]
abbrev dktX1_wrong_0 : List UInt8 := dkwX1_wrong_0 ++ dktX1_wrong_1
theorem dksX1_wrong_0 : cX1_wrong.data.toList.drop 0 = dktX1_wrong_0 := by decide +kernel
theorem dksX1_wrong_1 : cX1_wrong.data.toList.drop 22 = dktX1_wrong_1 := dk_seg dksX1_wrong_0 22 rfl rfl
theorem dksX1_wrong_2 : cX1_wrong.data.toList.drop 45 = dktX1_wrong_2 := dk_seg dksX1_wrong_1 23 rfl rfl
theorem dksX1_wrong_3 : cX1_wrong.data.toList.drop 67 = dktX1_wrong_3 := dk_seg dksX1_wrong_2 22 rfl rfl
theorem dksX1_wrong_4 : cX1_wrong.data.toList.drop 91 = dktX1_wrong_4 := dk_seg dksX1_wrong_3 24 rfl rfl
theorem dksX1_wrong_5 : cX1_wrong.data.toList.drop 115 = dktX1_wrong_5 := dk_seg dksX1_wrong_4 24 rfl rfl
theorem dksX1_wrong_6 : cX1_wrong.data.toList.drop 139 = dktX1_wrong_6 := dk_seg dksX1_wrong_5 24 rfl rfl
theorem dksX1_wrong_7 : cX1_wrong.data.toList.drop 163 = dktX1_wrong_7 := dk_seg dksX1_wrong_6 24 rfl rfl
theorem dksX1_wrong_8 : cX1_wrong.data.toList.drop 185 = dktX1_wrong_8 := dk_seg dksX1_wrong_7 22 rfl rfl
theorem dX1_wrong_0 : decode cX1_wrong 0 = .ok (.aload_n 0, 1) := dk_42 (dk_at dksX1_wrong_0 0 rfl rfl)
theorem dX1_wrong_1 : decode cX1_wrong 1 = .ok (.iload_n 1, 1) := dk_27 (dk_at dksX1_wrong_0 1 rfl rfl)
theorem dX1_wrong_2 : decode cX1_wrong 2 = .ok (.invokevirtual 407, 3) := dk_182 1 151 (dk_at dksX1_wrong_0 2 rfl rfl)
theorem dX1_wrong_5 : decode cX1_wrong 5 = .ok (.aload_n 0, 1) := dk_42 (dk_at dksX1_wrong_0 5 rfl rfl)
theorem dX1_wrong_6 : decode cX1_wrong 6 = .ok (.invokevirtual 410, 3) := dk_182 1 154 (dk_at dksX1_wrong_0 6 rfl rfl)
theorem dX1_wrong_9 : decode cX1_wrong 9 = .ok (.iconst 0, 1) := dk_3 (dk_at dksX1_wrong_0 9 rfl rfl)
theorem dX1_wrong_10 : decode cX1_wrong 10 = .ok (.istore_n 2, 1) := dk_61 (dk_at dksX1_wrong_0 10 rfl rfl)
theorem dX1_wrong_11 : decode cX1_wrong 11 = .ok (.iconst 0, 1) := dk_3 (dk_at dksX1_wrong_0 11 rfl rfl)
theorem dX1_wrong_12 : decode cX1_wrong 12 = .ok (.istore_n 3, 1) := dk_62 (dk_at dksX1_wrong_0 12 rfl rfl)
theorem dX1_wrong_13 : decode cX1_wrong 13 = .ok (.iload_n 3, 1) := dk_29 (dk_at dksX1_wrong_0 13 rfl rfl)
theorem dX1_wrong_14 : decode cX1_wrong 14 = .ok (.aload_n 0, 1) := dk_42 (dk_at dksX1_wrong_0 14 rfl rfl)
theorem dX1_wrong_15 : decode cX1_wrong 15 = .ok (.getfield 227, 3) := dk_180 0 227 (dk_at dksX1_wrong_0 15 rfl rfl)
theorem dX1_wrong_18 : decode cX1_wrong 18 = .ok (.if_icmp .ge 61, 3) := dk_162 0 61 (dk_at dksX1_wrong_0 18 rfl rfl)
theorem dX1_wrong_21 : decode cX1_wrong 21 = .ok (.aload_n 0, 1) := dk_42 (dk_at dksX1_wrong_0 21 rfl rfl)
theorem dX1_wrong_22 : decode cX1_wrong 22 = .ok (.getfield 73, 3) := dk_180 0 73 (dk_at dksX1_wrong_1 0 rfl rfl)
theorem dX1_wrong_25 : decode cX1_wrong 25 = .ok (.aload_n 0, 1) := dk_42 (dk_at dksX1_wrong_1 3 rfl rfl)
theorem dX1_wrong_26 : decode cX1_wrong 26 = .ok (.getfield 58, 3) := dk_180 0 58 (dk_at dksX1_wrong_1 4 rfl rfl)
theorem dX1_wrong_29 : decode cX1_wrong 29 = .ok (.iload_n 3, 1) := dk_29 (dk_at dksX1_wrong_1 7 rfl rfl)
theorem dX1_wrong_30 : decode cX1_wrong 30 = .ok (.aaload, 1) := dk_50 (dk_at dksX1_wrong_1 8 rfl rfl)
theorem dX1_wrong_31 : decode cX1_wrong 31 = .ok (.getfield 233, 3) := dk_180 0 233 (dk_at dksX1_wrong_1 9 rfl rfl)
theorem dX1_wrong_34 : decode cX1_wrong 34 = .ok (.aaload, 1) := dk_50 (dk_at dksX1_wrong_1 12 rfl rfl)
theorem dX1_wrong_35 : decode cX1_wrong 35 = .ok (.astore 4, 2) := dk_58 4 (dk_at dksX1_wrong_1 13 rfl rfl)
theorem dX1_wrong_37 : decode cX1_wrong 37 = .ok (.aload 4, 2) := dk_25 4 (dk_at dksX1_wrong_1 15 rfl rfl)
theorem dX1_wrong_39 : decode cX1_wrong 39 = .ok (.arraylength, 1) := dk_190 (dk_at dksX1_wrong_1 17 rfl rfl)
theorem dX1_wrong_40 : decode cX1_wrong 40 = .ok (.istore 5, 2) := dk_54 5 (dk_at dksX1_wrong_1 18 rfl rfl)
theorem dX1_wrong_42 : decode cX1_wrong 42 = .ok (.iconst 0, 1) := dk_3 (dk_at dksX1_wrong_1 20 rfl rfl)
theorem dX1_wrong_43 : decode cX1_wrong 43 = .ok (.istore 6, 2) := dk_54 6 (dk_at dksX1_wrong_1 21 rfl rfl)
theorem dX1_wrong_45 : decode cX1_wrong 45 = .ok (.iload 6, 2) := dk_21 6 (dk_at dksX1_wrong_2 0 rfl rfl)
theorem dX1_wrong_47 : decode cX1_wrong 47 = .ok (.iload 5, 2) := dk_21 5 (dk_at dksX1_wrong_2 2 rfl rfl)
theorem dX1_wrong_49 : decode cX1_wrong 49 = .ok (.if_icmp .ge 24, 3) := dk_162 0 24 (dk_at dksX1_wrong_2 4 rfl rfl)
theorem dX1_wrong_52 : decode cX1_wrong 52 = .ok (.aload 4, 2) := dk_25 4 (dk_at dksX1_wrong_2 7 rfl rfl)
theorem dX1_wrong_54 : decode cX1_wrong 54 = .ok (.iload 6, 2) := dk_21 6 (dk_at dksX1_wrong_2 9 rfl rfl)
theorem dX1_wrong_56 : decode cX1_wrong 56 = .ok (.iaload, 1) := dk_46 (dk_at dksX1_wrong_2 11 rfl rfl)
theorem dX1_wrong_57 : decode cX1_wrong 57 = .ok (.istore 7, 2) := dk_54 7 (dk_at dksX1_wrong_2 12 rfl rfl)
theorem dX1_wrong_59 : decode cX1_wrong 59 = .ok (.iload_n 2, 1) := dk_28 (dk_at dksX1_wrong_2 14 rfl rfl)
theorem dX1_wrong_60 : decode cX1_wrong 60 = .ok (.iload 7, 2) := dk_21 7 (dk_at dksX1_wrong_2 15 rfl rfl)
theorem dX1_wrong_62 : decode cX1_wrong 62 = .ok (.invokestatic 413, 3) := dk_184 1 157 (dk_at dksX1_wrong_2 17 rfl rfl)
theorem dX1_wrong_65 : decode cX1_wrong 65 = .ok (.iadd, 1) := dk_96 (dk_at dksX1_wrong_2 20 rfl rfl)
theorem dX1_wrong_66 : decode cX1_wrong 66 = .ok (.istore_n 2, 1) := dk_61 (dk_at dksX1_wrong_2 21 rfl rfl)
theorem dX1_wrong_67 : decode cX1_wrong 67 = .ok (.iinc 6 1, 3) := dk_132 6 1 (dk_at dksX1_wrong_3 0 rfl rfl)
theorem dX1_wrong_70 : decode cX1_wrong 70 = .ok (.goto (-25), 3) := dk_167 255 231 (dk_at dksX1_wrong_3 3 rfl rfl)
theorem dX1_wrong_73 : decode cX1_wrong 73 = .ok (.iinc 3 1, 3) := dk_132 3 1 (dk_at dksX1_wrong_3 6 rfl rfl)
theorem dX1_wrong_76 : decode cX1_wrong 76 = .ok (.goto (-63), 3) := dk_167 255 193 (dk_at dksX1_wrong_3 9 rfl rfl)
theorem dX1_wrong_79 : decode cX1_wrong 79 = .ok (.aload_n 0, 1) := dk_42 (dk_at dksX1_wrong_3 12 rfl rfl)
theorem dX1_wrong_80 : decode cX1_wrong 80 = .ok (.iload_n 2, 1) := dk_28 (dk_at dksX1_wrong_3 13 rfl rfl)
theorem dX1_wrong_81 : decode cX1_wrong 81 = .ok (.newarray .int, 2) := dk_188_10 (dk_at dksX1_wrong_3 14 rfl rfl)
theorem dX1_wrong_83 : decode cX1_wrong 83 = .ok (.putfield 86, 3) := dk_181 0 86 (dk_at dksX1_wrong_3 16 rfl rfl)
theorem dX1_wrong_86 : decode cX1_wrong 86 = .ok (.iconst 0, 1) := dk_3 (dk_at dksX1_wrong_3 19 rfl rfl)
theorem dX1_wrong_87 : decode cX1_wrong 87 = .ok (.istore_n 3, 1) := dk_62 (dk_at dksX1_wrong_3 20 rfl rfl)
theorem dX1_wrong_88 : decode cX1_wrong 88 = .ok (.iconst 0, 1) := dk_3 (dk_at dksX1_wrong_3 21 rfl rfl)
theorem dX1_wrong_89 : decode cX1_wrong 89 = .ok (.istore 4, 2) := dk_54 4 (dk_at dksX1_wrong_3 22 rfl rfl)
theorem dX1_wrong_91 : decode cX1_wrong 91 = .ok (.iload 4, 2) := dk_21 4 (dk_at dksX1_wrong_4 0 rfl rfl)
theorem dX1_wrong_93 : decode cX1_wrong 93 = .ok (.aload_n 0, 1) := dk_42 (dk_at dksX1_wrong_4 2 rfl rfl)
theorem dX1_wrong_94 : decode cX1_wrong 94 = .ok (.getfield 227, 3) := dk_180 0 227 (dk_at dksX1_wrong_4 3 rfl rfl)
theorem dX1_wrong_97 : decode cX1_wrong 97 = .ok (.if_icmp .ge 97, 3) := dk_162 0 97 (dk_at dksX1_wrong_4 6 rfl rfl)
theorem dX1_wrong_100 : decode cX1_wrong 100 = .ok (.aload_n 0, 1) := dk_42 (dk_at dksX1_wrong_4 9 rfl rfl)
theorem dX1_wrong_101 : decode cX1_wrong 101 = .ok (.getfield 58, 3) := dk_180 0 58 (dk_at dksX1_wrong_4 10 rfl rfl)
theorem dX1_wrong_104 : decode cX1_wrong 104 = .ok (.iload 4, 2) := dk_21 4 (dk_at dksX1_wrong_4 13 rfl rfl)
theorem dX1_wrong_106 : decode cX1_wrong 106 = .ok (.aaload, 1) := dk_50 (dk_at dksX1_wrong_4 15 rfl rfl)
theorem dX1_wrong_107 : decode cX1_wrong 107 = .ok (.getfield 233, 3) := dk_180 0 233 (dk_at dksX1_wrong_4 16 rfl rfl)
theorem dX1_wrong_110 : decode cX1_wrong 110 = .ok (.istore 5, 2) := dk_54 5 (dk_at dksX1_wrong_4 19 rfl rfl)
theorem dX1_wrong_112 : decode cX1_wrong 112 = .ok (.iconst 1, 1) := dk_4 (dk_at dksX1_wrong_4 21 rfl rfl)
theorem dX1_wrong_113 : decode cX1_wrong 113 = .ok (.istore 6, 2) := dk_54 6 (dk_at dksX1_wrong_4 22 rfl rfl)
theorem dX1_wrong_115 : decode cX1_wrong 115 = .ok (.iload 6, 2) := dk_21 6 (dk_at dksX1_wrong_5 0 rfl rfl)
theorem dX1_wrong_117 : decode cX1_wrong 117 = .ok (.bipush 15, 2) := dk_16 15 (dk_at dksX1_wrong_5 2 rfl rfl)
theorem dX1_wrong_119 : decode cX1_wrong 119 = .ok (.if_icmp .gt 69, 3) := dk_163 0 69 (dk_at dksX1_wrong_5 4 rfl rfl)
theorem dX1_wrong_122 : decode cX1_wrong 122 = .ok (.iconst 0, 1) := dk_3 (dk_at dksX1_wrong_5 7 rfl rfl)
theorem dX1_wrong_123 : decode cX1_wrong 123 = .ok (.istore 7, 2) := dk_54 7 (dk_at dksX1_wrong_5 8 rfl rfl)
theorem dX1_wrong_125 : decode cX1_wrong 125 = .ok (.iload 7, 2) := dk_21 7 (dk_at dksX1_wrong_5 10 rfl rfl)
theorem dX1_wrong_127 : decode cX1_wrong 127 = .ok (.bipush 8, 2) := dk_16 8 (dk_at dksX1_wrong_5 12 rfl rfl)
theorem dX1_wrong_129 : decode cX1_wrong 129 = .ok (.if_icmp .gt 53, 3) := dk_163 0 53 (dk_at dksX1_wrong_5 14 rfl rfl)
theorem dX1_wrong_132 : decode cX1_wrong 132 = .ok (.aload_n 0, 1) := dk_42 (dk_at dksX1_wrong_5 17 rfl rfl)
theorem dX1_wrong_133 : decode cX1_wrong 133 = .ok (.getfield 73, 3) := dk_180 0 73 (dk_at dksX1_wrong_5 18 rfl rfl)
theorem dX1_wrong_136 : decode cX1_wrong 136 = .ok (.iload 5, 2) := dk_21 5 (dk_at dksX1_wrong_5 21 rfl rfl)
theorem dX1_wrong_138 : decode cX1_wrong 138 = .ok (.aaload, 1) := dk_50 (dk_at dksX1_wrong_5 23 rfl rfl)
theorem dX1_wrong_139 : decode cX1_wrong 139 = .ok (.iload 7, 2) := dk_21 7 (dk_at dksX1_wrong_6 0 rfl rfl)
theorem dX1_wrong_141 : decode cX1_wrong 141 = .ok (.iaload, 1) := dk_46 (dk_at dksX1_wrong_6 2 rfl rfl)
theorem dX1_wrong_142 : decode cX1_wrong 142 = .ok (.iload 6, 2) := dk_21 6 (dk_at dksX1_wrong_6 3 rfl rfl)
theorem dX1_wrong_144 : decode cX1_wrong 144 = .ok (.ishr, 1) := dk_122 (dk_at dksX1_wrong_6 5 rfl rfl)
theorem dX1_wrong_145 : decode cX1_wrong 145 = .ok (.iconst 1, 1) := dk_4 (dk_at dksX1_wrong_6 6 rfl rfl)
theorem dX1_wrong_146 : decode cX1_wrong 146 = .ok (.iand, 1) := dk_126 (dk_at dksX1_wrong_6 7 rfl rfl)
theorem dX1_wrong_147 : decode cX1_wrong 147 = .ok (.ifCond .ne 6, 3) := dk_154 0 6 (dk_at dksX1_wrong_6 8 rfl rfl)
theorem dX1_wrong_150 : decode cX1_wrong 150 = .ok (.goto 26, 3) := dk_167 0 26 (dk_at dksX1_wrong_6 11 rfl rfl)
theorem dX1_wrong_153 : decode cX1_wrong 153 = .ok (.aload_n 0, 1) := dk_42 (dk_at dksX1_wrong_6 14 rfl rfl)
theorem dX1_wrong_154 : decode cX1_wrong 154 = .ok (.getfield 86, 3) := dk_180 0 86 (dk_at dksX1_wrong_6 15 rfl rfl)
theorem dX1_wrong_157 : decode cX1_wrong 157 = .ok (.iload_n 3, 1) := dk_29 (dk_at dksX1_wrong_6 18 rfl rfl)
theorem dX1_wrong_158 : decode cX1_wrong 158 = .ok (.iload 6, 2) := dk_21 6 (dk_at dksX1_wrong_6 19 rfl rfl)
theorem dX1_wrong_160 : decode cX1_wrong 160 = .ok (.bipush 100, 2) := dk_16 100 (dk_at dksX1_wrong_6 21 rfl rfl)
theorem dX1_wrong_162 : decode cX1_wrong 162 = .ok (.imul, 1) := dk_104 (dk_at dksX1_wrong_6 23 rfl rfl)
theorem dX1_wrong_163 : decode cX1_wrong 163 = .ok (.iload 5, 2) := dk_21 5 (dk_at dksX1_wrong_7 0 rfl rfl)
theorem dX1_wrong_165 : decode cX1_wrong 165 = .ok (.iadd, 1) := dk_96 (dk_at dksX1_wrong_7 2 rfl rfl)
theorem dX1_wrong_166 : decode cX1_wrong 166 = .ok (.bipush 10, 2) := dk_16 10 (dk_at dksX1_wrong_7 3 rfl rfl)
theorem dX1_wrong_168 : decode cX1_wrong 168 = .ok (.imul, 1) := dk_104 (dk_at dksX1_wrong_7 5 rfl rfl)
theorem dX1_wrong_169 : decode cX1_wrong 169 = .ok (.iload 7, 2) := dk_21 7 (dk_at dksX1_wrong_7 6 rfl rfl)
theorem dX1_wrong_171 : decode cX1_wrong 171 = .ok (.iadd, 1) := dk_96 (dk_at dksX1_wrong_7 8 rfl rfl)
theorem dX1_wrong_172 : decode cX1_wrong 172 = .ok (.iastore, 1) := dk_79 (dk_at dksX1_wrong_7 9 rfl rfl)
theorem dX1_wrong_173 : decode cX1_wrong 173 = .ok (.iinc 3 1, 3) := dk_132 3 1 (dk_at dksX1_wrong_7 10 rfl rfl)
theorem dX1_wrong_176 : decode cX1_wrong 176 = .ok (.iinc 7 1, 3) := dk_132 7 1 (dk_at dksX1_wrong_7 13 rfl rfl)
theorem dX1_wrong_179 : decode cX1_wrong 179 = .ok (.goto (-54), 3) := dk_167 255 202 (dk_at dksX1_wrong_7 16 rfl rfl)
theorem dX1_wrong_182 : decode cX1_wrong 182 = .ok (.iinc 6 1, 3) := dk_132 6 1 (dk_at dksX1_wrong_7 19 rfl rfl)
theorem dX1_wrong_185 : decode cX1_wrong 185 = .ok (.goto (-70), 3) := dk_167 255 186 (dk_at dksX1_wrong_8 0 rfl rfl)
theorem dX1_wrong_188 : decode cX1_wrong 188 = .ok (.iinc 4 1, 3) := dk_132 4 1 (dk_at dksX1_wrong_8 3 rfl rfl)
theorem dX1_wrong_191 : decode cX1_wrong 191 = .ok (.goto (-100), 3) := dk_167 255 156 (dk_at dksX1_wrong_8 6 rfl rfl)
theorem dX1_wrong_194 : decode cX1_wrong 194 = .ok (.iload_n 2, 1) := dk_28 (dk_at dksX1_wrong_8 9 rfl rfl)
theorem dX1_wrong_195 : decode cX1_wrong 195 = .ok (.ireturn, 1) := dk_172 (dk_at dksX1_wrong_8 10 rfl rfl)
abbrev cX1_judge : ByteArray := prog_1_method_34_code
def yX1_judge : MethodName := ⟨RX1, "judge", "()V"⟩
def dkwX1_judge_10 : List UInt8 := [167, 255, 28, 177]
abbrev dktX1_judge_10 : List UInt8 := dkwX1_judge_10 ++ []
def dkwX1_judge_9 : List UInt8 := [180, 0, 34, 21, 4, 182, 0, 155, 192, 0, 152, 182, 1, 77, 132, 3, 1, 167, 255, 189, 132, 1, 1]
abbrev dktX1_judge_9 : List UInt8 := dkwX1_judge_9 ++ dktX1_judge_10
def dkwX1_judge_8 : List UInt8 := [21, 4, 2, 160, 0, 7, 4, 167, 0, 4, 3, 182, 1, 53, 21, 4, 2, 159, 0, 21, 42, 27, 29, 42]
abbrev dktX1_judge_8 : List UInt8 := dkwX1_judge_8 ++ dktX1_judge_9
def dkwX1_judge_7 : List UInt8 := [182, 0, 212, 162, 0, 65, 42, 180, 0, 64, 44, 180, 0, 233, 50, 29, 46, 54, 4, 42, 44, 29, 16, 7]
abbrev dktX1_judge_7 : List UInt8 := dkwX1_judge_7 ++ dktX1_judge_8
def dkwX1_judge_6 : List UInt8 := [153, 0, 15, 42, 27, 182, 1, 74, 153, 0, 7, 4, 167, 0, 4, 3, 182, 1, 53, 3, 62, 29, 44]
abbrev dktX1_judge_6 : List UInt8 := dkwX1_judge_6 ++ dktX1_judge_7
def dkwX1_judge_5 : List UInt8 := [44, 16, 8, 8, 42, 27, 182, 1, 68, 182, 1, 53, 42, 44, 16, 8, 16, 6, 44, 182, 1, 71]
abbrev dktX1_judge_5 : List UInt8 := dkwX1_judge_5 ++ dktX1_judge_6
def dkwX1_judge_4 : List UInt8 := [44, 182, 1, 61, 153, 0, 15, 42, 44, 182, 1, 65, 153, 0, 7, 4, 167, 0, 4, 3, 182, 1, 53, 42]
abbrev dktX1_judge_4 : List UInt8 := dkwX1_judge_4 ++ dktX1_judge_5
def dkwX1_judge_3 : List UInt8 := [160, 0, 15, 42, 44, 182, 1, 57, 154, 0, 7, 4, 167, 0, 4, 3, 182, 1, 53, 42, 44, 16, 8, 7]
abbrev dktX1_judge_3 : List UInt8 := dkwX1_judge_3 ++ dktX1_judge_4
def dkwX1_judge_2 : List UInt8 := [44, 16, 8, 4, 42, 27, 182, 1, 50, 182, 1, 53, 42, 44, 16, 8, 6, 44, 180, 1, 25, 6]
abbrev dktX1_judge_2 : List UInt8 := dkwX1_judge_2 ++ dktX1_judge_3
def dkwX1_judge_1 : List UInt8 := [16, 8, 162, 0, 21, 42, 180, 0, 73, 44, 180, 0, 233, 50, 29, 3, 79, 132, 3, 1, 167, 255, 235, 42]
abbrev dktX1_judge_1 : List UInt8 := dkwX1_judge_1 ++ dktX1_judge_2
def dkwX1_judge_0 : List UInt8 := [42, 182, 1, 47, 3, 60, 27, 42, 180, 0, 227, 162, 0, 226, 42, 180, 0, 58, 27, 50, 77, 3, 62, 29]
abbrev dktX1_judge_0 : List UInt8 := dkwX1_judge_0 ++ dktX1_judge_1
theorem dksX1_judge_0 : cX1_judge.data.toList.drop 0 = dktX1_judge_0 := by decide +kernel
theorem dksX1_judge_1 : cX1_judge.data.toList.drop 24 = dktX1_judge_1 := dk_seg dksX1_judge_0 24 rfl rfl
theorem dksX1_judge_2 : cX1_judge.data.toList.drop 48 = dktX1_judge_2 := dk_seg dksX1_judge_1 24 rfl rfl
theorem dksX1_judge_3 : cX1_judge.data.toList.drop 70 = dktX1_judge_3 := dk_seg dksX1_judge_2 22 rfl rfl
theorem dksX1_judge_4 : cX1_judge.data.toList.drop 94 = dktX1_judge_4 := dk_seg dksX1_judge_3 24 rfl rfl
theorem dksX1_judge_5 : cX1_judge.data.toList.drop 118 = dktX1_judge_5 := dk_seg dksX1_judge_4 24 rfl rfl
theorem dksX1_judge_6 : cX1_judge.data.toList.drop 140 = dktX1_judge_6 := dk_seg dksX1_judge_5 22 rfl rfl
theorem dksX1_judge_7 : cX1_judge.data.toList.drop 163 = dktX1_judge_7 := dk_seg dksX1_judge_6 23 rfl rfl
theorem dksX1_judge_8 : cX1_judge.data.toList.drop 187 = dktX1_judge_8 := dk_seg dksX1_judge_7 24 rfl rfl
theorem dksX1_judge_9 : cX1_judge.data.toList.drop 211 = dktX1_judge_9 := dk_seg dksX1_judge_8 24 rfl rfl
theorem dksX1_judge_10 : cX1_judge.data.toList.drop 234 = dktX1_judge_10 := dk_seg dksX1_judge_9 23 rfl rfl
theorem dX1_judge_0 : decode cX1_judge 0 = .ok (.aload_n 0, 1) := dk_42 (dk_at dksX1_judge_0 0 rfl rfl)
theorem dX1_judge_1 : decode cX1_judge 1 = .ok (.invokevirtual 303, 3) := dk_182 1 47 (dk_at dksX1_judge_0 1 rfl rfl)
theorem dX1_judge_4 : decode cX1_judge 4 = .ok (.iconst 0, 1) := dk_3 (dk_at dksX1_judge_0 4 rfl rfl)
theorem dX1_judge_5 : decode cX1_judge 5 = .ok (.istore_n 1, 1) := dk_60 (dk_at dksX1_judge_0 5 rfl rfl)
theorem dX1_judge_6 : decode cX1_judge 6 = .ok (.iload_n 1, 1) := dk_27 (dk_at dksX1_judge_0 6 rfl rfl)
theorem dX1_judge_7 : decode cX1_judge 7 = .ok (.aload_n 0, 1) := dk_42 (dk_at dksX1_judge_0 7 rfl rfl)
theorem dX1_judge_8 : decode cX1_judge 8 = .ok (.getfield 227, 3) := dk_180 0 227 (dk_at dksX1_judge_0 8 rfl rfl)
theorem dX1_judge_11 : decode cX1_judge 11 = .ok (.if_icmp .ge 226, 3) := dk_162 0 226 (dk_at dksX1_judge_0 11 rfl rfl)
theorem dX1_judge_14 : decode cX1_judge 14 = .ok (.aload_n 0, 1) := dk_42 (dk_at dksX1_judge_0 14 rfl rfl)
theorem dX1_judge_15 : decode cX1_judge 15 = .ok (.getfield 58, 3) := dk_180 0 58 (dk_at dksX1_judge_0 15 rfl rfl)
theorem dX1_judge_18 : decode cX1_judge 18 = .ok (.iload_n 1, 1) := dk_27 (dk_at dksX1_judge_0 18 rfl rfl)
theorem dX1_judge_19 : decode cX1_judge 19 = .ok (.aaload, 1) := dk_50 (dk_at dksX1_judge_0 19 rfl rfl)
theorem dX1_judge_20 : decode cX1_judge 20 = .ok (.astore_n 2, 1) := dk_77 (dk_at dksX1_judge_0 20 rfl rfl)
theorem dX1_judge_21 : decode cX1_judge 21 = .ok (.iconst 0, 1) := dk_3 (dk_at dksX1_judge_0 21 rfl rfl)
theorem dX1_judge_22 : decode cX1_judge 22 = .ok (.istore_n 3, 1) := dk_62 (dk_at dksX1_judge_0 22 rfl rfl)
theorem dX1_judge_23 : decode cX1_judge 23 = .ok (.iload_n 3, 1) := dk_29 (dk_at dksX1_judge_0 23 rfl rfl)
theorem dX1_judge_24 : decode cX1_judge 24 = .ok (.bipush 8, 2) := dk_16 8 (dk_at dksX1_judge_1 0 rfl rfl)
theorem dX1_judge_26 : decode cX1_judge 26 = .ok (.if_icmp .ge 21, 3) := dk_162 0 21 (dk_at dksX1_judge_1 2 rfl rfl)
theorem dX1_judge_29 : decode cX1_judge 29 = .ok (.aload_n 0, 1) := dk_42 (dk_at dksX1_judge_1 5 rfl rfl)
theorem dX1_judge_30 : decode cX1_judge 30 = .ok (.getfield 73, 3) := dk_180 0 73 (dk_at dksX1_judge_1 6 rfl rfl)
theorem dX1_judge_33 : decode cX1_judge 33 = .ok (.aload_n 2, 1) := dk_44 (dk_at dksX1_judge_1 9 rfl rfl)
theorem dX1_judge_34 : decode cX1_judge 34 = .ok (.getfield 233, 3) := dk_180 0 233 (dk_at dksX1_judge_1 10 rfl rfl)
theorem dX1_judge_37 : decode cX1_judge 37 = .ok (.aaload, 1) := dk_50 (dk_at dksX1_judge_1 13 rfl rfl)
theorem dX1_judge_38 : decode cX1_judge 38 = .ok (.iload_n 3, 1) := dk_29 (dk_at dksX1_judge_1 14 rfl rfl)
theorem dX1_judge_39 : decode cX1_judge 39 = .ok (.iconst 0, 1) := dk_3 (dk_at dksX1_judge_1 15 rfl rfl)
theorem dX1_judge_40 : decode cX1_judge 40 = .ok (.iastore, 1) := dk_79 (dk_at dksX1_judge_1 16 rfl rfl)
theorem dX1_judge_41 : decode cX1_judge 41 = .ok (.iinc 3 1, 3) := dk_132 3 1 (dk_at dksX1_judge_1 17 rfl rfl)
theorem dX1_judge_44 : decode cX1_judge 44 = .ok (.goto (-21), 3) := dk_167 255 235 (dk_at dksX1_judge_1 20 rfl rfl)
theorem dX1_judge_47 : decode cX1_judge 47 = .ok (.aload_n 0, 1) := dk_42 (dk_at dksX1_judge_1 23 rfl rfl)
theorem dX1_judge_48 : decode cX1_judge 48 = .ok (.aload_n 2, 1) := dk_44 (dk_at dksX1_judge_2 0 rfl rfl)
theorem dX1_judge_49 : decode cX1_judge 49 = .ok (.bipush 8, 2) := dk_16 8 (dk_at dksX1_judge_2 1 rfl rfl)
theorem dX1_judge_51 : decode cX1_judge 51 = .ok (.iconst 1, 1) := dk_4 (dk_at dksX1_judge_2 3 rfl rfl)
theorem dX1_judge_52 : decode cX1_judge 52 = .ok (.aload_n 0, 1) := dk_42 (dk_at dksX1_judge_2 4 rfl rfl)
theorem dX1_judge_53 : decode cX1_judge 53 = .ok (.iload_n 1, 1) := dk_27 (dk_at dksX1_judge_2 5 rfl rfl)
theorem dX1_judge_54 : decode cX1_judge 54 = .ok (.invokevirtual 306, 3) := dk_182 1 50 (dk_at dksX1_judge_2 6 rfl rfl)
theorem dX1_judge_57 : decode cX1_judge 57 = .ok (.invokevirtual 309, 3) := dk_182 1 53 (dk_at dksX1_judge_2 9 rfl rfl)
theorem dX1_judge_60 : decode cX1_judge 60 = .ok (.aload_n 0, 1) := dk_42 (dk_at dksX1_judge_2 12 rfl rfl)
theorem dX1_judge_61 : decode cX1_judge 61 = .ok (.aload_n 2, 1) := dk_44 (dk_at dksX1_judge_2 13 rfl rfl)
theorem dX1_judge_62 : decode cX1_judge 62 = .ok (.bipush 8, 2) := dk_16 8 (dk_at dksX1_judge_2 14 rfl rfl)
theorem dX1_judge_64 : decode cX1_judge 64 = .ok (.iconst 3, 1) := dk_6 (dk_at dksX1_judge_2 16 rfl rfl)
theorem dX1_judge_65 : decode cX1_judge 65 = .ok (.aload_n 2, 1) := dk_44 (dk_at dksX1_judge_2 17 rfl rfl)
theorem dX1_judge_66 : decode cX1_judge 66 = .ok (.getfield 281, 3) := dk_180 1 25 (dk_at dksX1_judge_2 18 rfl rfl)
theorem dX1_judge_69 : decode cX1_judge 69 = .ok (.iconst 3, 1) := dk_6 (dk_at dksX1_judge_2 21 rfl rfl)
theorem dX1_judge_70 : decode cX1_judge 70 = .ok (.if_icmp .ne 15, 3) := dk_160 0 15 (dk_at dksX1_judge_3 0 rfl rfl)
theorem dX1_judge_73 : decode cX1_judge 73 = .ok (.aload_n 0, 1) := dk_42 (dk_at dksX1_judge_3 3 rfl rfl)
theorem dX1_judge_74 : decode cX1_judge 74 = .ok (.aload_n 2, 1) := dk_44 (dk_at dksX1_judge_3 4 rfl rfl)
theorem dX1_judge_75 : decode cX1_judge 75 = .ok (.invokevirtual 313, 3) := dk_182 1 57 (dk_at dksX1_judge_3 5 rfl rfl)
theorem dX1_judge_78 : decode cX1_judge 78 = .ok (.ifCond .ne 7, 3) := dk_154 0 7 (dk_at dksX1_judge_3 8 rfl rfl)
theorem dX1_judge_81 : decode cX1_judge 81 = .ok (.iconst 1, 1) := dk_4 (dk_at dksX1_judge_3 11 rfl rfl)
theorem dX1_judge_82 : decode cX1_judge 82 = .ok (.goto 4, 3) := dk_167 0 4 (dk_at dksX1_judge_3 12 rfl rfl)
theorem dX1_judge_85 : decode cX1_judge 85 = .ok (.iconst 0, 1) := dk_3 (dk_at dksX1_judge_3 15 rfl rfl)
theorem dX1_judge_86 : decode cX1_judge 86 = .ok (.invokevirtual 309, 3) := dk_182 1 53 (dk_at dksX1_judge_3 16 rfl rfl)
theorem dX1_judge_89 : decode cX1_judge 89 = .ok (.aload_n 0, 1) := dk_42 (dk_at dksX1_judge_3 19 rfl rfl)
theorem dX1_judge_90 : decode cX1_judge 90 = .ok (.aload_n 2, 1) := dk_44 (dk_at dksX1_judge_3 20 rfl rfl)
theorem dX1_judge_91 : decode cX1_judge 91 = .ok (.bipush 8, 2) := dk_16 8 (dk_at dksX1_judge_3 21 rfl rfl)
theorem dX1_judge_93 : decode cX1_judge 93 = .ok (.iconst 4, 1) := dk_7 (dk_at dksX1_judge_3 23 rfl rfl)
theorem dX1_judge_94 : decode cX1_judge 94 = .ok (.aload_n 2, 1) := dk_44 (dk_at dksX1_judge_4 0 rfl rfl)
theorem dX1_judge_95 : decode cX1_judge 95 = .ok (.invokevirtual 317, 3) := dk_182 1 61 (dk_at dksX1_judge_4 1 rfl rfl)
theorem dX1_judge_98 : decode cX1_judge 98 = .ok (.ifCond .eq 15, 3) := dk_153 0 15 (dk_at dksX1_judge_4 4 rfl rfl)
theorem dX1_judge_101 : decode cX1_judge 101 = .ok (.aload_n 0, 1) := dk_42 (dk_at dksX1_judge_4 7 rfl rfl)
theorem dX1_judge_102 : decode cX1_judge 102 = .ok (.aload_n 2, 1) := dk_44 (dk_at dksX1_judge_4 8 rfl rfl)
theorem dX1_judge_103 : decode cX1_judge 103 = .ok (.invokevirtual 321, 3) := dk_182 1 65 (dk_at dksX1_judge_4 9 rfl rfl)
theorem dX1_judge_106 : decode cX1_judge 106 = .ok (.ifCond .eq 7, 3) := dk_153 0 7 (dk_at dksX1_judge_4 12 rfl rfl)
theorem dX1_judge_109 : decode cX1_judge 109 = .ok (.iconst 1, 1) := dk_4 (dk_at dksX1_judge_4 15 rfl rfl)
theorem dX1_judge_110 : decode cX1_judge 110 = .ok (.goto 4, 3) := dk_167 0 4 (dk_at dksX1_judge_4 16 rfl rfl)
theorem dX1_judge_113 : decode cX1_judge 113 = .ok (.iconst 0, 1) := dk_3 (dk_at dksX1_judge_4 19 rfl rfl)
theorem dX1_judge_114 : decode cX1_judge 114 = .ok (.invokevirtual 309, 3) := dk_182 1 53 (dk_at dksX1_judge_4 20 rfl rfl)
theorem dX1_judge_117 : decode cX1_judge 117 = .ok (.aload_n 0, 1) := dk_42 (dk_at dksX1_judge_4 23 rfl rfl)
theorem dX1_judge_118 : decode cX1_judge 118 = .ok (.aload_n 2, 1) := dk_44 (dk_at dksX1_judge_5 0 rfl rfl)
theorem dX1_judge_119 : decode cX1_judge 119 = .ok (.bipush 8, 2) := dk_16 8 (dk_at dksX1_judge_5 1 rfl rfl)
theorem dX1_judge_121 : decode cX1_judge 121 = .ok (.iconst 5, 1) := dk_8 (dk_at dksX1_judge_5 3 rfl rfl)
theorem dX1_judge_122 : decode cX1_judge 122 = .ok (.aload_n 0, 1) := dk_42 (dk_at dksX1_judge_5 4 rfl rfl)
theorem dX1_judge_123 : decode cX1_judge 123 = .ok (.iload_n 1, 1) := dk_27 (dk_at dksX1_judge_5 5 rfl rfl)
theorem dX1_judge_124 : decode cX1_judge 124 = .ok (.invokevirtual 324, 3) := dk_182 1 68 (dk_at dksX1_judge_5 6 rfl rfl)
theorem dX1_judge_127 : decode cX1_judge 127 = .ok (.invokevirtual 309, 3) := dk_182 1 53 (dk_at dksX1_judge_5 9 rfl rfl)
theorem dX1_judge_130 : decode cX1_judge 130 = .ok (.aload_n 0, 1) := dk_42 (dk_at dksX1_judge_5 12 rfl rfl)
theorem dX1_judge_131 : decode cX1_judge 131 = .ok (.aload_n 2, 1) := dk_44 (dk_at dksX1_judge_5 13 rfl rfl)
theorem dX1_judge_132 : decode cX1_judge 132 = .ok (.bipush 8, 2) := dk_16 8 (dk_at dksX1_judge_5 14 rfl rfl)
theorem dX1_judge_134 : decode cX1_judge 134 = .ok (.bipush 6, 2) := dk_16 6 (dk_at dksX1_judge_5 16 rfl rfl)
theorem dX1_judge_136 : decode cX1_judge 136 = .ok (.aload_n 2, 1) := dk_44 (dk_at dksX1_judge_5 18 rfl rfl)
theorem dX1_judge_137 : decode cX1_judge 137 = .ok (.invokevirtual 327, 3) := dk_182 1 71 (dk_at dksX1_judge_5 19 rfl rfl)
theorem dX1_judge_140 : decode cX1_judge 140 = .ok (.ifCond .eq 15, 3) := dk_153 0 15 (dk_at dksX1_judge_6 0 rfl rfl)
theorem dX1_judge_143 : decode cX1_judge 143 = .ok (.aload_n 0, 1) := dk_42 (dk_at dksX1_judge_6 3 rfl rfl)
theorem dX1_judge_144 : decode cX1_judge 144 = .ok (.iload_n 1, 1) := dk_27 (dk_at dksX1_judge_6 4 rfl rfl)
theorem dX1_judge_145 : decode cX1_judge 145 = .ok (.invokevirtual 330, 3) := dk_182 1 74 (dk_at dksX1_judge_6 5 rfl rfl)
theorem dX1_judge_148 : decode cX1_judge 148 = .ok (.ifCond .eq 7, 3) := dk_153 0 7 (dk_at dksX1_judge_6 8 rfl rfl)
theorem dX1_judge_151 : decode cX1_judge 151 = .ok (.iconst 1, 1) := dk_4 (dk_at dksX1_judge_6 11 rfl rfl)
theorem dX1_judge_152 : decode cX1_judge 152 = .ok (.goto 4, 3) := dk_167 0 4 (dk_at dksX1_judge_6 12 rfl rfl)
theorem dX1_judge_155 : decode cX1_judge 155 = .ok (.iconst 0, 1) := dk_3 (dk_at dksX1_judge_6 15 rfl rfl)
theorem dX1_judge_156 : decode cX1_judge 156 = .ok (.invokevirtual 309, 3) := dk_182 1 53 (dk_at dksX1_judge_6 16 rfl rfl)
theorem dX1_judge_159 : decode cX1_judge 159 = .ok (.iconst 0, 1) := dk_3 (dk_at dksX1_judge_6 19 rfl rfl)
theorem dX1_judge_160 : decode cX1_judge 160 = .ok (.istore_n 3, 1) := dk_62 (dk_at dksX1_judge_6 20 rfl rfl)
theorem dX1_judge_161 : decode cX1_judge 161 = .ok (.iload_n 3, 1) := dk_29 (dk_at dksX1_judge_6 21 rfl rfl)
theorem dX1_judge_162 : decode cX1_judge 162 = .ok (.aload_n 2, 1) := dk_44 (dk_at dksX1_judge_6 22 rfl rfl)
theorem dX1_judge_163 : decode cX1_judge 163 = .ok (.invokevirtual 212, 3) := dk_182 0 212 (dk_at dksX1_judge_7 0 rfl rfl)
theorem dX1_judge_166 : decode cX1_judge 166 = .ok (.if_icmp .ge 65, 3) := dk_162 0 65 (dk_at dksX1_judge_7 3 rfl rfl)
theorem dX1_judge_169 : decode cX1_judge 169 = .ok (.aload_n 0, 1) := dk_42 (dk_at dksX1_judge_7 6 rfl rfl)
theorem dX1_judge_170 : decode cX1_judge 170 = .ok (.getfield 64, 3) := dk_180 0 64 (dk_at dksX1_judge_7 7 rfl rfl)
theorem dX1_judge_173 : decode cX1_judge 173 = .ok (.aload_n 2, 1) := dk_44 (dk_at dksX1_judge_7 10 rfl rfl)
theorem dX1_judge_174 : decode cX1_judge 174 = .ok (.getfield 233, 3) := dk_180 0 233 (dk_at dksX1_judge_7 11 rfl rfl)
theorem dX1_judge_177 : decode cX1_judge 177 = .ok (.aaload, 1) := dk_50 (dk_at dksX1_judge_7 14 rfl rfl)
theorem dX1_judge_178 : decode cX1_judge 178 = .ok (.iload_n 3, 1) := dk_29 (dk_at dksX1_judge_7 15 rfl rfl)
theorem dX1_judge_179 : decode cX1_judge 179 = .ok (.iaload, 1) := dk_46 (dk_at dksX1_judge_7 16 rfl rfl)
theorem dX1_judge_180 : decode cX1_judge 180 = .ok (.istore 4, 2) := dk_54 4 (dk_at dksX1_judge_7 17 rfl rfl)
theorem dX1_judge_182 : decode cX1_judge 182 = .ok (.aload_n 0, 1) := dk_42 (dk_at dksX1_judge_7 19 rfl rfl)
theorem dX1_judge_183 : decode cX1_judge 183 = .ok (.aload_n 2, 1) := dk_44 (dk_at dksX1_judge_7 20 rfl rfl)
theorem dX1_judge_184 : decode cX1_judge 184 = .ok (.iload_n 3, 1) := dk_29 (dk_at dksX1_judge_7 21 rfl rfl)
theorem dX1_judge_185 : decode cX1_judge 185 = .ok (.bipush 7, 2) := dk_16 7 (dk_at dksX1_judge_7 22 rfl rfl)
theorem dX1_judge_187 : decode cX1_judge 187 = .ok (.iload 4, 2) := dk_21 4 (dk_at dksX1_judge_8 0 rfl rfl)
theorem dX1_judge_189 : decode cX1_judge 189 = .ok (.iconst (-1), 1) := dk_2 (dk_at dksX1_judge_8 2 rfl rfl)
theorem dX1_judge_190 : decode cX1_judge 190 = .ok (.if_icmp .ne 7, 3) := dk_160 0 7 (dk_at dksX1_judge_8 3 rfl rfl)
theorem dX1_judge_193 : decode cX1_judge 193 = .ok (.iconst 1, 1) := dk_4 (dk_at dksX1_judge_8 6 rfl rfl)
theorem dX1_judge_194 : decode cX1_judge 194 = .ok (.goto 4, 3) := dk_167 0 4 (dk_at dksX1_judge_8 7 rfl rfl)
theorem dX1_judge_197 : decode cX1_judge 197 = .ok (.iconst 0, 1) := dk_3 (dk_at dksX1_judge_8 10 rfl rfl)
theorem dX1_judge_198 : decode cX1_judge 198 = .ok (.invokevirtual 309, 3) := dk_182 1 53 (dk_at dksX1_judge_8 11 rfl rfl)
theorem dX1_judge_201 : decode cX1_judge 201 = .ok (.iload 4, 2) := dk_21 4 (dk_at dksX1_judge_8 14 rfl rfl)
theorem dX1_judge_203 : decode cX1_judge 203 = .ok (.iconst (-1), 1) := dk_2 (dk_at dksX1_judge_8 16 rfl rfl)
theorem dX1_judge_204 : decode cX1_judge 204 = .ok (.if_icmp .eq 21, 3) := dk_159 0 21 (dk_at dksX1_judge_8 17 rfl rfl)
theorem dX1_judge_207 : decode cX1_judge 207 = .ok (.aload_n 0, 1) := dk_42 (dk_at dksX1_judge_8 20 rfl rfl)
theorem dX1_judge_208 : decode cX1_judge 208 = .ok (.iload_n 1, 1) := dk_27 (dk_at dksX1_judge_8 21 rfl rfl)
theorem dX1_judge_209 : decode cX1_judge 209 = .ok (.iload_n 3, 1) := dk_29 (dk_at dksX1_judge_8 22 rfl rfl)
theorem dX1_judge_210 : decode cX1_judge 210 = .ok (.aload_n 0, 1) := dk_42 (dk_at dksX1_judge_8 23 rfl rfl)
theorem dX1_judge_211 : decode cX1_judge 211 = .ok (.getfield 34, 3) := dk_180 0 34 (dk_at dksX1_judge_9 0 rfl rfl)
theorem dX1_judge_214 : decode cX1_judge 214 = .ok (.iload 4, 2) := dk_21 4 (dk_at dksX1_judge_9 3 rfl rfl)
theorem dX1_judge_216 : decode cX1_judge 216 = .ok (.invokevirtual 155, 3) := dk_182 0 155 (dk_at dksX1_judge_9 5 rfl rfl)
theorem dX1_judge_219 : decode cX1_judge 219 = .ok (.checkcast 152, 3) := dk_192 0 152 (dk_at dksX1_judge_9 8 rfl rfl)
theorem dX1_judge_222 : decode cX1_judge 222 = .ok (.invokevirtual 333, 3) := dk_182 1 77 (dk_at dksX1_judge_9 11 rfl rfl)
theorem dX1_judge_225 : decode cX1_judge 225 = .ok (.iinc 3 1, 3) := dk_132 3 1 (dk_at dksX1_judge_9 14 rfl rfl)
theorem dX1_judge_228 : decode cX1_judge 228 = .ok (.goto (-67), 3) := dk_167 255 189 (dk_at dksX1_judge_9 17 rfl rfl)
theorem dX1_judge_231 : decode cX1_judge 231 = .ok (.iinc 1 1, 3) := dk_132 1 1 (dk_at dksX1_judge_9 20 rfl rfl)
theorem dX1_judge_234 : decode cX1_judge 234 = .ok (.goto (-228), 3) := dk_167 255 28 (dk_at dksX1_judge_10 0 rfl rfl)
theorem dX1_judge_237 : decode cX1_judge 237 = .ok (.return_, 1) := dk_177 (dk_at dksX1_judge_10 3 rfl rfl)
abbrev cX1_judgeSets : ByteArray := prog_1_method_42_code
def yX1_judgeSets : MethodName := ⟨RX1, "judgeSets", "()V"⟩
def dkwX1_judgeSets_15 : List UInt8 := [160, 0, 7, 4, 167, 0, 4, 3, 84, 132, 6, 1, 167, 255, 195, 4, 61, 132, 3, 1, 167, 255, 15, 177]
abbrev dktX1_judgeSets_15 : List UInt8 := dkwX1_judgeSets_15 ++ []
def dkwX1_judgeSets_14 : List UInt8 := [51, 153, 0, 28, 42, 180, 0, 52, 180, 1, 145, 21, 6, 46, 25, 4, 180, 1, 2, 180, 1, 148]
abbrev dktX1_judgeSets_14 : List UInt8 := dkwX1_judgeSets_14 ++ dktX1_judgeSets_15
def dkwX1_judgeSets_13 : List UInt8 := [180, 0, 76, 190, 162, 0, 57, 21, 5, 153, 0, 52, 42, 180, 0, 76, 21, 6, 42, 180, 0, 76, 21, 6]
abbrev dktX1_judgeSets_13 : List UInt8 := dkwX1_judgeSets_13 ++ dktX1_judgeSets_14
def dkwX1_judgeSets_12 : List UInt8 := [25, 4, 16, 8, 5, 21, 5, 154, 0, 7, 4, 167, 0, 4, 3, 182, 1, 53, 3, 54, 6, 21, 6, 42]
abbrev dktX1_judgeSets_12 : List UInt8 := dkwX1_judgeSets_12 ++ dktX1_judgeSets_13
def dkwX1_judgeSets_11 : List UInt8 := [180, 1, 2, 180, 1, 148, 160, 0, 7, 4, 167, 0, 4, 3, 54, 5, 132, 6, 1, 167, 255, 200, 42]
abbrev dktX1_judgeSets_11 : List UInt8 := dkwX1_judgeSets_11 ++ dktX1_judgeSets_12
def dkwX1_judgeSets_10 : List UInt8 := [42, 180, 0, 76, 21, 6, 51, 153, 0, 28, 42, 180, 0, 52, 180, 1, 145, 21, 6, 46, 25, 4]
abbrev dktX1_judgeSets_10 : List UInt8 := dkwX1_judgeSets_10 ++ dktX1_judgeSets_11
def dkwX1_judgeSets_9 : List UInt8 := [167, 255, 215, 3, 54, 5, 3, 54, 6, 21, 6, 42, 180, 0, 76, 190, 162, 0, 52, 21, 5, 154, 0, 34]
abbrev dktX1_judgeSets_9 : List UInt8 := dkwX1_judgeSets_9 ++ dktX1_judgeSets_10
def dkwX1_judgeSets_8 : List UInt8 := [51, 154, 0, 19, 42, 180, 0, 52, 42, 180, 0, 76, 42, 180, 0, 80, 182, 1, 141, 61, 132, 1, 1]
abbrev dktX1_judgeSets_8 : List UInt8 := dkwX1_judgeSets_8 ++ dktX1_judgeSets_9
def dkwX1_judgeSets_7 : List UInt8 := [154, 0, 6, 167, 0, 200, 27, 25, 4, 180, 0, 230, 162, 0, 38, 28, 153, 0, 28, 42, 180, 0, 83, 27]
abbrev dktX1_judgeSets_7 : List UInt8 := dkwX1_judgeSets_7 ++ dktX1_judgeSets_8
def dkwX1_judgeSets_6 : List UInt8 := [29, 50, 58, 4, 42, 180, 0, 73, 25, 4, 180, 0, 233, 50, 16, 8, 3, 79, 25, 4, 182, 1, 61]
abbrev dktX1_judgeSets_6 : List UInt8 := dkwX1_judgeSets_6 ++ dktX1_judgeSets_7
def dkwX1_judgeSets_5 : List UInt8 := [132, 1, 1, 167, 255, 229, 3, 60, 4, 61, 3, 62, 29, 42, 180, 0, 227, 162, 0, 239, 42, 180, 0, 58]
abbrev dktX1_judgeSets_5 : List UInt8 := dkwX1_judgeSets_5 ++ dktX1_judgeSets_6
def dkwX1_judgeSets_4 : List UInt8 := [180, 0, 76, 190, 162, 0, 24, 42, 180, 0, 76, 27, 27, 154, 0, 7, 4, 167, 0, 4, 3, 84]
abbrev dktX1_judgeSets_4 : List UInt8 := dkwX1_judgeSets_4 ++ dktX1_judgeSets_5
def dkwX1_judgeSets_3 : List UInt8 := [180, 0, 83, 28, 4, 84, 132, 2, 1, 167, 255, 221, 132, 1, 1, 167, 255, 197, 3, 60, 27, 42]
abbrev dktX1_judgeSets_3 : List UInt8 := dkwX1_judgeSets_3 ++ dktX1_judgeSets_4
def dkwX1_judgeSets_2 : List UInt8 := [180, 0, 58, 27, 50, 180, 1, 26, 162, 0, 28, 42, 180, 0, 58, 27, 50, 182, 1, 81, 153, 0, 16, 42]
abbrev dktX1_judgeSets_2 : List UInt8 := dkwX1_judgeSets_2 ++ dktX1_judgeSets_3
def dkwX1_judgeSets_1 : List UInt8 := [3, 60, 27, 42, 180, 0, 227, 162, 0, 57, 42, 180, 0, 58, 27, 50, 180, 0, 230, 61, 28, 42]
abbrev dktX1_judgeSets_1 : List UInt8 := dkwX1_judgeSets_1 ++ dktX1_judgeSets_2
def dkwX1_judgeSets_0 : List UInt8 := [3, 60, 27, 42, 180, 0, 83, 190, 162, 0, 16, 42, 180, 0, 83, 27, 3, 84, 132, 1, 1, 167, 255, 237]
abbrev dktX1_judgeSets_0 : List UInt8 := dkwX1_judgeSets_0 ++ dktX1_judgeSets_1
theorem dksX1_judgeSets_0 : cX1_judgeSets.data.toList.drop 0 = dktX1_judgeSets_0 := by decide +kernel
theorem dksX1_judgeSets_1 : cX1_judgeSets.data.toList.drop 24 = dktX1_judgeSets_1 := dk_seg dksX1_judgeSets_0 24 rfl rfl
theorem dksX1_judgeSets_2 : cX1_judgeSets.data.toList.drop 46 = dktX1_judgeSets_2 := dk_seg dksX1_judgeSets_1 22 rfl rfl
theorem dksX1_judgeSets_3 : cX1_judgeSets.data.toList.drop 70 = dktX1_judgeSets_3 := dk_seg dksX1_judgeSets_2 24 rfl rfl
theorem dksX1_judgeSets_4 : cX1_judgeSets.data.toList.drop 92 = dktX1_judgeSets_4 := dk_seg dksX1_judgeSets_3 22 rfl rfl
theorem dksX1_judgeSets_5 : cX1_judgeSets.data.toList.drop 114 = dktX1_judgeSets_5 := dk_seg dksX1_judgeSets_4 22 rfl rfl
theorem dksX1_judgeSets_6 : cX1_judgeSets.data.toList.drop 138 = dktX1_judgeSets_6 := dk_seg dksX1_judgeSets_5 24 rfl rfl
theorem dksX1_judgeSets_7 : cX1_judgeSets.data.toList.drop 161 = dktX1_judgeSets_7 := dk_seg dksX1_judgeSets_6 23 rfl rfl
theorem dksX1_judgeSets_8 : cX1_judgeSets.data.toList.drop 185 = dktX1_judgeSets_8 := dk_seg dksX1_judgeSets_7 24 rfl rfl
theorem dksX1_judgeSets_9 : cX1_judgeSets.data.toList.drop 208 = dktX1_judgeSets_9 := dk_seg dksX1_judgeSets_8 23 rfl rfl
theorem dksX1_judgeSets_10 : cX1_judgeSets.data.toList.drop 232 = dktX1_judgeSets_10 := dk_seg dksX1_judgeSets_9 24 rfl rfl
theorem dksX1_judgeSets_11 : cX1_judgeSets.data.toList.drop 254 = dktX1_judgeSets_11 := dk_seg dksX1_judgeSets_10 22 rfl rfl
theorem dksX1_judgeSets_12 : cX1_judgeSets.data.toList.drop 277 = dktX1_judgeSets_12 := dk_seg dksX1_judgeSets_11 23 rfl rfl
theorem dksX1_judgeSets_13 : cX1_judgeSets.data.toList.drop 301 = dktX1_judgeSets_13 := dk_seg dksX1_judgeSets_12 24 rfl rfl
theorem dksX1_judgeSets_14 : cX1_judgeSets.data.toList.drop 325 = dktX1_judgeSets_14 := dk_seg dksX1_judgeSets_13 24 rfl rfl
theorem dksX1_judgeSets_15 : cX1_judgeSets.data.toList.drop 347 = dktX1_judgeSets_15 := dk_seg dksX1_judgeSets_14 22 rfl rfl
theorem dX1_judgeSets_0 : decode cX1_judgeSets 0 = .ok (.iconst 0, 1) := dk_3 (dk_at dksX1_judgeSets_0 0 rfl rfl)
theorem dX1_judgeSets_1 : decode cX1_judgeSets 1 = .ok (.istore_n 1, 1) := dk_60 (dk_at dksX1_judgeSets_0 1 rfl rfl)
theorem dX1_judgeSets_2 : decode cX1_judgeSets 2 = .ok (.iload_n 1, 1) := dk_27 (dk_at dksX1_judgeSets_0 2 rfl rfl)
theorem dX1_judgeSets_3 : decode cX1_judgeSets 3 = .ok (.aload_n 0, 1) := dk_42 (dk_at dksX1_judgeSets_0 3 rfl rfl)
theorem dX1_judgeSets_4 : decode cX1_judgeSets 4 = .ok (.getfield 83, 3) := dk_180 0 83 (dk_at dksX1_judgeSets_0 4 rfl rfl)
theorem dX1_judgeSets_7 : decode cX1_judgeSets 7 = .ok (.arraylength, 1) := dk_190 (dk_at dksX1_judgeSets_0 7 rfl rfl)
theorem dX1_judgeSets_8 : decode cX1_judgeSets 8 = .ok (.if_icmp .ge 16, 3) := dk_162 0 16 (dk_at dksX1_judgeSets_0 8 rfl rfl)
theorem dX1_judgeSets_11 : decode cX1_judgeSets 11 = .ok (.aload_n 0, 1) := dk_42 (dk_at dksX1_judgeSets_0 11 rfl rfl)
theorem dX1_judgeSets_12 : decode cX1_judgeSets 12 = .ok (.getfield 83, 3) := dk_180 0 83 (dk_at dksX1_judgeSets_0 12 rfl rfl)
theorem dX1_judgeSets_15 : decode cX1_judgeSets 15 = .ok (.iload_n 1, 1) := dk_27 (dk_at dksX1_judgeSets_0 15 rfl rfl)
theorem dX1_judgeSets_16 : decode cX1_judgeSets 16 = .ok (.iconst 0, 1) := dk_3 (dk_at dksX1_judgeSets_0 16 rfl rfl)
theorem dX1_judgeSets_17 : decode cX1_judgeSets 17 = .ok (.bastore, 1) := dk_84 (dk_at dksX1_judgeSets_0 17 rfl rfl)
theorem dX1_judgeSets_18 : decode cX1_judgeSets 18 = .ok (.iinc 1 1, 3) := dk_132 1 1 (dk_at dksX1_judgeSets_0 18 rfl rfl)
theorem dX1_judgeSets_21 : decode cX1_judgeSets 21 = .ok (.goto (-19), 3) := dk_167 255 237 (dk_at dksX1_judgeSets_0 21 rfl rfl)
theorem dX1_judgeSets_24 : decode cX1_judgeSets 24 = .ok (.iconst 0, 1) := dk_3 (dk_at dksX1_judgeSets_1 0 rfl rfl)
theorem dX1_judgeSets_25 : decode cX1_judgeSets 25 = .ok (.istore_n 1, 1) := dk_60 (dk_at dksX1_judgeSets_1 1 rfl rfl)
theorem dX1_judgeSets_26 : decode cX1_judgeSets 26 = .ok (.iload_n 1, 1) := dk_27 (dk_at dksX1_judgeSets_1 2 rfl rfl)
theorem dX1_judgeSets_27 : decode cX1_judgeSets 27 = .ok (.aload_n 0, 1) := dk_42 (dk_at dksX1_judgeSets_1 3 rfl rfl)
theorem dX1_judgeSets_28 : decode cX1_judgeSets 28 = .ok (.getfield 227, 3) := dk_180 0 227 (dk_at dksX1_judgeSets_1 4 rfl rfl)
theorem dX1_judgeSets_31 : decode cX1_judgeSets 31 = .ok (.if_icmp .ge 57, 3) := dk_162 0 57 (dk_at dksX1_judgeSets_1 7 rfl rfl)
theorem dX1_judgeSets_34 : decode cX1_judgeSets 34 = .ok (.aload_n 0, 1) := dk_42 (dk_at dksX1_judgeSets_1 10 rfl rfl)
theorem dX1_judgeSets_35 : decode cX1_judgeSets 35 = .ok (.getfield 58, 3) := dk_180 0 58 (dk_at dksX1_judgeSets_1 11 rfl rfl)
theorem dX1_judgeSets_38 : decode cX1_judgeSets 38 = .ok (.iload_n 1, 1) := dk_27 (dk_at dksX1_judgeSets_1 14 rfl rfl)
theorem dX1_judgeSets_39 : decode cX1_judgeSets 39 = .ok (.aaload, 1) := dk_50 (dk_at dksX1_judgeSets_1 15 rfl rfl)
theorem dX1_judgeSets_40 : decode cX1_judgeSets 40 = .ok (.getfield 230, 3) := dk_180 0 230 (dk_at dksX1_judgeSets_1 16 rfl rfl)
theorem dX1_judgeSets_43 : decode cX1_judgeSets 43 = .ok (.istore_n 2, 1) := dk_61 (dk_at dksX1_judgeSets_1 19 rfl rfl)
theorem dX1_judgeSets_44 : decode cX1_judgeSets 44 = .ok (.iload_n 2, 1) := dk_28 (dk_at dksX1_judgeSets_1 20 rfl rfl)
theorem dX1_judgeSets_45 : decode cX1_judgeSets 45 = .ok (.aload_n 0, 1) := dk_42 (dk_at dksX1_judgeSets_1 21 rfl rfl)
theorem dX1_judgeSets_46 : decode cX1_judgeSets 46 = .ok (.getfield 58, 3) := dk_180 0 58 (dk_at dksX1_judgeSets_2 0 rfl rfl)
theorem dX1_judgeSets_49 : decode cX1_judgeSets 49 = .ok (.iload_n 1, 1) := dk_27 (dk_at dksX1_judgeSets_2 3 rfl rfl)
theorem dX1_judgeSets_50 : decode cX1_judgeSets 50 = .ok (.aaload, 1) := dk_50 (dk_at dksX1_judgeSets_2 4 rfl rfl)
theorem dX1_judgeSets_51 : decode cX1_judgeSets 51 = .ok (.getfield 282, 3) := dk_180 1 26 (dk_at dksX1_judgeSets_2 5 rfl rfl)
theorem dX1_judgeSets_54 : decode cX1_judgeSets 54 = .ok (.if_icmp .ge 28, 3) := dk_162 0 28 (dk_at dksX1_judgeSets_2 8 rfl rfl)
theorem dX1_judgeSets_57 : decode cX1_judgeSets 57 = .ok (.aload_n 0, 1) := dk_42 (dk_at dksX1_judgeSets_2 11 rfl rfl)
theorem dX1_judgeSets_58 : decode cX1_judgeSets 58 = .ok (.getfield 58, 3) := dk_180 0 58 (dk_at dksX1_judgeSets_2 12 rfl rfl)
theorem dX1_judgeSets_61 : decode cX1_judgeSets 61 = .ok (.iload_n 1, 1) := dk_27 (dk_at dksX1_judgeSets_2 15 rfl rfl)
theorem dX1_judgeSets_62 : decode cX1_judgeSets 62 = .ok (.aaload, 1) := dk_50 (dk_at dksX1_judgeSets_2 16 rfl rfl)
theorem dX1_judgeSets_63 : decode cX1_judgeSets 63 = .ok (.invokevirtual 337, 3) := dk_182 1 81 (dk_at dksX1_judgeSets_2 17 rfl rfl)
theorem dX1_judgeSets_66 : decode cX1_judgeSets 66 = .ok (.ifCond .eq 16, 3) := dk_153 0 16 (dk_at dksX1_judgeSets_2 20 rfl rfl)
theorem dX1_judgeSets_69 : decode cX1_judgeSets 69 = .ok (.aload_n 0, 1) := dk_42 (dk_at dksX1_judgeSets_2 23 rfl rfl)
theorem dX1_judgeSets_70 : decode cX1_judgeSets 70 = .ok (.getfield 83, 3) := dk_180 0 83 (dk_at dksX1_judgeSets_3 0 rfl rfl)
theorem dX1_judgeSets_73 : decode cX1_judgeSets 73 = .ok (.iload_n 2, 1) := dk_28 (dk_at dksX1_judgeSets_3 3 rfl rfl)
theorem dX1_judgeSets_74 : decode cX1_judgeSets 74 = .ok (.iconst 1, 1) := dk_4 (dk_at dksX1_judgeSets_3 4 rfl rfl)
theorem dX1_judgeSets_75 : decode cX1_judgeSets 75 = .ok (.bastore, 1) := dk_84 (dk_at dksX1_judgeSets_3 5 rfl rfl)
theorem dX1_judgeSets_76 : decode cX1_judgeSets 76 = .ok (.iinc 2 1, 3) := dk_132 2 1 (dk_at dksX1_judgeSets_3 6 rfl rfl)
theorem dX1_judgeSets_79 : decode cX1_judgeSets 79 = .ok (.goto (-35), 3) := dk_167 255 221 (dk_at dksX1_judgeSets_3 9 rfl rfl)
theorem dX1_judgeSets_82 : decode cX1_judgeSets 82 = .ok (.iinc 1 1, 3) := dk_132 1 1 (dk_at dksX1_judgeSets_3 12 rfl rfl)
theorem dX1_judgeSets_85 : decode cX1_judgeSets 85 = .ok (.goto (-59), 3) := dk_167 255 197 (dk_at dksX1_judgeSets_3 15 rfl rfl)
theorem dX1_judgeSets_88 : decode cX1_judgeSets 88 = .ok (.iconst 0, 1) := dk_3 (dk_at dksX1_judgeSets_3 18 rfl rfl)
theorem dX1_judgeSets_89 : decode cX1_judgeSets 89 = .ok (.istore_n 1, 1) := dk_60 (dk_at dksX1_judgeSets_3 19 rfl rfl)
theorem dX1_judgeSets_90 : decode cX1_judgeSets 90 = .ok (.iload_n 1, 1) := dk_27 (dk_at dksX1_judgeSets_3 20 rfl rfl)
theorem dX1_judgeSets_91 : decode cX1_judgeSets 91 = .ok (.aload_n 0, 1) := dk_42 (dk_at dksX1_judgeSets_3 21 rfl rfl)
theorem dX1_judgeSets_92 : decode cX1_judgeSets 92 = .ok (.getfield 76, 3) := dk_180 0 76 (dk_at dksX1_judgeSets_4 0 rfl rfl)
theorem dX1_judgeSets_95 : decode cX1_judgeSets 95 = .ok (.arraylength, 1) := dk_190 (dk_at dksX1_judgeSets_4 3 rfl rfl)
theorem dX1_judgeSets_96 : decode cX1_judgeSets 96 = .ok (.if_icmp .ge 24, 3) := dk_162 0 24 (dk_at dksX1_judgeSets_4 4 rfl rfl)
theorem dX1_judgeSets_99 : decode cX1_judgeSets 99 = .ok (.aload_n 0, 1) := dk_42 (dk_at dksX1_judgeSets_4 7 rfl rfl)
theorem dX1_judgeSets_100 : decode cX1_judgeSets 100 = .ok (.getfield 76, 3) := dk_180 0 76 (dk_at dksX1_judgeSets_4 8 rfl rfl)
theorem dX1_judgeSets_103 : decode cX1_judgeSets 103 = .ok (.iload_n 1, 1) := dk_27 (dk_at dksX1_judgeSets_4 11 rfl rfl)
theorem dX1_judgeSets_104 : decode cX1_judgeSets 104 = .ok (.iload_n 1, 1) := dk_27 (dk_at dksX1_judgeSets_4 12 rfl rfl)
theorem dX1_judgeSets_105 : decode cX1_judgeSets 105 = .ok (.ifCond .ne 7, 3) := dk_154 0 7 (dk_at dksX1_judgeSets_4 13 rfl rfl)
theorem dX1_judgeSets_108 : decode cX1_judgeSets 108 = .ok (.iconst 1, 1) := dk_4 (dk_at dksX1_judgeSets_4 16 rfl rfl)
theorem dX1_judgeSets_109 : decode cX1_judgeSets 109 = .ok (.goto 4, 3) := dk_167 0 4 (dk_at dksX1_judgeSets_4 17 rfl rfl)
theorem dX1_judgeSets_112 : decode cX1_judgeSets 112 = .ok (.iconst 0, 1) := dk_3 (dk_at dksX1_judgeSets_4 20 rfl rfl)
theorem dX1_judgeSets_113 : decode cX1_judgeSets 113 = .ok (.bastore, 1) := dk_84 (dk_at dksX1_judgeSets_4 21 rfl rfl)
theorem dX1_judgeSets_114 : decode cX1_judgeSets 114 = .ok (.iinc 1 1, 3) := dk_132 1 1 (dk_at dksX1_judgeSets_5 0 rfl rfl)
theorem dX1_judgeSets_117 : decode cX1_judgeSets 117 = .ok (.goto (-27), 3) := dk_167 255 229 (dk_at dksX1_judgeSets_5 3 rfl rfl)
theorem dX1_judgeSets_120 : decode cX1_judgeSets 120 = .ok (.iconst 0, 1) := dk_3 (dk_at dksX1_judgeSets_5 6 rfl rfl)
theorem dX1_judgeSets_121 : decode cX1_judgeSets 121 = .ok (.istore_n 1, 1) := dk_60 (dk_at dksX1_judgeSets_5 7 rfl rfl)
theorem dX1_judgeSets_122 : decode cX1_judgeSets 122 = .ok (.iconst 1, 1) := dk_4 (dk_at dksX1_judgeSets_5 8 rfl rfl)
theorem dX1_judgeSets_123 : decode cX1_judgeSets 123 = .ok (.istore_n 2, 1) := dk_61 (dk_at dksX1_judgeSets_5 9 rfl rfl)
theorem dX1_judgeSets_124 : decode cX1_judgeSets 124 = .ok (.iconst 0, 1) := dk_3 (dk_at dksX1_judgeSets_5 10 rfl rfl)
theorem dX1_judgeSets_125 : decode cX1_judgeSets 125 = .ok (.istore_n 3, 1) := dk_62 (dk_at dksX1_judgeSets_5 11 rfl rfl)
theorem dX1_judgeSets_126 : decode cX1_judgeSets 126 = .ok (.iload_n 3, 1) := dk_29 (dk_at dksX1_judgeSets_5 12 rfl rfl)
theorem dX1_judgeSets_127 : decode cX1_judgeSets 127 = .ok (.aload_n 0, 1) := dk_42 (dk_at dksX1_judgeSets_5 13 rfl rfl)
theorem dX1_judgeSets_128 : decode cX1_judgeSets 128 = .ok (.getfield 227, 3) := dk_180 0 227 (dk_at dksX1_judgeSets_5 14 rfl rfl)
theorem dX1_judgeSets_131 : decode cX1_judgeSets 131 = .ok (.if_icmp .ge 239, 3) := dk_162 0 239 (dk_at dksX1_judgeSets_5 17 rfl rfl)
theorem dX1_judgeSets_134 : decode cX1_judgeSets 134 = .ok (.aload_n 0, 1) := dk_42 (dk_at dksX1_judgeSets_5 20 rfl rfl)
theorem dX1_judgeSets_135 : decode cX1_judgeSets 135 = .ok (.getfield 58, 3) := dk_180 0 58 (dk_at dksX1_judgeSets_5 21 rfl rfl)
theorem dX1_judgeSets_138 : decode cX1_judgeSets 138 = .ok (.iload_n 3, 1) := dk_29 (dk_at dksX1_judgeSets_6 0 rfl rfl)
theorem dX1_judgeSets_139 : decode cX1_judgeSets 139 = .ok (.aaload, 1) := dk_50 (dk_at dksX1_judgeSets_6 1 rfl rfl)
theorem dX1_judgeSets_140 : decode cX1_judgeSets 140 = .ok (.astore 4, 2) := dk_58 4 (dk_at dksX1_judgeSets_6 2 rfl rfl)
theorem dX1_judgeSets_142 : decode cX1_judgeSets 142 = .ok (.aload_n 0, 1) := dk_42 (dk_at dksX1_judgeSets_6 4 rfl rfl)
theorem dX1_judgeSets_143 : decode cX1_judgeSets 143 = .ok (.getfield 73, 3) := dk_180 0 73 (dk_at dksX1_judgeSets_6 5 rfl rfl)
theorem dX1_judgeSets_146 : decode cX1_judgeSets 146 = .ok (.aload 4, 2) := dk_25 4 (dk_at dksX1_judgeSets_6 8 rfl rfl)
theorem dX1_judgeSets_148 : decode cX1_judgeSets 148 = .ok (.getfield 233, 3) := dk_180 0 233 (dk_at dksX1_judgeSets_6 10 rfl rfl)
theorem dX1_judgeSets_151 : decode cX1_judgeSets 151 = .ok (.aaload, 1) := dk_50 (dk_at dksX1_judgeSets_6 13 rfl rfl)
theorem dX1_judgeSets_152 : decode cX1_judgeSets 152 = .ok (.bipush 8, 2) := dk_16 8 (dk_at dksX1_judgeSets_6 14 rfl rfl)
theorem dX1_judgeSets_154 : decode cX1_judgeSets 154 = .ok (.iconst 0, 1) := dk_3 (dk_at dksX1_judgeSets_6 16 rfl rfl)
theorem dX1_judgeSets_155 : decode cX1_judgeSets 155 = .ok (.iastore, 1) := dk_79 (dk_at dksX1_judgeSets_6 17 rfl rfl)
theorem dX1_judgeSets_156 : decode cX1_judgeSets 156 = .ok (.aload 4, 2) := dk_25 4 (dk_at dksX1_judgeSets_6 18 rfl rfl)
theorem dX1_judgeSets_158 : decode cX1_judgeSets 158 = .ok (.invokevirtual 317, 3) := dk_182 1 61 (dk_at dksX1_judgeSets_6 20 rfl rfl)
theorem dX1_judgeSets_161 : decode cX1_judgeSets 161 = .ok (.ifCond .ne 6, 3) := dk_154 0 6 (dk_at dksX1_judgeSets_7 0 rfl rfl)
theorem dX1_judgeSets_164 : decode cX1_judgeSets 164 = .ok (.goto 200, 3) := dk_167 0 200 (dk_at dksX1_judgeSets_7 3 rfl rfl)
theorem dX1_judgeSets_167 : decode cX1_judgeSets 167 = .ok (.iload_n 1, 1) := dk_27 (dk_at dksX1_judgeSets_7 6 rfl rfl)
theorem dX1_judgeSets_168 : decode cX1_judgeSets 168 = .ok (.aload 4, 2) := dk_25 4 (dk_at dksX1_judgeSets_7 7 rfl rfl)
theorem dX1_judgeSets_170 : decode cX1_judgeSets 170 = .ok (.getfield 230, 3) := dk_180 0 230 (dk_at dksX1_judgeSets_7 9 rfl rfl)
theorem dX1_judgeSets_173 : decode cX1_judgeSets 173 = .ok (.if_icmp .ge 38, 3) := dk_162 0 38 (dk_at dksX1_judgeSets_7 12 rfl rfl)
theorem dX1_judgeSets_176 : decode cX1_judgeSets 176 = .ok (.iload_n 2, 1) := dk_28 (dk_at dksX1_judgeSets_7 15 rfl rfl)
theorem dX1_judgeSets_177 : decode cX1_judgeSets 177 = .ok (.ifCond .eq 28, 3) := dk_153 0 28 (dk_at dksX1_judgeSets_7 16 rfl rfl)
theorem dX1_judgeSets_180 : decode cX1_judgeSets 180 = .ok (.aload_n 0, 1) := dk_42 (dk_at dksX1_judgeSets_7 19 rfl rfl)
theorem dX1_judgeSets_181 : decode cX1_judgeSets 181 = .ok (.getfield 83, 3) := dk_180 0 83 (dk_at dksX1_judgeSets_7 20 rfl rfl)
theorem dX1_judgeSets_184 : decode cX1_judgeSets 184 = .ok (.iload_n 1, 1) := dk_27 (dk_at dksX1_judgeSets_7 23 rfl rfl)
theorem dX1_judgeSets_185 : decode cX1_judgeSets 185 = .ok (.baload, 1) := dk_51 (dk_at dksX1_judgeSets_8 0 rfl rfl)
theorem dX1_judgeSets_186 : decode cX1_judgeSets 186 = .ok (.ifCond .ne 19, 3) := dk_154 0 19 (dk_at dksX1_judgeSets_8 1 rfl rfl)
theorem dX1_judgeSets_189 : decode cX1_judgeSets 189 = .ok (.aload_n 0, 1) := dk_42 (dk_at dksX1_judgeSets_8 4 rfl rfl)
theorem dX1_judgeSets_190 : decode cX1_judgeSets 190 = .ok (.getfield 52, 3) := dk_180 0 52 (dk_at dksX1_judgeSets_8 5 rfl rfl)
theorem dX1_judgeSets_193 : decode cX1_judgeSets 193 = .ok (.aload_n 0, 1) := dk_42 (dk_at dksX1_judgeSets_8 8 rfl rfl)
theorem dX1_judgeSets_194 : decode cX1_judgeSets 194 = .ok (.getfield 76, 3) := dk_180 0 76 (dk_at dksX1_judgeSets_8 9 rfl rfl)
theorem dX1_judgeSets_197 : decode cX1_judgeSets 197 = .ok (.aload_n 0, 1) := dk_42 (dk_at dksX1_judgeSets_8 12 rfl rfl)
theorem dX1_judgeSets_198 : decode cX1_judgeSets 198 = .ok (.getfield 80, 3) := dk_180 0 80 (dk_at dksX1_judgeSets_8 13 rfl rfl)
theorem dX1_judgeSets_201 : decode cX1_judgeSets 201 = .ok (.invokevirtual 397, 3) := dk_182 1 141 (dk_at dksX1_judgeSets_8 16 rfl rfl)
theorem dX1_judgeSets_204 : decode cX1_judgeSets 204 = .ok (.istore_n 2, 1) := dk_61 (dk_at dksX1_judgeSets_8 19 rfl rfl)
theorem dX1_judgeSets_205 : decode cX1_judgeSets 205 = .ok (.iinc 1 1, 3) := dk_132 1 1 (dk_at dksX1_judgeSets_8 20 rfl rfl)
theorem dX1_judgeSets_208 : decode cX1_judgeSets 208 = .ok (.goto (-41), 3) := dk_167 255 215 (dk_at dksX1_judgeSets_9 0 rfl rfl)
theorem dX1_judgeSets_211 : decode cX1_judgeSets 211 = .ok (.iconst 0, 1) := dk_3 (dk_at dksX1_judgeSets_9 3 rfl rfl)
theorem dX1_judgeSets_212 : decode cX1_judgeSets 212 = .ok (.istore 5, 2) := dk_54 5 (dk_at dksX1_judgeSets_9 4 rfl rfl)
theorem dX1_judgeSets_214 : decode cX1_judgeSets 214 = .ok (.iconst 0, 1) := dk_3 (dk_at dksX1_judgeSets_9 6 rfl rfl)
theorem dX1_judgeSets_215 : decode cX1_judgeSets 215 = .ok (.istore 6, 2) := dk_54 6 (dk_at dksX1_judgeSets_9 7 rfl rfl)
theorem dX1_judgeSets_217 : decode cX1_judgeSets 217 = .ok (.iload 6, 2) := dk_21 6 (dk_at dksX1_judgeSets_9 9 rfl rfl)
theorem dX1_judgeSets_219 : decode cX1_judgeSets 219 = .ok (.aload_n 0, 1) := dk_42 (dk_at dksX1_judgeSets_9 11 rfl rfl)
theorem dX1_judgeSets_220 : decode cX1_judgeSets 220 = .ok (.getfield 76, 3) := dk_180 0 76 (dk_at dksX1_judgeSets_9 12 rfl rfl)
theorem dX1_judgeSets_223 : decode cX1_judgeSets 223 = .ok (.arraylength, 1) := dk_190 (dk_at dksX1_judgeSets_9 15 rfl rfl)
theorem dX1_judgeSets_224 : decode cX1_judgeSets 224 = .ok (.if_icmp .ge 52, 3) := dk_162 0 52 (dk_at dksX1_judgeSets_9 16 rfl rfl)
theorem dX1_judgeSets_227 : decode cX1_judgeSets 227 = .ok (.iload 5, 2) := dk_21 5 (dk_at dksX1_judgeSets_9 19 rfl rfl)
theorem dX1_judgeSets_229 : decode cX1_judgeSets 229 = .ok (.ifCond .ne 34, 3) := dk_154 0 34 (dk_at dksX1_judgeSets_9 21 rfl rfl)
theorem dX1_judgeSets_232 : decode cX1_judgeSets 232 = .ok (.aload_n 0, 1) := dk_42 (dk_at dksX1_judgeSets_10 0 rfl rfl)
theorem dX1_judgeSets_233 : decode cX1_judgeSets 233 = .ok (.getfield 76, 3) := dk_180 0 76 (dk_at dksX1_judgeSets_10 1 rfl rfl)
theorem dX1_judgeSets_236 : decode cX1_judgeSets 236 = .ok (.iload 6, 2) := dk_21 6 (dk_at dksX1_judgeSets_10 4 rfl rfl)
theorem dX1_judgeSets_238 : decode cX1_judgeSets 238 = .ok (.baload, 1) := dk_51 (dk_at dksX1_judgeSets_10 6 rfl rfl)
theorem dX1_judgeSets_239 : decode cX1_judgeSets 239 = .ok (.ifCond .eq 28, 3) := dk_153 0 28 (dk_at dksX1_judgeSets_10 7 rfl rfl)
theorem dX1_judgeSets_242 : decode cX1_judgeSets 242 = .ok (.aload_n 0, 1) := dk_42 (dk_at dksX1_judgeSets_10 10 rfl rfl)
theorem dX1_judgeSets_243 : decode cX1_judgeSets 243 = .ok (.getfield 52, 3) := dk_180 0 52 (dk_at dksX1_judgeSets_10 11 rfl rfl)
theorem dX1_judgeSets_246 : decode cX1_judgeSets 246 = .ok (.getfield 401, 3) := dk_180 1 145 (dk_at dksX1_judgeSets_10 14 rfl rfl)
theorem dX1_judgeSets_249 : decode cX1_judgeSets 249 = .ok (.iload 6, 2) := dk_21 6 (dk_at dksX1_judgeSets_10 17 rfl rfl)
theorem dX1_judgeSets_251 : decode cX1_judgeSets 251 = .ok (.iaload, 1) := dk_46 (dk_at dksX1_judgeSets_10 19 rfl rfl)
theorem dX1_judgeSets_252 : decode cX1_judgeSets 252 = .ok (.aload 4, 2) := dk_25 4 (dk_at dksX1_judgeSets_10 20 rfl rfl)
theorem dX1_judgeSets_254 : decode cX1_judgeSets 254 = .ok (.getfield 258, 3) := dk_180 1 2 (dk_at dksX1_judgeSets_11 0 rfl rfl)
theorem dX1_judgeSets_257 : decode cX1_judgeSets 257 = .ok (.getfield 404, 3) := dk_180 1 148 (dk_at dksX1_judgeSets_11 3 rfl rfl)
theorem dX1_judgeSets_260 : decode cX1_judgeSets 260 = .ok (.if_icmp .ne 7, 3) := dk_160 0 7 (dk_at dksX1_judgeSets_11 6 rfl rfl)
theorem dX1_judgeSets_263 : decode cX1_judgeSets 263 = .ok (.iconst 1, 1) := dk_4 (dk_at dksX1_judgeSets_11 9 rfl rfl)
theorem dX1_judgeSets_264 : decode cX1_judgeSets 264 = .ok (.goto 4, 3) := dk_167 0 4 (dk_at dksX1_judgeSets_11 10 rfl rfl)
theorem dX1_judgeSets_267 : decode cX1_judgeSets 267 = .ok (.iconst 0, 1) := dk_3 (dk_at dksX1_judgeSets_11 13 rfl rfl)
theorem dX1_judgeSets_268 : decode cX1_judgeSets 268 = .ok (.istore 5, 2) := dk_54 5 (dk_at dksX1_judgeSets_11 14 rfl rfl)
theorem dX1_judgeSets_270 : decode cX1_judgeSets 270 = .ok (.iinc 6 1, 3) := dk_132 6 1 (dk_at dksX1_judgeSets_11 16 rfl rfl)
theorem dX1_judgeSets_273 : decode cX1_judgeSets 273 = .ok (.goto (-56), 3) := dk_167 255 200 (dk_at dksX1_judgeSets_11 19 rfl rfl)
theorem dX1_judgeSets_276 : decode cX1_judgeSets 276 = .ok (.aload_n 0, 1) := dk_42 (dk_at dksX1_judgeSets_11 22 rfl rfl)
theorem dX1_judgeSets_277 : decode cX1_judgeSets 277 = .ok (.aload 4, 2) := dk_25 4 (dk_at dksX1_judgeSets_12 0 rfl rfl)
theorem dX1_judgeSets_279 : decode cX1_judgeSets 279 = .ok (.bipush 8, 2) := dk_16 8 (dk_at dksX1_judgeSets_12 2 rfl rfl)
theorem dX1_judgeSets_281 : decode cX1_judgeSets 281 = .ok (.iconst 2, 1) := dk_5 (dk_at dksX1_judgeSets_12 4 rfl rfl)
theorem dX1_judgeSets_282 : decode cX1_judgeSets 282 = .ok (.iload 5, 2) := dk_21 5 (dk_at dksX1_judgeSets_12 5 rfl rfl)
theorem dX1_judgeSets_284 : decode cX1_judgeSets 284 = .ok (.ifCond .ne 7, 3) := dk_154 0 7 (dk_at dksX1_judgeSets_12 7 rfl rfl)
theorem dX1_judgeSets_287 : decode cX1_judgeSets 287 = .ok (.iconst 1, 1) := dk_4 (dk_at dksX1_judgeSets_12 10 rfl rfl)
theorem dX1_judgeSets_288 : decode cX1_judgeSets 288 = .ok (.goto 4, 3) := dk_167 0 4 (dk_at dksX1_judgeSets_12 11 rfl rfl)
theorem dX1_judgeSets_291 : decode cX1_judgeSets 291 = .ok (.iconst 0, 1) := dk_3 (dk_at dksX1_judgeSets_12 14 rfl rfl)
theorem dX1_judgeSets_292 : decode cX1_judgeSets 292 = .ok (.invokevirtual 309, 3) := dk_182 1 53 (dk_at dksX1_judgeSets_12 15 rfl rfl)
theorem dX1_judgeSets_295 : decode cX1_judgeSets 295 = .ok (.iconst 0, 1) := dk_3 (dk_at dksX1_judgeSets_12 18 rfl rfl)
theorem dX1_judgeSets_296 : decode cX1_judgeSets 296 = .ok (.istore 6, 2) := dk_54 6 (dk_at dksX1_judgeSets_12 19 rfl rfl)
theorem dX1_judgeSets_298 : decode cX1_judgeSets 298 = .ok (.iload 6, 2) := dk_21 6 (dk_at dksX1_judgeSets_12 21 rfl rfl)
theorem dX1_judgeSets_300 : decode cX1_judgeSets 300 = .ok (.aload_n 0, 1) := dk_42 (dk_at dksX1_judgeSets_12 23 rfl rfl)
theorem dX1_judgeSets_301 : decode cX1_judgeSets 301 = .ok (.getfield 76, 3) := dk_180 0 76 (dk_at dksX1_judgeSets_13 0 rfl rfl)
theorem dX1_judgeSets_304 : decode cX1_judgeSets 304 = .ok (.arraylength, 1) := dk_190 (dk_at dksX1_judgeSets_13 3 rfl rfl)
theorem dX1_judgeSets_305 : decode cX1_judgeSets 305 = .ok (.if_icmp .ge 57, 3) := dk_162 0 57 (dk_at dksX1_judgeSets_13 4 rfl rfl)
theorem dX1_judgeSets_308 : decode cX1_judgeSets 308 = .ok (.iload 5, 2) := dk_21 5 (dk_at dksX1_judgeSets_13 7 rfl rfl)
theorem dX1_judgeSets_310 : decode cX1_judgeSets 310 = .ok (.ifCond .eq 52, 3) := dk_153 0 52 (dk_at dksX1_judgeSets_13 9 rfl rfl)
theorem dX1_judgeSets_313 : decode cX1_judgeSets 313 = .ok (.aload_n 0, 1) := dk_42 (dk_at dksX1_judgeSets_13 12 rfl rfl)
theorem dX1_judgeSets_314 : decode cX1_judgeSets 314 = .ok (.getfield 76, 3) := dk_180 0 76 (dk_at dksX1_judgeSets_13 13 rfl rfl)
theorem dX1_judgeSets_317 : decode cX1_judgeSets 317 = .ok (.iload 6, 2) := dk_21 6 (dk_at dksX1_judgeSets_13 16 rfl rfl)
theorem dX1_judgeSets_319 : decode cX1_judgeSets 319 = .ok (.aload_n 0, 1) := dk_42 (dk_at dksX1_judgeSets_13 18 rfl rfl)
theorem dX1_judgeSets_320 : decode cX1_judgeSets 320 = .ok (.getfield 76, 3) := dk_180 0 76 (dk_at dksX1_judgeSets_13 19 rfl rfl)
theorem dX1_judgeSets_323 : decode cX1_judgeSets 323 = .ok (.iload 6, 2) := dk_21 6 (dk_at dksX1_judgeSets_13 22 rfl rfl)
theorem dX1_judgeSets_325 : decode cX1_judgeSets 325 = .ok (.baload, 1) := dk_51 (dk_at dksX1_judgeSets_14 0 rfl rfl)
theorem dX1_judgeSets_326 : decode cX1_judgeSets 326 = .ok (.ifCond .eq 28, 3) := dk_153 0 28 (dk_at dksX1_judgeSets_14 1 rfl rfl)
theorem dX1_judgeSets_329 : decode cX1_judgeSets 329 = .ok (.aload_n 0, 1) := dk_42 (dk_at dksX1_judgeSets_14 4 rfl rfl)
theorem dX1_judgeSets_330 : decode cX1_judgeSets 330 = .ok (.getfield 52, 3) := dk_180 0 52 (dk_at dksX1_judgeSets_14 5 rfl rfl)
theorem dX1_judgeSets_333 : decode cX1_judgeSets 333 = .ok (.getfield 401, 3) := dk_180 1 145 (dk_at dksX1_judgeSets_14 8 rfl rfl)
theorem dX1_judgeSets_336 : decode cX1_judgeSets 336 = .ok (.iload 6, 2) := dk_21 6 (dk_at dksX1_judgeSets_14 11 rfl rfl)
theorem dX1_judgeSets_338 : decode cX1_judgeSets 338 = .ok (.iaload, 1) := dk_46 (dk_at dksX1_judgeSets_14 13 rfl rfl)
theorem dX1_judgeSets_339 : decode cX1_judgeSets 339 = .ok (.aload 4, 2) := dk_25 4 (dk_at dksX1_judgeSets_14 14 rfl rfl)
theorem dX1_judgeSets_341 : decode cX1_judgeSets 341 = .ok (.getfield 258, 3) := dk_180 1 2 (dk_at dksX1_judgeSets_14 16 rfl rfl)
theorem dX1_judgeSets_344 : decode cX1_judgeSets 344 = .ok (.getfield 404, 3) := dk_180 1 148 (dk_at dksX1_judgeSets_14 19 rfl rfl)
theorem dX1_judgeSets_347 : decode cX1_judgeSets 347 = .ok (.if_icmp .ne 7, 3) := dk_160 0 7 (dk_at dksX1_judgeSets_15 0 rfl rfl)
theorem dX1_judgeSets_350 : decode cX1_judgeSets 350 = .ok (.iconst 1, 1) := dk_4 (dk_at dksX1_judgeSets_15 3 rfl rfl)
theorem dX1_judgeSets_351 : decode cX1_judgeSets 351 = .ok (.goto 4, 3) := dk_167 0 4 (dk_at dksX1_judgeSets_15 4 rfl rfl)
theorem dX1_judgeSets_354 : decode cX1_judgeSets 354 = .ok (.iconst 0, 1) := dk_3 (dk_at dksX1_judgeSets_15 7 rfl rfl)
theorem dX1_judgeSets_355 : decode cX1_judgeSets 355 = .ok (.bastore, 1) := dk_84 (dk_at dksX1_judgeSets_15 8 rfl rfl)
theorem dX1_judgeSets_356 : decode cX1_judgeSets 356 = .ok (.iinc 6 1, 3) := dk_132 6 1 (dk_at dksX1_judgeSets_15 9 rfl rfl)
theorem dX1_judgeSets_359 : decode cX1_judgeSets 359 = .ok (.goto (-61), 3) := dk_167 255 195 (dk_at dksX1_judgeSets_15 12 rfl rfl)
theorem dX1_judgeSets_362 : decode cX1_judgeSets 362 = .ok (.iconst 1, 1) := dk_4 (dk_at dksX1_judgeSets_15 15 rfl rfl)
theorem dX1_judgeSets_363 : decode cX1_judgeSets 363 = .ok (.istore_n 2, 1) := dk_61 (dk_at dksX1_judgeSets_15 16 rfl rfl)
theorem dX1_judgeSets_364 : decode cX1_judgeSets 364 = .ok (.iinc 3 1, 3) := dk_132 3 1 (dk_at dksX1_judgeSets_15 17 rfl rfl)
theorem dX1_judgeSets_367 : decode cX1_judgeSets 367 = .ok (.goto (-241), 3) := dk_167 255 15 (dk_at dksX1_judgeSets_15 20 rfl rfl)
theorem dX1_judgeSets_370 : decode cX1_judgeSets 370 = .ok (.return_, 1) := dk_177 (dk_at dksX1_judgeSets_15 23 rfl rfl)
abbrev cX1_blame : ByteArray := prog_1_method_33_code
def yX1_blame : MethodName := ⟨RX1, "blame", "(LOperaHouse$Call;IIZ)V"⟩
def dkwX1_blame_0 : List UInt8 := [21, 4, 153, 0, 20, 42, 180, 0, 73, 43, 180, 0, 233, 50, 28, 92, 46, 4, 29, 120, 128, 79, 177]
abbrev dktX1_blame_0 : List UInt8 := dkwX1_blame_0 ++ []
theorem dksX1_blame_0 : cX1_blame.data.toList.drop 0 = dktX1_blame_0 := by decide +kernel
theorem dX1_blame_0 : decode cX1_blame 0 = .ok (.iload 4, 2) := dk_21 4 (dk_at dksX1_blame_0 0 rfl rfl)
theorem dX1_blame_2 : decode cX1_blame 2 = .ok (.ifCond .eq 20, 3) := dk_153 0 20 (dk_at dksX1_blame_0 2 rfl rfl)
theorem dX1_blame_5 : decode cX1_blame 5 = .ok (.aload_n 0, 1) := dk_42 (dk_at dksX1_blame_0 5 rfl rfl)
theorem dX1_blame_6 : decode cX1_blame 6 = .ok (.getfield 73, 3) := dk_180 0 73 (dk_at dksX1_blame_0 6 rfl rfl)
theorem dX1_blame_9 : decode cX1_blame 9 = .ok (.aload_n 1, 1) := dk_43 (dk_at dksX1_blame_0 9 rfl rfl)
theorem dX1_blame_10 : decode cX1_blame 10 = .ok (.getfield 233, 3) := dk_180 0 233 (dk_at dksX1_blame_0 10 rfl rfl)
theorem dX1_blame_13 : decode cX1_blame 13 = .ok (.aaload, 1) := dk_50 (dk_at dksX1_blame_0 13 rfl rfl)
theorem dX1_blame_14 : decode cX1_blame 14 = .ok (.iload_n 2, 1) := dk_28 (dk_at dksX1_blame_0 14 rfl rfl)
theorem dX1_blame_15 : decode cX1_blame 15 = .ok (.dup2, 1) := dk_92 (dk_at dksX1_blame_0 15 rfl rfl)
theorem dX1_blame_16 : decode cX1_blame 16 = .ok (.iaload, 1) := dk_46 (dk_at dksX1_blame_0 16 rfl rfl)
theorem dX1_blame_17 : decode cX1_blame 17 = .ok (.iconst 1, 1) := dk_4 (dk_at dksX1_blame_0 17 rfl rfl)
theorem dX1_blame_18 : decode cX1_blame 18 = .ok (.iload_n 3, 1) := dk_29 (dk_at dksX1_blame_0 18 rfl rfl)
theorem dX1_blame_19 : decode cX1_blame 19 = .ok (.ishl, 1) := dk_120 (dk_at dksX1_blame_0 19 rfl rfl)
theorem dX1_blame_20 : decode cX1_blame 20 = .ok (.ior, 1) := dk_128 (dk_at dksX1_blame_0 20 rfl rfl)
theorem dX1_blame_21 : decode cX1_blame 21 = .ok (.iastore, 1) := dk_79 (dk_at dksX1_blame_0 21 rfl rfl)
theorem dX1_blame_22 : decode cX1_blame 22 = .ok (.return_, 1) := dk_177 (dk_at dksX1_blame_0 22 rfl rfl)
abbrev cX1_isTaken : ByteArray := prog_1_method_35_code
def yX1_isTaken : MethodName := ⟨RX1, "isTaken", "(I)Z"⟩
def dkwX1_isTaken_4 : List UInt8 := [164, 0, 7, 4, 167, 0, 4, 3, 172]
abbrev dktX1_isTaken_4 : List UInt8 := dkwX1_isTaken_4 ++ []
def dkwX1_isTaken_3 : List UInt8 := [160, 0, 11, 44, 180, 1, 25, 4, 159, 0, 5, 4, 172, 132, 3, 1, 132, 4, 1, 167, 255, 180, 29, 4]
abbrev dktX1_isTaken_3 : List UInt8 := dkwX1_isTaken_3 ++ dktX1_isTaken_4
def dkwX1_isTaken_2 : List UInt8 := [180, 0, 230, 182, 1, 84, 154, 0, 6, 167, 0, 30, 42, 180, 0, 58, 21, 4, 50, 180, 1, 25, 4]
abbrev dktX1_isTaken_2 : List UInt8 := dkwX1_isTaken_2 ++ dktX1_isTaken_3
def dkwX1_isTaken_1 : List UInt8 := [50, 182, 1, 81, 153, 0, 57, 44, 182, 1, 81, 153, 0, 50, 42, 180, 0, 58, 21, 4, 50, 44]
abbrev dktX1_isTaken_1 : List UInt8 := dkwX1_isTaken_1 ++ dktX1_isTaken_2
def dkwX1_isTaken_0 : List UInt8 := [42, 180, 0, 58, 27, 50, 77, 3, 62, 3, 54, 4, 21, 4, 27, 162, 0, 76, 42, 180, 0, 58, 21, 4]
abbrev dktX1_isTaken_0 : List UInt8 := dkwX1_isTaken_0 ++ dktX1_isTaken_1
theorem dksX1_isTaken_0 : cX1_isTaken.data.toList.drop 0 = dktX1_isTaken_0 := by decide +kernel
theorem dksX1_isTaken_1 : cX1_isTaken.data.toList.drop 24 = dktX1_isTaken_1 := dk_seg dksX1_isTaken_0 24 rfl rfl
theorem dksX1_isTaken_2 : cX1_isTaken.data.toList.drop 46 = dktX1_isTaken_2 := dk_seg dksX1_isTaken_1 22 rfl rfl
theorem dksX1_isTaken_3 : cX1_isTaken.data.toList.drop 69 = dktX1_isTaken_3 := dk_seg dksX1_isTaken_2 23 rfl rfl
theorem dksX1_isTaken_4 : cX1_isTaken.data.toList.drop 93 = dktX1_isTaken_4 := dk_seg dksX1_isTaken_3 24 rfl rfl
theorem dX1_isTaken_0 : decode cX1_isTaken 0 = .ok (.aload_n 0, 1) := dk_42 (dk_at dksX1_isTaken_0 0 rfl rfl)
theorem dX1_isTaken_1 : decode cX1_isTaken 1 = .ok (.getfield 58, 3) := dk_180 0 58 (dk_at dksX1_isTaken_0 1 rfl rfl)
theorem dX1_isTaken_4 : decode cX1_isTaken 4 = .ok (.iload_n 1, 1) := dk_27 (dk_at dksX1_isTaken_0 4 rfl rfl)
theorem dX1_isTaken_5 : decode cX1_isTaken 5 = .ok (.aaload, 1) := dk_50 (dk_at dksX1_isTaken_0 5 rfl rfl)
theorem dX1_isTaken_6 : decode cX1_isTaken 6 = .ok (.astore_n 2, 1) := dk_77 (dk_at dksX1_isTaken_0 6 rfl rfl)
theorem dX1_isTaken_7 : decode cX1_isTaken 7 = .ok (.iconst 0, 1) := dk_3 (dk_at dksX1_isTaken_0 7 rfl rfl)
theorem dX1_isTaken_8 : decode cX1_isTaken 8 = .ok (.istore_n 3, 1) := dk_62 (dk_at dksX1_isTaken_0 8 rfl rfl)
theorem dX1_isTaken_9 : decode cX1_isTaken 9 = .ok (.iconst 0, 1) := dk_3 (dk_at dksX1_isTaken_0 9 rfl rfl)
theorem dX1_isTaken_10 : decode cX1_isTaken 10 = .ok (.istore 4, 2) := dk_54 4 (dk_at dksX1_isTaken_0 10 rfl rfl)
theorem dX1_isTaken_12 : decode cX1_isTaken 12 = .ok (.iload 4, 2) := dk_21 4 (dk_at dksX1_isTaken_0 12 rfl rfl)
theorem dX1_isTaken_14 : decode cX1_isTaken 14 = .ok (.iload_n 1, 1) := dk_27 (dk_at dksX1_isTaken_0 14 rfl rfl)
theorem dX1_isTaken_15 : decode cX1_isTaken 15 = .ok (.if_icmp .ge 76, 3) := dk_162 0 76 (dk_at dksX1_isTaken_0 15 rfl rfl)
theorem dX1_isTaken_18 : decode cX1_isTaken 18 = .ok (.aload_n 0, 1) := dk_42 (dk_at dksX1_isTaken_0 18 rfl rfl)
theorem dX1_isTaken_19 : decode cX1_isTaken 19 = .ok (.getfield 58, 3) := dk_180 0 58 (dk_at dksX1_isTaken_0 19 rfl rfl)
theorem dX1_isTaken_22 : decode cX1_isTaken 22 = .ok (.iload 4, 2) := dk_21 4 (dk_at dksX1_isTaken_0 22 rfl rfl)
theorem dX1_isTaken_24 : decode cX1_isTaken 24 = .ok (.aaload, 1) := dk_50 (dk_at dksX1_isTaken_1 0 rfl rfl)
theorem dX1_isTaken_25 : decode cX1_isTaken 25 = .ok (.invokevirtual 337, 3) := dk_182 1 81 (dk_at dksX1_isTaken_1 1 rfl rfl)
theorem dX1_isTaken_28 : decode cX1_isTaken 28 = .ok (.ifCond .eq 57, 3) := dk_153 0 57 (dk_at dksX1_isTaken_1 4 rfl rfl)
theorem dX1_isTaken_31 : decode cX1_isTaken 31 = .ok (.aload_n 2, 1) := dk_44 (dk_at dksX1_isTaken_1 7 rfl rfl)
theorem dX1_isTaken_32 : decode cX1_isTaken 32 = .ok (.invokevirtual 337, 3) := dk_182 1 81 (dk_at dksX1_isTaken_1 8 rfl rfl)
theorem dX1_isTaken_35 : decode cX1_isTaken 35 = .ok (.ifCond .eq 50, 3) := dk_153 0 50 (dk_at dksX1_isTaken_1 11 rfl rfl)
theorem dX1_isTaken_38 : decode cX1_isTaken 38 = .ok (.aload_n 0, 1) := dk_42 (dk_at dksX1_isTaken_1 14 rfl rfl)
theorem dX1_isTaken_39 : decode cX1_isTaken 39 = .ok (.getfield 58, 3) := dk_180 0 58 (dk_at dksX1_isTaken_1 15 rfl rfl)
theorem dX1_isTaken_42 : decode cX1_isTaken 42 = .ok (.iload 4, 2) := dk_21 4 (dk_at dksX1_isTaken_1 18 rfl rfl)
theorem dX1_isTaken_44 : decode cX1_isTaken 44 = .ok (.aaload, 1) := dk_50 (dk_at dksX1_isTaken_1 20 rfl rfl)
theorem dX1_isTaken_45 : decode cX1_isTaken 45 = .ok (.aload_n 2, 1) := dk_44 (dk_at dksX1_isTaken_1 21 rfl rfl)
theorem dX1_isTaken_46 : decode cX1_isTaken 46 = .ok (.getfield 230, 3) := dk_180 0 230 (dk_at dksX1_isTaken_2 0 rfl rfl)
theorem dX1_isTaken_49 : decode cX1_isTaken 49 = .ok (.invokevirtual 340, 3) := dk_182 1 84 (dk_at dksX1_isTaken_2 3 rfl rfl)
theorem dX1_isTaken_52 : decode cX1_isTaken 52 = .ok (.ifCond .ne 6, 3) := dk_154 0 6 (dk_at dksX1_isTaken_2 6 rfl rfl)
theorem dX1_isTaken_55 : decode cX1_isTaken 55 = .ok (.goto 30, 3) := dk_167 0 30 (dk_at dksX1_isTaken_2 9 rfl rfl)
theorem dX1_isTaken_58 : decode cX1_isTaken 58 = .ok (.aload_n 0, 1) := dk_42 (dk_at dksX1_isTaken_2 12 rfl rfl)
theorem dX1_isTaken_59 : decode cX1_isTaken 59 = .ok (.getfield 58, 3) := dk_180 0 58 (dk_at dksX1_isTaken_2 13 rfl rfl)
theorem dX1_isTaken_62 : decode cX1_isTaken 62 = .ok (.iload 4, 2) := dk_21 4 (dk_at dksX1_isTaken_2 16 rfl rfl)
theorem dX1_isTaken_64 : decode cX1_isTaken 64 = .ok (.aaload, 1) := dk_50 (dk_at dksX1_isTaken_2 18 rfl rfl)
theorem dX1_isTaken_65 : decode cX1_isTaken 65 = .ok (.getfield 281, 3) := dk_180 1 25 (dk_at dksX1_isTaken_2 19 rfl rfl)
theorem dX1_isTaken_68 : decode cX1_isTaken 68 = .ok (.iconst 1, 1) := dk_4 (dk_at dksX1_isTaken_2 22 rfl rfl)
theorem dX1_isTaken_69 : decode cX1_isTaken 69 = .ok (.if_icmp .ne 11, 3) := dk_160 0 11 (dk_at dksX1_isTaken_3 0 rfl rfl)
theorem dX1_isTaken_72 : decode cX1_isTaken 72 = .ok (.aload_n 2, 1) := dk_44 (dk_at dksX1_isTaken_3 3 rfl rfl)
theorem dX1_isTaken_73 : decode cX1_isTaken 73 = .ok (.getfield 281, 3) := dk_180 1 25 (dk_at dksX1_isTaken_3 4 rfl rfl)
theorem dX1_isTaken_76 : decode cX1_isTaken 76 = .ok (.iconst 1, 1) := dk_4 (dk_at dksX1_isTaken_3 7 rfl rfl)
theorem dX1_isTaken_77 : decode cX1_isTaken 77 = .ok (.if_icmp .eq 5, 3) := dk_159 0 5 (dk_at dksX1_isTaken_3 8 rfl rfl)
theorem dX1_isTaken_80 : decode cX1_isTaken 80 = .ok (.iconst 1, 1) := dk_4 (dk_at dksX1_isTaken_3 11 rfl rfl)
theorem dX1_isTaken_81 : decode cX1_isTaken 81 = .ok (.ireturn, 1) := dk_172 (dk_at dksX1_isTaken_3 12 rfl rfl)
theorem dX1_isTaken_82 : decode cX1_isTaken 82 = .ok (.iinc 3 1, 3) := dk_132 3 1 (dk_at dksX1_isTaken_3 13 rfl rfl)
theorem dX1_isTaken_85 : decode cX1_isTaken 85 = .ok (.iinc 4 1, 3) := dk_132 4 1 (dk_at dksX1_isTaken_3 16 rfl rfl)
theorem dX1_isTaken_88 : decode cX1_isTaken 88 = .ok (.goto (-76), 3) := dk_167 255 180 (dk_at dksX1_isTaken_3 19 rfl rfl)
theorem dX1_isTaken_91 : decode cX1_isTaken 91 = .ok (.iload_n 3, 1) := dk_29 (dk_at dksX1_isTaken_3 22 rfl rfl)
theorem dX1_isTaken_92 : decode cX1_isTaken 92 = .ok (.iconst 1, 1) := dk_4 (dk_at dksX1_isTaken_3 23 rfl rfl)
theorem dX1_isTaken_93 : decode cX1_isTaken 93 = .ok (.if_icmp .le 7, 3) := dk_164 0 7 (dk_at dksX1_isTaken_4 0 rfl rfl)
theorem dX1_isTaken_96 : decode cX1_isTaken 96 = .ok (.iconst 1, 1) := dk_4 (dk_at dksX1_isTaken_4 3 rfl rfl)
theorem dX1_isTaken_97 : decode cX1_isTaken 97 = .ok (.goto 4, 3) := dk_167 0 4 (dk_at dksX1_isTaken_4 4 rfl rfl)
theorem dX1_isTaken_100 : decode cX1_isTaken 100 = .ok (.iconst 0, 1) := dk_3 (dk_at dksX1_isTaken_4 7 rfl rfl)
theorem dX1_isTaken_101 : decode cX1_isTaken 101 = .ok (.ireturn, 1) := dk_172 (dk_at dksX1_isTaken_4 8 rfl rfl)
abbrev cX1_isRehearsed : ByteArray := prog_1_method_36_code
def yX1_isRehearsed : MethodName := ⟨RX1, "isRehearsed", "(LOperaHouse$Call;)Z"⟩
def dkwX1_isRehearsed_9 : List UInt8 := [180, 1, 26, 43, 180, 0, 230, 163, 0, 5, 4, 172, 132, 4, 1, 167, 255, 180, 3, 172]
abbrev dktX1_isRehearsed_9 : List UInt8 := dkwX1_isRehearsed_9 ++ []
def dkwX1_isRehearsed_8 : List UInt8 := [160, 0, 36, 42, 180, 0, 58, 21, 4, 50, 180, 0, 230, 29, 161, 0, 22, 42, 180, 0, 58, 21, 4, 50]
abbrev dktX1_isRehearsed_8 : List UInt8 := dkwX1_isRehearsed_8 ++ dktX1_isRehearsed_9
def dkwX1_isRehearsed_7 : List UInt8 := [21, 4, 50, 180, 1, 2, 43, 180, 1, 2, 166, 0, 50, 42, 180, 0, 58, 21, 4, 50, 180, 1, 25, 5]
abbrev dktX1_isRehearsed_7 : List UInt8 := dkwX1_isRehearsed_7 ++ dktX1_isRehearsed_8
def dkwX1_isRehearsed_6 : List UInt8 := [62, 132, 4, 1, 167, 255, 184, 3, 54, 4, 21, 4, 42, 180, 0, 227, 162, 0, 73, 42, 180, 0, 58]
abbrev dktX1_isRehearsed_6 : List UInt8 := dkwX1_isRehearsed_6 ++ dktX1_isRehearsed_7
def dkwX1_isRehearsed_5 : List UInt8 := [21, 4, 50, 180, 0, 230, 28, 161, 0, 18, 29, 42, 180, 0, 58, 21, 4, 50, 180, 1, 26, 184, 1, 90]
abbrev dktX1_isRehearsed_5 : List UInt8 := dkwX1_isRehearsed_5 ++ dktX1_isRehearsed_6
def dkwX1_isRehearsed_4 : List UInt8 := [180, 1, 2, 166, 0, 46, 42, 180, 0, 58, 21, 4, 50, 180, 1, 25, 4, 160, 0, 32, 42, 180, 0, 58]
abbrev dktX1_isRehearsed_4 : List UInt8 := dkwX1_isRehearsed_4 ++ dktX1_isRehearsed_5
def dkwX1_isRehearsed_3 : List UInt8 := [3, 54, 4, 21, 4, 42, 180, 0, 227, 162, 0, 69, 42, 180, 0, 58, 21, 4, 50, 180, 1, 2, 43]
abbrev dktX1_isRehearsed_3 : List UInt8 := dkwX1_isRehearsed_3 ++ dktX1_isRehearsed_4
def dkwX1_isRehearsed_2 : List UInt8 := [154, 0, 18, 28, 42, 180, 0, 58, 21, 4, 50, 180, 1, 26, 184, 1, 90, 61, 132, 4, 1, 167, 255, 199]
abbrev dktX1_isRehearsed_2 : List UInt8 := dkwX1_isRehearsed_2 ++ dktX1_isRehearsed_3
def dkwX1_isRehearsed_1 : List UInt8 := [21, 4, 50, 180, 1, 2, 43, 180, 1, 2, 166, 0, 31, 42, 180, 0, 58, 21, 4, 50, 180, 1, 25]
abbrev dktX1_isRehearsed_1 : List UInt8 := dkwX1_isRehearsed_1 ++ dktX1_isRehearsed_2
def dkwX1_isRehearsed_0 : List UInt8 := [19, 1, 89, 61, 19, 1, 89, 62, 3, 54, 4, 21, 4, 42, 180, 0, 227, 162, 0, 54, 42, 180, 0, 58]
abbrev dktX1_isRehearsed_0 : List UInt8 := dkwX1_isRehearsed_0 ++ dktX1_isRehearsed_1
theorem dksX1_isRehearsed_0 : cX1_isRehearsed.data.toList.drop 0 = dktX1_isRehearsed_0 := by decide +kernel
theorem dksX1_isRehearsed_1 : cX1_isRehearsed.data.toList.drop 24 = dktX1_isRehearsed_1 := dk_seg dksX1_isRehearsed_0 24 rfl rfl
theorem dksX1_isRehearsed_2 : cX1_isRehearsed.data.toList.drop 47 = dktX1_isRehearsed_2 := dk_seg dksX1_isRehearsed_1 23 rfl rfl
theorem dksX1_isRehearsed_3 : cX1_isRehearsed.data.toList.drop 71 = dktX1_isRehearsed_3 := dk_seg dksX1_isRehearsed_2 24 rfl rfl
theorem dksX1_isRehearsed_4 : cX1_isRehearsed.data.toList.drop 94 = dktX1_isRehearsed_4 := dk_seg dksX1_isRehearsed_3 23 rfl rfl
theorem dksX1_isRehearsed_5 : cX1_isRehearsed.data.toList.drop 118 = dktX1_isRehearsed_5 := dk_seg dksX1_isRehearsed_4 24 rfl rfl
theorem dksX1_isRehearsed_6 : cX1_isRehearsed.data.toList.drop 142 = dktX1_isRehearsed_6 := dk_seg dksX1_isRehearsed_5 24 rfl rfl
theorem dksX1_isRehearsed_7 : cX1_isRehearsed.data.toList.drop 165 = dktX1_isRehearsed_7 := dk_seg dksX1_isRehearsed_6 23 rfl rfl
theorem dksX1_isRehearsed_8 : cX1_isRehearsed.data.toList.drop 189 = dktX1_isRehearsed_8 := dk_seg dksX1_isRehearsed_7 24 rfl rfl
theorem dksX1_isRehearsed_9 : cX1_isRehearsed.data.toList.drop 213 = dktX1_isRehearsed_9 := dk_seg dksX1_isRehearsed_8 24 rfl rfl
theorem dX1_isRehearsed_0 : decode cX1_isRehearsed 0 = .ok (.ldc_w 345, 3) := dk_19 1 89 (dk_at dksX1_isRehearsed_0 0 rfl rfl)
theorem dX1_isRehearsed_3 : decode cX1_isRehearsed 3 = .ok (.istore_n 2, 1) := dk_61 (dk_at dksX1_isRehearsed_0 3 rfl rfl)
theorem dX1_isRehearsed_4 : decode cX1_isRehearsed 4 = .ok (.ldc_w 345, 3) := dk_19 1 89 (dk_at dksX1_isRehearsed_0 4 rfl rfl)
theorem dX1_isRehearsed_7 : decode cX1_isRehearsed 7 = .ok (.istore_n 3, 1) := dk_62 (dk_at dksX1_isRehearsed_0 7 rfl rfl)
theorem dX1_isRehearsed_8 : decode cX1_isRehearsed 8 = .ok (.iconst 0, 1) := dk_3 (dk_at dksX1_isRehearsed_0 8 rfl rfl)
theorem dX1_isRehearsed_9 : decode cX1_isRehearsed 9 = .ok (.istore 4, 2) := dk_54 4 (dk_at dksX1_isRehearsed_0 9 rfl rfl)
theorem dX1_isRehearsed_11 : decode cX1_isRehearsed 11 = .ok (.iload 4, 2) := dk_21 4 (dk_at dksX1_isRehearsed_0 11 rfl rfl)
theorem dX1_isRehearsed_13 : decode cX1_isRehearsed 13 = .ok (.aload_n 0, 1) := dk_42 (dk_at dksX1_isRehearsed_0 13 rfl rfl)
theorem dX1_isRehearsed_14 : decode cX1_isRehearsed 14 = .ok (.getfield 227, 3) := dk_180 0 227 (dk_at dksX1_isRehearsed_0 14 rfl rfl)
theorem dX1_isRehearsed_17 : decode cX1_isRehearsed 17 = .ok (.if_icmp .ge 54, 3) := dk_162 0 54 (dk_at dksX1_isRehearsed_0 17 rfl rfl)
theorem dX1_isRehearsed_20 : decode cX1_isRehearsed 20 = .ok (.aload_n 0, 1) := dk_42 (dk_at dksX1_isRehearsed_0 20 rfl rfl)
theorem dX1_isRehearsed_21 : decode cX1_isRehearsed 21 = .ok (.getfield 58, 3) := dk_180 0 58 (dk_at dksX1_isRehearsed_0 21 rfl rfl)
theorem dX1_isRehearsed_24 : decode cX1_isRehearsed 24 = .ok (.iload 4, 2) := dk_21 4 (dk_at dksX1_isRehearsed_1 0 rfl rfl)
theorem dX1_isRehearsed_26 : decode cX1_isRehearsed 26 = .ok (.aaload, 1) := dk_50 (dk_at dksX1_isRehearsed_1 2 rfl rfl)
theorem dX1_isRehearsed_27 : decode cX1_isRehearsed 27 = .ok (.getfield 258, 3) := dk_180 1 2 (dk_at dksX1_isRehearsed_1 3 rfl rfl)
theorem dX1_isRehearsed_30 : decode cX1_isRehearsed 30 = .ok (.aload_n 1, 1) := dk_43 (dk_at dksX1_isRehearsed_1 6 rfl rfl)
theorem dX1_isRehearsed_31 : decode cX1_isRehearsed 31 = .ok (.getfield 258, 3) := dk_180 1 2 (dk_at dksX1_isRehearsed_1 7 rfl rfl)
theorem dX1_isRehearsed_34 : decode cX1_isRehearsed 34 = .ok (.if_acmp .ne 31, 3) := dk_166 0 31 (dk_at dksX1_isRehearsed_1 10 rfl rfl)
theorem dX1_isRehearsed_37 : decode cX1_isRehearsed 37 = .ok (.aload_n 0, 1) := dk_42 (dk_at dksX1_isRehearsed_1 13 rfl rfl)
theorem dX1_isRehearsed_38 : decode cX1_isRehearsed 38 = .ok (.getfield 58, 3) := dk_180 0 58 (dk_at dksX1_isRehearsed_1 14 rfl rfl)
theorem dX1_isRehearsed_41 : decode cX1_isRehearsed 41 = .ok (.iload 4, 2) := dk_21 4 (dk_at dksX1_isRehearsed_1 17 rfl rfl)
theorem dX1_isRehearsed_43 : decode cX1_isRehearsed 43 = .ok (.aaload, 1) := dk_50 (dk_at dksX1_isRehearsed_1 19 rfl rfl)
theorem dX1_isRehearsed_44 : decode cX1_isRehearsed 44 = .ok (.getfield 281, 3) := dk_180 1 25 (dk_at dksX1_isRehearsed_1 20 rfl rfl)
theorem dX1_isRehearsed_47 : decode cX1_isRehearsed 47 = .ok (.ifCond .ne 18, 3) := dk_154 0 18 (dk_at dksX1_isRehearsed_2 0 rfl rfl)
theorem dX1_isRehearsed_50 : decode cX1_isRehearsed 50 = .ok (.iload_n 2, 1) := dk_28 (dk_at dksX1_isRehearsed_2 3 rfl rfl)
theorem dX1_isRehearsed_51 : decode cX1_isRehearsed 51 = .ok (.aload_n 0, 1) := dk_42 (dk_at dksX1_isRehearsed_2 4 rfl rfl)
theorem dX1_isRehearsed_52 : decode cX1_isRehearsed 52 = .ok (.getfield 58, 3) := dk_180 0 58 (dk_at dksX1_isRehearsed_2 5 rfl rfl)
theorem dX1_isRehearsed_55 : decode cX1_isRehearsed 55 = .ok (.iload 4, 2) := dk_21 4 (dk_at dksX1_isRehearsed_2 8 rfl rfl)
theorem dX1_isRehearsed_57 : decode cX1_isRehearsed 57 = .ok (.aaload, 1) := dk_50 (dk_at dksX1_isRehearsed_2 10 rfl rfl)
theorem dX1_isRehearsed_58 : decode cX1_isRehearsed 58 = .ok (.getfield 282, 3) := dk_180 1 26 (dk_at dksX1_isRehearsed_2 11 rfl rfl)
theorem dX1_isRehearsed_61 : decode cX1_isRehearsed 61 = .ok (.invokestatic 346, 3) := dk_184 1 90 (dk_at dksX1_isRehearsed_2 14 rfl rfl)
theorem dX1_isRehearsed_64 : decode cX1_isRehearsed 64 = .ok (.istore_n 2, 1) := dk_61 (dk_at dksX1_isRehearsed_2 17 rfl rfl)
theorem dX1_isRehearsed_65 : decode cX1_isRehearsed 65 = .ok (.iinc 4 1, 3) := dk_132 4 1 (dk_at dksX1_isRehearsed_2 18 rfl rfl)
theorem dX1_isRehearsed_68 : decode cX1_isRehearsed 68 = .ok (.goto (-57), 3) := dk_167 255 199 (dk_at dksX1_isRehearsed_2 21 rfl rfl)
theorem dX1_isRehearsed_71 : decode cX1_isRehearsed 71 = .ok (.iconst 0, 1) := dk_3 (dk_at dksX1_isRehearsed_3 0 rfl rfl)
theorem dX1_isRehearsed_72 : decode cX1_isRehearsed 72 = .ok (.istore 4, 2) := dk_54 4 (dk_at dksX1_isRehearsed_3 1 rfl rfl)
theorem dX1_isRehearsed_74 : decode cX1_isRehearsed 74 = .ok (.iload 4, 2) := dk_21 4 (dk_at dksX1_isRehearsed_3 3 rfl rfl)
theorem dX1_isRehearsed_76 : decode cX1_isRehearsed 76 = .ok (.aload_n 0, 1) := dk_42 (dk_at dksX1_isRehearsed_3 5 rfl rfl)
theorem dX1_isRehearsed_77 : decode cX1_isRehearsed 77 = .ok (.getfield 227, 3) := dk_180 0 227 (dk_at dksX1_isRehearsed_3 6 rfl rfl)
theorem dX1_isRehearsed_80 : decode cX1_isRehearsed 80 = .ok (.if_icmp .ge 69, 3) := dk_162 0 69 (dk_at dksX1_isRehearsed_3 9 rfl rfl)
theorem dX1_isRehearsed_83 : decode cX1_isRehearsed 83 = .ok (.aload_n 0, 1) := dk_42 (dk_at dksX1_isRehearsed_3 12 rfl rfl)
theorem dX1_isRehearsed_84 : decode cX1_isRehearsed 84 = .ok (.getfield 58, 3) := dk_180 0 58 (dk_at dksX1_isRehearsed_3 13 rfl rfl)
theorem dX1_isRehearsed_87 : decode cX1_isRehearsed 87 = .ok (.iload 4, 2) := dk_21 4 (dk_at dksX1_isRehearsed_3 16 rfl rfl)
theorem dX1_isRehearsed_89 : decode cX1_isRehearsed 89 = .ok (.aaload, 1) := dk_50 (dk_at dksX1_isRehearsed_3 18 rfl rfl)
theorem dX1_isRehearsed_90 : decode cX1_isRehearsed 90 = .ok (.getfield 258, 3) := dk_180 1 2 (dk_at dksX1_isRehearsed_3 19 rfl rfl)
theorem dX1_isRehearsed_93 : decode cX1_isRehearsed 93 = .ok (.aload_n 1, 1) := dk_43 (dk_at dksX1_isRehearsed_3 22 rfl rfl)
theorem dX1_isRehearsed_94 : decode cX1_isRehearsed 94 = .ok (.getfield 258, 3) := dk_180 1 2 (dk_at dksX1_isRehearsed_4 0 rfl rfl)
theorem dX1_isRehearsed_97 : decode cX1_isRehearsed 97 = .ok (.if_acmp .ne 46, 3) := dk_166 0 46 (dk_at dksX1_isRehearsed_4 3 rfl rfl)
theorem dX1_isRehearsed_100 : decode cX1_isRehearsed 100 = .ok (.aload_n 0, 1) := dk_42 (dk_at dksX1_isRehearsed_4 6 rfl rfl)
theorem dX1_isRehearsed_101 : decode cX1_isRehearsed 101 = .ok (.getfield 58, 3) := dk_180 0 58 (dk_at dksX1_isRehearsed_4 7 rfl rfl)
theorem dX1_isRehearsed_104 : decode cX1_isRehearsed 104 = .ok (.iload 4, 2) := dk_21 4 (dk_at dksX1_isRehearsed_4 10 rfl rfl)
theorem dX1_isRehearsed_106 : decode cX1_isRehearsed 106 = .ok (.aaload, 1) := dk_50 (dk_at dksX1_isRehearsed_4 12 rfl rfl)
theorem dX1_isRehearsed_107 : decode cX1_isRehearsed 107 = .ok (.getfield 281, 3) := dk_180 1 25 (dk_at dksX1_isRehearsed_4 13 rfl rfl)
theorem dX1_isRehearsed_110 : decode cX1_isRehearsed 110 = .ok (.iconst 1, 1) := dk_4 (dk_at dksX1_isRehearsed_4 16 rfl rfl)
theorem dX1_isRehearsed_111 : decode cX1_isRehearsed 111 = .ok (.if_icmp .ne 32, 3) := dk_160 0 32 (dk_at dksX1_isRehearsed_4 17 rfl rfl)
theorem dX1_isRehearsed_114 : decode cX1_isRehearsed 114 = .ok (.aload_n 0, 1) := dk_42 (dk_at dksX1_isRehearsed_4 20 rfl rfl)
theorem dX1_isRehearsed_115 : decode cX1_isRehearsed 115 = .ok (.getfield 58, 3) := dk_180 0 58 (dk_at dksX1_isRehearsed_4 21 rfl rfl)
theorem dX1_isRehearsed_118 : decode cX1_isRehearsed 118 = .ok (.iload 4, 2) := dk_21 4 (dk_at dksX1_isRehearsed_5 0 rfl rfl)
theorem dX1_isRehearsed_120 : decode cX1_isRehearsed 120 = .ok (.aaload, 1) := dk_50 (dk_at dksX1_isRehearsed_5 2 rfl rfl)
theorem dX1_isRehearsed_121 : decode cX1_isRehearsed 121 = .ok (.getfield 230, 3) := dk_180 0 230 (dk_at dksX1_isRehearsed_5 3 rfl rfl)
theorem dX1_isRehearsed_124 : decode cX1_isRehearsed 124 = .ok (.iload_n 2, 1) := dk_28 (dk_at dksX1_isRehearsed_5 6 rfl rfl)
theorem dX1_isRehearsed_125 : decode cX1_isRehearsed 125 = .ok (.if_icmp .lt 18, 3) := dk_161 0 18 (dk_at dksX1_isRehearsed_5 7 rfl rfl)
theorem dX1_isRehearsed_128 : decode cX1_isRehearsed 128 = .ok (.iload_n 3, 1) := dk_29 (dk_at dksX1_isRehearsed_5 10 rfl rfl)
theorem dX1_isRehearsed_129 : decode cX1_isRehearsed 129 = .ok (.aload_n 0, 1) := dk_42 (dk_at dksX1_isRehearsed_5 11 rfl rfl)
theorem dX1_isRehearsed_130 : decode cX1_isRehearsed 130 = .ok (.getfield 58, 3) := dk_180 0 58 (dk_at dksX1_isRehearsed_5 12 rfl rfl)
theorem dX1_isRehearsed_133 : decode cX1_isRehearsed 133 = .ok (.iload 4, 2) := dk_21 4 (dk_at dksX1_isRehearsed_5 15 rfl rfl)
theorem dX1_isRehearsed_135 : decode cX1_isRehearsed 135 = .ok (.aaload, 1) := dk_50 (dk_at dksX1_isRehearsed_5 17 rfl rfl)
theorem dX1_isRehearsed_136 : decode cX1_isRehearsed 136 = .ok (.getfield 282, 3) := dk_180 1 26 (dk_at dksX1_isRehearsed_5 18 rfl rfl)
theorem dX1_isRehearsed_139 : decode cX1_isRehearsed 139 = .ok (.invokestatic 346, 3) := dk_184 1 90 (dk_at dksX1_isRehearsed_5 21 rfl rfl)
theorem dX1_isRehearsed_142 : decode cX1_isRehearsed 142 = .ok (.istore_n 3, 1) := dk_62 (dk_at dksX1_isRehearsed_6 0 rfl rfl)
theorem dX1_isRehearsed_143 : decode cX1_isRehearsed 143 = .ok (.iinc 4 1, 3) := dk_132 4 1 (dk_at dksX1_isRehearsed_6 1 rfl rfl)
theorem dX1_isRehearsed_146 : decode cX1_isRehearsed 146 = .ok (.goto (-72), 3) := dk_167 255 184 (dk_at dksX1_isRehearsed_6 4 rfl rfl)
theorem dX1_isRehearsed_149 : decode cX1_isRehearsed 149 = .ok (.iconst 0, 1) := dk_3 (dk_at dksX1_isRehearsed_6 7 rfl rfl)
theorem dX1_isRehearsed_150 : decode cX1_isRehearsed 150 = .ok (.istore 4, 2) := dk_54 4 (dk_at dksX1_isRehearsed_6 8 rfl rfl)
theorem dX1_isRehearsed_152 : decode cX1_isRehearsed 152 = .ok (.iload 4, 2) := dk_21 4 (dk_at dksX1_isRehearsed_6 10 rfl rfl)
theorem dX1_isRehearsed_154 : decode cX1_isRehearsed 154 = .ok (.aload_n 0, 1) := dk_42 (dk_at dksX1_isRehearsed_6 12 rfl rfl)
theorem dX1_isRehearsed_155 : decode cX1_isRehearsed 155 = .ok (.getfield 227, 3) := dk_180 0 227 (dk_at dksX1_isRehearsed_6 13 rfl rfl)
theorem dX1_isRehearsed_158 : decode cX1_isRehearsed 158 = .ok (.if_icmp .ge 73, 3) := dk_162 0 73 (dk_at dksX1_isRehearsed_6 16 rfl rfl)
theorem dX1_isRehearsed_161 : decode cX1_isRehearsed 161 = .ok (.aload_n 0, 1) := dk_42 (dk_at dksX1_isRehearsed_6 19 rfl rfl)
theorem dX1_isRehearsed_162 : decode cX1_isRehearsed 162 = .ok (.getfield 58, 3) := dk_180 0 58 (dk_at dksX1_isRehearsed_6 20 rfl rfl)
theorem dX1_isRehearsed_165 : decode cX1_isRehearsed 165 = .ok (.iload 4, 2) := dk_21 4 (dk_at dksX1_isRehearsed_7 0 rfl rfl)
theorem dX1_isRehearsed_167 : decode cX1_isRehearsed 167 = .ok (.aaload, 1) := dk_50 (dk_at dksX1_isRehearsed_7 2 rfl rfl)
theorem dX1_isRehearsed_168 : decode cX1_isRehearsed 168 = .ok (.getfield 258, 3) := dk_180 1 2 (dk_at dksX1_isRehearsed_7 3 rfl rfl)
theorem dX1_isRehearsed_171 : decode cX1_isRehearsed 171 = .ok (.aload_n 1, 1) := dk_43 (dk_at dksX1_isRehearsed_7 6 rfl rfl)
theorem dX1_isRehearsed_172 : decode cX1_isRehearsed 172 = .ok (.getfield 258, 3) := dk_180 1 2 (dk_at dksX1_isRehearsed_7 7 rfl rfl)
theorem dX1_isRehearsed_175 : decode cX1_isRehearsed 175 = .ok (.if_acmp .ne 50, 3) := dk_166 0 50 (dk_at dksX1_isRehearsed_7 10 rfl rfl)
theorem dX1_isRehearsed_178 : decode cX1_isRehearsed 178 = .ok (.aload_n 0, 1) := dk_42 (dk_at dksX1_isRehearsed_7 13 rfl rfl)
theorem dX1_isRehearsed_179 : decode cX1_isRehearsed 179 = .ok (.getfield 58, 3) := dk_180 0 58 (dk_at dksX1_isRehearsed_7 14 rfl rfl)
theorem dX1_isRehearsed_182 : decode cX1_isRehearsed 182 = .ok (.iload 4, 2) := dk_21 4 (dk_at dksX1_isRehearsed_7 17 rfl rfl)
theorem dX1_isRehearsed_184 : decode cX1_isRehearsed 184 = .ok (.aaload, 1) := dk_50 (dk_at dksX1_isRehearsed_7 19 rfl rfl)
theorem dX1_isRehearsed_185 : decode cX1_isRehearsed 185 = .ok (.getfield 281, 3) := dk_180 1 25 (dk_at dksX1_isRehearsed_7 20 rfl rfl)
theorem dX1_isRehearsed_188 : decode cX1_isRehearsed 188 = .ok (.iconst 2, 1) := dk_5 (dk_at dksX1_isRehearsed_7 23 rfl rfl)
theorem dX1_isRehearsed_189 : decode cX1_isRehearsed 189 = .ok (.if_icmp .ne 36, 3) := dk_160 0 36 (dk_at dksX1_isRehearsed_8 0 rfl rfl)
theorem dX1_isRehearsed_192 : decode cX1_isRehearsed 192 = .ok (.aload_n 0, 1) := dk_42 (dk_at dksX1_isRehearsed_8 3 rfl rfl)
theorem dX1_isRehearsed_193 : decode cX1_isRehearsed 193 = .ok (.getfield 58, 3) := dk_180 0 58 (dk_at dksX1_isRehearsed_8 4 rfl rfl)
theorem dX1_isRehearsed_196 : decode cX1_isRehearsed 196 = .ok (.iload 4, 2) := dk_21 4 (dk_at dksX1_isRehearsed_8 7 rfl rfl)
theorem dX1_isRehearsed_198 : decode cX1_isRehearsed 198 = .ok (.aaload, 1) := dk_50 (dk_at dksX1_isRehearsed_8 9 rfl rfl)
theorem dX1_isRehearsed_199 : decode cX1_isRehearsed 199 = .ok (.getfield 230, 3) := dk_180 0 230 (dk_at dksX1_isRehearsed_8 10 rfl rfl)
theorem dX1_isRehearsed_202 : decode cX1_isRehearsed 202 = .ok (.iload_n 3, 1) := dk_29 (dk_at dksX1_isRehearsed_8 13 rfl rfl)
theorem dX1_isRehearsed_203 : decode cX1_isRehearsed 203 = .ok (.if_icmp .lt 22, 3) := dk_161 0 22 (dk_at dksX1_isRehearsed_8 14 rfl rfl)
theorem dX1_isRehearsed_206 : decode cX1_isRehearsed 206 = .ok (.aload_n 0, 1) := dk_42 (dk_at dksX1_isRehearsed_8 17 rfl rfl)
theorem dX1_isRehearsed_207 : decode cX1_isRehearsed 207 = .ok (.getfield 58, 3) := dk_180 0 58 (dk_at dksX1_isRehearsed_8 18 rfl rfl)
theorem dX1_isRehearsed_210 : decode cX1_isRehearsed 210 = .ok (.iload 4, 2) := dk_21 4 (dk_at dksX1_isRehearsed_8 21 rfl rfl)
theorem dX1_isRehearsed_212 : decode cX1_isRehearsed 212 = .ok (.aaload, 1) := dk_50 (dk_at dksX1_isRehearsed_8 23 rfl rfl)
theorem dX1_isRehearsed_213 : decode cX1_isRehearsed 213 = .ok (.getfield 282, 3) := dk_180 1 26 (dk_at dksX1_isRehearsed_9 0 rfl rfl)
theorem dX1_isRehearsed_216 : decode cX1_isRehearsed 216 = .ok (.aload_n 1, 1) := dk_43 (dk_at dksX1_isRehearsed_9 3 rfl rfl)
theorem dX1_isRehearsed_217 : decode cX1_isRehearsed 217 = .ok (.getfield 230, 3) := dk_180 0 230 (dk_at dksX1_isRehearsed_9 4 rfl rfl)
theorem dX1_isRehearsed_220 : decode cX1_isRehearsed 220 = .ok (.if_icmp .gt 5, 3) := dk_163 0 5 (dk_at dksX1_isRehearsed_9 7 rfl rfl)
theorem dX1_isRehearsed_223 : decode cX1_isRehearsed 223 = .ok (.iconst 1, 1) := dk_4 (dk_at dksX1_isRehearsed_9 10 rfl rfl)
theorem dX1_isRehearsed_224 : decode cX1_isRehearsed 224 = .ok (.ireturn, 1) := dk_172 (dk_at dksX1_isRehearsed_9 11 rfl rfl)
theorem dX1_isRehearsed_225 : decode cX1_isRehearsed 225 = .ok (.iinc 4 1, 3) := dk_132 4 1 (dk_at dksX1_isRehearsed_9 12 rfl rfl)
theorem dX1_isRehearsed_228 : decode cX1_isRehearsed 228 = .ok (.goto (-76), 3) := dk_167 255 180 (dk_at dksX1_isRehearsed_9 15 rfl rfl)
theorem dX1_isRehearsed_231 : decode cX1_isRehearsed 231 = .ok (.iconst 0, 1) := dk_3 (dk_at dksX1_isRehearsed_9 18 rfl rfl)
theorem dX1_isRehearsed_232 : decode cX1_isRehearsed 232 = .ok (.ireturn, 1) := dk_172 (dk_at dksX1_isRehearsed_9 19 rfl rfl)
abbrev cX1_lacks : ByteArray := prog_1_method_37_code
def yX1_lacks : MethodName := ⟨RX1, "lacks", "(LOperaHouse$Call;)Z"⟩
def dkwX1_lacks_2 : List UInt8 := [132, 2, 1, 167, 255, 207, 3, 172]
abbrev dktX1_lacks_2 : List UInt8 := dkwX1_lacks_2 ++ []
def dkwX1_lacks_1 : List UInt8 := [4, 122, 42, 180, 0, 24, 28, 46, 104, 96, 43, 180, 1, 2, 180, 0, 134, 28, 46, 162, 0, 5, 4, 172]
abbrev dktX1_lacks_1 : List UInt8 := dkwX1_lacks_1 ++ dktX1_lacks_2
def dkwX1_lacks_0 : List UInt8 := [3, 61, 28, 7, 162, 0, 50, 43, 180, 1, 93, 4, 126, 42, 180, 0, 20, 28, 46, 104, 43, 180, 1, 93]
abbrev dktX1_lacks_0 : List UInt8 := dkwX1_lacks_0 ++ dktX1_lacks_1
theorem dksX1_lacks_0 : cX1_lacks.data.toList.drop 0 = dktX1_lacks_0 := by decide +kernel
theorem dksX1_lacks_1 : cX1_lacks.data.toList.drop 24 = dktX1_lacks_1 := dk_seg dksX1_lacks_0 24 rfl rfl
theorem dksX1_lacks_2 : cX1_lacks.data.toList.drop 48 = dktX1_lacks_2 := dk_seg dksX1_lacks_1 24 rfl rfl
theorem dX1_lacks_0 : decode cX1_lacks 0 = .ok (.iconst 0, 1) := dk_3 (dk_at dksX1_lacks_0 0 rfl rfl)
theorem dX1_lacks_1 : decode cX1_lacks 1 = .ok (.istore_n 2, 1) := dk_61 (dk_at dksX1_lacks_0 1 rfl rfl)
theorem dX1_lacks_2 : decode cX1_lacks 2 = .ok (.iload_n 2, 1) := dk_28 (dk_at dksX1_lacks_0 2 rfl rfl)
theorem dX1_lacks_3 : decode cX1_lacks 3 = .ok (.iconst 4, 1) := dk_7 (dk_at dksX1_lacks_0 3 rfl rfl)
theorem dX1_lacks_4 : decode cX1_lacks 4 = .ok (.if_icmp .ge 50, 3) := dk_162 0 50 (dk_at dksX1_lacks_0 4 rfl rfl)
theorem dX1_lacks_7 : decode cX1_lacks 7 = .ok (.aload_n 1, 1) := dk_43 (dk_at dksX1_lacks_0 7 rfl rfl)
theorem dX1_lacks_8 : decode cX1_lacks 8 = .ok (.getfield 349, 3) := dk_180 1 93 (dk_at dksX1_lacks_0 8 rfl rfl)
theorem dX1_lacks_11 : decode cX1_lacks 11 = .ok (.iconst 1, 1) := dk_4 (dk_at dksX1_lacks_0 11 rfl rfl)
theorem dX1_lacks_12 : decode cX1_lacks 12 = .ok (.iand, 1) := dk_126 (dk_at dksX1_lacks_0 12 rfl rfl)
theorem dX1_lacks_13 : decode cX1_lacks 13 = .ok (.aload_n 0, 1) := dk_42 (dk_at dksX1_lacks_0 13 rfl rfl)
theorem dX1_lacks_14 : decode cX1_lacks 14 = .ok (.getfield 20, 3) := dk_180 0 20 (dk_at dksX1_lacks_0 14 rfl rfl)
theorem dX1_lacks_17 : decode cX1_lacks 17 = .ok (.iload_n 2, 1) := dk_28 (dk_at dksX1_lacks_0 17 rfl rfl)
theorem dX1_lacks_18 : decode cX1_lacks 18 = .ok (.iaload, 1) := dk_46 (dk_at dksX1_lacks_0 18 rfl rfl)
theorem dX1_lacks_19 : decode cX1_lacks 19 = .ok (.imul, 1) := dk_104 (dk_at dksX1_lacks_0 19 rfl rfl)
theorem dX1_lacks_20 : decode cX1_lacks 20 = .ok (.aload_n 1, 1) := dk_43 (dk_at dksX1_lacks_0 20 rfl rfl)
theorem dX1_lacks_21 : decode cX1_lacks 21 = .ok (.getfield 349, 3) := dk_180 1 93 (dk_at dksX1_lacks_0 21 rfl rfl)
theorem dX1_lacks_24 : decode cX1_lacks 24 = .ok (.iconst 1, 1) := dk_4 (dk_at dksX1_lacks_1 0 rfl rfl)
theorem dX1_lacks_25 : decode cX1_lacks 25 = .ok (.ishr, 1) := dk_122 (dk_at dksX1_lacks_1 1 rfl rfl)
theorem dX1_lacks_26 : decode cX1_lacks 26 = .ok (.aload_n 0, 1) := dk_42 (dk_at dksX1_lacks_1 2 rfl rfl)
theorem dX1_lacks_27 : decode cX1_lacks 27 = .ok (.getfield 24, 3) := dk_180 0 24 (dk_at dksX1_lacks_1 3 rfl rfl)
theorem dX1_lacks_30 : decode cX1_lacks 30 = .ok (.iload_n 2, 1) := dk_28 (dk_at dksX1_lacks_1 6 rfl rfl)
theorem dX1_lacks_31 : decode cX1_lacks 31 = .ok (.iaload, 1) := dk_46 (dk_at dksX1_lacks_1 7 rfl rfl)
theorem dX1_lacks_32 : decode cX1_lacks 32 = .ok (.imul, 1) := dk_104 (dk_at dksX1_lacks_1 8 rfl rfl)
theorem dX1_lacks_33 : decode cX1_lacks 33 = .ok (.iadd, 1) := dk_96 (dk_at dksX1_lacks_1 9 rfl rfl)
theorem dX1_lacks_34 : decode cX1_lacks 34 = .ok (.aload_n 1, 1) := dk_43 (dk_at dksX1_lacks_1 10 rfl rfl)
theorem dX1_lacks_35 : decode cX1_lacks 35 = .ok (.getfield 258, 3) := dk_180 1 2 (dk_at dksX1_lacks_1 11 rfl rfl)
theorem dX1_lacks_38 : decode cX1_lacks 38 = .ok (.getfield 134, 3) := dk_180 0 134 (dk_at dksX1_lacks_1 14 rfl rfl)
theorem dX1_lacks_41 : decode cX1_lacks 41 = .ok (.iload_n 2, 1) := dk_28 (dk_at dksX1_lacks_1 17 rfl rfl)
theorem dX1_lacks_42 : decode cX1_lacks 42 = .ok (.iaload, 1) := dk_46 (dk_at dksX1_lacks_1 18 rfl rfl)
theorem dX1_lacks_43 : decode cX1_lacks 43 = .ok (.if_icmp .ge 5, 3) := dk_162 0 5 (dk_at dksX1_lacks_1 19 rfl rfl)
theorem dX1_lacks_46 : decode cX1_lacks 46 = .ok (.iconst 1, 1) := dk_4 (dk_at dksX1_lacks_1 22 rfl rfl)
theorem dX1_lacks_47 : decode cX1_lacks 47 = .ok (.ireturn, 1) := dk_172 (dk_at dksX1_lacks_1 23 rfl rfl)
theorem dX1_lacks_48 : decode cX1_lacks 48 = .ok (.iinc 2 1, 3) := dk_132 2 1 (dk_at dksX1_lacks_2 0 rfl rfl)
theorem dX1_lacks_51 : decode cX1_lacks 51 = .ok (.goto (-49), 3) := dk_167 255 207 (dk_at dksX1_lacks_2 3 rfl rfl)
theorem dX1_lacks_54 : decode cX1_lacks 54 = .ok (.iconst 0, 1) := dk_3 (dk_at dksX1_lacks_2 6 rfl rfl)
theorem dX1_lacks_55 : decode cX1_lacks 55 = .ok (.ireturn, 1) := dk_172 (dk_at dksX1_lacks_2 7 rfl rfl)
abbrev cX1_isPlaying : ByteArray := prog_1_method_38_code
def yX1_isPlaying : MethodName := ⟨RX1, "isPlaying", "(I)Z"⟩
def dkwX1_isPlaying_2 : List UInt8 := [182, 1, 84, 153, 0, 5, 4, 172, 132, 2, 1, 167, 255, 203, 3, 172]
abbrev dktX1_isPlaying_2 : List UInt8 := dkwX1_isPlaying_2 ++ []
def dkwX1_isPlaying_1 : List UInt8 := [180, 1, 93, 126, 153, 0, 26, 42, 180, 0, 58, 28, 50, 42, 180, 0, 58, 27, 50, 180, 0, 230]
abbrev dktX1_isPlaying_1 : List UInt8 := dkwX1_isPlaying_1 ++ dktX1_isPlaying_2
def dkwX1_isPlaying_0 : List UInt8 := [3, 61, 28, 27, 162, 0, 54, 42, 180, 0, 58, 28, 50, 180, 1, 93, 42, 180, 0, 58, 27, 50]
abbrev dktX1_isPlaying_0 : List UInt8 := dkwX1_isPlaying_0 ++ dktX1_isPlaying_1
theorem dksX1_isPlaying_0 : cX1_isPlaying.data.toList.drop 0 = dktX1_isPlaying_0 := by decide +kernel
theorem dksX1_isPlaying_1 : cX1_isPlaying.data.toList.drop 22 = dktX1_isPlaying_1 := dk_seg dksX1_isPlaying_0 22 rfl rfl
theorem dksX1_isPlaying_2 : cX1_isPlaying.data.toList.drop 44 = dktX1_isPlaying_2 := dk_seg dksX1_isPlaying_1 22 rfl rfl
theorem dX1_isPlaying_0 : decode cX1_isPlaying 0 = .ok (.iconst 0, 1) := dk_3 (dk_at dksX1_isPlaying_0 0 rfl rfl)
theorem dX1_isPlaying_1 : decode cX1_isPlaying 1 = .ok (.istore_n 2, 1) := dk_61 (dk_at dksX1_isPlaying_0 1 rfl rfl)
theorem dX1_isPlaying_2 : decode cX1_isPlaying 2 = .ok (.iload_n 2, 1) := dk_28 (dk_at dksX1_isPlaying_0 2 rfl rfl)
theorem dX1_isPlaying_3 : decode cX1_isPlaying 3 = .ok (.iload_n 1, 1) := dk_27 (dk_at dksX1_isPlaying_0 3 rfl rfl)
theorem dX1_isPlaying_4 : decode cX1_isPlaying 4 = .ok (.if_icmp .ge 54, 3) := dk_162 0 54 (dk_at dksX1_isPlaying_0 4 rfl rfl)
theorem dX1_isPlaying_7 : decode cX1_isPlaying 7 = .ok (.aload_n 0, 1) := dk_42 (dk_at dksX1_isPlaying_0 7 rfl rfl)
theorem dX1_isPlaying_8 : decode cX1_isPlaying 8 = .ok (.getfield 58, 3) := dk_180 0 58 (dk_at dksX1_isPlaying_0 8 rfl rfl)
theorem dX1_isPlaying_11 : decode cX1_isPlaying 11 = .ok (.iload_n 2, 1) := dk_28 (dk_at dksX1_isPlaying_0 11 rfl rfl)
theorem dX1_isPlaying_12 : decode cX1_isPlaying 12 = .ok (.aaload, 1) := dk_50 (dk_at dksX1_isPlaying_0 12 rfl rfl)
theorem dX1_isPlaying_13 : decode cX1_isPlaying 13 = .ok (.getfield 349, 3) := dk_180 1 93 (dk_at dksX1_isPlaying_0 13 rfl rfl)
theorem dX1_isPlaying_16 : decode cX1_isPlaying 16 = .ok (.aload_n 0, 1) := dk_42 (dk_at dksX1_isPlaying_0 16 rfl rfl)
theorem dX1_isPlaying_17 : decode cX1_isPlaying 17 = .ok (.getfield 58, 3) := dk_180 0 58 (dk_at dksX1_isPlaying_0 17 rfl rfl)
theorem dX1_isPlaying_20 : decode cX1_isPlaying 20 = .ok (.iload_n 1, 1) := dk_27 (dk_at dksX1_isPlaying_0 20 rfl rfl)
theorem dX1_isPlaying_21 : decode cX1_isPlaying 21 = .ok (.aaload, 1) := dk_50 (dk_at dksX1_isPlaying_0 21 rfl rfl)
theorem dX1_isPlaying_22 : decode cX1_isPlaying 22 = .ok (.getfield 349, 3) := dk_180 1 93 (dk_at dksX1_isPlaying_1 0 rfl rfl)
theorem dX1_isPlaying_25 : decode cX1_isPlaying 25 = .ok (.iand, 1) := dk_126 (dk_at dksX1_isPlaying_1 3 rfl rfl)
theorem dX1_isPlaying_26 : decode cX1_isPlaying 26 = .ok (.ifCond .eq 26, 3) := dk_153 0 26 (dk_at dksX1_isPlaying_1 4 rfl rfl)
theorem dX1_isPlaying_29 : decode cX1_isPlaying 29 = .ok (.aload_n 0, 1) := dk_42 (dk_at dksX1_isPlaying_1 7 rfl rfl)
theorem dX1_isPlaying_30 : decode cX1_isPlaying 30 = .ok (.getfield 58, 3) := dk_180 0 58 (dk_at dksX1_isPlaying_1 8 rfl rfl)
theorem dX1_isPlaying_33 : decode cX1_isPlaying 33 = .ok (.iload_n 2, 1) := dk_28 (dk_at dksX1_isPlaying_1 11 rfl rfl)
theorem dX1_isPlaying_34 : decode cX1_isPlaying 34 = .ok (.aaload, 1) := dk_50 (dk_at dksX1_isPlaying_1 12 rfl rfl)
theorem dX1_isPlaying_35 : decode cX1_isPlaying 35 = .ok (.aload_n 0, 1) := dk_42 (dk_at dksX1_isPlaying_1 13 rfl rfl)
theorem dX1_isPlaying_36 : decode cX1_isPlaying 36 = .ok (.getfield 58, 3) := dk_180 0 58 (dk_at dksX1_isPlaying_1 14 rfl rfl)
theorem dX1_isPlaying_39 : decode cX1_isPlaying 39 = .ok (.iload_n 1, 1) := dk_27 (dk_at dksX1_isPlaying_1 17 rfl rfl)
theorem dX1_isPlaying_40 : decode cX1_isPlaying 40 = .ok (.aaload, 1) := dk_50 (dk_at dksX1_isPlaying_1 18 rfl rfl)
theorem dX1_isPlaying_41 : decode cX1_isPlaying 41 = .ok (.getfield 230, 3) := dk_180 0 230 (dk_at dksX1_isPlaying_1 19 rfl rfl)
theorem dX1_isPlaying_44 : decode cX1_isPlaying 44 = .ok (.invokevirtual 340, 3) := dk_182 1 84 (dk_at dksX1_isPlaying_2 0 rfl rfl)
theorem dX1_isPlaying_47 : decode cX1_isPlaying 47 = .ok (.ifCond .eq 5, 3) := dk_153 0 5 (dk_at dksX1_isPlaying_2 3 rfl rfl)
theorem dX1_isPlaying_50 : decode cX1_isPlaying 50 = .ok (.iconst 1, 1) := dk_4 (dk_at dksX1_isPlaying_2 6 rfl rfl)
theorem dX1_isPlaying_51 : decode cX1_isPlaying 51 = .ok (.ireturn, 1) := dk_172 (dk_at dksX1_isPlaying_2 7 rfl rfl)
theorem dX1_isPlaying_52 : decode cX1_isPlaying 52 = .ok (.iinc 2 1, 3) := dk_132 2 1 (dk_at dksX1_isPlaying_2 8 rfl rfl)
theorem dX1_isPlaying_55 : decode cX1_isPlaying 55 = .ok (.goto (-53), 3) := dk_167 255 203 (dk_at dksX1_isPlaying_2 11 rfl rfl)
theorem dX1_isPlaying_58 : decode cX1_isPlaying 58 = .ok (.iconst 0, 1) := dk_3 (dk_at dksX1_isPlaying_2 14 rfl rfl)
theorem dX1_isPlaying_59 : decode cX1_isPlaying 59 = .ok (.ireturn, 1) := dk_172 (dk_at dksX1_isPlaying_2 15 rfl rfl)
abbrev cX1_isChorusOver : ByteArray := prog_1_method_39_code
def yX1_isChorusOver : MethodName := ⟨RX1, "isChorusOver", "(I)Z"⟩
def dkwX1_isChorusOver_5 : List UInt8 := [180, 0, 17, 164, 0, 7, 4, 167, 0, 4, 3, 172]
abbrev dktX1_isChorusOver_5 : List UInt8 := dkwX1_isChorusOver_5 ++ []
def dkwX1_isChorusOver_4 : List UInt8 := [21, 4, 50, 182, 1, 29, 96, 61, 132, 4, 1, 167, 255, 158, 28, 42, 180, 0, 13, 163, 0, 11, 29, 42]
abbrev dktX1_isChorusOver_4 : List UInt8 := dkwX1_isChorusOver_4 ++ dktX1_isChorusOver_5
def dkwX1_isChorusOver_3 : List UInt8 := [21, 4, 50, 180, 0, 214, 42, 180, 0, 58, 27, 50, 180, 0, 214, 160, 0, 16, 28, 42, 180, 0, 58]
abbrev dktX1_isChorusOver_3 : List UInt8 := dkwX1_isChorusOver_3 ++ dktX1_isChorusOver_4
def dkwX1_isChorusOver_2 : List UInt8 := [100, 163, 0, 6, 167, 0, 51, 29, 42, 180, 0, 58, 21, 4, 50, 182, 1, 29, 96, 62, 42, 180, 0, 58]
abbrev dktX1_isChorusOver_2 : List UInt8 := dkwX1_isChorusOver_2 ++ dktX1_isChorusOver_3
def dkwX1_isChorusOver_1 : List UInt8 := [153, 0, 79, 42, 180, 0, 58, 21, 4, 50, 180, 0, 214, 42, 180, 0, 58, 27, 50, 180, 0, 214, 16, 7]
abbrev dktX1_isChorusOver_1 : List UInt8 := dkwX1_isChorusOver_1 ++ dktX1_isChorusOver_2
def dkwX1_isChorusOver_0 : List UInt8 := [3, 61, 3, 62, 3, 54, 4, 21, 4, 27, 163, 0, 98, 42, 180, 0, 58, 21, 4, 50, 182, 1, 71]
abbrev dktX1_isChorusOver_0 : List UInt8 := dkwX1_isChorusOver_0 ++ dktX1_isChorusOver_1
theorem dksX1_isChorusOver_0 : cX1_isChorusOver.data.toList.drop 0 = dktX1_isChorusOver_0 := by decide +kernel
theorem dksX1_isChorusOver_1 : cX1_isChorusOver.data.toList.drop 23 = dktX1_isChorusOver_1 := dk_seg dksX1_isChorusOver_0 23 rfl rfl
theorem dksX1_isChorusOver_2 : cX1_isChorusOver.data.toList.drop 47 = dktX1_isChorusOver_2 := dk_seg dksX1_isChorusOver_1 24 rfl rfl
theorem dksX1_isChorusOver_3 : cX1_isChorusOver.data.toList.drop 71 = dktX1_isChorusOver_3 := dk_seg dksX1_isChorusOver_2 24 rfl rfl
theorem dksX1_isChorusOver_4 : cX1_isChorusOver.data.toList.drop 94 = dktX1_isChorusOver_4 := dk_seg dksX1_isChorusOver_3 23 rfl rfl
theorem dksX1_isChorusOver_5 : cX1_isChorusOver.data.toList.drop 118 = dktX1_isChorusOver_5 := dk_seg dksX1_isChorusOver_4 24 rfl rfl
theorem dX1_isChorusOver_0 : decode cX1_isChorusOver 0 = .ok (.iconst 0, 1) := dk_3 (dk_at dksX1_isChorusOver_0 0 rfl rfl)
theorem dX1_isChorusOver_1 : decode cX1_isChorusOver 1 = .ok (.istore_n 2, 1) := dk_61 (dk_at dksX1_isChorusOver_0 1 rfl rfl)
theorem dX1_isChorusOver_2 : decode cX1_isChorusOver 2 = .ok (.iconst 0, 1) := dk_3 (dk_at dksX1_isChorusOver_0 2 rfl rfl)
theorem dX1_isChorusOver_3 : decode cX1_isChorusOver 3 = .ok (.istore_n 3, 1) := dk_62 (dk_at dksX1_isChorusOver_0 3 rfl rfl)
theorem dX1_isChorusOver_4 : decode cX1_isChorusOver 4 = .ok (.iconst 0, 1) := dk_3 (dk_at dksX1_isChorusOver_0 4 rfl rfl)
theorem dX1_isChorusOver_5 : decode cX1_isChorusOver 5 = .ok (.istore 4, 2) := dk_54 4 (dk_at dksX1_isChorusOver_0 5 rfl rfl)
theorem dX1_isChorusOver_7 : decode cX1_isChorusOver 7 = .ok (.iload 4, 2) := dk_21 4 (dk_at dksX1_isChorusOver_0 7 rfl rfl)
theorem dX1_isChorusOver_9 : decode cX1_isChorusOver 9 = .ok (.iload_n 1, 1) := dk_27 (dk_at dksX1_isChorusOver_0 9 rfl rfl)
theorem dX1_isChorusOver_10 : decode cX1_isChorusOver 10 = .ok (.if_icmp .gt 98, 3) := dk_163 0 98 (dk_at dksX1_isChorusOver_0 10 rfl rfl)
theorem dX1_isChorusOver_13 : decode cX1_isChorusOver 13 = .ok (.aload_n 0, 1) := dk_42 (dk_at dksX1_isChorusOver_0 13 rfl rfl)
theorem dX1_isChorusOver_14 : decode cX1_isChorusOver 14 = .ok (.getfield 58, 3) := dk_180 0 58 (dk_at dksX1_isChorusOver_0 14 rfl rfl)
theorem dX1_isChorusOver_17 : decode cX1_isChorusOver 17 = .ok (.iload 4, 2) := dk_21 4 (dk_at dksX1_isChorusOver_0 17 rfl rfl)
theorem dX1_isChorusOver_19 : decode cX1_isChorusOver 19 = .ok (.aaload, 1) := dk_50 (dk_at dksX1_isChorusOver_0 19 rfl rfl)
theorem dX1_isChorusOver_20 : decode cX1_isChorusOver 20 = .ok (.invokevirtual 327, 3) := dk_182 1 71 (dk_at dksX1_isChorusOver_0 20 rfl rfl)
theorem dX1_isChorusOver_23 : decode cX1_isChorusOver 23 = .ok (.ifCond .eq 79, 3) := dk_153 0 79 (dk_at dksX1_isChorusOver_1 0 rfl rfl)
theorem dX1_isChorusOver_26 : decode cX1_isChorusOver 26 = .ok (.aload_n 0, 1) := dk_42 (dk_at dksX1_isChorusOver_1 3 rfl rfl)
theorem dX1_isChorusOver_27 : decode cX1_isChorusOver 27 = .ok (.getfield 58, 3) := dk_180 0 58 (dk_at dksX1_isChorusOver_1 4 rfl rfl)
theorem dX1_isChorusOver_30 : decode cX1_isChorusOver 30 = .ok (.iload 4, 2) := dk_21 4 (dk_at dksX1_isChorusOver_1 7 rfl rfl)
theorem dX1_isChorusOver_32 : decode cX1_isChorusOver 32 = .ok (.aaload, 1) := dk_50 (dk_at dksX1_isChorusOver_1 9 rfl rfl)
theorem dX1_isChorusOver_33 : decode cX1_isChorusOver 33 = .ok (.getfield 214, 3) := dk_180 0 214 (dk_at dksX1_isChorusOver_1 10 rfl rfl)
theorem dX1_isChorusOver_36 : decode cX1_isChorusOver 36 = .ok (.aload_n 0, 1) := dk_42 (dk_at dksX1_isChorusOver_1 13 rfl rfl)
theorem dX1_isChorusOver_37 : decode cX1_isChorusOver 37 = .ok (.getfield 58, 3) := dk_180 0 58 (dk_at dksX1_isChorusOver_1 14 rfl rfl)
theorem dX1_isChorusOver_40 : decode cX1_isChorusOver 40 = .ok (.iload_n 1, 1) := dk_27 (dk_at dksX1_isChorusOver_1 17 rfl rfl)
theorem dX1_isChorusOver_41 : decode cX1_isChorusOver 41 = .ok (.aaload, 1) := dk_50 (dk_at dksX1_isChorusOver_1 18 rfl rfl)
theorem dX1_isChorusOver_42 : decode cX1_isChorusOver 42 = .ok (.getfield 214, 3) := dk_180 0 214 (dk_at dksX1_isChorusOver_1 19 rfl rfl)
theorem dX1_isChorusOver_45 : decode cX1_isChorusOver 45 = .ok (.bipush 7, 2) := dk_16 7 (dk_at dksX1_isChorusOver_1 22 rfl rfl)
theorem dX1_isChorusOver_47 : decode cX1_isChorusOver 47 = .ok (.isub, 1) := dk_100 (dk_at dksX1_isChorusOver_2 0 rfl rfl)
theorem dX1_isChorusOver_48 : decode cX1_isChorusOver 48 = .ok (.if_icmp .gt 6, 3) := dk_163 0 6 (dk_at dksX1_isChorusOver_2 1 rfl rfl)
theorem dX1_isChorusOver_51 : decode cX1_isChorusOver 51 = .ok (.goto 51, 3) := dk_167 0 51 (dk_at dksX1_isChorusOver_2 4 rfl rfl)
theorem dX1_isChorusOver_54 : decode cX1_isChorusOver 54 = .ok (.iload_n 3, 1) := dk_29 (dk_at dksX1_isChorusOver_2 7 rfl rfl)
theorem dX1_isChorusOver_55 : decode cX1_isChorusOver 55 = .ok (.aload_n 0, 1) := dk_42 (dk_at dksX1_isChorusOver_2 8 rfl rfl)
theorem dX1_isChorusOver_56 : decode cX1_isChorusOver 56 = .ok (.getfield 58, 3) := dk_180 0 58 (dk_at dksX1_isChorusOver_2 9 rfl rfl)
theorem dX1_isChorusOver_59 : decode cX1_isChorusOver 59 = .ok (.iload 4, 2) := dk_21 4 (dk_at dksX1_isChorusOver_2 12 rfl rfl)
theorem dX1_isChorusOver_61 : decode cX1_isChorusOver 61 = .ok (.aaload, 1) := dk_50 (dk_at dksX1_isChorusOver_2 14 rfl rfl)
theorem dX1_isChorusOver_62 : decode cX1_isChorusOver 62 = .ok (.invokevirtual 285, 3) := dk_182 1 29 (dk_at dksX1_isChorusOver_2 15 rfl rfl)
theorem dX1_isChorusOver_65 : decode cX1_isChorusOver 65 = .ok (.iadd, 1) := dk_96 (dk_at dksX1_isChorusOver_2 18 rfl rfl)
theorem dX1_isChorusOver_66 : decode cX1_isChorusOver 66 = .ok (.istore_n 3, 1) := dk_62 (dk_at dksX1_isChorusOver_2 19 rfl rfl)
theorem dX1_isChorusOver_67 : decode cX1_isChorusOver 67 = .ok (.aload_n 0, 1) := dk_42 (dk_at dksX1_isChorusOver_2 20 rfl rfl)
theorem dX1_isChorusOver_68 : decode cX1_isChorusOver 68 = .ok (.getfield 58, 3) := dk_180 0 58 (dk_at dksX1_isChorusOver_2 21 rfl rfl)
theorem dX1_isChorusOver_71 : decode cX1_isChorusOver 71 = .ok (.iload 4, 2) := dk_21 4 (dk_at dksX1_isChorusOver_3 0 rfl rfl)
theorem dX1_isChorusOver_73 : decode cX1_isChorusOver 73 = .ok (.aaload, 1) := dk_50 (dk_at dksX1_isChorusOver_3 2 rfl rfl)
theorem dX1_isChorusOver_74 : decode cX1_isChorusOver 74 = .ok (.getfield 214, 3) := dk_180 0 214 (dk_at dksX1_isChorusOver_3 3 rfl rfl)
theorem dX1_isChorusOver_77 : decode cX1_isChorusOver 77 = .ok (.aload_n 0, 1) := dk_42 (dk_at dksX1_isChorusOver_3 6 rfl rfl)
theorem dX1_isChorusOver_78 : decode cX1_isChorusOver 78 = .ok (.getfield 58, 3) := dk_180 0 58 (dk_at dksX1_isChorusOver_3 7 rfl rfl)
theorem dX1_isChorusOver_81 : decode cX1_isChorusOver 81 = .ok (.iload_n 1, 1) := dk_27 (dk_at dksX1_isChorusOver_3 10 rfl rfl)
theorem dX1_isChorusOver_82 : decode cX1_isChorusOver 82 = .ok (.aaload, 1) := dk_50 (dk_at dksX1_isChorusOver_3 11 rfl rfl)
theorem dX1_isChorusOver_83 : decode cX1_isChorusOver 83 = .ok (.getfield 214, 3) := dk_180 0 214 (dk_at dksX1_isChorusOver_3 12 rfl rfl)
theorem dX1_isChorusOver_86 : decode cX1_isChorusOver 86 = .ok (.if_icmp .ne 16, 3) := dk_160 0 16 (dk_at dksX1_isChorusOver_3 15 rfl rfl)
theorem dX1_isChorusOver_89 : decode cX1_isChorusOver 89 = .ok (.iload_n 2, 1) := dk_28 (dk_at dksX1_isChorusOver_3 18 rfl rfl)
theorem dX1_isChorusOver_90 : decode cX1_isChorusOver 90 = .ok (.aload_n 0, 1) := dk_42 (dk_at dksX1_isChorusOver_3 19 rfl rfl)
theorem dX1_isChorusOver_91 : decode cX1_isChorusOver 91 = .ok (.getfield 58, 3) := dk_180 0 58 (dk_at dksX1_isChorusOver_3 20 rfl rfl)
theorem dX1_isChorusOver_94 : decode cX1_isChorusOver 94 = .ok (.iload 4, 2) := dk_21 4 (dk_at dksX1_isChorusOver_4 0 rfl rfl)
theorem dX1_isChorusOver_96 : decode cX1_isChorusOver 96 = .ok (.aaload, 1) := dk_50 (dk_at dksX1_isChorusOver_4 2 rfl rfl)
theorem dX1_isChorusOver_97 : decode cX1_isChorusOver 97 = .ok (.invokevirtual 285, 3) := dk_182 1 29 (dk_at dksX1_isChorusOver_4 3 rfl rfl)
theorem dX1_isChorusOver_100 : decode cX1_isChorusOver 100 = .ok (.iadd, 1) := dk_96 (dk_at dksX1_isChorusOver_4 6 rfl rfl)
theorem dX1_isChorusOver_101 : decode cX1_isChorusOver 101 = .ok (.istore_n 2, 1) := dk_61 (dk_at dksX1_isChorusOver_4 7 rfl rfl)
theorem dX1_isChorusOver_102 : decode cX1_isChorusOver 102 = .ok (.iinc 4 1, 3) := dk_132 4 1 (dk_at dksX1_isChorusOver_4 8 rfl rfl)
theorem dX1_isChorusOver_105 : decode cX1_isChorusOver 105 = .ok (.goto (-98), 3) := dk_167 255 158 (dk_at dksX1_isChorusOver_4 11 rfl rfl)
theorem dX1_isChorusOver_108 : decode cX1_isChorusOver 108 = .ok (.iload_n 2, 1) := dk_28 (dk_at dksX1_isChorusOver_4 14 rfl rfl)
theorem dX1_isChorusOver_109 : decode cX1_isChorusOver 109 = .ok (.aload_n 0, 1) := dk_42 (dk_at dksX1_isChorusOver_4 15 rfl rfl)
theorem dX1_isChorusOver_110 : decode cX1_isChorusOver 110 = .ok (.getfield 13, 3) := dk_180 0 13 (dk_at dksX1_isChorusOver_4 16 rfl rfl)
theorem dX1_isChorusOver_113 : decode cX1_isChorusOver 113 = .ok (.if_icmp .gt 11, 3) := dk_163 0 11 (dk_at dksX1_isChorusOver_4 19 rfl rfl)
theorem dX1_isChorusOver_116 : decode cX1_isChorusOver 116 = .ok (.iload_n 3, 1) := dk_29 (dk_at dksX1_isChorusOver_4 22 rfl rfl)
theorem dX1_isChorusOver_117 : decode cX1_isChorusOver 117 = .ok (.aload_n 0, 1) := dk_42 (dk_at dksX1_isChorusOver_4 23 rfl rfl)
theorem dX1_isChorusOver_118 : decode cX1_isChorusOver 118 = .ok (.getfield 17, 3) := dk_180 0 17 (dk_at dksX1_isChorusOver_5 0 rfl rfl)
theorem dX1_isChorusOver_121 : decode cX1_isChorusOver 121 = .ok (.if_icmp .le 7, 3) := dk_164 0 7 (dk_at dksX1_isChorusOver_5 3 rfl rfl)
theorem dX1_isChorusOver_124 : decode cX1_isChorusOver 124 = .ok (.iconst 1, 1) := dk_4 (dk_at dksX1_isChorusOver_5 6 rfl rfl)
theorem dX1_isChorusOver_125 : decode cX1_isChorusOver 125 = .ok (.goto 4, 3) := dk_167 0 4 (dk_at dksX1_isChorusOver_5 7 rfl rfl)
theorem dX1_isChorusOver_128 : decode cX1_isChorusOver 128 = .ok (.iconst 0, 1) := dk_3 (dk_at dksX1_isChorusOver_5 10 rfl rfl)
theorem dX1_isChorusOver_129 : decode cX1_isChorusOver 129 = .ok (.ireturn, 1) := dk_172 (dk_at dksX1_isChorusOver_5 11 rfl rfl)
abbrev cX1_judgeRole : ByteArray := prog_1_method_40_code
def yX1_judgeRole : MethodName := ⟨RX1, "judgeRole", "(IILOperaHouse$Singer;)V"⟩
def dkwX1_judgeRole_16 : List UInt8 := [164, 0, 7, 4, 167, 0, 4, 3, 182, 1, 53, 177]
abbrev dktX1_judgeRole_16 : List UInt8 := dkwX1_judgeRole_16 ++ []
def dkwX1_judgeRole_15 : List UInt8 := [182, 1, 53, 42, 25, 4, 28, 16, 15, 42, 45, 180, 1, 100, 25, 4, 182, 1, 135, 25, 5, 180, 1, 138]
abbrev dktX1_judgeRole_15 : List UInt8 := dkwX1_judgeRole_15 ++ dktX1_judgeRole_16
def dkwX1_judgeRole_14 : List UInt8 := [180, 1, 100, 25, 4, 16, 7, 182, 1, 128, 25, 5, 180, 1, 132, 164, 0, 7, 4, 167, 0, 4, 3]
abbrev dktX1_judgeRole_14 : List UInt8 := dkwX1_judgeRole_14 ++ dktX1_judgeRole_15
def dkwX1_judgeRole_13 : List UInt8 := [167, 0, 4, 3, 182, 1, 53, 42, 25, 4, 28, 16, 14, 25, 4, 180, 1, 25, 6, 160, 0, 27, 42, 45]
abbrev dktX1_judgeRole_13 : List UInt8 := dkwX1_judgeRole_13 ++ dktX1_judgeRole_14
def dkwX1_judgeRole_12 : List UInt8 := [16, 13, 42, 45, 180, 1, 100, 25, 4, 182, 1, 124, 25, 5, 180, 1, 127, 7, 96, 164, 0, 7, 4]
abbrev dktX1_judgeRole_12 : List UInt8 := dkwX1_judgeRole_12 ++ dktX1_judgeRole_13
def dkwX1_judgeRole_11 : List UInt8 := [180, 1, 26, 100, 25, 5, 180, 1, 121, 162, 0, 7, 4, 167, 0, 4, 3, 182, 1, 53, 42, 25, 4, 28]
abbrev dktX1_judgeRole_11 : List UInt8 := dkwX1_judgeRole_11 ++ dktX1_judgeRole_12
def dkwX1_judgeRole_10 : List UInt8 := [198, 0, 39, 25, 6, 180, 0, 214, 25, 4, 180, 0, 214, 159, 0, 26, 25, 4, 180, 0, 230, 25, 6]
abbrev dktX1_judgeRole_10 : List UInt8 := dkwX1_judgeRole_10 ++ dktX1_judgeRole_11
def dkwX1_judgeRole_9 : List UInt8 := [42, 180, 0, 58, 21, 7, 50, 58, 6, 132, 7, 1, 167, 255, 207, 42, 25, 4, 28, 16, 12, 25, 6]
abbrev dktX1_judgeRole_9 : List UInt8 := dkwX1_judgeRole_9 ++ dktX1_judgeRole_10
def dkwX1_judgeRole_8 : List UInt8 := [182, 1, 118, 153, 0, 30, 42, 45, 180, 1, 100, 42, 180, 0, 58, 21, 7, 50, 182, 1, 43, 153, 0, 12]
abbrev dktX1_judgeRole_8 : List UInt8 := dkwX1_judgeRole_8 ++ dktX1_judgeRole_9
def dkwX1_judgeRole_7 : List UInt8 := [182, 1, 53, 1, 58, 6, 3, 54, 7, 21, 7, 27, 162, 0, 49, 42, 180, 0, 58, 21, 7, 50]
abbrev dktX1_judgeRole_7 : List UInt8 := dkwX1_judgeRole_7 ++ dktX1_judgeRole_8
def dkwX1_judgeRole_6 : List UInt8 := [167, 0, 4, 3, 182, 1, 53, 42, 25, 4, 28, 16, 11, 42, 27, 28, 45, 180, 1, 100, 182, 1, 115]
abbrev dktX1_judgeRole_6 : List UInt8 := dkwX1_judgeRole_6 ++ dktX1_judgeRole_7
def dkwX1_judgeRole_5 : List UInt8 := [182, 1, 108, 154, 0, 19, 42, 45, 180, 1, 100, 25, 4, 180, 0, 214, 182, 1, 111, 153, 0, 7, 4]
abbrev dktX1_judgeRole_5 : List UInt8 := dkwX1_judgeRole_5 ++ dktX1_judgeRole_6
def dkwX1_judgeRole_4 : List UInt8 := [162, 0, 7, 4, 167, 0, 4, 3, 182, 1, 53, 42, 25, 4, 28, 16, 10, 25, 5, 25, 4, 180, 0, 214]
abbrev dktX1_judgeRole_4 : List UInt8 := dkwX1_judgeRole_4 ++ dktX1_judgeRole_5
def dkwX1_judgeRole_3 : List UInt8 := [25, 4, 180, 1, 2, 28, 25, 4, 180, 0, 230, 182, 1, 101, 25, 4, 180, 1, 2, 180, 1, 105]
abbrev dktX1_judgeRole_3 : List UInt8 := dkwX1_judgeRole_3 ++ dktX1_judgeRole_4
def dkwX1_judgeRole_2 : List UInt8 := [182, 1, 53, 42, 25, 4, 28, 16, 9, 25, 4, 180, 1, 25, 6, 160, 0, 37, 42, 45, 180, 1, 100]
abbrev dktX1_judgeRole_2 : List UInt8 := dkwX1_judgeRole_2 ++ dktX1_judgeRole_3
def dkwX1_judgeRole_1 : List UInt8 := [180, 1, 2, 180, 0, 137, 28, 182, 0, 155, 192, 0, 140, 182, 1, 96, 154, 0, 7, 4, 167, 0, 4, 3]
abbrev dktX1_judgeRole_1 : List UInt8 := dkwX1_judgeRole_1 ++ dktX1_judgeRole_2
def dkwX1_judgeRole_0 : List UInt8 := [42, 180, 0, 58, 27, 50, 58, 4, 45, 180, 0, 175, 58, 5, 42, 25, 4, 28, 16, 8, 45, 25, 4]
abbrev dktX1_judgeRole_0 : List UInt8 := dkwX1_judgeRole_0 ++ dktX1_judgeRole_1
theorem dksX1_judgeRole_0 : cX1_judgeRole.data.toList.drop 0 = dktX1_judgeRole_0 := by decide +kernel
theorem dksX1_judgeRole_1 : cX1_judgeRole.data.toList.drop 23 = dktX1_judgeRole_1 := dk_seg dksX1_judgeRole_0 23 rfl rfl
theorem dksX1_judgeRole_2 : cX1_judgeRole.data.toList.drop 47 = dktX1_judgeRole_2 := dk_seg dksX1_judgeRole_1 24 rfl rfl
theorem dksX1_judgeRole_3 : cX1_judgeRole.data.toList.drop 70 = dktX1_judgeRole_3 := dk_seg dksX1_judgeRole_2 23 rfl rfl
theorem dksX1_judgeRole_4 : cX1_judgeRole.data.toList.drop 92 = dktX1_judgeRole_4 := dk_seg dksX1_judgeRole_3 22 rfl rfl
theorem dksX1_judgeRole_5 : cX1_judgeRole.data.toList.drop 116 = dktX1_judgeRole_5 := dk_seg dksX1_judgeRole_4 24 rfl rfl
theorem dksX1_judgeRole_6 : cX1_judgeRole.data.toList.drop 139 = dktX1_judgeRole_6 := dk_seg dksX1_judgeRole_5 23 rfl rfl
theorem dksX1_judgeRole_7 : cX1_judgeRole.data.toList.drop 162 = dktX1_judgeRole_7 := dk_seg dksX1_judgeRole_6 23 rfl rfl
theorem dksX1_judgeRole_8 : cX1_judgeRole.data.toList.drop 184 = dktX1_judgeRole_8 := dk_seg dksX1_judgeRole_7 22 rfl rfl
theorem dksX1_judgeRole_9 : cX1_judgeRole.data.toList.drop 208 = dktX1_judgeRole_9 := dk_seg dksX1_judgeRole_8 24 rfl rfl
theorem dksX1_judgeRole_10 : cX1_judgeRole.data.toList.drop 231 = dktX1_judgeRole_10 := dk_seg dksX1_judgeRole_9 23 rfl rfl
theorem dksX1_judgeRole_11 : cX1_judgeRole.data.toList.drop 254 = dktX1_judgeRole_11 := dk_seg dksX1_judgeRole_10 23 rfl rfl
theorem dksX1_judgeRole_12 : cX1_judgeRole.data.toList.drop 278 = dktX1_judgeRole_12 := dk_seg dksX1_judgeRole_11 24 rfl rfl
theorem dksX1_judgeRole_13 : cX1_judgeRole.data.toList.drop 301 = dktX1_judgeRole_13 := dk_seg dksX1_judgeRole_12 23 rfl rfl
theorem dksX1_judgeRole_14 : cX1_judgeRole.data.toList.drop 325 = dktX1_judgeRole_14 := dk_seg dksX1_judgeRole_13 24 rfl rfl
theorem dksX1_judgeRole_15 : cX1_judgeRole.data.toList.drop 348 = dktX1_judgeRole_15 := dk_seg dksX1_judgeRole_14 23 rfl rfl
theorem dksX1_judgeRole_16 : cX1_judgeRole.data.toList.drop 372 = dktX1_judgeRole_16 := dk_seg dksX1_judgeRole_15 24 rfl rfl
theorem dX1_judgeRole_0 : decode cX1_judgeRole 0 = .ok (.aload_n 0, 1) := dk_42 (dk_at dksX1_judgeRole_0 0 rfl rfl)
theorem dX1_judgeRole_1 : decode cX1_judgeRole 1 = .ok (.getfield 58, 3) := dk_180 0 58 (dk_at dksX1_judgeRole_0 1 rfl rfl)
theorem dX1_judgeRole_4 : decode cX1_judgeRole 4 = .ok (.iload_n 1, 1) := dk_27 (dk_at dksX1_judgeRole_0 4 rfl rfl)
theorem dX1_judgeRole_5 : decode cX1_judgeRole 5 = .ok (.aaload, 1) := dk_50 (dk_at dksX1_judgeRole_0 5 rfl rfl)
theorem dX1_judgeRole_6 : decode cX1_judgeRole 6 = .ok (.astore 4, 2) := dk_58 4 (dk_at dksX1_judgeRole_0 6 rfl rfl)
theorem dX1_judgeRole_8 : decode cX1_judgeRole 8 = .ok (.aload_n 3, 1) := dk_45 (dk_at dksX1_judgeRole_0 8 rfl rfl)
theorem dX1_judgeRole_9 : decode cX1_judgeRole 9 = .ok (.getfield 175, 3) := dk_180 0 175 (dk_at dksX1_judgeRole_0 9 rfl rfl)
theorem dX1_judgeRole_12 : decode cX1_judgeRole 12 = .ok (.astore 5, 2) := dk_58 5 (dk_at dksX1_judgeRole_0 12 rfl rfl)
theorem dX1_judgeRole_14 : decode cX1_judgeRole 14 = .ok (.aload_n 0, 1) := dk_42 (dk_at dksX1_judgeRole_0 14 rfl rfl)
theorem dX1_judgeRole_15 : decode cX1_judgeRole 15 = .ok (.aload 4, 2) := dk_25 4 (dk_at dksX1_judgeRole_0 15 rfl rfl)
theorem dX1_judgeRole_17 : decode cX1_judgeRole 17 = .ok (.iload_n 2, 1) := dk_28 (dk_at dksX1_judgeRole_0 17 rfl rfl)
theorem dX1_judgeRole_18 : decode cX1_judgeRole 18 = .ok (.bipush 8, 2) := dk_16 8 (dk_at dksX1_judgeRole_0 18 rfl rfl)
theorem dX1_judgeRole_20 : decode cX1_judgeRole 20 = .ok (.aload_n 3, 1) := dk_45 (dk_at dksX1_judgeRole_0 20 rfl rfl)
theorem dX1_judgeRole_21 : decode cX1_judgeRole 21 = .ok (.aload 4, 2) := dk_25 4 (dk_at dksX1_judgeRole_0 21 rfl rfl)
theorem dX1_judgeRole_23 : decode cX1_judgeRole 23 = .ok (.getfield 258, 3) := dk_180 1 2 (dk_at dksX1_judgeRole_1 0 rfl rfl)
theorem dX1_judgeRole_26 : decode cX1_judgeRole 26 = .ok (.getfield 137, 3) := dk_180 0 137 (dk_at dksX1_judgeRole_1 3 rfl rfl)
theorem dX1_judgeRole_29 : decode cX1_judgeRole 29 = .ok (.iload_n 2, 1) := dk_28 (dk_at dksX1_judgeRole_1 6 rfl rfl)
theorem dX1_judgeRole_30 : decode cX1_judgeRole 30 = .ok (.invokevirtual 155, 3) := dk_182 0 155 (dk_at dksX1_judgeRole_1 7 rfl rfl)
theorem dX1_judgeRole_33 : decode cX1_judgeRole 33 = .ok (.checkcast 140, 3) := dk_192 0 140 (dk_at dksX1_judgeRole_1 10 rfl rfl)
theorem dX1_judgeRole_36 : decode cX1_judgeRole 36 = .ok (.invokevirtual 352, 3) := dk_182 1 96 (dk_at dksX1_judgeRole_1 13 rfl rfl)
theorem dX1_judgeRole_39 : decode cX1_judgeRole 39 = .ok (.ifCond .ne 7, 3) := dk_154 0 7 (dk_at dksX1_judgeRole_1 16 rfl rfl)
theorem dX1_judgeRole_42 : decode cX1_judgeRole 42 = .ok (.iconst 1, 1) := dk_4 (dk_at dksX1_judgeRole_1 19 rfl rfl)
theorem dX1_judgeRole_43 : decode cX1_judgeRole 43 = .ok (.goto 4, 3) := dk_167 0 4 (dk_at dksX1_judgeRole_1 20 rfl rfl)
theorem dX1_judgeRole_46 : decode cX1_judgeRole 46 = .ok (.iconst 0, 1) := dk_3 (dk_at dksX1_judgeRole_1 23 rfl rfl)
theorem dX1_judgeRole_47 : decode cX1_judgeRole 47 = .ok (.invokevirtual 309, 3) := dk_182 1 53 (dk_at dksX1_judgeRole_2 0 rfl rfl)
theorem dX1_judgeRole_50 : decode cX1_judgeRole 50 = .ok (.aload_n 0, 1) := dk_42 (dk_at dksX1_judgeRole_2 3 rfl rfl)
theorem dX1_judgeRole_51 : decode cX1_judgeRole 51 = .ok (.aload 4, 2) := dk_25 4 (dk_at dksX1_judgeRole_2 4 rfl rfl)
theorem dX1_judgeRole_53 : decode cX1_judgeRole 53 = .ok (.iload_n 2, 1) := dk_28 (dk_at dksX1_judgeRole_2 6 rfl rfl)
theorem dX1_judgeRole_54 : decode cX1_judgeRole 54 = .ok (.bipush 9, 2) := dk_16 9 (dk_at dksX1_judgeRole_2 7 rfl rfl)
theorem dX1_judgeRole_56 : decode cX1_judgeRole 56 = .ok (.aload 4, 2) := dk_25 4 (dk_at dksX1_judgeRole_2 9 rfl rfl)
theorem dX1_judgeRole_58 : decode cX1_judgeRole 58 = .ok (.getfield 281, 3) := dk_180 1 25 (dk_at dksX1_judgeRole_2 11 rfl rfl)
theorem dX1_judgeRole_61 : decode cX1_judgeRole 61 = .ok (.iconst 3, 1) := dk_6 (dk_at dksX1_judgeRole_2 14 rfl rfl)
theorem dX1_judgeRole_62 : decode cX1_judgeRole 62 = .ok (.if_icmp .ne 37, 3) := dk_160 0 37 (dk_at dksX1_judgeRole_2 15 rfl rfl)
theorem dX1_judgeRole_65 : decode cX1_judgeRole 65 = .ok (.aload_n 0, 1) := dk_42 (dk_at dksX1_judgeRole_2 18 rfl rfl)
theorem dX1_judgeRole_66 : decode cX1_judgeRole 66 = .ok (.aload_n 3, 1) := dk_45 (dk_at dksX1_judgeRole_2 19 rfl rfl)
theorem dX1_judgeRole_67 : decode cX1_judgeRole 67 = .ok (.getfield 356, 3) := dk_180 1 100 (dk_at dksX1_judgeRole_2 20 rfl rfl)
theorem dX1_judgeRole_70 : decode cX1_judgeRole 70 = .ok (.aload 4, 2) := dk_25 4 (dk_at dksX1_judgeRole_3 0 rfl rfl)
theorem dX1_judgeRole_72 : decode cX1_judgeRole 72 = .ok (.getfield 258, 3) := dk_180 1 2 (dk_at dksX1_judgeRole_3 2 rfl rfl)
theorem dX1_judgeRole_75 : decode cX1_judgeRole 75 = .ok (.iload_n 2, 1) := dk_28 (dk_at dksX1_judgeRole_3 5 rfl rfl)
theorem dX1_judgeRole_76 : decode cX1_judgeRole 76 = .ok (.aload 4, 2) := dk_25 4 (dk_at dksX1_judgeRole_3 6 rfl rfl)
theorem dX1_judgeRole_78 : decode cX1_judgeRole 78 = .ok (.getfield 230, 3) := dk_180 0 230 (dk_at dksX1_judgeRole_3 8 rfl rfl)
theorem dX1_judgeRole_81 : decode cX1_judgeRole 81 = .ok (.invokevirtual 357, 3) := dk_182 1 101 (dk_at dksX1_judgeRole_3 11 rfl rfl)
theorem dX1_judgeRole_84 : decode cX1_judgeRole 84 = .ok (.aload 4, 2) := dk_25 4 (dk_at dksX1_judgeRole_3 14 rfl rfl)
theorem dX1_judgeRole_86 : decode cX1_judgeRole 86 = .ok (.getfield 258, 3) := dk_180 1 2 (dk_at dksX1_judgeRole_3 16 rfl rfl)
theorem dX1_judgeRole_89 : decode cX1_judgeRole 89 = .ok (.getfield 361, 3) := dk_180 1 105 (dk_at dksX1_judgeRole_3 19 rfl rfl)
theorem dX1_judgeRole_92 : decode cX1_judgeRole 92 = .ok (.if_icmp .ge 7, 3) := dk_162 0 7 (dk_at dksX1_judgeRole_4 0 rfl rfl)
theorem dX1_judgeRole_95 : decode cX1_judgeRole 95 = .ok (.iconst 1, 1) := dk_4 (dk_at dksX1_judgeRole_4 3 rfl rfl)
theorem dX1_judgeRole_96 : decode cX1_judgeRole 96 = .ok (.goto 4, 3) := dk_167 0 4 (dk_at dksX1_judgeRole_4 4 rfl rfl)
theorem dX1_judgeRole_99 : decode cX1_judgeRole 99 = .ok (.iconst 0, 1) := dk_3 (dk_at dksX1_judgeRole_4 7 rfl rfl)
theorem dX1_judgeRole_100 : decode cX1_judgeRole 100 = .ok (.invokevirtual 309, 3) := dk_182 1 53 (dk_at dksX1_judgeRole_4 8 rfl rfl)
theorem dX1_judgeRole_103 : decode cX1_judgeRole 103 = .ok (.aload_n 0, 1) := dk_42 (dk_at dksX1_judgeRole_4 11 rfl rfl)
theorem dX1_judgeRole_104 : decode cX1_judgeRole 104 = .ok (.aload 4, 2) := dk_25 4 (dk_at dksX1_judgeRole_4 12 rfl rfl)
theorem dX1_judgeRole_106 : decode cX1_judgeRole 106 = .ok (.iload_n 2, 1) := dk_28 (dk_at dksX1_judgeRole_4 14 rfl rfl)
theorem dX1_judgeRole_107 : decode cX1_judgeRole 107 = .ok (.bipush 10, 2) := dk_16 10 (dk_at dksX1_judgeRole_4 15 rfl rfl)
theorem dX1_judgeRole_109 : decode cX1_judgeRole 109 = .ok (.aload 5, 2) := dk_25 5 (dk_at dksX1_judgeRole_4 17 rfl rfl)
theorem dX1_judgeRole_111 : decode cX1_judgeRole 111 = .ok (.aload 4, 2) := dk_25 4 (dk_at dksX1_judgeRole_4 19 rfl rfl)
theorem dX1_judgeRole_113 : decode cX1_judgeRole 113 = .ok (.getfield 214, 3) := dk_180 0 214 (dk_at dksX1_judgeRole_4 21 rfl rfl)
theorem dX1_judgeRole_116 : decode cX1_judgeRole 116 = .ok (.invokevirtual 364, 3) := dk_182 1 108 (dk_at dksX1_judgeRole_5 0 rfl rfl)
theorem dX1_judgeRole_119 : decode cX1_judgeRole 119 = .ok (.ifCond .ne 19, 3) := dk_154 0 19 (dk_at dksX1_judgeRole_5 3 rfl rfl)
theorem dX1_judgeRole_122 : decode cX1_judgeRole 122 = .ok (.aload_n 0, 1) := dk_42 (dk_at dksX1_judgeRole_5 6 rfl rfl)
theorem dX1_judgeRole_123 : decode cX1_judgeRole 123 = .ok (.aload_n 3, 1) := dk_45 (dk_at dksX1_judgeRole_5 7 rfl rfl)
theorem dX1_judgeRole_124 : decode cX1_judgeRole 124 = .ok (.getfield 356, 3) := dk_180 1 100 (dk_at dksX1_judgeRole_5 8 rfl rfl)
theorem dX1_judgeRole_127 : decode cX1_judgeRole 127 = .ok (.aload 4, 2) := dk_25 4 (dk_at dksX1_judgeRole_5 11 rfl rfl)
theorem dX1_judgeRole_129 : decode cX1_judgeRole 129 = .ok (.getfield 214, 3) := dk_180 0 214 (dk_at dksX1_judgeRole_5 13 rfl rfl)
theorem dX1_judgeRole_132 : decode cX1_judgeRole 132 = .ok (.invokevirtual 367, 3) := dk_182 1 111 (dk_at dksX1_judgeRole_5 16 rfl rfl)
theorem dX1_judgeRole_135 : decode cX1_judgeRole 135 = .ok (.ifCond .eq 7, 3) := dk_153 0 7 (dk_at dksX1_judgeRole_5 19 rfl rfl)
theorem dX1_judgeRole_138 : decode cX1_judgeRole 138 = .ok (.iconst 1, 1) := dk_4 (dk_at dksX1_judgeRole_5 22 rfl rfl)
theorem dX1_judgeRole_139 : decode cX1_judgeRole 139 = .ok (.goto 4, 3) := dk_167 0 4 (dk_at dksX1_judgeRole_6 0 rfl rfl)
theorem dX1_judgeRole_142 : decode cX1_judgeRole 142 = .ok (.iconst 0, 1) := dk_3 (dk_at dksX1_judgeRole_6 3 rfl rfl)
theorem dX1_judgeRole_143 : decode cX1_judgeRole 143 = .ok (.invokevirtual 309, 3) := dk_182 1 53 (dk_at dksX1_judgeRole_6 4 rfl rfl)
theorem dX1_judgeRole_146 : decode cX1_judgeRole 146 = .ok (.aload_n 0, 1) := dk_42 (dk_at dksX1_judgeRole_6 7 rfl rfl)
theorem dX1_judgeRole_147 : decode cX1_judgeRole 147 = .ok (.aload 4, 2) := dk_25 4 (dk_at dksX1_judgeRole_6 8 rfl rfl)
theorem dX1_judgeRole_149 : decode cX1_judgeRole 149 = .ok (.iload_n 2, 1) := dk_28 (dk_at dksX1_judgeRole_6 10 rfl rfl)
theorem dX1_judgeRole_150 : decode cX1_judgeRole 150 = .ok (.bipush 11, 2) := dk_16 11 (dk_at dksX1_judgeRole_6 11 rfl rfl)
theorem dX1_judgeRole_152 : decode cX1_judgeRole 152 = .ok (.aload_n 0, 1) := dk_42 (dk_at dksX1_judgeRole_6 13 rfl rfl)
theorem dX1_judgeRole_153 : decode cX1_judgeRole 153 = .ok (.iload_n 1, 1) := dk_27 (dk_at dksX1_judgeRole_6 14 rfl rfl)
theorem dX1_judgeRole_154 : decode cX1_judgeRole 154 = .ok (.iload_n 2, 1) := dk_28 (dk_at dksX1_judgeRole_6 15 rfl rfl)
theorem dX1_judgeRole_155 : decode cX1_judgeRole 155 = .ok (.aload_n 3, 1) := dk_45 (dk_at dksX1_judgeRole_6 16 rfl rfl)
theorem dX1_judgeRole_156 : decode cX1_judgeRole 156 = .ok (.getfield 356, 3) := dk_180 1 100 (dk_at dksX1_judgeRole_6 17 rfl rfl)
theorem dX1_judgeRole_159 : decode cX1_judgeRole 159 = .ok (.invokevirtual 371, 3) := dk_182 1 115 (dk_at dksX1_judgeRole_6 20 rfl rfl)
theorem dX1_judgeRole_162 : decode cX1_judgeRole 162 = .ok (.invokevirtual 309, 3) := dk_182 1 53 (dk_at dksX1_judgeRole_7 0 rfl rfl)
theorem dX1_judgeRole_165 : decode cX1_judgeRole 165 = .ok (.aconst_null, 1) := dk_1 (dk_at dksX1_judgeRole_7 3 rfl rfl)
theorem dX1_judgeRole_166 : decode cX1_judgeRole 166 = .ok (.astore 6, 2) := dk_58 6 (dk_at dksX1_judgeRole_7 4 rfl rfl)
theorem dX1_judgeRole_168 : decode cX1_judgeRole 168 = .ok (.iconst 0, 1) := dk_3 (dk_at dksX1_judgeRole_7 6 rfl rfl)
theorem dX1_judgeRole_169 : decode cX1_judgeRole 169 = .ok (.istore 7, 2) := dk_54 7 (dk_at dksX1_judgeRole_7 7 rfl rfl)
theorem dX1_judgeRole_171 : decode cX1_judgeRole 171 = .ok (.iload 7, 2) := dk_21 7 (dk_at dksX1_judgeRole_7 9 rfl rfl)
theorem dX1_judgeRole_173 : decode cX1_judgeRole 173 = .ok (.iload_n 1, 1) := dk_27 (dk_at dksX1_judgeRole_7 11 rfl rfl)
theorem dX1_judgeRole_174 : decode cX1_judgeRole 174 = .ok (.if_icmp .ge 49, 3) := dk_162 0 49 (dk_at dksX1_judgeRole_7 12 rfl rfl)
theorem dX1_judgeRole_177 : decode cX1_judgeRole 177 = .ok (.aload_n 0, 1) := dk_42 (dk_at dksX1_judgeRole_7 15 rfl rfl)
theorem dX1_judgeRole_178 : decode cX1_judgeRole 178 = .ok (.getfield 58, 3) := dk_180 0 58 (dk_at dksX1_judgeRole_7 16 rfl rfl)
theorem dX1_judgeRole_181 : decode cX1_judgeRole 181 = .ok (.iload 7, 2) := dk_21 7 (dk_at dksX1_judgeRole_7 19 rfl rfl)
theorem dX1_judgeRole_183 : decode cX1_judgeRole 183 = .ok (.aaload, 1) := dk_50 (dk_at dksX1_judgeRole_7 21 rfl rfl)
theorem dX1_judgeRole_184 : decode cX1_judgeRole 184 = .ok (.invokevirtual 374, 3) := dk_182 1 118 (dk_at dksX1_judgeRole_8 0 rfl rfl)
theorem dX1_judgeRole_187 : decode cX1_judgeRole 187 = .ok (.ifCond .eq 30, 3) := dk_153 0 30 (dk_at dksX1_judgeRole_8 3 rfl rfl)
theorem dX1_judgeRole_190 : decode cX1_judgeRole 190 = .ok (.aload_n 0, 1) := dk_42 (dk_at dksX1_judgeRole_8 6 rfl rfl)
theorem dX1_judgeRole_191 : decode cX1_judgeRole 191 = .ok (.aload_n 3, 1) := dk_45 (dk_at dksX1_judgeRole_8 7 rfl rfl)
theorem dX1_judgeRole_192 : decode cX1_judgeRole 192 = .ok (.getfield 356, 3) := dk_180 1 100 (dk_at dksX1_judgeRole_8 8 rfl rfl)
theorem dX1_judgeRole_195 : decode cX1_judgeRole 195 = .ok (.aload_n 0, 1) := dk_42 (dk_at dksX1_judgeRole_8 11 rfl rfl)
theorem dX1_judgeRole_196 : decode cX1_judgeRole 196 = .ok (.getfield 58, 3) := dk_180 0 58 (dk_at dksX1_judgeRole_8 12 rfl rfl)
theorem dX1_judgeRole_199 : decode cX1_judgeRole 199 = .ok (.iload 7, 2) := dk_21 7 (dk_at dksX1_judgeRole_8 15 rfl rfl)
theorem dX1_judgeRole_201 : decode cX1_judgeRole 201 = .ok (.aaload, 1) := dk_50 (dk_at dksX1_judgeRole_8 17 rfl rfl)
theorem dX1_judgeRole_202 : decode cX1_judgeRole 202 = .ok (.invokevirtual 299, 3) := dk_182 1 43 (dk_at dksX1_judgeRole_8 18 rfl rfl)
theorem dX1_judgeRole_205 : decode cX1_judgeRole 205 = .ok (.ifCond .eq 12, 3) := dk_153 0 12 (dk_at dksX1_judgeRole_8 21 rfl rfl)
theorem dX1_judgeRole_208 : decode cX1_judgeRole 208 = .ok (.aload_n 0, 1) := dk_42 (dk_at dksX1_judgeRole_9 0 rfl rfl)
theorem dX1_judgeRole_209 : decode cX1_judgeRole 209 = .ok (.getfield 58, 3) := dk_180 0 58 (dk_at dksX1_judgeRole_9 1 rfl rfl)
theorem dX1_judgeRole_212 : decode cX1_judgeRole 212 = .ok (.iload 7, 2) := dk_21 7 (dk_at dksX1_judgeRole_9 4 rfl rfl)
theorem dX1_judgeRole_214 : decode cX1_judgeRole 214 = .ok (.aaload, 1) := dk_50 (dk_at dksX1_judgeRole_9 6 rfl rfl)
theorem dX1_judgeRole_215 : decode cX1_judgeRole 215 = .ok (.astore 6, 2) := dk_58 6 (dk_at dksX1_judgeRole_9 7 rfl rfl)
theorem dX1_judgeRole_217 : decode cX1_judgeRole 217 = .ok (.iinc 7 1, 3) := dk_132 7 1 (dk_at dksX1_judgeRole_9 9 rfl rfl)
theorem dX1_judgeRole_220 : decode cX1_judgeRole 220 = .ok (.goto (-49), 3) := dk_167 255 207 (dk_at dksX1_judgeRole_9 12 rfl rfl)
theorem dX1_judgeRole_223 : decode cX1_judgeRole 223 = .ok (.aload_n 0, 1) := dk_42 (dk_at dksX1_judgeRole_9 15 rfl rfl)
theorem dX1_judgeRole_224 : decode cX1_judgeRole 224 = .ok (.aload 4, 2) := dk_25 4 (dk_at dksX1_judgeRole_9 16 rfl rfl)
theorem dX1_judgeRole_226 : decode cX1_judgeRole 226 = .ok (.iload_n 2, 1) := dk_28 (dk_at dksX1_judgeRole_9 18 rfl rfl)
theorem dX1_judgeRole_227 : decode cX1_judgeRole 227 = .ok (.bipush 12, 2) := dk_16 12 (dk_at dksX1_judgeRole_9 19 rfl rfl)
theorem dX1_judgeRole_229 : decode cX1_judgeRole 229 = .ok (.aload 6, 2) := dk_25 6 (dk_at dksX1_judgeRole_9 21 rfl rfl)
theorem dX1_judgeRole_231 : decode cX1_judgeRole 231 = .ok (.ifnull 39, 3) := dk_198 0 39 (dk_at dksX1_judgeRole_10 0 rfl rfl)
theorem dX1_judgeRole_234 : decode cX1_judgeRole 234 = .ok (.aload 6, 2) := dk_25 6 (dk_at dksX1_judgeRole_10 3 rfl rfl)
theorem dX1_judgeRole_236 : decode cX1_judgeRole 236 = .ok (.getfield 214, 3) := dk_180 0 214 (dk_at dksX1_judgeRole_10 5 rfl rfl)
theorem dX1_judgeRole_239 : decode cX1_judgeRole 239 = .ok (.aload 4, 2) := dk_25 4 (dk_at dksX1_judgeRole_10 8 rfl rfl)
theorem dX1_judgeRole_241 : decode cX1_judgeRole 241 = .ok (.getfield 214, 3) := dk_180 0 214 (dk_at dksX1_judgeRole_10 10 rfl rfl)
theorem dX1_judgeRole_244 : decode cX1_judgeRole 244 = .ok (.if_icmp .eq 26, 3) := dk_159 0 26 (dk_at dksX1_judgeRole_10 13 rfl rfl)
theorem dX1_judgeRole_247 : decode cX1_judgeRole 247 = .ok (.aload 4, 2) := dk_25 4 (dk_at dksX1_judgeRole_10 16 rfl rfl)
theorem dX1_judgeRole_249 : decode cX1_judgeRole 249 = .ok (.getfield 230, 3) := dk_180 0 230 (dk_at dksX1_judgeRole_10 18 rfl rfl)
theorem dX1_judgeRole_252 : decode cX1_judgeRole 252 = .ok (.aload 6, 2) := dk_25 6 (dk_at dksX1_judgeRole_10 21 rfl rfl)
theorem dX1_judgeRole_254 : decode cX1_judgeRole 254 = .ok (.getfield 282, 3) := dk_180 1 26 (dk_at dksX1_judgeRole_11 0 rfl rfl)
theorem dX1_judgeRole_257 : decode cX1_judgeRole 257 = .ok (.isub, 1) := dk_100 (dk_at dksX1_judgeRole_11 3 rfl rfl)
theorem dX1_judgeRole_258 : decode cX1_judgeRole 258 = .ok (.aload 5, 2) := dk_25 5 (dk_at dksX1_judgeRole_11 4 rfl rfl)
theorem dX1_judgeRole_260 : decode cX1_judgeRole 260 = .ok (.getfield 377, 3) := dk_180 1 121 (dk_at dksX1_judgeRole_11 6 rfl rfl)
theorem dX1_judgeRole_263 : decode cX1_judgeRole 263 = .ok (.if_icmp .ge 7, 3) := dk_162 0 7 (dk_at dksX1_judgeRole_11 9 rfl rfl)
theorem dX1_judgeRole_266 : decode cX1_judgeRole 266 = .ok (.iconst 1, 1) := dk_4 (dk_at dksX1_judgeRole_11 12 rfl rfl)
theorem dX1_judgeRole_267 : decode cX1_judgeRole 267 = .ok (.goto 4, 3) := dk_167 0 4 (dk_at dksX1_judgeRole_11 13 rfl rfl)
theorem dX1_judgeRole_270 : decode cX1_judgeRole 270 = .ok (.iconst 0, 1) := dk_3 (dk_at dksX1_judgeRole_11 16 rfl rfl)
theorem dX1_judgeRole_271 : decode cX1_judgeRole 271 = .ok (.invokevirtual 309, 3) := dk_182 1 53 (dk_at dksX1_judgeRole_11 17 rfl rfl)
theorem dX1_judgeRole_274 : decode cX1_judgeRole 274 = .ok (.aload_n 0, 1) := dk_42 (dk_at dksX1_judgeRole_11 20 rfl rfl)
theorem dX1_judgeRole_275 : decode cX1_judgeRole 275 = .ok (.aload 4, 2) := dk_25 4 (dk_at dksX1_judgeRole_11 21 rfl rfl)
theorem dX1_judgeRole_277 : decode cX1_judgeRole 277 = .ok (.iload_n 2, 1) := dk_28 (dk_at dksX1_judgeRole_11 23 rfl rfl)
theorem dX1_judgeRole_278 : decode cX1_judgeRole 278 = .ok (.bipush 13, 2) := dk_16 13 (dk_at dksX1_judgeRole_12 0 rfl rfl)
theorem dX1_judgeRole_280 : decode cX1_judgeRole 280 = .ok (.aload_n 0, 1) := dk_42 (dk_at dksX1_judgeRole_12 2 rfl rfl)
theorem dX1_judgeRole_281 : decode cX1_judgeRole 281 = .ok (.aload_n 3, 1) := dk_45 (dk_at dksX1_judgeRole_12 3 rfl rfl)
theorem dX1_judgeRole_282 : decode cX1_judgeRole 282 = .ok (.getfield 356, 3) := dk_180 1 100 (dk_at dksX1_judgeRole_12 4 rfl rfl)
theorem dX1_judgeRole_285 : decode cX1_judgeRole 285 = .ok (.aload 4, 2) := dk_25 4 (dk_at dksX1_judgeRole_12 7 rfl rfl)
theorem dX1_judgeRole_287 : decode cX1_judgeRole 287 = .ok (.invokevirtual 380, 3) := dk_182 1 124 (dk_at dksX1_judgeRole_12 9 rfl rfl)
theorem dX1_judgeRole_290 : decode cX1_judgeRole 290 = .ok (.aload 5, 2) := dk_25 5 (dk_at dksX1_judgeRole_12 12 rfl rfl)
theorem dX1_judgeRole_292 : decode cX1_judgeRole 292 = .ok (.getfield 383, 3) := dk_180 1 127 (dk_at dksX1_judgeRole_12 14 rfl rfl)
theorem dX1_judgeRole_295 : decode cX1_judgeRole 295 = .ok (.iconst 4, 1) := dk_7 (dk_at dksX1_judgeRole_12 17 rfl rfl)
theorem dX1_judgeRole_296 : decode cX1_judgeRole 296 = .ok (.iadd, 1) := dk_96 (dk_at dksX1_judgeRole_12 18 rfl rfl)
theorem dX1_judgeRole_297 : decode cX1_judgeRole 297 = .ok (.if_icmp .le 7, 3) := dk_164 0 7 (dk_at dksX1_judgeRole_12 19 rfl rfl)
theorem dX1_judgeRole_300 : decode cX1_judgeRole 300 = .ok (.iconst 1, 1) := dk_4 (dk_at dksX1_judgeRole_12 22 rfl rfl)
theorem dX1_judgeRole_301 : decode cX1_judgeRole 301 = .ok (.goto 4, 3) := dk_167 0 4 (dk_at dksX1_judgeRole_13 0 rfl rfl)
theorem dX1_judgeRole_304 : decode cX1_judgeRole 304 = .ok (.iconst 0, 1) := dk_3 (dk_at dksX1_judgeRole_13 3 rfl rfl)
theorem dX1_judgeRole_305 : decode cX1_judgeRole 305 = .ok (.invokevirtual 309, 3) := dk_182 1 53 (dk_at dksX1_judgeRole_13 4 rfl rfl)
theorem dX1_judgeRole_308 : decode cX1_judgeRole 308 = .ok (.aload_n 0, 1) := dk_42 (dk_at dksX1_judgeRole_13 7 rfl rfl)
theorem dX1_judgeRole_309 : decode cX1_judgeRole 309 = .ok (.aload 4, 2) := dk_25 4 (dk_at dksX1_judgeRole_13 8 rfl rfl)
theorem dX1_judgeRole_311 : decode cX1_judgeRole 311 = .ok (.iload_n 2, 1) := dk_28 (dk_at dksX1_judgeRole_13 10 rfl rfl)
theorem dX1_judgeRole_312 : decode cX1_judgeRole 312 = .ok (.bipush 14, 2) := dk_16 14 (dk_at dksX1_judgeRole_13 11 rfl rfl)
theorem dX1_judgeRole_314 : decode cX1_judgeRole 314 = .ok (.aload 4, 2) := dk_25 4 (dk_at dksX1_judgeRole_13 13 rfl rfl)
theorem dX1_judgeRole_316 : decode cX1_judgeRole 316 = .ok (.getfield 281, 3) := dk_180 1 25 (dk_at dksX1_judgeRole_13 15 rfl rfl)
theorem dX1_judgeRole_319 : decode cX1_judgeRole 319 = .ok (.iconst 3, 1) := dk_6 (dk_at dksX1_judgeRole_13 18 rfl rfl)
theorem dX1_judgeRole_320 : decode cX1_judgeRole 320 = .ok (.if_icmp .ne 27, 3) := dk_160 0 27 (dk_at dksX1_judgeRole_13 19 rfl rfl)
theorem dX1_judgeRole_323 : decode cX1_judgeRole 323 = .ok (.aload_n 0, 1) := dk_42 (dk_at dksX1_judgeRole_13 22 rfl rfl)
theorem dX1_judgeRole_324 : decode cX1_judgeRole 324 = .ok (.aload_n 3, 1) := dk_45 (dk_at dksX1_judgeRole_13 23 rfl rfl)
theorem dX1_judgeRole_325 : decode cX1_judgeRole 325 = .ok (.getfield 356, 3) := dk_180 1 100 (dk_at dksX1_judgeRole_14 0 rfl rfl)
theorem dX1_judgeRole_328 : decode cX1_judgeRole 328 = .ok (.aload 4, 2) := dk_25 4 (dk_at dksX1_judgeRole_14 3 rfl rfl)
theorem dX1_judgeRole_330 : decode cX1_judgeRole 330 = .ok (.bipush 7, 2) := dk_16 7 (dk_at dksX1_judgeRole_14 5 rfl rfl)
theorem dX1_judgeRole_332 : decode cX1_judgeRole 332 = .ok (.invokevirtual 384, 3) := dk_182 1 128 (dk_at dksX1_judgeRole_14 7 rfl rfl)
theorem dX1_judgeRole_335 : decode cX1_judgeRole 335 = .ok (.aload 5, 2) := dk_25 5 (dk_at dksX1_judgeRole_14 10 rfl rfl)
theorem dX1_judgeRole_337 : decode cX1_judgeRole 337 = .ok (.getfield 388, 3) := dk_180 1 132 (dk_at dksX1_judgeRole_14 12 rfl rfl)
theorem dX1_judgeRole_340 : decode cX1_judgeRole 340 = .ok (.if_icmp .le 7, 3) := dk_164 0 7 (dk_at dksX1_judgeRole_14 15 rfl rfl)
theorem dX1_judgeRole_343 : decode cX1_judgeRole 343 = .ok (.iconst 1, 1) := dk_4 (dk_at dksX1_judgeRole_14 18 rfl rfl)
theorem dX1_judgeRole_344 : decode cX1_judgeRole 344 = .ok (.goto 4, 3) := dk_167 0 4 (dk_at dksX1_judgeRole_14 19 rfl rfl)
theorem dX1_judgeRole_347 : decode cX1_judgeRole 347 = .ok (.iconst 0, 1) := dk_3 (dk_at dksX1_judgeRole_14 22 rfl rfl)
theorem dX1_judgeRole_348 : decode cX1_judgeRole 348 = .ok (.invokevirtual 309, 3) := dk_182 1 53 (dk_at dksX1_judgeRole_15 0 rfl rfl)
theorem dX1_judgeRole_351 : decode cX1_judgeRole 351 = .ok (.aload_n 0, 1) := dk_42 (dk_at dksX1_judgeRole_15 3 rfl rfl)
theorem dX1_judgeRole_352 : decode cX1_judgeRole 352 = .ok (.aload 4, 2) := dk_25 4 (dk_at dksX1_judgeRole_15 4 rfl rfl)
theorem dX1_judgeRole_354 : decode cX1_judgeRole 354 = .ok (.iload_n 2, 1) := dk_28 (dk_at dksX1_judgeRole_15 6 rfl rfl)
theorem dX1_judgeRole_355 : decode cX1_judgeRole 355 = .ok (.bipush 15, 2) := dk_16 15 (dk_at dksX1_judgeRole_15 7 rfl rfl)
theorem dX1_judgeRole_357 : decode cX1_judgeRole 357 = .ok (.aload_n 0, 1) := dk_42 (dk_at dksX1_judgeRole_15 9 rfl rfl)
theorem dX1_judgeRole_358 : decode cX1_judgeRole 358 = .ok (.aload_n 3, 1) := dk_45 (dk_at dksX1_judgeRole_15 10 rfl rfl)
theorem dX1_judgeRole_359 : decode cX1_judgeRole 359 = .ok (.getfield 356, 3) := dk_180 1 100 (dk_at dksX1_judgeRole_15 11 rfl rfl)
theorem dX1_judgeRole_362 : decode cX1_judgeRole 362 = .ok (.aload 4, 2) := dk_25 4 (dk_at dksX1_judgeRole_15 14 rfl rfl)
theorem dX1_judgeRole_364 : decode cX1_judgeRole 364 = .ok (.invokevirtual 391, 3) := dk_182 1 135 (dk_at dksX1_judgeRole_15 16 rfl rfl)
theorem dX1_judgeRole_367 : decode cX1_judgeRole 367 = .ok (.aload 5, 2) := dk_25 5 (dk_at dksX1_judgeRole_15 19 rfl rfl)
theorem dX1_judgeRole_369 : decode cX1_judgeRole 369 = .ok (.getfield 394, 3) := dk_180 1 138 (dk_at dksX1_judgeRole_15 21 rfl rfl)
theorem dX1_judgeRole_372 : decode cX1_judgeRole 372 = .ok (.if_icmp .le 7, 3) := dk_164 0 7 (dk_at dksX1_judgeRole_16 0 rfl rfl)
theorem dX1_judgeRole_375 : decode cX1_judgeRole 375 = .ok (.iconst 1, 1) := dk_4 (dk_at dksX1_judgeRole_16 3 rfl rfl)
theorem dX1_judgeRole_376 : decode cX1_judgeRole 376 = .ok (.goto 4, 3) := dk_167 0 4 (dk_at dksX1_judgeRole_16 4 rfl rfl)
theorem dX1_judgeRole_379 : decode cX1_judgeRole 379 = .ok (.iconst 0, 1) := dk_3 (dk_at dksX1_judgeRole_16 7 rfl rfl)
theorem dX1_judgeRole_380 : decode cX1_judgeRole 380 = .ok (.invokevirtual 309, 3) := dk_182 1 53 (dk_at dksX1_judgeRole_16 8 rfl rfl)
theorem dX1_judgeRole_383 : decode cX1_judgeRole 383 = .ok (.return_, 1) := dk_177 (dk_at dksX1_judgeRole_16 11 rfl rfl)
abbrev cX1_learnedOf : ByteArray := prog_1_method_29_code
def yX1_learnedOf : MethodName := ⟨RX1, "learnedOf", "(ILOperaHouse$Opera;II)I"⟩
def dkwX1_learnedOf_7 : List UInt8 := [54, 5, 132, 6, 1, 167, 255, 181, 21, 5, 172]
abbrev dktX1_learnedOf_7 : List UInt8 := dkwX1_learnedOf_7 ++ []
def dkwX1_learnedOf_6 : List UInt8 := [180, 0, 64, 25, 7, 180, 0, 233, 50, 29, 46, 27, 160, 0, 13, 21, 5, 25, 7, 182, 1, 29, 96]
abbrev dktX1_learnedOf_6 : List UInt8 := dkwX1_learnedOf_6 ++ dktX1_learnedOf_7
def dkwX1_learnedOf_5 : List UInt8 := [166, 0, 48, 25, 7, 180, 1, 25, 6, 162, 0, 39, 25, 7, 180, 1, 26, 21, 4, 163, 0, 29, 42]
abbrev dktX1_learnedOf_5 : List UInt8 := dkwX1_learnedOf_5 ++ dktX1_learnedOf_6
def dkwX1_learnedOf_4 : List UInt8 := [42, 180, 0, 227, 162, 0, 72, 42, 180, 0, 58, 21, 6, 50, 58, 7, 25, 7, 180, 1, 2, 44]
abbrev dktX1_learnedOf_4 : List UInt8 := dkwX1_learnedOf_4 ++ dktX1_learnedOf_5
def dkwX1_learnedOf_3 : List UInt8 := [163, 0, 13, 21, 5, 25, 7, 180, 1, 22, 96, 54, 5, 132, 6, 1, 167, 255, 175, 3, 54, 6, 21, 6]
abbrev dktX1_learnedOf_3 : List UInt8 := dkwX1_learnedOf_3 ++ dktX1_learnedOf_4
def dkwX1_learnedOf_2 : List UInt8 := [180, 0, 149, 160, 0, 34, 25, 7, 180, 1, 20, 29, 160, 0, 25, 25, 7, 180, 1, 21, 42, 180, 0, 234]
abbrev dktX1_learnedOf_2 : List UInt8 := dkwX1_learnedOf_2 ++ dktX1_learnedOf_3
def dkwX1_learnedOf_1 : List UInt8 := [182, 0, 155, 192, 0, 192, 58, 7, 25, 7, 180, 1, 17, 27, 160, 0, 46, 25, 7, 180, 1, 18, 44]
abbrev dktX1_learnedOf_1 : List UInt8 := dkwX1_learnedOf_1 ++ dktX1_learnedOf_2
def dkwX1_learnedOf_0 : List UInt8 := [3, 54, 5, 3, 54, 6, 21, 6, 42, 180, 0, 46, 182, 0, 126, 162, 0, 75, 42, 180, 0, 46, 21, 6]
abbrev dktX1_learnedOf_0 : List UInt8 := dkwX1_learnedOf_0 ++ dktX1_learnedOf_1
theorem dksX1_learnedOf_0 : cX1_learnedOf.data.toList.drop 0 = dktX1_learnedOf_0 := by decide +kernel
theorem dksX1_learnedOf_1 : cX1_learnedOf.data.toList.drop 24 = dktX1_learnedOf_1 := dk_seg dksX1_learnedOf_0 24 rfl rfl
theorem dksX1_learnedOf_2 : cX1_learnedOf.data.toList.drop 47 = dktX1_learnedOf_2 := dk_seg dksX1_learnedOf_1 23 rfl rfl
theorem dksX1_learnedOf_3 : cX1_learnedOf.data.toList.drop 71 = dktX1_learnedOf_3 := dk_seg dksX1_learnedOf_2 24 rfl rfl
theorem dksX1_learnedOf_4 : cX1_learnedOf.data.toList.drop 95 = dktX1_learnedOf_4 := dk_seg dksX1_learnedOf_3 24 rfl rfl
theorem dksX1_learnedOf_5 : cX1_learnedOf.data.toList.drop 117 = dktX1_learnedOf_5 := dk_seg dksX1_learnedOf_4 22 rfl rfl
theorem dksX1_learnedOf_6 : cX1_learnedOf.data.toList.drop 140 = dktX1_learnedOf_6 := dk_seg dksX1_learnedOf_5 23 rfl rfl
theorem dksX1_learnedOf_7 : cX1_learnedOf.data.toList.drop 163 = dktX1_learnedOf_7 := dk_seg dksX1_learnedOf_6 23 rfl rfl
theorem dX1_learnedOf_0 : decode cX1_learnedOf 0 = .ok (.iconst 0, 1) := dk_3 (dk_at dksX1_learnedOf_0 0 rfl rfl)
theorem dX1_learnedOf_1 : decode cX1_learnedOf 1 = .ok (.istore 5, 2) := dk_54 5 (dk_at dksX1_learnedOf_0 1 rfl rfl)
theorem dX1_learnedOf_3 : decode cX1_learnedOf 3 = .ok (.iconst 0, 1) := dk_3 (dk_at dksX1_learnedOf_0 3 rfl rfl)
theorem dX1_learnedOf_4 : decode cX1_learnedOf 4 = .ok (.istore 6, 2) := dk_54 6 (dk_at dksX1_learnedOf_0 4 rfl rfl)
theorem dX1_learnedOf_6 : decode cX1_learnedOf 6 = .ok (.iload 6, 2) := dk_21 6 (dk_at dksX1_learnedOf_0 6 rfl rfl)
theorem dX1_learnedOf_8 : decode cX1_learnedOf 8 = .ok (.aload_n 0, 1) := dk_42 (dk_at dksX1_learnedOf_0 8 rfl rfl)
theorem dX1_learnedOf_9 : decode cX1_learnedOf 9 = .ok (.getfield 46, 3) := dk_180 0 46 (dk_at dksX1_learnedOf_0 9 rfl rfl)
theorem dX1_learnedOf_12 : decode cX1_learnedOf 12 = .ok (.invokevirtual 126, 3) := dk_182 0 126 (dk_at dksX1_learnedOf_0 12 rfl rfl)
theorem dX1_learnedOf_15 : decode cX1_learnedOf 15 = .ok (.if_icmp .ge 75, 3) := dk_162 0 75 (dk_at dksX1_learnedOf_0 15 rfl rfl)
theorem dX1_learnedOf_18 : decode cX1_learnedOf 18 = .ok (.aload_n 0, 1) := dk_42 (dk_at dksX1_learnedOf_0 18 rfl rfl)
theorem dX1_learnedOf_19 : decode cX1_learnedOf 19 = .ok (.getfield 46, 3) := dk_180 0 46 (dk_at dksX1_learnedOf_0 19 rfl rfl)
theorem dX1_learnedOf_22 : decode cX1_learnedOf 22 = .ok (.iload 6, 2) := dk_21 6 (dk_at dksX1_learnedOf_0 22 rfl rfl)
theorem dX1_learnedOf_24 : decode cX1_learnedOf 24 = .ok (.invokevirtual 155, 3) := dk_182 0 155 (dk_at dksX1_learnedOf_1 0 rfl rfl)
theorem dX1_learnedOf_27 : decode cX1_learnedOf 27 = .ok (.checkcast 192, 3) := dk_192 0 192 (dk_at dksX1_learnedOf_1 3 rfl rfl)
theorem dX1_learnedOf_30 : decode cX1_learnedOf 30 = .ok (.astore 7, 2) := dk_58 7 (dk_at dksX1_learnedOf_1 6 rfl rfl)
theorem dX1_learnedOf_32 : decode cX1_learnedOf 32 = .ok (.aload 7, 2) := dk_25 7 (dk_at dksX1_learnedOf_1 8 rfl rfl)
theorem dX1_learnedOf_34 : decode cX1_learnedOf 34 = .ok (.getfield 273, 3) := dk_180 1 17 (dk_at dksX1_learnedOf_1 10 rfl rfl)
theorem dX1_learnedOf_37 : decode cX1_learnedOf 37 = .ok (.iload_n 1, 1) := dk_27 (dk_at dksX1_learnedOf_1 13 rfl rfl)
theorem dX1_learnedOf_38 : decode cX1_learnedOf 38 = .ok (.if_icmp .ne 46, 3) := dk_160 0 46 (dk_at dksX1_learnedOf_1 14 rfl rfl)
theorem dX1_learnedOf_41 : decode cX1_learnedOf 41 = .ok (.aload 7, 2) := dk_25 7 (dk_at dksX1_learnedOf_1 17 rfl rfl)
theorem dX1_learnedOf_43 : decode cX1_learnedOf 43 = .ok (.getfield 274, 3) := dk_180 1 18 (dk_at dksX1_learnedOf_1 19 rfl rfl)
theorem dX1_learnedOf_46 : decode cX1_learnedOf 46 = .ok (.aload_n 2, 1) := dk_44 (dk_at dksX1_learnedOf_1 22 rfl rfl)
theorem dX1_learnedOf_47 : decode cX1_learnedOf 47 = .ok (.getfield 149, 3) := dk_180 0 149 (dk_at dksX1_learnedOf_2 0 rfl rfl)
theorem dX1_learnedOf_50 : decode cX1_learnedOf 50 = .ok (.if_icmp .ne 34, 3) := dk_160 0 34 (dk_at dksX1_learnedOf_2 3 rfl rfl)
theorem dX1_learnedOf_53 : decode cX1_learnedOf 53 = .ok (.aload 7, 2) := dk_25 7 (dk_at dksX1_learnedOf_2 6 rfl rfl)
theorem dX1_learnedOf_55 : decode cX1_learnedOf 55 = .ok (.getfield 276, 3) := dk_180 1 20 (dk_at dksX1_learnedOf_2 8 rfl rfl)
theorem dX1_learnedOf_58 : decode cX1_learnedOf 58 = .ok (.iload_n 3, 1) := dk_29 (dk_at dksX1_learnedOf_2 11 rfl rfl)
theorem dX1_learnedOf_59 : decode cX1_learnedOf 59 = .ok (.if_icmp .ne 25, 3) := dk_160 0 25 (dk_at dksX1_learnedOf_2 12 rfl rfl)
theorem dX1_learnedOf_62 : decode cX1_learnedOf 62 = .ok (.aload 7, 2) := dk_25 7 (dk_at dksX1_learnedOf_2 15 rfl rfl)
theorem dX1_learnedOf_64 : decode cX1_learnedOf 64 = .ok (.getfield 277, 3) := dk_180 1 21 (dk_at dksX1_learnedOf_2 17 rfl rfl)
theorem dX1_learnedOf_67 : decode cX1_learnedOf 67 = .ok (.aload_n 0, 1) := dk_42 (dk_at dksX1_learnedOf_2 20 rfl rfl)
theorem dX1_learnedOf_68 : decode cX1_learnedOf 68 = .ok (.getfield 234, 3) := dk_180 0 234 (dk_at dksX1_learnedOf_2 21 rfl rfl)
theorem dX1_learnedOf_71 : decode cX1_learnedOf 71 = .ok (.if_icmp .gt 13, 3) := dk_163 0 13 (dk_at dksX1_learnedOf_3 0 rfl rfl)
theorem dX1_learnedOf_74 : decode cX1_learnedOf 74 = .ok (.iload 5, 2) := dk_21 5 (dk_at dksX1_learnedOf_3 3 rfl rfl)
theorem dX1_learnedOf_76 : decode cX1_learnedOf 76 = .ok (.aload 7, 2) := dk_25 7 (dk_at dksX1_learnedOf_3 5 rfl rfl)
theorem dX1_learnedOf_78 : decode cX1_learnedOf 78 = .ok (.getfield 278, 3) := dk_180 1 22 (dk_at dksX1_learnedOf_3 7 rfl rfl)
theorem dX1_learnedOf_81 : decode cX1_learnedOf 81 = .ok (.iadd, 1) := dk_96 (dk_at dksX1_learnedOf_3 10 rfl rfl)
theorem dX1_learnedOf_82 : decode cX1_learnedOf 82 = .ok (.istore 5, 2) := dk_54 5 (dk_at dksX1_learnedOf_3 11 rfl rfl)
theorem dX1_learnedOf_84 : decode cX1_learnedOf 84 = .ok (.iinc 6 1, 3) := dk_132 6 1 (dk_at dksX1_learnedOf_3 13 rfl rfl)
theorem dX1_learnedOf_87 : decode cX1_learnedOf 87 = .ok (.goto (-81), 3) := dk_167 255 175 (dk_at dksX1_learnedOf_3 16 rfl rfl)
theorem dX1_learnedOf_90 : decode cX1_learnedOf 90 = .ok (.iconst 0, 1) := dk_3 (dk_at dksX1_learnedOf_3 19 rfl rfl)
theorem dX1_learnedOf_91 : decode cX1_learnedOf 91 = .ok (.istore 6, 2) := dk_54 6 (dk_at dksX1_learnedOf_3 20 rfl rfl)
theorem dX1_learnedOf_93 : decode cX1_learnedOf 93 = .ok (.iload 6, 2) := dk_21 6 (dk_at dksX1_learnedOf_3 22 rfl rfl)
theorem dX1_learnedOf_95 : decode cX1_learnedOf 95 = .ok (.aload_n 0, 1) := dk_42 (dk_at dksX1_learnedOf_4 0 rfl rfl)
theorem dX1_learnedOf_96 : decode cX1_learnedOf 96 = .ok (.getfield 227, 3) := dk_180 0 227 (dk_at dksX1_learnedOf_4 1 rfl rfl)
theorem dX1_learnedOf_99 : decode cX1_learnedOf 99 = .ok (.if_icmp .ge 72, 3) := dk_162 0 72 (dk_at dksX1_learnedOf_4 4 rfl rfl)
theorem dX1_learnedOf_102 : decode cX1_learnedOf 102 = .ok (.aload_n 0, 1) := dk_42 (dk_at dksX1_learnedOf_4 7 rfl rfl)
theorem dX1_learnedOf_103 : decode cX1_learnedOf 103 = .ok (.getfield 58, 3) := dk_180 0 58 (dk_at dksX1_learnedOf_4 8 rfl rfl)
theorem dX1_learnedOf_106 : decode cX1_learnedOf 106 = .ok (.iload 6, 2) := dk_21 6 (dk_at dksX1_learnedOf_4 11 rfl rfl)
theorem dX1_learnedOf_108 : decode cX1_learnedOf 108 = .ok (.aaload, 1) := dk_50 (dk_at dksX1_learnedOf_4 13 rfl rfl)
theorem dX1_learnedOf_109 : decode cX1_learnedOf 109 = .ok (.astore 7, 2) := dk_58 7 (dk_at dksX1_learnedOf_4 14 rfl rfl)
theorem dX1_learnedOf_111 : decode cX1_learnedOf 111 = .ok (.aload 7, 2) := dk_25 7 (dk_at dksX1_learnedOf_4 16 rfl rfl)
theorem dX1_learnedOf_113 : decode cX1_learnedOf 113 = .ok (.getfield 258, 3) := dk_180 1 2 (dk_at dksX1_learnedOf_4 18 rfl rfl)
theorem dX1_learnedOf_116 : decode cX1_learnedOf 116 = .ok (.aload_n 2, 1) := dk_44 (dk_at dksX1_learnedOf_4 21 rfl rfl)
theorem dX1_learnedOf_117 : decode cX1_learnedOf 117 = .ok (.if_acmp .ne 48, 3) := dk_166 0 48 (dk_at dksX1_learnedOf_5 0 rfl rfl)
theorem dX1_learnedOf_120 : decode cX1_learnedOf 120 = .ok (.aload 7, 2) := dk_25 7 (dk_at dksX1_learnedOf_5 3 rfl rfl)
theorem dX1_learnedOf_122 : decode cX1_learnedOf 122 = .ok (.getfield 281, 3) := dk_180 1 25 (dk_at dksX1_learnedOf_5 5 rfl rfl)
theorem dX1_learnedOf_125 : decode cX1_learnedOf 125 = .ok (.iconst 3, 1) := dk_6 (dk_at dksX1_learnedOf_5 8 rfl rfl)
theorem dX1_learnedOf_126 : decode cX1_learnedOf 126 = .ok (.if_icmp .ge 39, 3) := dk_162 0 39 (dk_at dksX1_learnedOf_5 9 rfl rfl)
theorem dX1_learnedOf_129 : decode cX1_learnedOf 129 = .ok (.aload 7, 2) := dk_25 7 (dk_at dksX1_learnedOf_5 12 rfl rfl)
theorem dX1_learnedOf_131 : decode cX1_learnedOf 131 = .ok (.getfield 282, 3) := dk_180 1 26 (dk_at dksX1_learnedOf_5 14 rfl rfl)
theorem dX1_learnedOf_134 : decode cX1_learnedOf 134 = .ok (.iload 4, 2) := dk_21 4 (dk_at dksX1_learnedOf_5 17 rfl rfl)
theorem dX1_learnedOf_136 : decode cX1_learnedOf 136 = .ok (.if_icmp .gt 29, 3) := dk_163 0 29 (dk_at dksX1_learnedOf_5 19 rfl rfl)
theorem dX1_learnedOf_139 : decode cX1_learnedOf 139 = .ok (.aload_n 0, 1) := dk_42 (dk_at dksX1_learnedOf_5 22 rfl rfl)
theorem dX1_learnedOf_140 : decode cX1_learnedOf 140 = .ok (.getfield 64, 3) := dk_180 0 64 (dk_at dksX1_learnedOf_6 0 rfl rfl)
theorem dX1_learnedOf_143 : decode cX1_learnedOf 143 = .ok (.aload 7, 2) := dk_25 7 (dk_at dksX1_learnedOf_6 3 rfl rfl)
theorem dX1_learnedOf_145 : decode cX1_learnedOf 145 = .ok (.getfield 233, 3) := dk_180 0 233 (dk_at dksX1_learnedOf_6 5 rfl rfl)
theorem dX1_learnedOf_148 : decode cX1_learnedOf 148 = .ok (.aaload, 1) := dk_50 (dk_at dksX1_learnedOf_6 8 rfl rfl)
theorem dX1_learnedOf_149 : decode cX1_learnedOf 149 = .ok (.iload_n 3, 1) := dk_29 (dk_at dksX1_learnedOf_6 9 rfl rfl)
theorem dX1_learnedOf_150 : decode cX1_learnedOf 150 = .ok (.iaload, 1) := dk_46 (dk_at dksX1_learnedOf_6 10 rfl rfl)
theorem dX1_learnedOf_151 : decode cX1_learnedOf 151 = .ok (.iload_n 1, 1) := dk_27 (dk_at dksX1_learnedOf_6 11 rfl rfl)
theorem dX1_learnedOf_152 : decode cX1_learnedOf 152 = .ok (.if_icmp .ne 13, 3) := dk_160 0 13 (dk_at dksX1_learnedOf_6 12 rfl rfl)
theorem dX1_learnedOf_155 : decode cX1_learnedOf 155 = .ok (.iload 5, 2) := dk_21 5 (dk_at dksX1_learnedOf_6 15 rfl rfl)
theorem dX1_learnedOf_157 : decode cX1_learnedOf 157 = .ok (.aload 7, 2) := dk_25 7 (dk_at dksX1_learnedOf_6 17 rfl rfl)
theorem dX1_learnedOf_159 : decode cX1_learnedOf 159 = .ok (.invokevirtual 285, 3) := dk_182 1 29 (dk_at dksX1_learnedOf_6 19 rfl rfl)
theorem dX1_learnedOf_162 : decode cX1_learnedOf 162 = .ok (.iadd, 1) := dk_96 (dk_at dksX1_learnedOf_6 22 rfl rfl)
theorem dX1_learnedOf_163 : decode cX1_learnedOf 163 = .ok (.istore 5, 2) := dk_54 5 (dk_at dksX1_learnedOf_7 0 rfl rfl)
theorem dX1_learnedOf_165 : decode cX1_learnedOf 165 = .ok (.iinc 6 1, 3) := dk_132 6 1 (dk_at dksX1_learnedOf_7 2 rfl rfl)
theorem dX1_learnedOf_168 : decode cX1_learnedOf 168 = .ok (.goto (-75), 3) := dk_167 255 181 (dk_at dksX1_learnedOf_7 5 rfl rfl)
theorem dX1_learnedOf_171 : decode cX1_learnedOf 171 = .ok (.iload 5, 2) := dk_21 5 (dk_at dksX1_learnedOf_7 8 rfl rfl)
theorem dX1_learnedOf_173 : decode cX1_learnedOf 173 = .ok (.ireturn, 1) := dk_172 (dk_at dksX1_learnedOf_7 10 rfl rfl)
abbrev cX1_isIll : ByteArray := prog_1_method_28_code
def yX1_isIll : MethodName := ⟨RX1, "isIll", "(II)Z"⟩
def dkwX1_isIll_3 : List UInt8 := [3, 172]
abbrev dktX1_isIll_3 : List UInt8 := dkwX1_isIll_3 ++ []
def dkwX1_isIll_2 : List UInt8 := [25, 4, 180, 1, 11, 25, 4, 180, 1, 14, 184, 0, 112, 153, 0, 5, 4, 172, 132, 3, 1, 167, 255, 189]
abbrev dktX1_isIll_2 : List UInt8 := dkwX1_isIll_2 ++ dktX1_isIll_3
def dkwX1_isIll_1 : List UInt8 := [58, 4, 25, 4, 180, 1, 9, 27, 160, 0, 34, 25, 4, 180, 1, 10, 42, 180, 0, 234, 163, 0, 22, 28]
abbrev dktX1_isIll_1 : List UInt8 := dkwX1_isIll_1 ++ dktX1_isIll_2
def dkwX1_isIll_0 : List UInt8 := [3, 62, 29, 42, 180, 0, 43, 182, 0, 126, 162, 0, 62, 42, 180, 0, 43, 29, 182, 0, 155, 192, 0, 224]
abbrev dktX1_isIll_0 : List UInt8 := dkwX1_isIll_0 ++ dktX1_isIll_1
theorem dksX1_isIll_0 : cX1_isIll.data.toList.drop 0 = dktX1_isIll_0 := by decide +kernel
theorem dksX1_isIll_1 : cX1_isIll.data.toList.drop 24 = dktX1_isIll_1 := dk_seg dksX1_isIll_0 24 rfl rfl
theorem dksX1_isIll_2 : cX1_isIll.data.toList.drop 48 = dktX1_isIll_2 := dk_seg dksX1_isIll_1 24 rfl rfl
theorem dksX1_isIll_3 : cX1_isIll.data.toList.drop 72 = dktX1_isIll_3 := dk_seg dksX1_isIll_2 24 rfl rfl
theorem dX1_isIll_0 : decode cX1_isIll 0 = .ok (.iconst 0, 1) := dk_3 (dk_at dksX1_isIll_0 0 rfl rfl)
theorem dX1_isIll_1 : decode cX1_isIll 1 = .ok (.istore_n 3, 1) := dk_62 (dk_at dksX1_isIll_0 1 rfl rfl)
theorem dX1_isIll_2 : decode cX1_isIll 2 = .ok (.iload_n 3, 1) := dk_29 (dk_at dksX1_isIll_0 2 rfl rfl)
theorem dX1_isIll_3 : decode cX1_isIll 3 = .ok (.aload_n 0, 1) := dk_42 (dk_at dksX1_isIll_0 3 rfl rfl)
theorem dX1_isIll_4 : decode cX1_isIll 4 = .ok (.getfield 43, 3) := dk_180 0 43 (dk_at dksX1_isIll_0 4 rfl rfl)
theorem dX1_isIll_7 : decode cX1_isIll 7 = .ok (.invokevirtual 126, 3) := dk_182 0 126 (dk_at dksX1_isIll_0 7 rfl rfl)
theorem dX1_isIll_10 : decode cX1_isIll 10 = .ok (.if_icmp .ge 62, 3) := dk_162 0 62 (dk_at dksX1_isIll_0 10 rfl rfl)
theorem dX1_isIll_13 : decode cX1_isIll 13 = .ok (.aload_n 0, 1) := dk_42 (dk_at dksX1_isIll_0 13 rfl rfl)
theorem dX1_isIll_14 : decode cX1_isIll 14 = .ok (.getfield 43, 3) := dk_180 0 43 (dk_at dksX1_isIll_0 14 rfl rfl)
theorem dX1_isIll_17 : decode cX1_isIll 17 = .ok (.iload_n 3, 1) := dk_29 (dk_at dksX1_isIll_0 17 rfl rfl)
theorem dX1_isIll_18 : decode cX1_isIll 18 = .ok (.invokevirtual 155, 3) := dk_182 0 155 (dk_at dksX1_isIll_0 18 rfl rfl)
theorem dX1_isIll_21 : decode cX1_isIll 21 = .ok (.checkcast 224, 3) := dk_192 0 224 (dk_at dksX1_isIll_0 21 rfl rfl)
theorem dX1_isIll_24 : decode cX1_isIll 24 = .ok (.astore 4, 2) := dk_58 4 (dk_at dksX1_isIll_1 0 rfl rfl)
theorem dX1_isIll_26 : decode cX1_isIll 26 = .ok (.aload 4, 2) := dk_25 4 (dk_at dksX1_isIll_1 2 rfl rfl)
theorem dX1_isIll_28 : decode cX1_isIll 28 = .ok (.getfield 265, 3) := dk_180 1 9 (dk_at dksX1_isIll_1 4 rfl rfl)
theorem dX1_isIll_31 : decode cX1_isIll 31 = .ok (.iload_n 1, 1) := dk_27 (dk_at dksX1_isIll_1 7 rfl rfl)
theorem dX1_isIll_32 : decode cX1_isIll 32 = .ok (.if_icmp .ne 34, 3) := dk_160 0 34 (dk_at dksX1_isIll_1 8 rfl rfl)
theorem dX1_isIll_35 : decode cX1_isIll 35 = .ok (.aload 4, 2) := dk_25 4 (dk_at dksX1_isIll_1 11 rfl rfl)
theorem dX1_isIll_37 : decode cX1_isIll 37 = .ok (.getfield 266, 3) := dk_180 1 10 (dk_at dksX1_isIll_1 13 rfl rfl)
theorem dX1_isIll_40 : decode cX1_isIll 40 = .ok (.aload_n 0, 1) := dk_42 (dk_at dksX1_isIll_1 16 rfl rfl)
theorem dX1_isIll_41 : decode cX1_isIll 41 = .ok (.getfield 234, 3) := dk_180 0 234 (dk_at dksX1_isIll_1 17 rfl rfl)
theorem dX1_isIll_44 : decode cX1_isIll 44 = .ok (.if_icmp .gt 22, 3) := dk_163 0 22 (dk_at dksX1_isIll_1 20 rfl rfl)
theorem dX1_isIll_47 : decode cX1_isIll 47 = .ok (.iload_n 2, 1) := dk_28 (dk_at dksX1_isIll_1 23 rfl rfl)
theorem dX1_isIll_48 : decode cX1_isIll 48 = .ok (.aload 4, 2) := dk_25 4 (dk_at dksX1_isIll_2 0 rfl rfl)
theorem dX1_isIll_50 : decode cX1_isIll 50 = .ok (.getfield 267, 3) := dk_180 1 11 (dk_at dksX1_isIll_2 2 rfl rfl)
theorem dX1_isIll_53 : decode cX1_isIll 53 = .ok (.aload 4, 2) := dk_25 4 (dk_at dksX1_isIll_2 5 rfl rfl)
theorem dX1_isIll_55 : decode cX1_isIll 55 = .ok (.getfield 270, 3) := dk_180 1 14 (dk_at dksX1_isIll_2 7 rfl rfl)
theorem dX1_isIll_58 : decode cX1_isIll 58 = .ok (.invokestatic 112, 3) := dk_184 0 112 (dk_at dksX1_isIll_2 10 rfl rfl)
theorem dX1_isIll_61 : decode cX1_isIll 61 = .ok (.ifCond .eq 5, 3) := dk_153 0 5 (dk_at dksX1_isIll_2 13 rfl rfl)
theorem dX1_isIll_64 : decode cX1_isIll 64 = .ok (.iconst 1, 1) := dk_4 (dk_at dksX1_isIll_2 16 rfl rfl)
theorem dX1_isIll_65 : decode cX1_isIll 65 = .ok (.ireturn, 1) := dk_172 (dk_at dksX1_isIll_2 17 rfl rfl)
theorem dX1_isIll_66 : decode cX1_isIll 66 = .ok (.iinc 3 1, 3) := dk_132 3 1 (dk_at dksX1_isIll_2 18 rfl rfl)
theorem dX1_isIll_69 : decode cX1_isIll 69 = .ok (.goto (-67), 3) := dk_167 255 189 (dk_at dksX1_isIll_2 21 rfl rfl)
theorem dX1_isIll_72 : decode cX1_isIll 72 = .ok (.iconst 0, 1) := dk_3 (dk_at dksX1_isIll_3 0 rfl rfl)
theorem dX1_isIll_73 : decode cX1_isIll 73 = .ok (.ireturn, 1) := dk_172 (dk_at dksX1_isIll_3 1 rfl rfl)
abbrev cX1_isTwice : ByteArray := prog_1_method_41_code
def yX1_isTwice : MethodName := ⟨RX1, "isTwice", "(III)Z"⟩
def dkwX1_isTwice_3 : List UInt8 := [42, 180, 0, 58, 21, 5, 50, 182, 1, 43, 153, 0, 5, 4, 172, 132, 5, 1, 167, 255, 212, 3, 172]
abbrev dktX1_isTwice_3 : List UInt8 := dkwX1_isTwice_3 ++ []
def dkwX1_isTwice_2 : List UInt8 := [27, 162, 0, 44, 42, 180, 0, 58, 21, 5, 50, 25, 4, 180, 0, 230, 182, 1, 84, 153, 0, 20, 42, 29]
abbrev dktX1_isTwice_2 : List UInt8 := dkwX1_isTwice_2 ++ dktX1_isTwice_3
def dkwX1_isTwice_1 : List UInt8 := [180, 0, 233, 50, 21, 5, 46, 29, 160, 0, 5, 4, 172, 132, 5, 1, 167, 255, 228, 3, 54, 5, 21, 5]
abbrev dktX1_isTwice_1 : List UInt8 := dkwX1_isTwice_1 ++ dktX1_isTwice_2
def dkwX1_isTwice_0 : List UInt8 := [42, 180, 0, 58, 27, 50, 58, 4, 3, 54, 5, 21, 5, 28, 162, 0, 28, 42, 180, 0, 64, 25, 4]
abbrev dktX1_isTwice_0 : List UInt8 := dkwX1_isTwice_0 ++ dktX1_isTwice_1
theorem dksX1_isTwice_0 : cX1_isTwice.data.toList.drop 0 = dktX1_isTwice_0 := by decide +kernel
theorem dksX1_isTwice_1 : cX1_isTwice.data.toList.drop 23 = dktX1_isTwice_1 := dk_seg dksX1_isTwice_0 23 rfl rfl
theorem dksX1_isTwice_2 : cX1_isTwice.data.toList.drop 47 = dktX1_isTwice_2 := dk_seg dksX1_isTwice_1 24 rfl rfl
theorem dksX1_isTwice_3 : cX1_isTwice.data.toList.drop 71 = dktX1_isTwice_3 := dk_seg dksX1_isTwice_2 24 rfl rfl
theorem dX1_isTwice_0 : decode cX1_isTwice 0 = .ok (.aload_n 0, 1) := dk_42 (dk_at dksX1_isTwice_0 0 rfl rfl)
theorem dX1_isTwice_1 : decode cX1_isTwice 1 = .ok (.getfield 58, 3) := dk_180 0 58 (dk_at dksX1_isTwice_0 1 rfl rfl)
theorem dX1_isTwice_4 : decode cX1_isTwice 4 = .ok (.iload_n 1, 1) := dk_27 (dk_at dksX1_isTwice_0 4 rfl rfl)
theorem dX1_isTwice_5 : decode cX1_isTwice 5 = .ok (.aaload, 1) := dk_50 (dk_at dksX1_isTwice_0 5 rfl rfl)
theorem dX1_isTwice_6 : decode cX1_isTwice 6 = .ok (.astore 4, 2) := dk_58 4 (dk_at dksX1_isTwice_0 6 rfl rfl)
theorem dX1_isTwice_8 : decode cX1_isTwice 8 = .ok (.iconst 0, 1) := dk_3 (dk_at dksX1_isTwice_0 8 rfl rfl)
theorem dX1_isTwice_9 : decode cX1_isTwice 9 = .ok (.istore 5, 2) := dk_54 5 (dk_at dksX1_isTwice_0 9 rfl rfl)
theorem dX1_isTwice_11 : decode cX1_isTwice 11 = .ok (.iload 5, 2) := dk_21 5 (dk_at dksX1_isTwice_0 11 rfl rfl)
theorem dX1_isTwice_13 : decode cX1_isTwice 13 = .ok (.iload_n 2, 1) := dk_28 (dk_at dksX1_isTwice_0 13 rfl rfl)
theorem dX1_isTwice_14 : decode cX1_isTwice 14 = .ok (.if_icmp .ge 28, 3) := dk_162 0 28 (dk_at dksX1_isTwice_0 14 rfl rfl)
theorem dX1_isTwice_17 : decode cX1_isTwice 17 = .ok (.aload_n 0, 1) := dk_42 (dk_at dksX1_isTwice_0 17 rfl rfl)
theorem dX1_isTwice_18 : decode cX1_isTwice 18 = .ok (.getfield 64, 3) := dk_180 0 64 (dk_at dksX1_isTwice_0 18 rfl rfl)
theorem dX1_isTwice_21 : decode cX1_isTwice 21 = .ok (.aload 4, 2) := dk_25 4 (dk_at dksX1_isTwice_0 21 rfl rfl)
theorem dX1_isTwice_23 : decode cX1_isTwice 23 = .ok (.getfield 233, 3) := dk_180 0 233 (dk_at dksX1_isTwice_1 0 rfl rfl)
theorem dX1_isTwice_26 : decode cX1_isTwice 26 = .ok (.aaload, 1) := dk_50 (dk_at dksX1_isTwice_1 3 rfl rfl)
theorem dX1_isTwice_27 : decode cX1_isTwice 27 = .ok (.iload 5, 2) := dk_21 5 (dk_at dksX1_isTwice_1 4 rfl rfl)
theorem dX1_isTwice_29 : decode cX1_isTwice 29 = .ok (.iaload, 1) := dk_46 (dk_at dksX1_isTwice_1 6 rfl rfl)
theorem dX1_isTwice_30 : decode cX1_isTwice 30 = .ok (.iload_n 3, 1) := dk_29 (dk_at dksX1_isTwice_1 7 rfl rfl)
theorem dX1_isTwice_31 : decode cX1_isTwice 31 = .ok (.if_icmp .ne 5, 3) := dk_160 0 5 (dk_at dksX1_isTwice_1 8 rfl rfl)
theorem dX1_isTwice_34 : decode cX1_isTwice 34 = .ok (.iconst 1, 1) := dk_4 (dk_at dksX1_isTwice_1 11 rfl rfl)
theorem dX1_isTwice_35 : decode cX1_isTwice 35 = .ok (.ireturn, 1) := dk_172 (dk_at dksX1_isTwice_1 12 rfl rfl)
theorem dX1_isTwice_36 : decode cX1_isTwice 36 = .ok (.iinc 5 1, 3) := dk_132 5 1 (dk_at dksX1_isTwice_1 13 rfl rfl)
theorem dX1_isTwice_39 : decode cX1_isTwice 39 = .ok (.goto (-28), 3) := dk_167 255 228 (dk_at dksX1_isTwice_1 16 rfl rfl)
theorem dX1_isTwice_42 : decode cX1_isTwice 42 = .ok (.iconst 0, 1) := dk_3 (dk_at dksX1_isTwice_1 19 rfl rfl)
theorem dX1_isTwice_43 : decode cX1_isTwice 43 = .ok (.istore 5, 2) := dk_54 5 (dk_at dksX1_isTwice_1 20 rfl rfl)
theorem dX1_isTwice_45 : decode cX1_isTwice 45 = .ok (.iload 5, 2) := dk_21 5 (dk_at dksX1_isTwice_1 22 rfl rfl)
theorem dX1_isTwice_47 : decode cX1_isTwice 47 = .ok (.iload_n 1, 1) := dk_27 (dk_at dksX1_isTwice_2 0 rfl rfl)
theorem dX1_isTwice_48 : decode cX1_isTwice 48 = .ok (.if_icmp .ge 44, 3) := dk_162 0 44 (dk_at dksX1_isTwice_2 1 rfl rfl)
theorem dX1_isTwice_51 : decode cX1_isTwice 51 = .ok (.aload_n 0, 1) := dk_42 (dk_at dksX1_isTwice_2 4 rfl rfl)
theorem dX1_isTwice_52 : decode cX1_isTwice 52 = .ok (.getfield 58, 3) := dk_180 0 58 (dk_at dksX1_isTwice_2 5 rfl rfl)
theorem dX1_isTwice_55 : decode cX1_isTwice 55 = .ok (.iload 5, 2) := dk_21 5 (dk_at dksX1_isTwice_2 8 rfl rfl)
theorem dX1_isTwice_57 : decode cX1_isTwice 57 = .ok (.aaload, 1) := dk_50 (dk_at dksX1_isTwice_2 10 rfl rfl)
theorem dX1_isTwice_58 : decode cX1_isTwice 58 = .ok (.aload 4, 2) := dk_25 4 (dk_at dksX1_isTwice_2 11 rfl rfl)
theorem dX1_isTwice_60 : decode cX1_isTwice 60 = .ok (.getfield 230, 3) := dk_180 0 230 (dk_at dksX1_isTwice_2 13 rfl rfl)
theorem dX1_isTwice_63 : decode cX1_isTwice 63 = .ok (.invokevirtual 340, 3) := dk_182 1 84 (dk_at dksX1_isTwice_2 16 rfl rfl)
theorem dX1_isTwice_66 : decode cX1_isTwice 66 = .ok (.ifCond .eq 20, 3) := dk_153 0 20 (dk_at dksX1_isTwice_2 19 rfl rfl)
theorem dX1_isTwice_69 : decode cX1_isTwice 69 = .ok (.aload_n 0, 1) := dk_42 (dk_at dksX1_isTwice_2 22 rfl rfl)
theorem dX1_isTwice_70 : decode cX1_isTwice 70 = .ok (.iload_n 3, 1) := dk_29 (dk_at dksX1_isTwice_2 23 rfl rfl)
theorem dX1_isTwice_71 : decode cX1_isTwice 71 = .ok (.aload_n 0, 1) := dk_42 (dk_at dksX1_isTwice_3 0 rfl rfl)
theorem dX1_isTwice_72 : decode cX1_isTwice 72 = .ok (.getfield 58, 3) := dk_180 0 58 (dk_at dksX1_isTwice_3 1 rfl rfl)
theorem dX1_isTwice_75 : decode cX1_isTwice 75 = .ok (.iload 5, 2) := dk_21 5 (dk_at dksX1_isTwice_3 4 rfl rfl)
theorem dX1_isTwice_77 : decode cX1_isTwice 77 = .ok (.aaload, 1) := dk_50 (dk_at dksX1_isTwice_3 6 rfl rfl)
theorem dX1_isTwice_78 : decode cX1_isTwice 78 = .ok (.invokevirtual 299, 3) := dk_182 1 43 (dk_at dksX1_isTwice_3 7 rfl rfl)
theorem dX1_isTwice_81 : decode cX1_isTwice 81 = .ok (.ifCond .eq 5, 3) := dk_153 0 5 (dk_at dksX1_isTwice_3 10 rfl rfl)
theorem dX1_isTwice_84 : decode cX1_isTwice 84 = .ok (.iconst 1, 1) := dk_4 (dk_at dksX1_isTwice_3 13 rfl rfl)
theorem dX1_isTwice_85 : decode cX1_isTwice 85 = .ok (.ireturn, 1) := dk_172 (dk_at dksX1_isTwice_3 14 rfl rfl)
theorem dX1_isTwice_86 : decode cX1_isTwice 86 = .ok (.iinc 5 1, 3) := dk_132 5 1 (dk_at dksX1_isTwice_3 15 rfl rfl)
theorem dX1_isTwice_89 : decode cX1_isTwice 89 = .ok (.goto (-44), 3) := dk_167 255 212 (dk_at dksX1_isTwice_3 18 rfl rfl)
theorem dX1_isTwice_92 : decode cX1_isTwice 92 = .ok (.iconst 0, 1) := dk_3 (dk_at dksX1_isTwice_3 21 rfl rfl)
theorem dX1_isTwice_93 : decode cX1_isTwice 93 = .ok (.ireturn, 1) := dk_172 (dk_at dksX1_isTwice_3 22 rfl rfl)
abbrev cX1_isCast : ByteArray := prog_1_method_26_code
def yX1_isCast : MethodName := ⟨RX1, "isCast", "(ILOperaHouse$Call;)Z"⟩
def dkwX1_isCast_1 : List UInt8 := [160, 0, 5, 4, 172, 132, 3, 1, 167, 255, 228, 3, 172]
abbrev dktX1_isCast_1 : List UInt8 := dkwX1_isCast_1 ++ []
def dkwX1_isCast_0 : List UInt8 := [3, 62, 29, 44, 182, 0, 212, 162, 0, 26, 42, 180, 0, 64, 44, 180, 0, 233, 50, 29, 46, 27]
abbrev dktX1_isCast_0 : List UInt8 := dkwX1_isCast_0 ++ dktX1_isCast_1
theorem dksX1_isCast_0 : cX1_isCast.data.toList.drop 0 = dktX1_isCast_0 := by decide +kernel
theorem dksX1_isCast_1 : cX1_isCast.data.toList.drop 22 = dktX1_isCast_1 := dk_seg dksX1_isCast_0 22 rfl rfl
theorem dX1_isCast_0 : decode cX1_isCast 0 = .ok (.iconst 0, 1) := dk_3 (dk_at dksX1_isCast_0 0 rfl rfl)
theorem dX1_isCast_1 : decode cX1_isCast 1 = .ok (.istore_n 3, 1) := dk_62 (dk_at dksX1_isCast_0 1 rfl rfl)
theorem dX1_isCast_2 : decode cX1_isCast 2 = .ok (.iload_n 3, 1) := dk_29 (dk_at dksX1_isCast_0 2 rfl rfl)
theorem dX1_isCast_3 : decode cX1_isCast 3 = .ok (.aload_n 2, 1) := dk_44 (dk_at dksX1_isCast_0 3 rfl rfl)
theorem dX1_isCast_4 : decode cX1_isCast 4 = .ok (.invokevirtual 212, 3) := dk_182 0 212 (dk_at dksX1_isCast_0 4 rfl rfl)
theorem dX1_isCast_7 : decode cX1_isCast 7 = .ok (.if_icmp .ge 26, 3) := dk_162 0 26 (dk_at dksX1_isCast_0 7 rfl rfl)
theorem dX1_isCast_10 : decode cX1_isCast 10 = .ok (.aload_n 0, 1) := dk_42 (dk_at dksX1_isCast_0 10 rfl rfl)
theorem dX1_isCast_11 : decode cX1_isCast 11 = .ok (.getfield 64, 3) := dk_180 0 64 (dk_at dksX1_isCast_0 11 rfl rfl)
theorem dX1_isCast_14 : decode cX1_isCast 14 = .ok (.aload_n 2, 1) := dk_44 (dk_at dksX1_isCast_0 14 rfl rfl)
theorem dX1_isCast_15 : decode cX1_isCast 15 = .ok (.getfield 233, 3) := dk_180 0 233 (dk_at dksX1_isCast_0 15 rfl rfl)
theorem dX1_isCast_18 : decode cX1_isCast 18 = .ok (.aaload, 1) := dk_50 (dk_at dksX1_isCast_0 18 rfl rfl)
theorem dX1_isCast_19 : decode cX1_isCast 19 = .ok (.iload_n 3, 1) := dk_29 (dk_at dksX1_isCast_0 19 rfl rfl)
theorem dX1_isCast_20 : decode cX1_isCast 20 = .ok (.iaload, 1) := dk_46 (dk_at dksX1_isCast_0 20 rfl rfl)
theorem dX1_isCast_21 : decode cX1_isCast 21 = .ok (.iload_n 1, 1) := dk_27 (dk_at dksX1_isCast_0 21 rfl rfl)
theorem dX1_isCast_22 : decode cX1_isCast 22 = .ok (.if_icmp .ne 5, 3) := dk_160 0 5 (dk_at dksX1_isCast_1 0 rfl rfl)
theorem dX1_isCast_25 : decode cX1_isCast 25 = .ok (.iconst 1, 1) := dk_4 (dk_at dksX1_isCast_1 3 rfl rfl)
theorem dX1_isCast_26 : decode cX1_isCast 26 = .ok (.ireturn, 1) := dk_172 (dk_at dksX1_isCast_1 4 rfl rfl)
theorem dX1_isCast_27 : decode cX1_isCast 27 = .ok (.iinc 3 1, 3) := dk_132 3 1 (dk_at dksX1_isCast_1 5 rfl rfl)
theorem dX1_isCast_30 : decode cX1_isCast 30 = .ok (.goto (-28), 3) := dk_167 255 228 (dk_at dksX1_isCast_1 8 rfl rfl)
theorem dX1_isCast_33 : decode cX1_isCast 33 = .ok (.iconst 0, 1) := dk_3 (dk_at dksX1_isCast_1 11 rfl rfl)
theorem dX1_isCast_34 : decode cX1_isCast 34 = .ok (.ireturn, 1) := dk_172 (dk_at dksX1_isCast_1 12 rfl rfl)
abbrev cX1_hoursOn : ByteArray := prog_1_method_31_code
def yX1_hoursOn : MethodName := ⟨RX1, "hoursOn", "(ILOperaHouse$Call;)I"⟩
def dkwX1_hoursOn_2 : List UInt8 := [25, 5, 182, 1, 29, 96, 62, 25, 5, 44, 166, 0, 6, 167, 0, 9, 132, 4, 1, 167, 255, 196, 29, 172]
abbrev dktX1_hoursOn_2 : List UInt8 := dkwX1_hoursOn_2 ++ []
def dkwX1_hoursOn_1 : List UInt8 := [25, 5, 180, 0, 214, 44, 180, 0, 214, 160, 0, 21, 42, 27, 25, 5, 182, 1, 43, 153, 0, 11, 29]
abbrev dktX1_hoursOn_1 : List UInt8 := dkwX1_hoursOn_1 ++ dktX1_hoursOn_2
def dkwX1_hoursOn_0 : List UInt8 := [3, 62, 3, 54, 4, 21, 4, 42, 180, 0, 227, 162, 0, 57, 42, 180, 0, 58, 21, 4, 50, 58, 5]
abbrev dktX1_hoursOn_0 : List UInt8 := dkwX1_hoursOn_0 ++ dktX1_hoursOn_1
theorem dksX1_hoursOn_0 : cX1_hoursOn.data.toList.drop 0 = dktX1_hoursOn_0 := by decide +kernel
theorem dksX1_hoursOn_1 : cX1_hoursOn.data.toList.drop 23 = dktX1_hoursOn_1 := dk_seg dksX1_hoursOn_0 23 rfl rfl
theorem dksX1_hoursOn_2 : cX1_hoursOn.data.toList.drop 46 = dktX1_hoursOn_2 := dk_seg dksX1_hoursOn_1 23 rfl rfl
theorem dX1_hoursOn_0 : decode cX1_hoursOn 0 = .ok (.iconst 0, 1) := dk_3 (dk_at dksX1_hoursOn_0 0 rfl rfl)
theorem dX1_hoursOn_1 : decode cX1_hoursOn 1 = .ok (.istore_n 3, 1) := dk_62 (dk_at dksX1_hoursOn_0 1 rfl rfl)
theorem dX1_hoursOn_2 : decode cX1_hoursOn 2 = .ok (.iconst 0, 1) := dk_3 (dk_at dksX1_hoursOn_0 2 rfl rfl)
theorem dX1_hoursOn_3 : decode cX1_hoursOn 3 = .ok (.istore 4, 2) := dk_54 4 (dk_at dksX1_hoursOn_0 3 rfl rfl)
theorem dX1_hoursOn_5 : decode cX1_hoursOn 5 = .ok (.iload 4, 2) := dk_21 4 (dk_at dksX1_hoursOn_0 5 rfl rfl)
theorem dX1_hoursOn_7 : decode cX1_hoursOn 7 = .ok (.aload_n 0, 1) := dk_42 (dk_at dksX1_hoursOn_0 7 rfl rfl)
theorem dX1_hoursOn_8 : decode cX1_hoursOn 8 = .ok (.getfield 227, 3) := dk_180 0 227 (dk_at dksX1_hoursOn_0 8 rfl rfl)
theorem dX1_hoursOn_11 : decode cX1_hoursOn 11 = .ok (.if_icmp .ge 57, 3) := dk_162 0 57 (dk_at dksX1_hoursOn_0 11 rfl rfl)
theorem dX1_hoursOn_14 : decode cX1_hoursOn 14 = .ok (.aload_n 0, 1) := dk_42 (dk_at dksX1_hoursOn_0 14 rfl rfl)
theorem dX1_hoursOn_15 : decode cX1_hoursOn 15 = .ok (.getfield 58, 3) := dk_180 0 58 (dk_at dksX1_hoursOn_0 15 rfl rfl)
theorem dX1_hoursOn_18 : decode cX1_hoursOn 18 = .ok (.iload 4, 2) := dk_21 4 (dk_at dksX1_hoursOn_0 18 rfl rfl)
theorem dX1_hoursOn_20 : decode cX1_hoursOn 20 = .ok (.aaload, 1) := dk_50 (dk_at dksX1_hoursOn_0 20 rfl rfl)
theorem dX1_hoursOn_21 : decode cX1_hoursOn 21 = .ok (.astore 5, 2) := dk_58 5 (dk_at dksX1_hoursOn_0 21 rfl rfl)
theorem dX1_hoursOn_23 : decode cX1_hoursOn 23 = .ok (.aload 5, 2) := dk_25 5 (dk_at dksX1_hoursOn_1 0 rfl rfl)
theorem dX1_hoursOn_25 : decode cX1_hoursOn 25 = .ok (.getfield 214, 3) := dk_180 0 214 (dk_at dksX1_hoursOn_1 2 rfl rfl)
theorem dX1_hoursOn_28 : decode cX1_hoursOn 28 = .ok (.aload_n 2, 1) := dk_44 (dk_at dksX1_hoursOn_1 5 rfl rfl)
theorem dX1_hoursOn_29 : decode cX1_hoursOn 29 = .ok (.getfield 214, 3) := dk_180 0 214 (dk_at dksX1_hoursOn_1 6 rfl rfl)
theorem dX1_hoursOn_32 : decode cX1_hoursOn 32 = .ok (.if_icmp .ne 21, 3) := dk_160 0 21 (dk_at dksX1_hoursOn_1 9 rfl rfl)
theorem dX1_hoursOn_35 : decode cX1_hoursOn 35 = .ok (.aload_n 0, 1) := dk_42 (dk_at dksX1_hoursOn_1 12 rfl rfl)
theorem dX1_hoursOn_36 : decode cX1_hoursOn 36 = .ok (.iload_n 1, 1) := dk_27 (dk_at dksX1_hoursOn_1 13 rfl rfl)
theorem dX1_hoursOn_37 : decode cX1_hoursOn 37 = .ok (.aload 5, 2) := dk_25 5 (dk_at dksX1_hoursOn_1 14 rfl rfl)
theorem dX1_hoursOn_39 : decode cX1_hoursOn 39 = .ok (.invokevirtual 299, 3) := dk_182 1 43 (dk_at dksX1_hoursOn_1 16 rfl rfl)
theorem dX1_hoursOn_42 : decode cX1_hoursOn 42 = .ok (.ifCond .eq 11, 3) := dk_153 0 11 (dk_at dksX1_hoursOn_1 19 rfl rfl)
theorem dX1_hoursOn_45 : decode cX1_hoursOn 45 = .ok (.iload_n 3, 1) := dk_29 (dk_at dksX1_hoursOn_1 22 rfl rfl)
theorem dX1_hoursOn_46 : decode cX1_hoursOn 46 = .ok (.aload 5, 2) := dk_25 5 (dk_at dksX1_hoursOn_2 0 rfl rfl)
theorem dX1_hoursOn_48 : decode cX1_hoursOn 48 = .ok (.invokevirtual 285, 3) := dk_182 1 29 (dk_at dksX1_hoursOn_2 2 rfl rfl)
theorem dX1_hoursOn_51 : decode cX1_hoursOn 51 = .ok (.iadd, 1) := dk_96 (dk_at dksX1_hoursOn_2 5 rfl rfl)
theorem dX1_hoursOn_52 : decode cX1_hoursOn 52 = .ok (.istore_n 3, 1) := dk_62 (dk_at dksX1_hoursOn_2 6 rfl rfl)
theorem dX1_hoursOn_53 : decode cX1_hoursOn 53 = .ok (.aload 5, 2) := dk_25 5 (dk_at dksX1_hoursOn_2 7 rfl rfl)
theorem dX1_hoursOn_55 : decode cX1_hoursOn 55 = .ok (.aload_n 2, 1) := dk_44 (dk_at dksX1_hoursOn_2 9 rfl rfl)
theorem dX1_hoursOn_56 : decode cX1_hoursOn 56 = .ok (.if_acmp .ne 6, 3) := dk_166 0 6 (dk_at dksX1_hoursOn_2 10 rfl rfl)
theorem dX1_hoursOn_59 : decode cX1_hoursOn 59 = .ok (.goto 9, 3) := dk_167 0 9 (dk_at dksX1_hoursOn_2 13 rfl rfl)
theorem dX1_hoursOn_62 : decode cX1_hoursOn 62 = .ok (.iinc 4 1, 3) := dk_132 4 1 (dk_at dksX1_hoursOn_2 16 rfl rfl)
theorem dX1_hoursOn_65 : decode cX1_hoursOn 65 = .ok (.goto (-60), 3) := dk_167 255 196 (dk_at dksX1_hoursOn_2 19 rfl rfl)
theorem dX1_hoursOn_68 : decode cX1_hoursOn 68 = .ok (.iload_n 3, 1) := dk_29 (dk_at dksX1_hoursOn_2 22 rfl rfl)
theorem dX1_hoursOn_69 : decode cX1_hoursOn 69 = .ok (.ireturn, 1) := dk_172 (dk_at dksX1_hoursOn_2 23 rfl rfl)
abbrev cX1_nightsOf : ByteArray := prog_1_method_32_code
def yX1_nightsOf : MethodName := ⟨RX1, "nightsOf", "(ILOperaHouse$Call;I)I"⟩
def dkwX1_nightsOf_3 : List UInt8 := [167, 255, 190, 21, 4, 172]
abbrev dktX1_nightsOf_3 : List UInt8 := dkwX1_nightsOf_3 ++ []
def dkwX1_nightsOf_2 : List UInt8 := [27, 25, 6, 182, 1, 43, 153, 0, 6, 132, 4, 1, 25, 6, 44, 166, 0, 6, 167, 0, 9, 132, 5, 1]
abbrev dktX1_nightsOf_2 : List UInt8 := dkwX1_nightsOf_2 ++ dktX1_nightsOf_3
def dkwX1_nightsOf_1 : List UInt8 := [25, 6, 180, 1, 25, 6, 160, 0, 30, 25, 6, 180, 0, 214, 44, 180, 0, 214, 29, 100, 164, 0, 16, 42]
abbrev dktX1_nightsOf_1 : List UInt8 := dkwX1_nightsOf_1 ++ dktX1_nightsOf_2
def dkwX1_nightsOf_0 : List UInt8 := [3, 54, 4, 3, 54, 5, 21, 5, 42, 180, 0, 227, 162, 0, 63, 42, 180, 0, 58, 21, 5, 50, 58, 6]
abbrev dktX1_nightsOf_0 : List UInt8 := dkwX1_nightsOf_0 ++ dktX1_nightsOf_1
theorem dksX1_nightsOf_0 : cX1_nightsOf.data.toList.drop 0 = dktX1_nightsOf_0 := by decide +kernel
theorem dksX1_nightsOf_1 : cX1_nightsOf.data.toList.drop 24 = dktX1_nightsOf_1 := dk_seg dksX1_nightsOf_0 24 rfl rfl
theorem dksX1_nightsOf_2 : cX1_nightsOf.data.toList.drop 48 = dktX1_nightsOf_2 := dk_seg dksX1_nightsOf_1 24 rfl rfl
theorem dksX1_nightsOf_3 : cX1_nightsOf.data.toList.drop 72 = dktX1_nightsOf_3 := dk_seg dksX1_nightsOf_2 24 rfl rfl
theorem dX1_nightsOf_0 : decode cX1_nightsOf 0 = .ok (.iconst 0, 1) := dk_3 (dk_at dksX1_nightsOf_0 0 rfl rfl)
theorem dX1_nightsOf_1 : decode cX1_nightsOf 1 = .ok (.istore 4, 2) := dk_54 4 (dk_at dksX1_nightsOf_0 1 rfl rfl)
theorem dX1_nightsOf_3 : decode cX1_nightsOf 3 = .ok (.iconst 0, 1) := dk_3 (dk_at dksX1_nightsOf_0 3 rfl rfl)
theorem dX1_nightsOf_4 : decode cX1_nightsOf 4 = .ok (.istore 5, 2) := dk_54 5 (dk_at dksX1_nightsOf_0 4 rfl rfl)
theorem dX1_nightsOf_6 : decode cX1_nightsOf 6 = .ok (.iload 5, 2) := dk_21 5 (dk_at dksX1_nightsOf_0 6 rfl rfl)
theorem dX1_nightsOf_8 : decode cX1_nightsOf 8 = .ok (.aload_n 0, 1) := dk_42 (dk_at dksX1_nightsOf_0 8 rfl rfl)
theorem dX1_nightsOf_9 : decode cX1_nightsOf 9 = .ok (.getfield 227, 3) := dk_180 0 227 (dk_at dksX1_nightsOf_0 9 rfl rfl)
theorem dX1_nightsOf_12 : decode cX1_nightsOf 12 = .ok (.if_icmp .ge 63, 3) := dk_162 0 63 (dk_at dksX1_nightsOf_0 12 rfl rfl)
theorem dX1_nightsOf_15 : decode cX1_nightsOf 15 = .ok (.aload_n 0, 1) := dk_42 (dk_at dksX1_nightsOf_0 15 rfl rfl)
theorem dX1_nightsOf_16 : decode cX1_nightsOf 16 = .ok (.getfield 58, 3) := dk_180 0 58 (dk_at dksX1_nightsOf_0 16 rfl rfl)
theorem dX1_nightsOf_19 : decode cX1_nightsOf 19 = .ok (.iload 5, 2) := dk_21 5 (dk_at dksX1_nightsOf_0 19 rfl rfl)
theorem dX1_nightsOf_21 : decode cX1_nightsOf 21 = .ok (.aaload, 1) := dk_50 (dk_at dksX1_nightsOf_0 21 rfl rfl)
theorem dX1_nightsOf_22 : decode cX1_nightsOf 22 = .ok (.astore 6, 2) := dk_58 6 (dk_at dksX1_nightsOf_0 22 rfl rfl)
theorem dX1_nightsOf_24 : decode cX1_nightsOf 24 = .ok (.aload 6, 2) := dk_25 6 (dk_at dksX1_nightsOf_1 0 rfl rfl)
theorem dX1_nightsOf_26 : decode cX1_nightsOf 26 = .ok (.getfield 281, 3) := dk_180 1 25 (dk_at dksX1_nightsOf_1 2 rfl rfl)
theorem dX1_nightsOf_29 : decode cX1_nightsOf 29 = .ok (.iconst 3, 1) := dk_6 (dk_at dksX1_nightsOf_1 5 rfl rfl)
theorem dX1_nightsOf_30 : decode cX1_nightsOf 30 = .ok (.if_icmp .ne 30, 3) := dk_160 0 30 (dk_at dksX1_nightsOf_1 6 rfl rfl)
theorem dX1_nightsOf_33 : decode cX1_nightsOf 33 = .ok (.aload 6, 2) := dk_25 6 (dk_at dksX1_nightsOf_1 9 rfl rfl)
theorem dX1_nightsOf_35 : decode cX1_nightsOf 35 = .ok (.getfield 214, 3) := dk_180 0 214 (dk_at dksX1_nightsOf_1 11 rfl rfl)
theorem dX1_nightsOf_38 : decode cX1_nightsOf 38 = .ok (.aload_n 2, 1) := dk_44 (dk_at dksX1_nightsOf_1 14 rfl rfl)
theorem dX1_nightsOf_39 : decode cX1_nightsOf 39 = .ok (.getfield 214, 3) := dk_180 0 214 (dk_at dksX1_nightsOf_1 15 rfl rfl)
theorem dX1_nightsOf_42 : decode cX1_nightsOf 42 = .ok (.iload_n 3, 1) := dk_29 (dk_at dksX1_nightsOf_1 18 rfl rfl)
theorem dX1_nightsOf_43 : decode cX1_nightsOf 43 = .ok (.isub, 1) := dk_100 (dk_at dksX1_nightsOf_1 19 rfl rfl)
theorem dX1_nightsOf_44 : decode cX1_nightsOf 44 = .ok (.if_icmp .le 16, 3) := dk_164 0 16 (dk_at dksX1_nightsOf_1 20 rfl rfl)
theorem dX1_nightsOf_47 : decode cX1_nightsOf 47 = .ok (.aload_n 0, 1) := dk_42 (dk_at dksX1_nightsOf_1 23 rfl rfl)
theorem dX1_nightsOf_48 : decode cX1_nightsOf 48 = .ok (.iload_n 1, 1) := dk_27 (dk_at dksX1_nightsOf_2 0 rfl rfl)
theorem dX1_nightsOf_49 : decode cX1_nightsOf 49 = .ok (.aload 6, 2) := dk_25 6 (dk_at dksX1_nightsOf_2 1 rfl rfl)
theorem dX1_nightsOf_51 : decode cX1_nightsOf 51 = .ok (.invokevirtual 299, 3) := dk_182 1 43 (dk_at dksX1_nightsOf_2 3 rfl rfl)
theorem dX1_nightsOf_54 : decode cX1_nightsOf 54 = .ok (.ifCond .eq 6, 3) := dk_153 0 6 (dk_at dksX1_nightsOf_2 6 rfl rfl)
theorem dX1_nightsOf_57 : decode cX1_nightsOf 57 = .ok (.iinc 4 1, 3) := dk_132 4 1 (dk_at dksX1_nightsOf_2 9 rfl rfl)
theorem dX1_nightsOf_60 : decode cX1_nightsOf 60 = .ok (.aload 6, 2) := dk_25 6 (dk_at dksX1_nightsOf_2 12 rfl rfl)
theorem dX1_nightsOf_62 : decode cX1_nightsOf 62 = .ok (.aload_n 2, 1) := dk_44 (dk_at dksX1_nightsOf_2 14 rfl rfl)
theorem dX1_nightsOf_63 : decode cX1_nightsOf 63 = .ok (.if_acmp .ne 6, 3) := dk_166 0 6 (dk_at dksX1_nightsOf_2 15 rfl rfl)
theorem dX1_nightsOf_66 : decode cX1_nightsOf 66 = .ok (.goto 9, 3) := dk_167 0 9 (dk_at dksX1_nightsOf_2 18 rfl rfl)
theorem dX1_nightsOf_69 : decode cX1_nightsOf 69 = .ok (.iinc 5 1, 3) := dk_132 5 1 (dk_at dksX1_nightsOf_2 21 rfl rfl)
theorem dX1_nightsOf_72 : decode cX1_nightsOf 72 = .ok (.goto (-66), 3) := dk_167 255 190 (dk_at dksX1_nightsOf_3 0 rfl rfl)
theorem dX1_nightsOf_75 : decode cX1_nightsOf 75 = .ok (.iload 4, 2) := dk_21 4 (dk_at dksX1_nightsOf_3 3 rfl rfl)
theorem dX1_nightsOf_77 : decode cX1_nightsOf 77 = .ok (.ireturn, 1) := dk_172 (dk_at dksX1_nightsOf_3 5 rfl rfl)
abbrev cX1_tiredAt : ByteArray := prog_1_method_30_code
def yX1_tiredAt : MethodName := ⟨RX1, "tiredAt", "(ILOperaHouse$Call;)I"⟩
def dkwX1_tiredAt_3 : List UInt8 := [180, 0, 230, 54, 4, 25, 6, 44, 166, 0, 6, 167, 0, 9, 132, 5, 1, 167, 255, 175, 29, 172]
abbrev dktX1_tiredAt_3 : List UInt8 := dkwX1_tiredAt_3 ++ []
def dkwX1_tiredAt_2 : List UInt8 := [44, 166, 0, 28, 3, 29, 25, 6, 180, 0, 230, 21, 4, 100, 100, 184, 1, 37, 21, 7, 96, 62, 25, 6]
abbrev dktX1_tiredAt_2 : List UInt8 := dkwX1_tiredAt_2 ++ dktX1_tiredAt_3
def dkwX1_tiredAt_1 : List UInt8 := [58, 6, 25, 6, 182, 1, 31, 42, 27, 25, 6, 182, 1, 34, 104, 54, 7, 21, 7, 157, 0, 9, 25, 6]
abbrev dktX1_tiredAt_1 : List UInt8 := dkwX1_tiredAt_1 ++ dktX1_tiredAt_2
def dkwX1_tiredAt_0 : List UInt8 := [3, 62, 3, 54, 4, 3, 54, 5, 21, 5, 42, 180, 0, 227, 162, 0, 78, 42, 180, 0, 58, 21, 5, 50]
abbrev dktX1_tiredAt_0 : List UInt8 := dkwX1_tiredAt_0 ++ dktX1_tiredAt_1
theorem dksX1_tiredAt_0 : cX1_tiredAt.data.toList.drop 0 = dktX1_tiredAt_0 := by decide +kernel
theorem dksX1_tiredAt_1 : cX1_tiredAt.data.toList.drop 24 = dktX1_tiredAt_1 := dk_seg dksX1_tiredAt_0 24 rfl rfl
theorem dksX1_tiredAt_2 : cX1_tiredAt.data.toList.drop 48 = dktX1_tiredAt_2 := dk_seg dksX1_tiredAt_1 24 rfl rfl
theorem dksX1_tiredAt_3 : cX1_tiredAt.data.toList.drop 72 = dktX1_tiredAt_3 := dk_seg dksX1_tiredAt_2 24 rfl rfl
theorem dX1_tiredAt_0 : decode cX1_tiredAt 0 = .ok (.iconst 0, 1) := dk_3 (dk_at dksX1_tiredAt_0 0 rfl rfl)
theorem dX1_tiredAt_1 : decode cX1_tiredAt 1 = .ok (.istore_n 3, 1) := dk_62 (dk_at dksX1_tiredAt_0 1 rfl rfl)
theorem dX1_tiredAt_2 : decode cX1_tiredAt 2 = .ok (.iconst 0, 1) := dk_3 (dk_at dksX1_tiredAt_0 2 rfl rfl)
theorem dX1_tiredAt_3 : decode cX1_tiredAt 3 = .ok (.istore 4, 2) := dk_54 4 (dk_at dksX1_tiredAt_0 3 rfl rfl)
theorem dX1_tiredAt_5 : decode cX1_tiredAt 5 = .ok (.iconst 0, 1) := dk_3 (dk_at dksX1_tiredAt_0 5 rfl rfl)
theorem dX1_tiredAt_6 : decode cX1_tiredAt 6 = .ok (.istore 5, 2) := dk_54 5 (dk_at dksX1_tiredAt_0 6 rfl rfl)
theorem dX1_tiredAt_8 : decode cX1_tiredAt 8 = .ok (.iload 5, 2) := dk_21 5 (dk_at dksX1_tiredAt_0 8 rfl rfl)
theorem dX1_tiredAt_10 : decode cX1_tiredAt 10 = .ok (.aload_n 0, 1) := dk_42 (dk_at dksX1_tiredAt_0 10 rfl rfl)
theorem dX1_tiredAt_11 : decode cX1_tiredAt 11 = .ok (.getfield 227, 3) := dk_180 0 227 (dk_at dksX1_tiredAt_0 11 rfl rfl)
theorem dX1_tiredAt_14 : decode cX1_tiredAt 14 = .ok (.if_icmp .ge 78, 3) := dk_162 0 78 (dk_at dksX1_tiredAt_0 14 rfl rfl)
theorem dX1_tiredAt_17 : decode cX1_tiredAt 17 = .ok (.aload_n 0, 1) := dk_42 (dk_at dksX1_tiredAt_0 17 rfl rfl)
theorem dX1_tiredAt_18 : decode cX1_tiredAt 18 = .ok (.getfield 58, 3) := dk_180 0 58 (dk_at dksX1_tiredAt_0 18 rfl rfl)
theorem dX1_tiredAt_21 : decode cX1_tiredAt 21 = .ok (.iload 5, 2) := dk_21 5 (dk_at dksX1_tiredAt_0 21 rfl rfl)
theorem dX1_tiredAt_23 : decode cX1_tiredAt 23 = .ok (.aaload, 1) := dk_50 (dk_at dksX1_tiredAt_0 23 rfl rfl)
theorem dX1_tiredAt_24 : decode cX1_tiredAt 24 = .ok (.astore 6, 2) := dk_58 6 (dk_at dksX1_tiredAt_1 0 rfl rfl)
theorem dX1_tiredAt_26 : decode cX1_tiredAt 26 = .ok (.aload 6, 2) := dk_25 6 (dk_at dksX1_tiredAt_1 2 rfl rfl)
theorem dX1_tiredAt_28 : decode cX1_tiredAt 28 = .ok (.invokevirtual 287, 3) := dk_182 1 31 (dk_at dksX1_tiredAt_1 4 rfl rfl)
theorem dX1_tiredAt_31 : decode cX1_tiredAt 31 = .ok (.aload_n 0, 1) := dk_42 (dk_at dksX1_tiredAt_1 7 rfl rfl)
theorem dX1_tiredAt_32 : decode cX1_tiredAt 32 = .ok (.iload_n 1, 1) := dk_27 (dk_at dksX1_tiredAt_1 8 rfl rfl)
theorem dX1_tiredAt_33 : decode cX1_tiredAt 33 = .ok (.aload 6, 2) := dk_25 6 (dk_at dksX1_tiredAt_1 9 rfl rfl)
theorem dX1_tiredAt_35 : decode cX1_tiredAt 35 = .ok (.invokevirtual 290, 3) := dk_182 1 34 (dk_at dksX1_tiredAt_1 11 rfl rfl)
theorem dX1_tiredAt_38 : decode cX1_tiredAt 38 = .ok (.imul, 1) := dk_104 (dk_at dksX1_tiredAt_1 14 rfl rfl)
theorem dX1_tiredAt_39 : decode cX1_tiredAt 39 = .ok (.istore 7, 2) := dk_54 7 (dk_at dksX1_tiredAt_1 15 rfl rfl)
theorem dX1_tiredAt_41 : decode cX1_tiredAt 41 = .ok (.iload 7, 2) := dk_21 7 (dk_at dksX1_tiredAt_1 17 rfl rfl)
theorem dX1_tiredAt_43 : decode cX1_tiredAt 43 = .ok (.ifCond .gt 9, 3) := dk_157 0 9 (dk_at dksX1_tiredAt_1 19 rfl rfl)
theorem dX1_tiredAt_46 : decode cX1_tiredAt 46 = .ok (.aload 6, 2) := dk_25 6 (dk_at dksX1_tiredAt_1 22 rfl rfl)
theorem dX1_tiredAt_48 : decode cX1_tiredAt 48 = .ok (.aload_n 2, 1) := dk_44 (dk_at dksX1_tiredAt_2 0 rfl rfl)
theorem dX1_tiredAt_49 : decode cX1_tiredAt 49 = .ok (.if_acmp .ne 28, 3) := dk_166 0 28 (dk_at dksX1_tiredAt_2 1 rfl rfl)
theorem dX1_tiredAt_52 : decode cX1_tiredAt 52 = .ok (.iconst 0, 1) := dk_3 (dk_at dksX1_tiredAt_2 4 rfl rfl)
theorem dX1_tiredAt_53 : decode cX1_tiredAt 53 = .ok (.iload_n 3, 1) := dk_29 (dk_at dksX1_tiredAt_2 5 rfl rfl)
theorem dX1_tiredAt_54 : decode cX1_tiredAt 54 = .ok (.aload 6, 2) := dk_25 6 (dk_at dksX1_tiredAt_2 6 rfl rfl)
theorem dX1_tiredAt_56 : decode cX1_tiredAt 56 = .ok (.getfield 230, 3) := dk_180 0 230 (dk_at dksX1_tiredAt_2 8 rfl rfl)
theorem dX1_tiredAt_59 : decode cX1_tiredAt 59 = .ok (.iload 4, 2) := dk_21 4 (dk_at dksX1_tiredAt_2 11 rfl rfl)
theorem dX1_tiredAt_61 : decode cX1_tiredAt 61 = .ok (.isub, 1) := dk_100 (dk_at dksX1_tiredAt_2 13 rfl rfl)
theorem dX1_tiredAt_62 : decode cX1_tiredAt 62 = .ok (.isub, 1) := dk_100 (dk_at dksX1_tiredAt_2 14 rfl rfl)
theorem dX1_tiredAt_63 : decode cX1_tiredAt 63 = .ok (.invokestatic 293, 3) := dk_184 1 37 (dk_at dksX1_tiredAt_2 15 rfl rfl)
theorem dX1_tiredAt_66 : decode cX1_tiredAt 66 = .ok (.iload 7, 2) := dk_21 7 (dk_at dksX1_tiredAt_2 18 rfl rfl)
theorem dX1_tiredAt_68 : decode cX1_tiredAt 68 = .ok (.iadd, 1) := dk_96 (dk_at dksX1_tiredAt_2 20 rfl rfl)
theorem dX1_tiredAt_69 : decode cX1_tiredAt 69 = .ok (.istore_n 3, 1) := dk_62 (dk_at dksX1_tiredAt_2 21 rfl rfl)
theorem dX1_tiredAt_70 : decode cX1_tiredAt 70 = .ok (.aload 6, 2) := dk_25 6 (dk_at dksX1_tiredAt_2 22 rfl rfl)
theorem dX1_tiredAt_72 : decode cX1_tiredAt 72 = .ok (.getfield 230, 3) := dk_180 0 230 (dk_at dksX1_tiredAt_3 0 rfl rfl)
theorem dX1_tiredAt_75 : decode cX1_tiredAt 75 = .ok (.istore 4, 2) := dk_54 4 (dk_at dksX1_tiredAt_3 3 rfl rfl)
theorem dX1_tiredAt_77 : decode cX1_tiredAt 77 = .ok (.aload 6, 2) := dk_25 6 (dk_at dksX1_tiredAt_3 5 rfl rfl)
theorem dX1_tiredAt_79 : decode cX1_tiredAt 79 = .ok (.aload_n 2, 1) := dk_44 (dk_at dksX1_tiredAt_3 7 rfl rfl)
theorem dX1_tiredAt_80 : decode cX1_tiredAt 80 = .ok (.if_acmp .ne 6, 3) := dk_166 0 6 (dk_at dksX1_tiredAt_3 8 rfl rfl)
theorem dX1_tiredAt_83 : decode cX1_tiredAt 83 = .ok (.goto 9, 3) := dk_167 0 9 (dk_at dksX1_tiredAt_3 11 rfl rfl)
theorem dX1_tiredAt_86 : decode cX1_tiredAt 86 = .ok (.iinc 5 1, 3) := dk_132 5 1 (dk_at dksX1_tiredAt_3 14 rfl rfl)
theorem dX1_tiredAt_89 : decode cX1_tiredAt 89 = .ok (.goto (-81), 3) := dk_167 255 175 (dk_at dksX1_tiredAt_3 17 rfl rfl)
theorem dX1_tiredAt_92 : decode cX1_tiredAt 92 = .ok (.iload_n 3, 1) := dk_29 (dk_at dksX1_tiredAt_3 20 rfl rfl)
theorem dX1_tiredAt_93 : decode cX1_tiredAt 93 = .ok (.ireturn, 1) := dk_172 (dk_at dksX1_tiredAt_3 21 rfl rfl)
abbrev cX1_strain : ByteArray := prog_1_method_27_code
def yX1_strain : MethodName := ⟨RX1, "strain", "(ILOperaHouse$Call;)I"⟩
def dkwX1_strain_2 : List UInt8 := [180, 1, 6, 96, 62, 132, 4, 1, 167, 255, 207, 29, 172]
abbrev dktX1_strain_2 : List UInt8 := dkwX1_strain_2 ++ []
def dkwX1_strain_1 : List UInt8 := [21, 4, 46, 27, 160, 0, 24, 29, 44, 180, 1, 2, 180, 0, 137, 21, 4, 182, 0, 155, 192, 0, 140]
abbrev dktX1_strain_1 : List UInt8 := dkwX1_strain_1 ++ dktX1_strain_2
def dkwX1_strain_0 : List UInt8 := [3, 62, 3, 54, 4, 21, 4, 44, 182, 0, 212, 162, 0, 46, 42, 180, 0, 64, 44, 180, 0, 233, 50]
abbrev dktX1_strain_0 : List UInt8 := dkwX1_strain_0 ++ dktX1_strain_1
theorem dksX1_strain_0 : cX1_strain.data.toList.drop 0 = dktX1_strain_0 := by decide +kernel
theorem dksX1_strain_1 : cX1_strain.data.toList.drop 23 = dktX1_strain_1 := dk_seg dksX1_strain_0 23 rfl rfl
theorem dksX1_strain_2 : cX1_strain.data.toList.drop 46 = dktX1_strain_2 := dk_seg dksX1_strain_1 23 rfl rfl
theorem dX1_strain_0 : decode cX1_strain 0 = .ok (.iconst 0, 1) := dk_3 (dk_at dksX1_strain_0 0 rfl rfl)
theorem dX1_strain_1 : decode cX1_strain 1 = .ok (.istore_n 3, 1) := dk_62 (dk_at dksX1_strain_0 1 rfl rfl)
theorem dX1_strain_2 : decode cX1_strain 2 = .ok (.iconst 0, 1) := dk_3 (dk_at dksX1_strain_0 2 rfl rfl)
theorem dX1_strain_3 : decode cX1_strain 3 = .ok (.istore 4, 2) := dk_54 4 (dk_at dksX1_strain_0 3 rfl rfl)
theorem dX1_strain_5 : decode cX1_strain 5 = .ok (.iload 4, 2) := dk_21 4 (dk_at dksX1_strain_0 5 rfl rfl)
theorem dX1_strain_7 : decode cX1_strain 7 = .ok (.aload_n 2, 1) := dk_44 (dk_at dksX1_strain_0 7 rfl rfl)
theorem dX1_strain_8 : decode cX1_strain 8 = .ok (.invokevirtual 212, 3) := dk_182 0 212 (dk_at dksX1_strain_0 8 rfl rfl)
theorem dX1_strain_11 : decode cX1_strain 11 = .ok (.if_icmp .ge 46, 3) := dk_162 0 46 (dk_at dksX1_strain_0 11 rfl rfl)
theorem dX1_strain_14 : decode cX1_strain 14 = .ok (.aload_n 0, 1) := dk_42 (dk_at dksX1_strain_0 14 rfl rfl)
theorem dX1_strain_15 : decode cX1_strain 15 = .ok (.getfield 64, 3) := dk_180 0 64 (dk_at dksX1_strain_0 15 rfl rfl)
theorem dX1_strain_18 : decode cX1_strain 18 = .ok (.aload_n 2, 1) := dk_44 (dk_at dksX1_strain_0 18 rfl rfl)
theorem dX1_strain_19 : decode cX1_strain 19 = .ok (.getfield 233, 3) := dk_180 0 233 (dk_at dksX1_strain_0 19 rfl rfl)
theorem dX1_strain_22 : decode cX1_strain 22 = .ok (.aaload, 1) := dk_50 (dk_at dksX1_strain_0 22 rfl rfl)
theorem dX1_strain_23 : decode cX1_strain 23 = .ok (.iload 4, 2) := dk_21 4 (dk_at dksX1_strain_1 0 rfl rfl)
theorem dX1_strain_25 : decode cX1_strain 25 = .ok (.iaload, 1) := dk_46 (dk_at dksX1_strain_1 2 rfl rfl)
theorem dX1_strain_26 : decode cX1_strain 26 = .ok (.iload_n 1, 1) := dk_27 (dk_at dksX1_strain_1 3 rfl rfl)
theorem dX1_strain_27 : decode cX1_strain 27 = .ok (.if_icmp .ne 24, 3) := dk_160 0 24 (dk_at dksX1_strain_1 4 rfl rfl)
theorem dX1_strain_30 : decode cX1_strain 30 = .ok (.iload_n 3, 1) := dk_29 (dk_at dksX1_strain_1 7 rfl rfl)
theorem dX1_strain_31 : decode cX1_strain 31 = .ok (.aload_n 2, 1) := dk_44 (dk_at dksX1_strain_1 8 rfl rfl)
theorem dX1_strain_32 : decode cX1_strain 32 = .ok (.getfield 258, 3) := dk_180 1 2 (dk_at dksX1_strain_1 9 rfl rfl)
theorem dX1_strain_35 : decode cX1_strain 35 = .ok (.getfield 137, 3) := dk_180 0 137 (dk_at dksX1_strain_1 12 rfl rfl)
theorem dX1_strain_38 : decode cX1_strain 38 = .ok (.iload 4, 2) := dk_21 4 (dk_at dksX1_strain_1 15 rfl rfl)
theorem dX1_strain_40 : decode cX1_strain 40 = .ok (.invokevirtual 155, 3) := dk_182 0 155 (dk_at dksX1_strain_1 17 rfl rfl)
theorem dX1_strain_43 : decode cX1_strain 43 = .ok (.checkcast 140, 3) := dk_192 0 140 (dk_at dksX1_strain_1 20 rfl rfl)
theorem dX1_strain_46 : decode cX1_strain 46 = .ok (.getfield 262, 3) := dk_180 1 6 (dk_at dksX1_strain_2 0 rfl rfl)
theorem dX1_strain_49 : decode cX1_strain 49 = .ok (.iadd, 1) := dk_96 (dk_at dksX1_strain_2 3 rfl rfl)
theorem dX1_strain_50 : decode cX1_strain 50 = .ok (.istore_n 3, 1) := dk_62 (dk_at dksX1_strain_2 4 rfl rfl)
theorem dX1_strain_51 : decode cX1_strain 51 = .ok (.iinc 4 1, 3) := dk_132 4 1 (dk_at dksX1_strain_2 5 rfl rfl)
theorem dX1_strain_54 : decode cX1_strain 54 = .ok (.goto (-49), 3) := dk_167 255 207 (dk_at dksX1_strain_2 8 rfl rfl)
theorem dX1_strain_57 : decode cX1_strain 57 = .ok (.iload_n 3, 1) := dk_29 (dk_at dksX1_strain_2 11 rfl rfl)
theorem dX1_strain_58 : decode cX1_strain 58 = .ok (.ireturn, 1) := dk_172 (dk_at dksX1_strain_2 12 rfl rfl)
abbrev cX1_learned : ByteArray := prog_1_method_46_code
def yX1_learned : MethodName := ⟨RX1, "learned", "(IIII)I"⟩
def dkwX1_learned_2 : List UInt8 := [180, 1, 2, 29, 25, 5, 180, 0, 230, 182, 1, 101, 172]
abbrev dktX1_learned_2 : List UInt8 := dkwX1_learned_2 ++ []
def dkwX1_learned_1 : List UInt8 := [182, 0, 212, 4, 100, 184, 0, 112, 154, 0, 5, 2, 172, 42, 21, 4, 182, 1, 151, 42, 27, 25, 5]
abbrev dktX1_learned_1 : List UInt8 := dkwX1_learned_1 ++ dktX1_learned_2
def dkwX1_learned_0 : List UInt8 := [42, 28, 182, 0, 208, 58, 5, 42, 27, 182, 0, 159, 198, 0, 23, 25, 5, 198, 0, 18, 29, 3, 25, 5]
abbrev dktX1_learned_0 : List UInt8 := dkwX1_learned_0 ++ dktX1_learned_1
theorem dksX1_learned_0 : cX1_learned.data.toList.drop 0 = dktX1_learned_0 := by decide +kernel
theorem dksX1_learned_1 : cX1_learned.data.toList.drop 24 = dktX1_learned_1 := dk_seg dksX1_learned_0 24 rfl rfl
theorem dksX1_learned_2 : cX1_learned.data.toList.drop 47 = dktX1_learned_2 := dk_seg dksX1_learned_1 23 rfl rfl
theorem dX1_learned_0 : decode cX1_learned 0 = .ok (.aload_n 0, 1) := dk_42 (dk_at dksX1_learned_0 0 rfl rfl)
theorem dX1_learned_1 : decode cX1_learned 1 = .ok (.iload_n 2, 1) := dk_28 (dk_at dksX1_learned_0 1 rfl rfl)
theorem dX1_learned_2 : decode cX1_learned 2 = .ok (.invokevirtual 208, 3) := dk_182 0 208 (dk_at dksX1_learned_0 2 rfl rfl)
theorem dX1_learned_5 : decode cX1_learned 5 = .ok (.astore 5, 2) := dk_58 5 (dk_at dksX1_learned_0 5 rfl rfl)
theorem dX1_learned_7 : decode cX1_learned 7 = .ok (.aload_n 0, 1) := dk_42 (dk_at dksX1_learned_0 7 rfl rfl)
theorem dX1_learned_8 : decode cX1_learned 8 = .ok (.iload_n 1, 1) := dk_27 (dk_at dksX1_learned_0 8 rfl rfl)
theorem dX1_learned_9 : decode cX1_learned 9 = .ok (.invokevirtual 159, 3) := dk_182 0 159 (dk_at dksX1_learned_0 9 rfl rfl)
theorem dX1_learned_12 : decode cX1_learned 12 = .ok (.ifnull 23, 3) := dk_198 0 23 (dk_at dksX1_learned_0 12 rfl rfl)
theorem dX1_learned_15 : decode cX1_learned 15 = .ok (.aload 5, 2) := dk_25 5 (dk_at dksX1_learned_0 15 rfl rfl)
theorem dX1_learned_17 : decode cX1_learned 17 = .ok (.ifnull 18, 3) := dk_198 0 18 (dk_at dksX1_learned_0 17 rfl rfl)
theorem dX1_learned_20 : decode cX1_learned 20 = .ok (.iload_n 3, 1) := dk_29 (dk_at dksX1_learned_0 20 rfl rfl)
theorem dX1_learned_21 : decode cX1_learned 21 = .ok (.iconst 0, 1) := dk_3 (dk_at dksX1_learned_0 21 rfl rfl)
theorem dX1_learned_22 : decode cX1_learned 22 = .ok (.aload 5, 2) := dk_25 5 (dk_at dksX1_learned_0 22 rfl rfl)
theorem dX1_learned_24 : decode cX1_learned 24 = .ok (.invokevirtual 212, 3) := dk_182 0 212 (dk_at dksX1_learned_1 0 rfl rfl)
theorem dX1_learned_27 : decode cX1_learned 27 = .ok (.iconst 1, 1) := dk_4 (dk_at dksX1_learned_1 3 rfl rfl)
theorem dX1_learned_28 : decode cX1_learned 28 = .ok (.isub, 1) := dk_100 (dk_at dksX1_learned_1 4 rfl rfl)
theorem dX1_learned_29 : decode cX1_learned 29 = .ok (.invokestatic 112, 3) := dk_184 0 112 (dk_at dksX1_learned_1 5 rfl rfl)
theorem dX1_learned_32 : decode cX1_learned 32 = .ok (.ifCond .ne 5, 3) := dk_154 0 5 (dk_at dksX1_learned_1 8 rfl rfl)
theorem dX1_learned_35 : decode cX1_learned 35 = .ok (.iconst (-1), 1) := dk_2 (dk_at dksX1_learned_1 11 rfl rfl)
theorem dX1_learned_36 : decode cX1_learned 36 = .ok (.ireturn, 1) := dk_172 (dk_at dksX1_learned_1 12 rfl rfl)
theorem dX1_learned_37 : decode cX1_learned 37 = .ok (.aload_n 0, 1) := dk_42 (dk_at dksX1_learned_1 13 rfl rfl)
theorem dX1_learned_38 : decode cX1_learned 38 = .ok (.iload 4, 2) := dk_21 4 (dk_at dksX1_learned_1 14 rfl rfl)
theorem dX1_learned_40 : decode cX1_learned 40 = .ok (.invokevirtual 407, 3) := dk_182 1 151 (dk_at dksX1_learned_1 16 rfl rfl)
theorem dX1_learned_43 : decode cX1_learned 43 = .ok (.aload_n 0, 1) := dk_42 (dk_at dksX1_learned_1 19 rfl rfl)
theorem dX1_learned_44 : decode cX1_learned 44 = .ok (.iload_n 1, 1) := dk_27 (dk_at dksX1_learned_1 20 rfl rfl)
theorem dX1_learned_45 : decode cX1_learned 45 = .ok (.aload 5, 2) := dk_25 5 (dk_at dksX1_learned_1 21 rfl rfl)
theorem dX1_learned_47 : decode cX1_learned 47 = .ok (.getfield 258, 3) := dk_180 1 2 (dk_at dksX1_learned_2 0 rfl rfl)
theorem dX1_learned_50 : decode cX1_learned 50 = .ok (.iload_n 3, 1) := dk_29 (dk_at dksX1_learned_2 3 rfl rfl)
theorem dX1_learned_51 : decode cX1_learned 51 = .ok (.aload 5, 2) := dk_25 5 (dk_at dksX1_learned_2 4 rfl rfl)
theorem dX1_learned_53 : decode cX1_learned 53 = .ok (.getfield 230, 3) := dk_180 0 230 (dk_at dksX1_learned_2 6 rfl rfl)
theorem dX1_learned_56 : decode cX1_learned 56 = .ok (.invokevirtual 357, 3) := dk_182 1 101 (dk_at dksX1_learned_2 9 rfl rfl)
theorem dX1_learned_59 : decode cX1_learned 59 = .ok (.ireturn, 1) := dk_172 (dk_at dksX1_learned_2 12 rfl rfl)
abbrev cX1_tired : ByteArray := prog_1_method_47_code
def yX1_tired : MethodName := ⟨RX1, "tired", "(III)I"⟩
def dkwX1_tired_1 : List UInt8 := [182, 1, 151, 42, 27, 25, 4, 182, 1, 135, 172]
abbrev dktX1_tired_1 : List UInt8 := dkwX1_tired_1 ++ []
def dkwX1_tired_0 : List UInt8 := [42, 28, 182, 0, 208, 58, 4, 42, 27, 182, 0, 159, 198, 0, 8, 25, 4, 199, 0, 5, 2, 172, 42, 29]
abbrev dktX1_tired_0 : List UInt8 := dkwX1_tired_0 ++ dktX1_tired_1
theorem dksX1_tired_0 : cX1_tired.data.toList.drop 0 = dktX1_tired_0 := by decide +kernel
theorem dksX1_tired_1 : cX1_tired.data.toList.drop 24 = dktX1_tired_1 := dk_seg dksX1_tired_0 24 rfl rfl
theorem dX1_tired_0 : decode cX1_tired 0 = .ok (.aload_n 0, 1) := dk_42 (dk_at dksX1_tired_0 0 rfl rfl)
theorem dX1_tired_1 : decode cX1_tired 1 = .ok (.iload_n 2, 1) := dk_28 (dk_at dksX1_tired_0 1 rfl rfl)
theorem dX1_tired_2 : decode cX1_tired 2 = .ok (.invokevirtual 208, 3) := dk_182 0 208 (dk_at dksX1_tired_0 2 rfl rfl)
theorem dX1_tired_5 : decode cX1_tired 5 = .ok (.astore 4, 2) := dk_58 4 (dk_at dksX1_tired_0 5 rfl rfl)
theorem dX1_tired_7 : decode cX1_tired 7 = .ok (.aload_n 0, 1) := dk_42 (dk_at dksX1_tired_0 7 rfl rfl)
theorem dX1_tired_8 : decode cX1_tired 8 = .ok (.iload_n 1, 1) := dk_27 (dk_at dksX1_tired_0 8 rfl rfl)
theorem dX1_tired_9 : decode cX1_tired 9 = .ok (.invokevirtual 159, 3) := dk_182 0 159 (dk_at dksX1_tired_0 9 rfl rfl)
theorem dX1_tired_12 : decode cX1_tired 12 = .ok (.ifnull 8, 3) := dk_198 0 8 (dk_at dksX1_tired_0 12 rfl rfl)
theorem dX1_tired_15 : decode cX1_tired 15 = .ok (.aload 4, 2) := dk_25 4 (dk_at dksX1_tired_0 15 rfl rfl)
theorem dX1_tired_17 : decode cX1_tired 17 = .ok (.ifnonnull 5, 3) := dk_199 0 5 (dk_at dksX1_tired_0 17 rfl rfl)
theorem dX1_tired_20 : decode cX1_tired 20 = .ok (.iconst (-1), 1) := dk_2 (dk_at dksX1_tired_0 20 rfl rfl)
theorem dX1_tired_21 : decode cX1_tired 21 = .ok (.ireturn, 1) := dk_172 (dk_at dksX1_tired_0 21 rfl rfl)
theorem dX1_tired_22 : decode cX1_tired 22 = .ok (.aload_n 0, 1) := dk_42 (dk_at dksX1_tired_0 22 rfl rfl)
theorem dX1_tired_23 : decode cX1_tired 23 = .ok (.iload_n 3, 1) := dk_29 (dk_at dksX1_tired_0 23 rfl rfl)
theorem dX1_tired_24 : decode cX1_tired 24 = .ok (.invokevirtual 407, 3) := dk_182 1 151 (dk_at dksX1_tired_1 0 rfl rfl)
theorem dX1_tired_27 : decode cX1_tired 27 = .ok (.aload_n 0, 1) := dk_42 (dk_at dksX1_tired_1 3 rfl rfl)
theorem dX1_tired_28 : decode cX1_tired 28 = .ok (.iload_n 1, 1) := dk_27 (dk_at dksX1_tired_1 4 rfl rfl)
theorem dX1_tired_29 : decode cX1_tired 29 = .ok (.aload 4, 2) := dk_25 4 (dk_at dksX1_tired_1 5 rfl rfl)
theorem dX1_tired_31 : decode cX1_tired 31 = .ok (.invokevirtual 391, 3) := dk_182 1 135 (dk_at dksX1_tired_1 7 rfl rfl)
theorem dX1_tired_34 : decode cX1_tired 34 = .ok (.ireturn, 1) := dk_172 (dk_at dksX1_tired_1 10 rfl rfl)
abbrev cX1_fee : ByteArray := prog_1_method_49_code
def yX1_fee : MethodName := ⟨RX1, "fee", "(III)I"⟩
def dkwX1_fee_1 : List UInt8 := [2, 172, 42, 29, 182, 1, 151, 42, 25, 5, 25, 4, 182, 1, 183, 172]
abbrev dktX1_fee_1 : List UInt8 := dkwX1_fee_1 ++ []
def dkwX1_fee_0 : List UInt8 := [42, 28, 182, 0, 208, 58, 4, 42, 27, 182, 0, 159, 58, 5, 25, 5, 198, 0, 8, 25, 4, 199, 0, 5]
abbrev dktX1_fee_0 : List UInt8 := dkwX1_fee_0 ++ dktX1_fee_1
theorem dksX1_fee_0 : cX1_fee.data.toList.drop 0 = dktX1_fee_0 := by decide +kernel
theorem dksX1_fee_1 : cX1_fee.data.toList.drop 24 = dktX1_fee_1 := dk_seg dksX1_fee_0 24 rfl rfl
theorem dX1_fee_0 : decode cX1_fee 0 = .ok (.aload_n 0, 1) := dk_42 (dk_at dksX1_fee_0 0 rfl rfl)
theorem dX1_fee_1 : decode cX1_fee 1 = .ok (.iload_n 2, 1) := dk_28 (dk_at dksX1_fee_0 1 rfl rfl)
theorem dX1_fee_2 : decode cX1_fee 2 = .ok (.invokevirtual 208, 3) := dk_182 0 208 (dk_at dksX1_fee_0 2 rfl rfl)
theorem dX1_fee_5 : decode cX1_fee 5 = .ok (.astore 4, 2) := dk_58 4 (dk_at dksX1_fee_0 5 rfl rfl)
theorem dX1_fee_7 : decode cX1_fee 7 = .ok (.aload_n 0, 1) := dk_42 (dk_at dksX1_fee_0 7 rfl rfl)
theorem dX1_fee_8 : decode cX1_fee 8 = .ok (.iload_n 1, 1) := dk_27 (dk_at dksX1_fee_0 8 rfl rfl)
theorem dX1_fee_9 : decode cX1_fee 9 = .ok (.invokevirtual 159, 3) := dk_182 0 159 (dk_at dksX1_fee_0 9 rfl rfl)
theorem dX1_fee_12 : decode cX1_fee 12 = .ok (.astore 5, 2) := dk_58 5 (dk_at dksX1_fee_0 12 rfl rfl)
theorem dX1_fee_14 : decode cX1_fee 14 = .ok (.aload 5, 2) := dk_25 5 (dk_at dksX1_fee_0 14 rfl rfl)
theorem dX1_fee_16 : decode cX1_fee 16 = .ok (.ifnull 8, 3) := dk_198 0 8 (dk_at dksX1_fee_0 16 rfl rfl)
theorem dX1_fee_19 : decode cX1_fee 19 = .ok (.aload 4, 2) := dk_25 4 (dk_at dksX1_fee_0 19 rfl rfl)
theorem dX1_fee_21 : decode cX1_fee 21 = .ok (.ifnonnull 5, 3) := dk_199 0 5 (dk_at dksX1_fee_0 21 rfl rfl)
theorem dX1_fee_24 : decode cX1_fee 24 = .ok (.iconst (-1), 1) := dk_2 (dk_at dksX1_fee_1 0 rfl rfl)
theorem dX1_fee_25 : decode cX1_fee 25 = .ok (.ireturn, 1) := dk_172 (dk_at dksX1_fee_1 1 rfl rfl)
theorem dX1_fee_26 : decode cX1_fee 26 = .ok (.aload_n 0, 1) := dk_42 (dk_at dksX1_fee_1 2 rfl rfl)
theorem dX1_fee_27 : decode cX1_fee 27 = .ok (.iload_n 3, 1) := dk_29 (dk_at dksX1_fee_1 3 rfl rfl)
theorem dX1_fee_28 : decode cX1_fee 28 = .ok (.invokevirtual 407, 3) := dk_182 1 151 (dk_at dksX1_fee_1 4 rfl rfl)
theorem dX1_fee_31 : decode cX1_fee 31 = .ok (.aload_n 0, 1) := dk_42 (dk_at dksX1_fee_1 7 rfl rfl)
theorem dX1_fee_32 : decode cX1_fee 32 = .ok (.aload 5, 2) := dk_25 5 (dk_at dksX1_fee_1 8 rfl rfl)
theorem dX1_fee_34 : decode cX1_fee 34 = .ok (.aload 4, 2) := dk_25 4 (dk_at dksX1_fee_1 10 rfl rfl)
theorem dX1_fee_36 : decode cX1_fee 36 = .ok (.invokevirtual 439, 3) := dk_182 1 183 (dk_at dksX1_fee_1 12 rfl rfl)
theorem dX1_fee_39 : decode cX1_fee 39 = .ok (.ireturn, 1) := dk_172 (dk_at dksX1_fee_1 15 rfl rfl)
abbrev cX1_feeOf : ByteArray := prog_1_method_48_code
def yX1_feeOf : MethodName := ⟨RX1, "feeOf", "(LOperaHouse$Singer;LOperaHouse$Call;)I"⟩
def dkwX1_feeOf_13 : List UInt8 := [180, 0, 92, 182, 1, 179, 172]
abbrev dktX1_feeOf_13 : List UInt8 := dkwX1_feeOf_13 ++ []
def dkwX1_feeOf_12 : List UInt8 := [180, 0, 175, 180, 1, 127, 100, 184, 1, 37, 167, 0, 4, 3, 181, 1, 176, 43, 180, 0, 175, 42]
abbrev dktX1_feeOf_12 : List UInt8 := dkwX1_feeOf_12 ++ dktX1_feeOf_13
def dkwX1_feeOf_11 : List UInt8 := [181, 1, 173, 42, 180, 0, 92, 21, 5, 153, 0, 27, 3, 42, 43, 180, 1, 100, 44, 182, 1, 124, 43]
abbrev dktX1_feeOf_11 : List UInt8 := dkwX1_feeOf_11 ++ dktX1_feeOf_12
def dkwX1_feeOf_10 : List UInt8 := [180, 1, 25, 6, 160, 0, 17, 42, 43, 180, 1, 100, 44, 16, 30, 182, 1, 128, 167, 0, 4, 3]
abbrev dktX1_feeOf_10 : List UInt8 := dkwX1_feeOf_10 ++ dktX1_feeOf_11
def dkwX1_feeOf_9 : List UInt8 := [181, 1, 169, 42, 180, 0, 92, 21, 4, 181, 1, 170, 42, 180, 0, 92, 21, 5, 153, 0, 25, 44]
abbrev dktX1_feeOf_9 : List UInt8 := dkwX1_feeOf_9 ++ dktX1_feeOf_10
def dkwX1_feeOf_8 : List UInt8 := [44, 180, 0, 214, 104, 16, 22, 96, 164, 0, 7, 4, 167, 0, 4, 3, 181, 1, 166, 42, 180, 0, 92, 29]
abbrev dktX1_feeOf_8 : List UInt8 := dkwX1_feeOf_8 ++ dktX1_feeOf_9
def dkwX1_feeOf_7 : List UInt8 := [181, 1, 164, 42, 180, 0, 92, 44, 182, 1, 29, 181, 1, 165, 42, 180, 0, 92, 44, 180, 1, 26, 16, 24]
abbrev dktX1_feeOf_7 : List UInt8 := dkwX1_feeOf_7 ++ dktX1_feeOf_8
def dkwX1_feeOf_6 : List UInt8 := [180, 1, 100, 44, 180, 0, 214, 182, 1, 111, 153, 0, 5, 3, 172, 42, 180, 0, 92, 44, 180, 1, 25]
abbrev dktX1_feeOf_6 : List UInt8 := dkwX1_feeOf_6 ++ dktX1_feeOf_7
def dkwX1_feeOf_5 : List UInt8 := [42, 43, 180, 1, 100, 44, 182, 1, 43, 54, 5, 21, 5, 154, 0, 7, 29, 153, 0, 18, 42, 43]
abbrev dktX1_feeOf_5 : List UInt8 := dkwX1_feeOf_5 ++ dktX1_feeOf_6
def dkwX1_feeOf_4 : List UInt8 := [50, 21, 5, 46, 43, 180, 1, 100, 159, 0, 7, 4, 167, 0, 4, 3, 54, 4, 132, 5, 1, 167, 255, 149]
abbrev dktX1_feeOf_4 : List UInt8 := dkwX1_feeOf_4 ++ dktX1_feeOf_5
def dkwX1_feeOf_3 : List UInt8 := [42, 180, 0, 67, 44, 180, 0, 233, 50, 21, 5, 46, 2, 159, 0, 26, 42, 180, 0, 67, 44, 180, 0, 233]
abbrev dktX1_feeOf_3 : List UInt8 := dkwX1_feeOf_3 ++ dktX1_feeOf_4
def dkwX1_feeOf_2 : List UInt8 := [21, 4, 154, 0, 57, 42, 180, 0, 64, 44, 180, 0, 233, 50, 21, 5, 46, 43, 180, 1, 100, 160, 0, 42]
abbrev dktX1_feeOf_2 : List UInt8 := dkwX1_feeOf_2 ++ dktX1_feeOf_3
def dkwX1_feeOf_1 : List UInt8 := [180, 0, 70, 44, 180, 0, 233, 50, 21, 5, 46, 43, 180, 1, 100, 160, 0, 7, 4, 167, 0, 4, 3, 62]
abbrev dktX1_feeOf_1 : List UInt8 := dkwX1_feeOf_1 ++ dktX1_feeOf_2
def dkwX1_feeOf_0 : List UInt8 := [3, 62, 3, 54, 4, 3, 54, 5, 21, 5, 44, 182, 0, 212, 162, 0, 104, 29, 154, 0, 22, 42]
abbrev dktX1_feeOf_0 : List UInt8 := dkwX1_feeOf_0 ++ dktX1_feeOf_1
theorem dksX1_feeOf_0 : cX1_feeOf.data.toList.drop 0 = dktX1_feeOf_0 := by decide +kernel
theorem dksX1_feeOf_1 : cX1_feeOf.data.toList.drop 22 = dktX1_feeOf_1 := dk_seg dksX1_feeOf_0 22 rfl rfl
theorem dksX1_feeOf_2 : cX1_feeOf.data.toList.drop 46 = dktX1_feeOf_2 := dk_seg dksX1_feeOf_1 24 rfl rfl
theorem dksX1_feeOf_3 : cX1_feeOf.data.toList.drop 70 = dktX1_feeOf_3 := dk_seg dksX1_feeOf_2 24 rfl rfl
theorem dksX1_feeOf_4 : cX1_feeOf.data.toList.drop 94 = dktX1_feeOf_4 := dk_seg dksX1_feeOf_3 24 rfl rfl
theorem dksX1_feeOf_5 : cX1_feeOf.data.toList.drop 118 = dktX1_feeOf_5 := dk_seg dksX1_feeOf_4 24 rfl rfl
theorem dksX1_feeOf_6 : cX1_feeOf.data.toList.drop 140 = dktX1_feeOf_6 := dk_seg dksX1_feeOf_5 22 rfl rfl
theorem dksX1_feeOf_7 : cX1_feeOf.data.toList.drop 163 = dktX1_feeOf_7 := dk_seg dksX1_feeOf_6 23 rfl rfl
theorem dksX1_feeOf_8 : cX1_feeOf.data.toList.drop 187 = dktX1_feeOf_8 := dk_seg dksX1_feeOf_7 24 rfl rfl
theorem dksX1_feeOf_9 : cX1_feeOf.data.toList.drop 211 = dktX1_feeOf_9 := dk_seg dksX1_feeOf_8 24 rfl rfl
theorem dksX1_feeOf_10 : cX1_feeOf.data.toList.drop 233 = dktX1_feeOf_10 := dk_seg dksX1_feeOf_9 22 rfl rfl
theorem dksX1_feeOf_11 : cX1_feeOf.data.toList.drop 255 = dktX1_feeOf_11 := dk_seg dksX1_feeOf_10 22 rfl rfl
theorem dksX1_feeOf_12 : cX1_feeOf.data.toList.drop 278 = dktX1_feeOf_12 := dk_seg dksX1_feeOf_11 23 rfl rfl
theorem dksX1_feeOf_13 : cX1_feeOf.data.toList.drop 300 = dktX1_feeOf_13 := dk_seg dksX1_feeOf_12 22 rfl rfl
theorem dX1_feeOf_0 : decode cX1_feeOf 0 = .ok (.iconst 0, 1) := dk_3 (dk_at dksX1_feeOf_0 0 rfl rfl)
theorem dX1_feeOf_1 : decode cX1_feeOf 1 = .ok (.istore_n 3, 1) := dk_62 (dk_at dksX1_feeOf_0 1 rfl rfl)
theorem dX1_feeOf_2 : decode cX1_feeOf 2 = .ok (.iconst 0, 1) := dk_3 (dk_at dksX1_feeOf_0 2 rfl rfl)
theorem dX1_feeOf_3 : decode cX1_feeOf 3 = .ok (.istore 4, 2) := dk_54 4 (dk_at dksX1_feeOf_0 3 rfl rfl)
theorem dX1_feeOf_5 : decode cX1_feeOf 5 = .ok (.iconst 0, 1) := dk_3 (dk_at dksX1_feeOf_0 5 rfl rfl)
theorem dX1_feeOf_6 : decode cX1_feeOf 6 = .ok (.istore 5, 2) := dk_54 5 (dk_at dksX1_feeOf_0 6 rfl rfl)
theorem dX1_feeOf_8 : decode cX1_feeOf 8 = .ok (.iload 5, 2) := dk_21 5 (dk_at dksX1_feeOf_0 8 rfl rfl)
theorem dX1_feeOf_10 : decode cX1_feeOf 10 = .ok (.aload_n 2, 1) := dk_44 (dk_at dksX1_feeOf_0 10 rfl rfl)
theorem dX1_feeOf_11 : decode cX1_feeOf 11 = .ok (.invokevirtual 212, 3) := dk_182 0 212 (dk_at dksX1_feeOf_0 11 rfl rfl)
theorem dX1_feeOf_14 : decode cX1_feeOf 14 = .ok (.if_icmp .ge 104, 3) := dk_162 0 104 (dk_at dksX1_feeOf_0 14 rfl rfl)
theorem dX1_feeOf_17 : decode cX1_feeOf 17 = .ok (.iload_n 3, 1) := dk_29 (dk_at dksX1_feeOf_0 17 rfl rfl)
theorem dX1_feeOf_18 : decode cX1_feeOf 18 = .ok (.ifCond .ne 22, 3) := dk_154 0 22 (dk_at dksX1_feeOf_0 18 rfl rfl)
theorem dX1_feeOf_21 : decode cX1_feeOf 21 = .ok (.aload_n 0, 1) := dk_42 (dk_at dksX1_feeOf_0 21 rfl rfl)
theorem dX1_feeOf_22 : decode cX1_feeOf 22 = .ok (.getfield 70, 3) := dk_180 0 70 (dk_at dksX1_feeOf_1 0 rfl rfl)
theorem dX1_feeOf_25 : decode cX1_feeOf 25 = .ok (.aload_n 2, 1) := dk_44 (dk_at dksX1_feeOf_1 3 rfl rfl)
theorem dX1_feeOf_26 : decode cX1_feeOf 26 = .ok (.getfield 233, 3) := dk_180 0 233 (dk_at dksX1_feeOf_1 4 rfl rfl)
theorem dX1_feeOf_29 : decode cX1_feeOf 29 = .ok (.aaload, 1) := dk_50 (dk_at dksX1_feeOf_1 7 rfl rfl)
theorem dX1_feeOf_30 : decode cX1_feeOf 30 = .ok (.iload 5, 2) := dk_21 5 (dk_at dksX1_feeOf_1 8 rfl rfl)
theorem dX1_feeOf_32 : decode cX1_feeOf 32 = .ok (.iaload, 1) := dk_46 (dk_at dksX1_feeOf_1 10 rfl rfl)
theorem dX1_feeOf_33 : decode cX1_feeOf 33 = .ok (.aload_n 1, 1) := dk_43 (dk_at dksX1_feeOf_1 11 rfl rfl)
theorem dX1_feeOf_34 : decode cX1_feeOf 34 = .ok (.getfield 356, 3) := dk_180 1 100 (dk_at dksX1_feeOf_1 12 rfl rfl)
theorem dX1_feeOf_37 : decode cX1_feeOf 37 = .ok (.if_icmp .ne 7, 3) := dk_160 0 7 (dk_at dksX1_feeOf_1 15 rfl rfl)
theorem dX1_feeOf_40 : decode cX1_feeOf 40 = .ok (.iconst 1, 1) := dk_4 (dk_at dksX1_feeOf_1 18 rfl rfl)
theorem dX1_feeOf_41 : decode cX1_feeOf 41 = .ok (.goto 4, 3) := dk_167 0 4 (dk_at dksX1_feeOf_1 19 rfl rfl)
theorem dX1_feeOf_44 : decode cX1_feeOf 44 = .ok (.iconst 0, 1) := dk_3 (dk_at dksX1_feeOf_1 22 rfl rfl)
theorem dX1_feeOf_45 : decode cX1_feeOf 45 = .ok (.istore_n 3, 1) := dk_62 (dk_at dksX1_feeOf_1 23 rfl rfl)
theorem dX1_feeOf_46 : decode cX1_feeOf 46 = .ok (.iload 4, 2) := dk_21 4 (dk_at dksX1_feeOf_2 0 rfl rfl)
theorem dX1_feeOf_48 : decode cX1_feeOf 48 = .ok (.ifCond .ne 57, 3) := dk_154 0 57 (dk_at dksX1_feeOf_2 2 rfl rfl)
theorem dX1_feeOf_51 : decode cX1_feeOf 51 = .ok (.aload_n 0, 1) := dk_42 (dk_at dksX1_feeOf_2 5 rfl rfl)
theorem dX1_feeOf_52 : decode cX1_feeOf 52 = .ok (.getfield 64, 3) := dk_180 0 64 (dk_at dksX1_feeOf_2 6 rfl rfl)
theorem dX1_feeOf_55 : decode cX1_feeOf 55 = .ok (.aload_n 2, 1) := dk_44 (dk_at dksX1_feeOf_2 9 rfl rfl)
theorem dX1_feeOf_56 : decode cX1_feeOf 56 = .ok (.getfield 233, 3) := dk_180 0 233 (dk_at dksX1_feeOf_2 10 rfl rfl)
theorem dX1_feeOf_59 : decode cX1_feeOf 59 = .ok (.aaload, 1) := dk_50 (dk_at dksX1_feeOf_2 13 rfl rfl)
theorem dX1_feeOf_60 : decode cX1_feeOf 60 = .ok (.iload 5, 2) := dk_21 5 (dk_at dksX1_feeOf_2 14 rfl rfl)
theorem dX1_feeOf_62 : decode cX1_feeOf 62 = .ok (.iaload, 1) := dk_46 (dk_at dksX1_feeOf_2 16 rfl rfl)
theorem dX1_feeOf_63 : decode cX1_feeOf 63 = .ok (.aload_n 1, 1) := dk_43 (dk_at dksX1_feeOf_2 17 rfl rfl)
theorem dX1_feeOf_64 : decode cX1_feeOf 64 = .ok (.getfield 356, 3) := dk_180 1 100 (dk_at dksX1_feeOf_2 18 rfl rfl)
theorem dX1_feeOf_67 : decode cX1_feeOf 67 = .ok (.if_icmp .ne 42, 3) := dk_160 0 42 (dk_at dksX1_feeOf_2 21 rfl rfl)
theorem dX1_feeOf_70 : decode cX1_feeOf 70 = .ok (.aload_n 0, 1) := dk_42 (dk_at dksX1_feeOf_3 0 rfl rfl)
theorem dX1_feeOf_71 : decode cX1_feeOf 71 = .ok (.getfield 67, 3) := dk_180 0 67 (dk_at dksX1_feeOf_3 1 rfl rfl)
theorem dX1_feeOf_74 : decode cX1_feeOf 74 = .ok (.aload_n 2, 1) := dk_44 (dk_at dksX1_feeOf_3 4 rfl rfl)
theorem dX1_feeOf_75 : decode cX1_feeOf 75 = .ok (.getfield 233, 3) := dk_180 0 233 (dk_at dksX1_feeOf_3 5 rfl rfl)
theorem dX1_feeOf_78 : decode cX1_feeOf 78 = .ok (.aaload, 1) := dk_50 (dk_at dksX1_feeOf_3 8 rfl rfl)
theorem dX1_feeOf_79 : decode cX1_feeOf 79 = .ok (.iload 5, 2) := dk_21 5 (dk_at dksX1_feeOf_3 9 rfl rfl)
theorem dX1_feeOf_81 : decode cX1_feeOf 81 = .ok (.iaload, 1) := dk_46 (dk_at dksX1_feeOf_3 11 rfl rfl)
theorem dX1_feeOf_82 : decode cX1_feeOf 82 = .ok (.iconst (-1), 1) := dk_2 (dk_at dksX1_feeOf_3 12 rfl rfl)
theorem dX1_feeOf_83 : decode cX1_feeOf 83 = .ok (.if_icmp .eq 26, 3) := dk_159 0 26 (dk_at dksX1_feeOf_3 13 rfl rfl)
theorem dX1_feeOf_86 : decode cX1_feeOf 86 = .ok (.aload_n 0, 1) := dk_42 (dk_at dksX1_feeOf_3 16 rfl rfl)
theorem dX1_feeOf_87 : decode cX1_feeOf 87 = .ok (.getfield 67, 3) := dk_180 0 67 (dk_at dksX1_feeOf_3 17 rfl rfl)
theorem dX1_feeOf_90 : decode cX1_feeOf 90 = .ok (.aload_n 2, 1) := dk_44 (dk_at dksX1_feeOf_3 20 rfl rfl)
theorem dX1_feeOf_91 : decode cX1_feeOf 91 = .ok (.getfield 233, 3) := dk_180 0 233 (dk_at dksX1_feeOf_3 21 rfl rfl)
theorem dX1_feeOf_94 : decode cX1_feeOf 94 = .ok (.aaload, 1) := dk_50 (dk_at dksX1_feeOf_4 0 rfl rfl)
theorem dX1_feeOf_95 : decode cX1_feeOf 95 = .ok (.iload 5, 2) := dk_21 5 (dk_at dksX1_feeOf_4 1 rfl rfl)
theorem dX1_feeOf_97 : decode cX1_feeOf 97 = .ok (.iaload, 1) := dk_46 (dk_at dksX1_feeOf_4 3 rfl rfl)
theorem dX1_feeOf_98 : decode cX1_feeOf 98 = .ok (.aload_n 1, 1) := dk_43 (dk_at dksX1_feeOf_4 4 rfl rfl)
theorem dX1_feeOf_99 : decode cX1_feeOf 99 = .ok (.getfield 356, 3) := dk_180 1 100 (dk_at dksX1_feeOf_4 5 rfl rfl)
theorem dX1_feeOf_102 : decode cX1_feeOf 102 = .ok (.if_icmp .eq 7, 3) := dk_159 0 7 (dk_at dksX1_feeOf_4 8 rfl rfl)
theorem dX1_feeOf_105 : decode cX1_feeOf 105 = .ok (.iconst 1, 1) := dk_4 (dk_at dksX1_feeOf_4 11 rfl rfl)
theorem dX1_feeOf_106 : decode cX1_feeOf 106 = .ok (.goto 4, 3) := dk_167 0 4 (dk_at dksX1_feeOf_4 12 rfl rfl)
theorem dX1_feeOf_109 : decode cX1_feeOf 109 = .ok (.iconst 0, 1) := dk_3 (dk_at dksX1_feeOf_4 15 rfl rfl)
theorem dX1_feeOf_110 : decode cX1_feeOf 110 = .ok (.istore 4, 2) := dk_54 4 (dk_at dksX1_feeOf_4 16 rfl rfl)
theorem dX1_feeOf_112 : decode cX1_feeOf 112 = .ok (.iinc 5 1, 3) := dk_132 5 1 (dk_at dksX1_feeOf_4 18 rfl rfl)
theorem dX1_feeOf_115 : decode cX1_feeOf 115 = .ok (.goto (-107), 3) := dk_167 255 149 (dk_at dksX1_feeOf_4 21 rfl rfl)
theorem dX1_feeOf_118 : decode cX1_feeOf 118 = .ok (.aload_n 0, 1) := dk_42 (dk_at dksX1_feeOf_5 0 rfl rfl)
theorem dX1_feeOf_119 : decode cX1_feeOf 119 = .ok (.aload_n 1, 1) := dk_43 (dk_at dksX1_feeOf_5 1 rfl rfl)
theorem dX1_feeOf_120 : decode cX1_feeOf 120 = .ok (.getfield 356, 3) := dk_180 1 100 (dk_at dksX1_feeOf_5 2 rfl rfl)
theorem dX1_feeOf_123 : decode cX1_feeOf 123 = .ok (.aload_n 2, 1) := dk_44 (dk_at dksX1_feeOf_5 5 rfl rfl)
theorem dX1_feeOf_124 : decode cX1_feeOf 124 = .ok (.invokevirtual 299, 3) := dk_182 1 43 (dk_at dksX1_feeOf_5 6 rfl rfl)
theorem dX1_feeOf_127 : decode cX1_feeOf 127 = .ok (.istore 5, 2) := dk_54 5 (dk_at dksX1_feeOf_5 9 rfl rfl)
theorem dX1_feeOf_129 : decode cX1_feeOf 129 = .ok (.iload 5, 2) := dk_21 5 (dk_at dksX1_feeOf_5 11 rfl rfl)
theorem dX1_feeOf_131 : decode cX1_feeOf 131 = .ok (.ifCond .ne 7, 3) := dk_154 0 7 (dk_at dksX1_feeOf_5 13 rfl rfl)
theorem dX1_feeOf_134 : decode cX1_feeOf 134 = .ok (.iload_n 3, 1) := dk_29 (dk_at dksX1_feeOf_5 16 rfl rfl)
theorem dX1_feeOf_135 : decode cX1_feeOf 135 = .ok (.ifCond .eq 18, 3) := dk_153 0 18 (dk_at dksX1_feeOf_5 17 rfl rfl)
theorem dX1_feeOf_138 : decode cX1_feeOf 138 = .ok (.aload_n 0, 1) := dk_42 (dk_at dksX1_feeOf_5 20 rfl rfl)
theorem dX1_feeOf_139 : decode cX1_feeOf 139 = .ok (.aload_n 1, 1) := dk_43 (dk_at dksX1_feeOf_5 21 rfl rfl)
theorem dX1_feeOf_140 : decode cX1_feeOf 140 = .ok (.getfield 356, 3) := dk_180 1 100 (dk_at dksX1_feeOf_6 0 rfl rfl)
theorem dX1_feeOf_143 : decode cX1_feeOf 143 = .ok (.aload_n 2, 1) := dk_44 (dk_at dksX1_feeOf_6 3 rfl rfl)
theorem dX1_feeOf_144 : decode cX1_feeOf 144 = .ok (.getfield 214, 3) := dk_180 0 214 (dk_at dksX1_feeOf_6 4 rfl rfl)
theorem dX1_feeOf_147 : decode cX1_feeOf 147 = .ok (.invokevirtual 367, 3) := dk_182 1 111 (dk_at dksX1_feeOf_6 7 rfl rfl)
theorem dX1_feeOf_150 : decode cX1_feeOf 150 = .ok (.ifCond .eq 5, 3) := dk_153 0 5 (dk_at dksX1_feeOf_6 10 rfl rfl)
theorem dX1_feeOf_153 : decode cX1_feeOf 153 = .ok (.iconst 0, 1) := dk_3 (dk_at dksX1_feeOf_6 13 rfl rfl)
theorem dX1_feeOf_154 : decode cX1_feeOf 154 = .ok (.ireturn, 1) := dk_172 (dk_at dksX1_feeOf_6 14 rfl rfl)
theorem dX1_feeOf_155 : decode cX1_feeOf 155 = .ok (.aload_n 0, 1) := dk_42 (dk_at dksX1_feeOf_6 15 rfl rfl)
theorem dX1_feeOf_156 : decode cX1_feeOf 156 = .ok (.getfield 92, 3) := dk_180 0 92 (dk_at dksX1_feeOf_6 16 rfl rfl)
theorem dX1_feeOf_159 : decode cX1_feeOf 159 = .ok (.aload_n 2, 1) := dk_44 (dk_at dksX1_feeOf_6 19 rfl rfl)
theorem dX1_feeOf_160 : decode cX1_feeOf 160 = .ok (.getfield 281, 3) := dk_180 1 25 (dk_at dksX1_feeOf_6 20 rfl rfl)
theorem dX1_feeOf_163 : decode cX1_feeOf 163 = .ok (.putfield 420, 3) := dk_181 1 164 (dk_at dksX1_feeOf_7 0 rfl rfl)
theorem dX1_feeOf_166 : decode cX1_feeOf 166 = .ok (.aload_n 0, 1) := dk_42 (dk_at dksX1_feeOf_7 3 rfl rfl)
theorem dX1_feeOf_167 : decode cX1_feeOf 167 = .ok (.getfield 92, 3) := dk_180 0 92 (dk_at dksX1_feeOf_7 4 rfl rfl)
theorem dX1_feeOf_170 : decode cX1_feeOf 170 = .ok (.aload_n 2, 1) := dk_44 (dk_at dksX1_feeOf_7 7 rfl rfl)
theorem dX1_feeOf_171 : decode cX1_feeOf 171 = .ok (.invokevirtual 285, 3) := dk_182 1 29 (dk_at dksX1_feeOf_7 8 rfl rfl)
theorem dX1_feeOf_174 : decode cX1_feeOf 174 = .ok (.putfield 421, 3) := dk_181 1 165 (dk_at dksX1_feeOf_7 11 rfl rfl)
theorem dX1_feeOf_177 : decode cX1_feeOf 177 = .ok (.aload_n 0, 1) := dk_42 (dk_at dksX1_feeOf_7 14 rfl rfl)
theorem dX1_feeOf_178 : decode cX1_feeOf 178 = .ok (.getfield 92, 3) := dk_180 0 92 (dk_at dksX1_feeOf_7 15 rfl rfl)
theorem dX1_feeOf_181 : decode cX1_feeOf 181 = .ok (.aload_n 2, 1) := dk_44 (dk_at dksX1_feeOf_7 18 rfl rfl)
theorem dX1_feeOf_182 : decode cX1_feeOf 182 = .ok (.getfield 282, 3) := dk_180 1 26 (dk_at dksX1_feeOf_7 19 rfl rfl)
theorem dX1_feeOf_185 : decode cX1_feeOf 185 = .ok (.bipush 24, 2) := dk_16 24 (dk_at dksX1_feeOf_7 22 rfl rfl)
theorem dX1_feeOf_187 : decode cX1_feeOf 187 = .ok (.aload_n 2, 1) := dk_44 (dk_at dksX1_feeOf_8 0 rfl rfl)
theorem dX1_feeOf_188 : decode cX1_feeOf 188 = .ok (.getfield 214, 3) := dk_180 0 214 (dk_at dksX1_feeOf_8 1 rfl rfl)
theorem dX1_feeOf_191 : decode cX1_feeOf 191 = .ok (.imul, 1) := dk_104 (dk_at dksX1_feeOf_8 4 rfl rfl)
theorem dX1_feeOf_192 : decode cX1_feeOf 192 = .ok (.bipush 22, 2) := dk_16 22 (dk_at dksX1_feeOf_8 5 rfl rfl)
theorem dX1_feeOf_194 : decode cX1_feeOf 194 = .ok (.iadd, 1) := dk_96 (dk_at dksX1_feeOf_8 7 rfl rfl)
theorem dX1_feeOf_195 : decode cX1_feeOf 195 = .ok (.if_icmp .le 7, 3) := dk_164 0 7 (dk_at dksX1_feeOf_8 8 rfl rfl)
theorem dX1_feeOf_198 : decode cX1_feeOf 198 = .ok (.iconst 1, 1) := dk_4 (dk_at dksX1_feeOf_8 11 rfl rfl)
theorem dX1_feeOf_199 : decode cX1_feeOf 199 = .ok (.goto 4, 3) := dk_167 0 4 (dk_at dksX1_feeOf_8 12 rfl rfl)
theorem dX1_feeOf_202 : decode cX1_feeOf 202 = .ok (.iconst 0, 1) := dk_3 (dk_at dksX1_feeOf_8 15 rfl rfl)
theorem dX1_feeOf_203 : decode cX1_feeOf 203 = .ok (.putfield 422, 3) := dk_181 1 166 (dk_at dksX1_feeOf_8 16 rfl rfl)
theorem dX1_feeOf_206 : decode cX1_feeOf 206 = .ok (.aload_n 0, 1) := dk_42 (dk_at dksX1_feeOf_8 19 rfl rfl)
theorem dX1_feeOf_207 : decode cX1_feeOf 207 = .ok (.getfield 92, 3) := dk_180 0 92 (dk_at dksX1_feeOf_8 20 rfl rfl)
theorem dX1_feeOf_210 : decode cX1_feeOf 210 = .ok (.iload_n 3, 1) := dk_29 (dk_at dksX1_feeOf_8 23 rfl rfl)
theorem dX1_feeOf_211 : decode cX1_feeOf 211 = .ok (.putfield 425, 3) := dk_181 1 169 (dk_at dksX1_feeOf_9 0 rfl rfl)
theorem dX1_feeOf_214 : decode cX1_feeOf 214 = .ok (.aload_n 0, 1) := dk_42 (dk_at dksX1_feeOf_9 3 rfl rfl)
theorem dX1_feeOf_215 : decode cX1_feeOf 215 = .ok (.getfield 92, 3) := dk_180 0 92 (dk_at dksX1_feeOf_9 4 rfl rfl)
theorem dX1_feeOf_218 : decode cX1_feeOf 218 = .ok (.iload 4, 2) := dk_21 4 (dk_at dksX1_feeOf_9 7 rfl rfl)
theorem dX1_feeOf_220 : decode cX1_feeOf 220 = .ok (.putfield 426, 3) := dk_181 1 170 (dk_at dksX1_feeOf_9 9 rfl rfl)
theorem dX1_feeOf_223 : decode cX1_feeOf 223 = .ok (.aload_n 0, 1) := dk_42 (dk_at dksX1_feeOf_9 12 rfl rfl)
theorem dX1_feeOf_224 : decode cX1_feeOf 224 = .ok (.getfield 92, 3) := dk_180 0 92 (dk_at dksX1_feeOf_9 13 rfl rfl)
theorem dX1_feeOf_227 : decode cX1_feeOf 227 = .ok (.iload 5, 2) := dk_21 5 (dk_at dksX1_feeOf_9 16 rfl rfl)
theorem dX1_feeOf_229 : decode cX1_feeOf 229 = .ok (.ifCond .eq 25, 3) := dk_153 0 25 (dk_at dksX1_feeOf_9 18 rfl rfl)
theorem dX1_feeOf_232 : decode cX1_feeOf 232 = .ok (.aload_n 2, 1) := dk_44 (dk_at dksX1_feeOf_9 21 rfl rfl)
theorem dX1_feeOf_233 : decode cX1_feeOf 233 = .ok (.getfield 281, 3) := dk_180 1 25 (dk_at dksX1_feeOf_10 0 rfl rfl)
theorem dX1_feeOf_236 : decode cX1_feeOf 236 = .ok (.iconst 3, 1) := dk_6 (dk_at dksX1_feeOf_10 3 rfl rfl)
theorem dX1_feeOf_237 : decode cX1_feeOf 237 = .ok (.if_icmp .ne 17, 3) := dk_160 0 17 (dk_at dksX1_feeOf_10 4 rfl rfl)
theorem dX1_feeOf_240 : decode cX1_feeOf 240 = .ok (.aload_n 0, 1) := dk_42 (dk_at dksX1_feeOf_10 7 rfl rfl)
theorem dX1_feeOf_241 : decode cX1_feeOf 241 = .ok (.aload_n 1, 1) := dk_43 (dk_at dksX1_feeOf_10 8 rfl rfl)
theorem dX1_feeOf_242 : decode cX1_feeOf 242 = .ok (.getfield 356, 3) := dk_180 1 100 (dk_at dksX1_feeOf_10 9 rfl rfl)
theorem dX1_feeOf_245 : decode cX1_feeOf 245 = .ok (.aload_n 2, 1) := dk_44 (dk_at dksX1_feeOf_10 12 rfl rfl)
theorem dX1_feeOf_246 : decode cX1_feeOf 246 = .ok (.bipush 30, 2) := dk_16 30 (dk_at dksX1_feeOf_10 13 rfl rfl)
theorem dX1_feeOf_248 : decode cX1_feeOf 248 = .ok (.invokevirtual 384, 3) := dk_182 1 128 (dk_at dksX1_feeOf_10 15 rfl rfl)
theorem dX1_feeOf_251 : decode cX1_feeOf 251 = .ok (.goto 4, 3) := dk_167 0 4 (dk_at dksX1_feeOf_10 18 rfl rfl)
theorem dX1_feeOf_254 : decode cX1_feeOf 254 = .ok (.iconst 0, 1) := dk_3 (dk_at dksX1_feeOf_10 21 rfl rfl)
theorem dX1_feeOf_255 : decode cX1_feeOf 255 = .ok (.putfield 429, 3) := dk_181 1 173 (dk_at dksX1_feeOf_11 0 rfl rfl)
theorem dX1_feeOf_258 : decode cX1_feeOf 258 = .ok (.aload_n 0, 1) := dk_42 (dk_at dksX1_feeOf_11 3 rfl rfl)
theorem dX1_feeOf_259 : decode cX1_feeOf 259 = .ok (.getfield 92, 3) := dk_180 0 92 (dk_at dksX1_feeOf_11 4 rfl rfl)
theorem dX1_feeOf_262 : decode cX1_feeOf 262 = .ok (.iload 5, 2) := dk_21 5 (dk_at dksX1_feeOf_11 7 rfl rfl)
theorem dX1_feeOf_264 : decode cX1_feeOf 264 = .ok (.ifCond .eq 27, 3) := dk_153 0 27 (dk_at dksX1_feeOf_11 9 rfl rfl)
theorem dX1_feeOf_267 : decode cX1_feeOf 267 = .ok (.iconst 0, 1) := dk_3 (dk_at dksX1_feeOf_11 12 rfl rfl)
theorem dX1_feeOf_268 : decode cX1_feeOf 268 = .ok (.aload_n 0, 1) := dk_42 (dk_at dksX1_feeOf_11 13 rfl rfl)
theorem dX1_feeOf_269 : decode cX1_feeOf 269 = .ok (.aload_n 1, 1) := dk_43 (dk_at dksX1_feeOf_11 14 rfl rfl)
theorem dX1_feeOf_270 : decode cX1_feeOf 270 = .ok (.getfield 356, 3) := dk_180 1 100 (dk_at dksX1_feeOf_11 15 rfl rfl)
theorem dX1_feeOf_273 : decode cX1_feeOf 273 = .ok (.aload_n 2, 1) := dk_44 (dk_at dksX1_feeOf_11 18 rfl rfl)
theorem dX1_feeOf_274 : decode cX1_feeOf 274 = .ok (.invokevirtual 380, 3) := dk_182 1 124 (dk_at dksX1_feeOf_11 19 rfl rfl)
theorem dX1_feeOf_277 : decode cX1_feeOf 277 = .ok (.aload_n 1, 1) := dk_43 (dk_at dksX1_feeOf_11 22 rfl rfl)
theorem dX1_feeOf_278 : decode cX1_feeOf 278 = .ok (.getfield 175, 3) := dk_180 0 175 (dk_at dksX1_feeOf_12 0 rfl rfl)
theorem dX1_feeOf_281 : decode cX1_feeOf 281 = .ok (.getfield 383, 3) := dk_180 1 127 (dk_at dksX1_feeOf_12 3 rfl rfl)
theorem dX1_feeOf_284 : decode cX1_feeOf 284 = .ok (.isub, 1) := dk_100 (dk_at dksX1_feeOf_12 6 rfl rfl)
theorem dX1_feeOf_285 : decode cX1_feeOf 285 = .ok (.invokestatic 293, 3) := dk_184 1 37 (dk_at dksX1_feeOf_12 7 rfl rfl)
theorem dX1_feeOf_288 : decode cX1_feeOf 288 = .ok (.goto 4, 3) := dk_167 0 4 (dk_at dksX1_feeOf_12 10 rfl rfl)
theorem dX1_feeOf_291 : decode cX1_feeOf 291 = .ok (.iconst 0, 1) := dk_3 (dk_at dksX1_feeOf_12 13 rfl rfl)
theorem dX1_feeOf_292 : decode cX1_feeOf 292 = .ok (.putfield 432, 3) := dk_181 1 176 (dk_at dksX1_feeOf_12 14 rfl rfl)
theorem dX1_feeOf_295 : decode cX1_feeOf 295 = .ok (.aload_n 1, 1) := dk_43 (dk_at dksX1_feeOf_12 17 rfl rfl)
theorem dX1_feeOf_296 : decode cX1_feeOf 296 = .ok (.getfield 175, 3) := dk_180 0 175 (dk_at dksX1_feeOf_12 18 rfl rfl)
theorem dX1_feeOf_299 : decode cX1_feeOf 299 = .ok (.aload_n 0, 1) := dk_42 (dk_at dksX1_feeOf_12 21 rfl rfl)
theorem dX1_feeOf_300 : decode cX1_feeOf 300 = .ok (.getfield 92, 3) := dk_180 0 92 (dk_at dksX1_feeOf_13 0 rfl rfl)
theorem dX1_feeOf_303 : decode cX1_feeOf 303 = .ok (.invokevirtual 435, 3) := dk_182 1 179 (dk_at dksX1_feeOf_13 3 rfl rfl)
theorem dX1_feeOf_306 : decode cX1_feeOf 306 = .ok (.ireturn, 1) := dk_172 (dk_at dksX1_feeOf_13 6 rfl rfl)
abbrev cX1_pay : ByteArray := prog_1_method_50_code
def yX1_pay : MethodName := ⟨RX1, "pay", "(III)I"⟩
def dkwX1_pay_3 : List UInt8 := [54, 5, 132, 6, 1, 167, 255, 212, 21, 5, 172]
abbrev dktX1_pay_3 : List UInt8 := dkwX1_pay_3 ++ []
def dkwX1_pay_2 : List UInt8 := [50, 180, 0, 214, 28, 163, 0, 21, 21, 5, 42, 25, 4, 42, 180, 0, 58, 21, 6, 50, 182, 1, 183, 96]
abbrev dktX1_pay_2 : List UInt8 := dkwX1_pay_2 ++ dktX1_pay_3
def dkwX1_pay_1 : List UInt8 := [182, 1, 151, 3, 54, 5, 3, 54, 6, 21, 6, 42, 180, 0, 227, 162, 0, 41, 42, 180, 0, 58, 21, 6]
abbrev dktX1_pay_1 : List UInt8 := dkwX1_pay_1 ++ dktX1_pay_2
def dkwX1_pay_0 : List UInt8 := [42, 27, 182, 0, 159, 58, 4, 25, 4, 198, 0, 10, 28, 184, 0, 220, 154, 0, 5, 2, 172, 42, 29]
abbrev dktX1_pay_0 : List UInt8 := dkwX1_pay_0 ++ dktX1_pay_1
theorem dksX1_pay_0 : cX1_pay.data.toList.drop 0 = dktX1_pay_0 := by decide +kernel
theorem dksX1_pay_1 : cX1_pay.data.toList.drop 23 = dktX1_pay_1 := dk_seg dksX1_pay_0 23 rfl rfl
theorem dksX1_pay_2 : cX1_pay.data.toList.drop 47 = dktX1_pay_2 := dk_seg dksX1_pay_1 24 rfl rfl
theorem dksX1_pay_3 : cX1_pay.data.toList.drop 71 = dktX1_pay_3 := dk_seg dksX1_pay_2 24 rfl rfl
theorem dX1_pay_0 : decode cX1_pay 0 = .ok (.aload_n 0, 1) := dk_42 (dk_at dksX1_pay_0 0 rfl rfl)
theorem dX1_pay_1 : decode cX1_pay 1 = .ok (.iload_n 1, 1) := dk_27 (dk_at dksX1_pay_0 1 rfl rfl)
theorem dX1_pay_2 : decode cX1_pay 2 = .ok (.invokevirtual 159, 3) := dk_182 0 159 (dk_at dksX1_pay_0 2 rfl rfl)
theorem dX1_pay_5 : decode cX1_pay 5 = .ok (.astore 4, 2) := dk_58 4 (dk_at dksX1_pay_0 5 rfl rfl)
theorem dX1_pay_7 : decode cX1_pay 7 = .ok (.aload 4, 2) := dk_25 4 (dk_at dksX1_pay_0 7 rfl rfl)
theorem dX1_pay_9 : decode cX1_pay 9 = .ok (.ifnull 10, 3) := dk_198 0 10 (dk_at dksX1_pay_0 9 rfl rfl)
theorem dX1_pay_12 : decode cX1_pay 12 = .ok (.iload_n 2, 1) := dk_28 (dk_at dksX1_pay_0 12 rfl rfl)
theorem dX1_pay_13 : decode cX1_pay 13 = .ok (.invokestatic 220, 3) := dk_184 0 220 (dk_at dksX1_pay_0 13 rfl rfl)
theorem dX1_pay_16 : decode cX1_pay 16 = .ok (.ifCond .ne 5, 3) := dk_154 0 5 (dk_at dksX1_pay_0 16 rfl rfl)
theorem dX1_pay_19 : decode cX1_pay 19 = .ok (.iconst (-1), 1) := dk_2 (dk_at dksX1_pay_0 19 rfl rfl)
theorem dX1_pay_20 : decode cX1_pay 20 = .ok (.ireturn, 1) := dk_172 (dk_at dksX1_pay_0 20 rfl rfl)
theorem dX1_pay_21 : decode cX1_pay 21 = .ok (.aload_n 0, 1) := dk_42 (dk_at dksX1_pay_0 21 rfl rfl)
theorem dX1_pay_22 : decode cX1_pay 22 = .ok (.iload_n 3, 1) := dk_29 (dk_at dksX1_pay_0 22 rfl rfl)
theorem dX1_pay_23 : decode cX1_pay 23 = .ok (.invokevirtual 407, 3) := dk_182 1 151 (dk_at dksX1_pay_1 0 rfl rfl)
theorem dX1_pay_26 : decode cX1_pay 26 = .ok (.iconst 0, 1) := dk_3 (dk_at dksX1_pay_1 3 rfl rfl)
theorem dX1_pay_27 : decode cX1_pay 27 = .ok (.istore 5, 2) := dk_54 5 (dk_at dksX1_pay_1 4 rfl rfl)
theorem dX1_pay_29 : decode cX1_pay 29 = .ok (.iconst 0, 1) := dk_3 (dk_at dksX1_pay_1 6 rfl rfl)
theorem dX1_pay_30 : decode cX1_pay 30 = .ok (.istore 6, 2) := dk_54 6 (dk_at dksX1_pay_1 7 rfl rfl)
theorem dX1_pay_32 : decode cX1_pay 32 = .ok (.iload 6, 2) := dk_21 6 (dk_at dksX1_pay_1 9 rfl rfl)
theorem dX1_pay_34 : decode cX1_pay 34 = .ok (.aload_n 0, 1) := dk_42 (dk_at dksX1_pay_1 11 rfl rfl)
theorem dX1_pay_35 : decode cX1_pay 35 = .ok (.getfield 227, 3) := dk_180 0 227 (dk_at dksX1_pay_1 12 rfl rfl)
theorem dX1_pay_38 : decode cX1_pay 38 = .ok (.if_icmp .ge 41, 3) := dk_162 0 41 (dk_at dksX1_pay_1 15 rfl rfl)
theorem dX1_pay_41 : decode cX1_pay 41 = .ok (.aload_n 0, 1) := dk_42 (dk_at dksX1_pay_1 18 rfl rfl)
theorem dX1_pay_42 : decode cX1_pay 42 = .ok (.getfield 58, 3) := dk_180 0 58 (dk_at dksX1_pay_1 19 rfl rfl)
theorem dX1_pay_45 : decode cX1_pay 45 = .ok (.iload 6, 2) := dk_21 6 (dk_at dksX1_pay_1 22 rfl rfl)
theorem dX1_pay_47 : decode cX1_pay 47 = .ok (.aaload, 1) := dk_50 (dk_at dksX1_pay_2 0 rfl rfl)
theorem dX1_pay_48 : decode cX1_pay 48 = .ok (.getfield 214, 3) := dk_180 0 214 (dk_at dksX1_pay_2 1 rfl rfl)
theorem dX1_pay_51 : decode cX1_pay 51 = .ok (.iload_n 2, 1) := dk_28 (dk_at dksX1_pay_2 4 rfl rfl)
theorem dX1_pay_52 : decode cX1_pay 52 = .ok (.if_icmp .gt 21, 3) := dk_163 0 21 (dk_at dksX1_pay_2 5 rfl rfl)
theorem dX1_pay_55 : decode cX1_pay 55 = .ok (.iload 5, 2) := dk_21 5 (dk_at dksX1_pay_2 8 rfl rfl)
theorem dX1_pay_57 : decode cX1_pay 57 = .ok (.aload_n 0, 1) := dk_42 (dk_at dksX1_pay_2 10 rfl rfl)
theorem dX1_pay_58 : decode cX1_pay 58 = .ok (.aload 4, 2) := dk_25 4 (dk_at dksX1_pay_2 11 rfl rfl)
theorem dX1_pay_60 : decode cX1_pay 60 = .ok (.aload_n 0, 1) := dk_42 (dk_at dksX1_pay_2 13 rfl rfl)
theorem dX1_pay_61 : decode cX1_pay 61 = .ok (.getfield 58, 3) := dk_180 0 58 (dk_at dksX1_pay_2 14 rfl rfl)
theorem dX1_pay_64 : decode cX1_pay 64 = .ok (.iload 6, 2) := dk_21 6 (dk_at dksX1_pay_2 17 rfl rfl)
theorem dX1_pay_66 : decode cX1_pay 66 = .ok (.aaload, 1) := dk_50 (dk_at dksX1_pay_2 19 rfl rfl)
theorem dX1_pay_67 : decode cX1_pay 67 = .ok (.invokevirtual 439, 3) := dk_182 1 183 (dk_at dksX1_pay_2 20 rfl rfl)
theorem dX1_pay_70 : decode cX1_pay 70 = .ok (.iadd, 1) := dk_96 (dk_at dksX1_pay_2 23 rfl rfl)
theorem dX1_pay_71 : decode cX1_pay 71 = .ok (.istore 5, 2) := dk_54 5 (dk_at dksX1_pay_3 0 rfl rfl)
theorem dX1_pay_73 : decode cX1_pay 73 = .ok (.iinc 6 1, 3) := dk_132 6 1 (dk_at dksX1_pay_3 2 rfl rfl)
theorem dX1_pay_76 : decode cX1_pay 76 = .ok (.goto (-44), 3) := dk_167 255 212 (dk_at dksX1_pay_3 5 rfl rfl)
theorem dX1_pay_79 : decode cX1_pay 79 = .ok (.iload 5, 2) := dk_21 5 (dk_at dksX1_pay_3 8 rfl rfl)
theorem dX1_pay_81 : decode cX1_pay 81 = .ok (.ireturn, 1) := dk_172 (dk_at dksX1_pay_3 10 rfl rfl)
abbrev cX1_moves : ByteArray := prog_1_method_51_code
def yX1_moves : MethodName := ⟨RX1, "moves", "(II)I"⟩
def dkwX1_moves_5 : List UInt8 := [182, 1, 141, 87, 132, 3, 1, 167, 255, 187, 2, 172]
abbrev dktX1_moves_5 : List UInt8 := dkwX1_moves_5 ++ []
def dkwX1_moves_4 : List UInt8 := [160, 0, 5, 29, 172, 132, 4, 1, 167, 255, 217, 42, 180, 0, 52, 42, 180, 0, 76, 42, 180, 0, 80]
abbrev dktX1_moves_4 : List UInt8 := dkwX1_moves_4 ++ dktX1_moves_5
def dkwX1_moves_3 : List UInt8 := [162, 0, 35, 42, 180, 0, 76, 21, 4, 51, 153, 0, 19, 42, 180, 0, 52, 180, 1, 145, 21, 4, 46, 27]
abbrev dktX1_moves_3 : List UInt8 := dkwX1_moves_3 ++ dktX1_moves_4
def dkwX1_moves_2 : List UInt8 := [132, 3, 1, 167, 255, 229, 3, 62, 29, 28, 163, 0, 70, 3, 54, 4, 21, 4, 42, 180, 0, 76, 190]
abbrev dktX1_moves_2 : List UInt8 := dkwX1_moves_2 ++ dktX1_moves_3
def dkwX1_moves_1 : List UInt8 := [42, 180, 0, 76, 190, 162, 0, 24, 42, 180, 0, 76, 29, 29, 154, 0, 7, 4, 167, 0, 4, 3, 84]
abbrev dktX1_moves_1 : List UInt8 := dkwX1_moves_1 ++ dktX1_moves_2
def dkwX1_moves_0 : List UInt8 := [27, 3, 6, 184, 0, 112, 153, 0, 13, 28, 3, 16, 40, 184, 0, 112, 154, 0, 5, 2, 172, 3, 62, 29]
abbrev dktX1_moves_0 : List UInt8 := dkwX1_moves_0 ++ dktX1_moves_1
theorem dksX1_moves_0 : cX1_moves.data.toList.drop 0 = dktX1_moves_0 := by decide +kernel
theorem dksX1_moves_1 : cX1_moves.data.toList.drop 24 = dktX1_moves_1 := dk_seg dksX1_moves_0 24 rfl rfl
theorem dksX1_moves_2 : cX1_moves.data.toList.drop 47 = dktX1_moves_2 := dk_seg dksX1_moves_1 23 rfl rfl
theorem dksX1_moves_3 : cX1_moves.data.toList.drop 70 = dktX1_moves_3 := dk_seg dksX1_moves_2 23 rfl rfl
theorem dksX1_moves_4 : cX1_moves.data.toList.drop 94 = dktX1_moves_4 := dk_seg dksX1_moves_3 24 rfl rfl
theorem dksX1_moves_5 : cX1_moves.data.toList.drop 117 = dktX1_moves_5 := dk_seg dksX1_moves_4 23 rfl rfl
theorem dX1_moves_0 : decode cX1_moves 0 = .ok (.iload_n 1, 1) := dk_27 (dk_at dksX1_moves_0 0 rfl rfl)
theorem dX1_moves_1 : decode cX1_moves 1 = .ok (.iconst 0, 1) := dk_3 (dk_at dksX1_moves_0 1 rfl rfl)
theorem dX1_moves_2 : decode cX1_moves 2 = .ok (.iconst 3, 1) := dk_6 (dk_at dksX1_moves_0 2 rfl rfl)
theorem dX1_moves_3 : decode cX1_moves 3 = .ok (.invokestatic 112, 3) := dk_184 0 112 (dk_at dksX1_moves_0 3 rfl rfl)
theorem dX1_moves_6 : decode cX1_moves 6 = .ok (.ifCond .eq 13, 3) := dk_153 0 13 (dk_at dksX1_moves_0 6 rfl rfl)
theorem dX1_moves_9 : decode cX1_moves 9 = .ok (.iload_n 2, 1) := dk_28 (dk_at dksX1_moves_0 9 rfl rfl)
theorem dX1_moves_10 : decode cX1_moves 10 = .ok (.iconst 0, 1) := dk_3 (dk_at dksX1_moves_0 10 rfl rfl)
theorem dX1_moves_11 : decode cX1_moves 11 = .ok (.bipush 40, 2) := dk_16 40 (dk_at dksX1_moves_0 11 rfl rfl)
theorem dX1_moves_13 : decode cX1_moves 13 = .ok (.invokestatic 112, 3) := dk_184 0 112 (dk_at dksX1_moves_0 13 rfl rfl)
theorem dX1_moves_16 : decode cX1_moves 16 = .ok (.ifCond .ne 5, 3) := dk_154 0 5 (dk_at dksX1_moves_0 16 rfl rfl)
theorem dX1_moves_19 : decode cX1_moves 19 = .ok (.iconst (-1), 1) := dk_2 (dk_at dksX1_moves_0 19 rfl rfl)
theorem dX1_moves_20 : decode cX1_moves 20 = .ok (.ireturn, 1) := dk_172 (dk_at dksX1_moves_0 20 rfl rfl)
theorem dX1_moves_21 : decode cX1_moves 21 = .ok (.iconst 0, 1) := dk_3 (dk_at dksX1_moves_0 21 rfl rfl)
theorem dX1_moves_22 : decode cX1_moves 22 = .ok (.istore_n 3, 1) := dk_62 (dk_at dksX1_moves_0 22 rfl rfl)
theorem dX1_moves_23 : decode cX1_moves 23 = .ok (.iload_n 3, 1) := dk_29 (dk_at dksX1_moves_0 23 rfl rfl)
theorem dX1_moves_24 : decode cX1_moves 24 = .ok (.aload_n 0, 1) := dk_42 (dk_at dksX1_moves_1 0 rfl rfl)
theorem dX1_moves_25 : decode cX1_moves 25 = .ok (.getfield 76, 3) := dk_180 0 76 (dk_at dksX1_moves_1 1 rfl rfl)
theorem dX1_moves_28 : decode cX1_moves 28 = .ok (.arraylength, 1) := dk_190 (dk_at dksX1_moves_1 4 rfl rfl)
theorem dX1_moves_29 : decode cX1_moves 29 = .ok (.if_icmp .ge 24, 3) := dk_162 0 24 (dk_at dksX1_moves_1 5 rfl rfl)
theorem dX1_moves_32 : decode cX1_moves 32 = .ok (.aload_n 0, 1) := dk_42 (dk_at dksX1_moves_1 8 rfl rfl)
theorem dX1_moves_33 : decode cX1_moves 33 = .ok (.getfield 76, 3) := dk_180 0 76 (dk_at dksX1_moves_1 9 rfl rfl)
theorem dX1_moves_36 : decode cX1_moves 36 = .ok (.iload_n 3, 1) := dk_29 (dk_at dksX1_moves_1 12 rfl rfl)
theorem dX1_moves_37 : decode cX1_moves 37 = .ok (.iload_n 3, 1) := dk_29 (dk_at dksX1_moves_1 13 rfl rfl)
theorem dX1_moves_38 : decode cX1_moves 38 = .ok (.ifCond .ne 7, 3) := dk_154 0 7 (dk_at dksX1_moves_1 14 rfl rfl)
theorem dX1_moves_41 : decode cX1_moves 41 = .ok (.iconst 1, 1) := dk_4 (dk_at dksX1_moves_1 17 rfl rfl)
theorem dX1_moves_42 : decode cX1_moves 42 = .ok (.goto 4, 3) := dk_167 0 4 (dk_at dksX1_moves_1 18 rfl rfl)
theorem dX1_moves_45 : decode cX1_moves 45 = .ok (.iconst 0, 1) := dk_3 (dk_at dksX1_moves_1 21 rfl rfl)
theorem dX1_moves_46 : decode cX1_moves 46 = .ok (.bastore, 1) := dk_84 (dk_at dksX1_moves_1 22 rfl rfl)
theorem dX1_moves_47 : decode cX1_moves 47 = .ok (.iinc 3 1, 3) := dk_132 3 1 (dk_at dksX1_moves_2 0 rfl rfl)
theorem dX1_moves_50 : decode cX1_moves 50 = .ok (.goto (-27), 3) := dk_167 255 229 (dk_at dksX1_moves_2 3 rfl rfl)
theorem dX1_moves_53 : decode cX1_moves 53 = .ok (.iconst 0, 1) := dk_3 (dk_at dksX1_moves_2 6 rfl rfl)
theorem dX1_moves_54 : decode cX1_moves 54 = .ok (.istore_n 3, 1) := dk_62 (dk_at dksX1_moves_2 7 rfl rfl)
theorem dX1_moves_55 : decode cX1_moves 55 = .ok (.iload_n 3, 1) := dk_29 (dk_at dksX1_moves_2 8 rfl rfl)
theorem dX1_moves_56 : decode cX1_moves 56 = .ok (.iload_n 2, 1) := dk_28 (dk_at dksX1_moves_2 9 rfl rfl)
theorem dX1_moves_57 : decode cX1_moves 57 = .ok (.if_icmp .gt 70, 3) := dk_163 0 70 (dk_at dksX1_moves_2 10 rfl rfl)
theorem dX1_moves_60 : decode cX1_moves 60 = .ok (.iconst 0, 1) := dk_3 (dk_at dksX1_moves_2 13 rfl rfl)
theorem dX1_moves_61 : decode cX1_moves 61 = .ok (.istore 4, 2) := dk_54 4 (dk_at dksX1_moves_2 14 rfl rfl)
theorem dX1_moves_63 : decode cX1_moves 63 = .ok (.iload 4, 2) := dk_21 4 (dk_at dksX1_moves_2 16 rfl rfl)
theorem dX1_moves_65 : decode cX1_moves 65 = .ok (.aload_n 0, 1) := dk_42 (dk_at dksX1_moves_2 18 rfl rfl)
theorem dX1_moves_66 : decode cX1_moves 66 = .ok (.getfield 76, 3) := dk_180 0 76 (dk_at dksX1_moves_2 19 rfl rfl)
theorem dX1_moves_69 : decode cX1_moves 69 = .ok (.arraylength, 1) := dk_190 (dk_at dksX1_moves_2 22 rfl rfl)
theorem dX1_moves_70 : decode cX1_moves 70 = .ok (.if_icmp .ge 35, 3) := dk_162 0 35 (dk_at dksX1_moves_3 0 rfl rfl)
theorem dX1_moves_73 : decode cX1_moves 73 = .ok (.aload_n 0, 1) := dk_42 (dk_at dksX1_moves_3 3 rfl rfl)
theorem dX1_moves_74 : decode cX1_moves 74 = .ok (.getfield 76, 3) := dk_180 0 76 (dk_at dksX1_moves_3 4 rfl rfl)
theorem dX1_moves_77 : decode cX1_moves 77 = .ok (.iload 4, 2) := dk_21 4 (dk_at dksX1_moves_3 7 rfl rfl)
theorem dX1_moves_79 : decode cX1_moves 79 = .ok (.baload, 1) := dk_51 (dk_at dksX1_moves_3 9 rfl rfl)
theorem dX1_moves_80 : decode cX1_moves 80 = .ok (.ifCond .eq 19, 3) := dk_153 0 19 (dk_at dksX1_moves_3 10 rfl rfl)
theorem dX1_moves_83 : decode cX1_moves 83 = .ok (.aload_n 0, 1) := dk_42 (dk_at dksX1_moves_3 13 rfl rfl)
theorem dX1_moves_84 : decode cX1_moves 84 = .ok (.getfield 52, 3) := dk_180 0 52 (dk_at dksX1_moves_3 14 rfl rfl)
theorem dX1_moves_87 : decode cX1_moves 87 = .ok (.getfield 401, 3) := dk_180 1 145 (dk_at dksX1_moves_3 17 rfl rfl)
theorem dX1_moves_90 : decode cX1_moves 90 = .ok (.iload 4, 2) := dk_21 4 (dk_at dksX1_moves_3 20 rfl rfl)
theorem dX1_moves_92 : decode cX1_moves 92 = .ok (.iaload, 1) := dk_46 (dk_at dksX1_moves_3 22 rfl rfl)
theorem dX1_moves_93 : decode cX1_moves 93 = .ok (.iload_n 1, 1) := dk_27 (dk_at dksX1_moves_3 23 rfl rfl)
theorem dX1_moves_94 : decode cX1_moves 94 = .ok (.if_icmp .ne 5, 3) := dk_160 0 5 (dk_at dksX1_moves_4 0 rfl rfl)
theorem dX1_moves_97 : decode cX1_moves 97 = .ok (.iload_n 3, 1) := dk_29 (dk_at dksX1_moves_4 3 rfl rfl)
theorem dX1_moves_98 : decode cX1_moves 98 = .ok (.ireturn, 1) := dk_172 (dk_at dksX1_moves_4 4 rfl rfl)
theorem dX1_moves_99 : decode cX1_moves 99 = .ok (.iinc 4 1, 3) := dk_132 4 1 (dk_at dksX1_moves_4 5 rfl rfl)
theorem dX1_moves_102 : decode cX1_moves 102 = .ok (.goto (-39), 3) := dk_167 255 217 (dk_at dksX1_moves_4 8 rfl rfl)
theorem dX1_moves_105 : decode cX1_moves 105 = .ok (.aload_n 0, 1) := dk_42 (dk_at dksX1_moves_4 11 rfl rfl)
theorem dX1_moves_106 : decode cX1_moves 106 = .ok (.getfield 52, 3) := dk_180 0 52 (dk_at dksX1_moves_4 12 rfl rfl)
theorem dX1_moves_109 : decode cX1_moves 109 = .ok (.aload_n 0, 1) := dk_42 (dk_at dksX1_moves_4 15 rfl rfl)
theorem dX1_moves_110 : decode cX1_moves 110 = .ok (.getfield 76, 3) := dk_180 0 76 (dk_at dksX1_moves_4 16 rfl rfl)
theorem dX1_moves_113 : decode cX1_moves 113 = .ok (.aload_n 0, 1) := dk_42 (dk_at dksX1_moves_4 19 rfl rfl)
theorem dX1_moves_114 : decode cX1_moves 114 = .ok (.getfield 80, 3) := dk_180 0 80 (dk_at dksX1_moves_4 20 rfl rfl)
theorem dX1_moves_117 : decode cX1_moves 117 = .ok (.invokevirtual 397, 3) := dk_182 1 141 (dk_at dksX1_moves_5 0 rfl rfl)
theorem dX1_moves_120 : decode cX1_moves 120 = .ok (.pop, 1) := dk_87 (dk_at dksX1_moves_5 3 rfl rfl)
theorem dX1_moves_121 : decode cX1_moves 121 = .ok (.iinc 3 1, 3) := dk_132 3 1 (dk_at dksX1_moves_5 4 rfl rfl)
theorem dX1_moves_124 : decode cX1_moves 124 = .ok (.goto (-69), 3) := dk_167 255 187 (dk_at dksX1_moves_5 7 rfl rfl)
theorem dX1_moves_127 : decode cX1_moves 127 = .ok (.iconst (-1), 1) := dk_2 (dk_at dksX1_moves_5 10 rfl rfl)
theorem dX1_moves_128 : decode cX1_moves 128 = .ok (.ireturn, 1) := dk_172 (dk_at dksX1_moves_5 11 rfl rfl)
abbrev cX1_may : ByteArray := prog_1_method_56_code
def yX1_may : MethodName := ⟨RX1, "may", "(III)Z"⟩
def dkwX1_may_1 : List UInt8 := [154, 0, 5, 3, 172, 42, 42, 180, 0, 116, 182, 1, 151, 42, 27, 25, 4, 29, 182, 1, 198, 172]
abbrev dktX1_may_1 : List UInt8 := dkwX1_may_1 ++ []
def dkwX1_may_0 : List UInt8 := [42, 28, 182, 0, 208, 58, 4, 42, 27, 182, 0, 159, 198, 0, 13, 42, 25, 4, 29, 182, 1, 194]
abbrev dktX1_may_0 : List UInt8 := dkwX1_may_0 ++ dktX1_may_1
theorem dksX1_may_0 : cX1_may.data.toList.drop 0 = dktX1_may_0 := by decide +kernel
theorem dksX1_may_1 : cX1_may.data.toList.drop 22 = dktX1_may_1 := dk_seg dksX1_may_0 22 rfl rfl
theorem dX1_may_0 : decode cX1_may 0 = .ok (.aload_n 0, 1) := dk_42 (dk_at dksX1_may_0 0 rfl rfl)
theorem dX1_may_1 : decode cX1_may 1 = .ok (.iload_n 2, 1) := dk_28 (dk_at dksX1_may_0 1 rfl rfl)
theorem dX1_may_2 : decode cX1_may 2 = .ok (.invokevirtual 208, 3) := dk_182 0 208 (dk_at dksX1_may_0 2 rfl rfl)
theorem dX1_may_5 : decode cX1_may 5 = .ok (.astore 4, 2) := dk_58 4 (dk_at dksX1_may_0 5 rfl rfl)
theorem dX1_may_7 : decode cX1_may 7 = .ok (.aload_n 0, 1) := dk_42 (dk_at dksX1_may_0 7 rfl rfl)
theorem dX1_may_8 : decode cX1_may 8 = .ok (.iload_n 1, 1) := dk_27 (dk_at dksX1_may_0 8 rfl rfl)
theorem dX1_may_9 : decode cX1_may 9 = .ok (.invokevirtual 159, 3) := dk_182 0 159 (dk_at dksX1_may_0 9 rfl rfl)
theorem dX1_may_12 : decode cX1_may 12 = .ok (.ifnull 13, 3) := dk_198 0 13 (dk_at dksX1_may_0 12 rfl rfl)
theorem dX1_may_15 : decode cX1_may 15 = .ok (.aload_n 0, 1) := dk_42 (dk_at dksX1_may_0 15 rfl rfl)
theorem dX1_may_16 : decode cX1_may 16 = .ok (.aload 4, 2) := dk_25 4 (dk_at dksX1_may_0 16 rfl rfl)
theorem dX1_may_18 : decode cX1_may 18 = .ok (.iload_n 3, 1) := dk_29 (dk_at dksX1_may_0 18 rfl rfl)
theorem dX1_may_19 : decode cX1_may 19 = .ok (.invokevirtual 450, 3) := dk_182 1 194 (dk_at dksX1_may_0 19 rfl rfl)
theorem dX1_may_22 : decode cX1_may 22 = .ok (.ifCond .ne 5, 3) := dk_154 0 5 (dk_at dksX1_may_1 0 rfl rfl)
theorem dX1_may_25 : decode cX1_may 25 = .ok (.iconst 0, 1) := dk_3 (dk_at dksX1_may_1 3 rfl rfl)
theorem dX1_may_26 : decode cX1_may 26 = .ok (.ireturn, 1) := dk_172 (dk_at dksX1_may_1 4 rfl rfl)
theorem dX1_may_27 : decode cX1_may 27 = .ok (.aload_n 0, 1) := dk_42 (dk_at dksX1_may_1 5 rfl rfl)
theorem dX1_may_28 : decode cX1_may 28 = .ok (.aload_n 0, 1) := dk_42 (dk_at dksX1_may_1 6 rfl rfl)
theorem dX1_may_29 : decode cX1_may 29 = .ok (.getfield 116, 3) := dk_180 0 116 (dk_at dksX1_may_1 7 rfl rfl)
theorem dX1_may_32 : decode cX1_may 32 = .ok (.invokevirtual 407, 3) := dk_182 1 151 (dk_at dksX1_may_1 10 rfl rfl)
theorem dX1_may_35 : decode cX1_may 35 = .ok (.aload_n 0, 1) := dk_42 (dk_at dksX1_may_1 13 rfl rfl)
theorem dX1_may_36 : decode cX1_may 36 = .ok (.iload_n 1, 1) := dk_27 (dk_at dksX1_may_1 14 rfl rfl)
theorem dX1_may_37 : decode cX1_may 37 = .ok (.aload 4, 2) := dk_25 4 (dk_at dksX1_may_1 15 rfl rfl)
theorem dX1_may_39 : decode cX1_may 39 = .ok (.iload_n 3, 1) := dk_29 (dk_at dksX1_may_1 17 rfl rfl)
theorem dX1_may_40 : decode cX1_may 40 = .ok (.invokevirtual 454, 3) := dk_182 1 198 (dk_at dksX1_may_1 18 rfl rfl)
theorem dX1_may_43 : decode cX1_may 43 = .ok (.ireturn, 1) := dk_172 (dk_at dksX1_may_1 21 rfl rfl)
abbrev cX1_isRole : ByteArray := prog_1_method_54_code
def yX1_isRole : MethodName := ⟨RX1, "isRole", "(LOperaHouse$Call;I)Z"⟩
def dkwX1_isRole_0 : List UInt8 := [43, 198, 0, 21, 28, 3, 43, 182, 0, 212, 4, 100, 184, 0, 112, 153, 0, 7, 4, 167, 0, 4, 3, 172]
abbrev dktX1_isRole_0 : List UInt8 := dkwX1_isRole_0 ++ []
theorem dksX1_isRole_0 : cX1_isRole.data.toList.drop 0 = dktX1_isRole_0 := by decide +kernel
theorem dX1_isRole_0 : decode cX1_isRole 0 = .ok (.aload_n 1, 1) := dk_43 (dk_at dksX1_isRole_0 0 rfl rfl)
theorem dX1_isRole_1 : decode cX1_isRole 1 = .ok (.ifnull 21, 3) := dk_198 0 21 (dk_at dksX1_isRole_0 1 rfl rfl)
theorem dX1_isRole_4 : decode cX1_isRole 4 = .ok (.iload_n 2, 1) := dk_28 (dk_at dksX1_isRole_0 4 rfl rfl)
theorem dX1_isRole_5 : decode cX1_isRole 5 = .ok (.iconst 0, 1) := dk_3 (dk_at dksX1_isRole_0 5 rfl rfl)
theorem dX1_isRole_6 : decode cX1_isRole 6 = .ok (.aload_n 1, 1) := dk_43 (dk_at dksX1_isRole_0 6 rfl rfl)
theorem dX1_isRole_7 : decode cX1_isRole 7 = .ok (.invokevirtual 212, 3) := dk_182 0 212 (dk_at dksX1_isRole_0 7 rfl rfl)
theorem dX1_isRole_10 : decode cX1_isRole 10 = .ok (.iconst 1, 1) := dk_4 (dk_at dksX1_isRole_0 10 rfl rfl)
theorem dX1_isRole_11 : decode cX1_isRole 11 = .ok (.isub, 1) := dk_100 (dk_at dksX1_isRole_0 11 rfl rfl)
theorem dX1_isRole_12 : decode cX1_isRole 12 = .ok (.invokestatic 112, 3) := dk_184 0 112 (dk_at dksX1_isRole_0 12 rfl rfl)
theorem dX1_isRole_15 : decode cX1_isRole 15 = .ok (.ifCond .eq 7, 3) := dk_153 0 7 (dk_at dksX1_isRole_0 15 rfl rfl)
theorem dX1_isRole_18 : decode cX1_isRole 18 = .ok (.iconst 1, 1) := dk_4 (dk_at dksX1_isRole_0 18 rfl rfl)
theorem dX1_isRole_19 : decode cX1_isRole 19 = .ok (.goto 4, 3) := dk_167 0 4 (dk_at dksX1_isRole_0 19 rfl rfl)
theorem dX1_isRole_22 : decode cX1_isRole 22 = .ok (.iconst 0, 1) := dk_3 (dk_at dksX1_isRole_0 22 rfl rfl)
theorem dX1_isRole_23 : decode cX1_isRole 23 = .ok (.ireturn, 1) := dk_172 (dk_at dksX1_isRole_0 23 rfl rfl)
abbrev cX1_mayHave : ByteArray := prog_1_method_55_code
def yX1_mayHave : MethodName := ⟨RX1, "mayHave", "(ILOperaHouse$Call;I)Z"⟩
def dkwX1_mayHave_4 : List UInt8 := [180, 0, 233, 50, 29, 21, 4, 79, 42, 180, 0, 67, 44, 180, 0, 233, 50, 29, 21, 5, 79, 21, 6, 172]
abbrev dktX1_mayHave_4 : List UInt8 := dkwX1_mayHave_4 ++ []
def dkwX1_mayHave_3 : List UInt8 := [182, 1, 154, 42, 27, 182, 1, 191, 154, 0, 7, 4, 167, 0, 4, 3, 54, 6, 42, 180, 0, 64, 44]
abbrev dktX1_mayHave_3 : List UInt8 := dkwX1_mayHave_3 ++ dktX1_mayHave_4
def dkwX1_mayHave_2 : List UInt8 := [180, 0, 67, 44, 180, 0, 233, 50, 29, 46, 54, 5, 42, 44, 180, 0, 233, 29, 27, 182, 0, 254, 42]
abbrev dktX1_mayHave_2 : List UInt8 := dkwX1_mayHave_2 ++ dktX1_mayHave_3
def dkwX1_mayHave_1 : List UInt8 := [182, 1, 154, 42, 27, 182, 1, 188, 42, 180, 0, 64, 44, 180, 0, 233, 50, 29, 46, 54, 4, 42]
abbrev dktX1_mayHave_1 : List UInt8 := dkwX1_mayHave_1 ++ dktX1_mayHave_2
def dkwX1_mayHave_0 : List UInt8 := [44, 180, 0, 214, 42, 180, 0, 116, 161, 0, 12, 42, 27, 44, 182, 1, 43, 153, 0, 5, 3, 172, 42]
abbrev dktX1_mayHave_0 : List UInt8 := dkwX1_mayHave_0 ++ dktX1_mayHave_1
theorem dksX1_mayHave_0 : cX1_mayHave.data.toList.drop 0 = dktX1_mayHave_0 := by decide +kernel
theorem dksX1_mayHave_1 : cX1_mayHave.data.toList.drop 23 = dktX1_mayHave_1 := dk_seg dksX1_mayHave_0 23 rfl rfl
theorem dksX1_mayHave_2 : cX1_mayHave.data.toList.drop 45 = dktX1_mayHave_2 := dk_seg dksX1_mayHave_1 22 rfl rfl
theorem dksX1_mayHave_3 : cX1_mayHave.data.toList.drop 68 = dktX1_mayHave_3 := dk_seg dksX1_mayHave_2 23 rfl rfl
theorem dksX1_mayHave_4 : cX1_mayHave.data.toList.drop 91 = dktX1_mayHave_4 := dk_seg dksX1_mayHave_3 23 rfl rfl
theorem dX1_mayHave_0 : decode cX1_mayHave 0 = .ok (.aload_n 2, 1) := dk_44 (dk_at dksX1_mayHave_0 0 rfl rfl)
theorem dX1_mayHave_1 : decode cX1_mayHave 1 = .ok (.getfield 214, 3) := dk_180 0 214 (dk_at dksX1_mayHave_0 1 rfl rfl)
theorem dX1_mayHave_4 : decode cX1_mayHave 4 = .ok (.aload_n 0, 1) := dk_42 (dk_at dksX1_mayHave_0 4 rfl rfl)
theorem dX1_mayHave_5 : decode cX1_mayHave 5 = .ok (.getfield 116, 3) := dk_180 0 116 (dk_at dksX1_mayHave_0 5 rfl rfl)
theorem dX1_mayHave_8 : decode cX1_mayHave 8 = .ok (.if_icmp .lt 12, 3) := dk_161 0 12 (dk_at dksX1_mayHave_0 8 rfl rfl)
theorem dX1_mayHave_11 : decode cX1_mayHave 11 = .ok (.aload_n 0, 1) := dk_42 (dk_at dksX1_mayHave_0 11 rfl rfl)
theorem dX1_mayHave_12 : decode cX1_mayHave 12 = .ok (.iload_n 1, 1) := dk_27 (dk_at dksX1_mayHave_0 12 rfl rfl)
theorem dX1_mayHave_13 : decode cX1_mayHave 13 = .ok (.aload_n 2, 1) := dk_44 (dk_at dksX1_mayHave_0 13 rfl rfl)
theorem dX1_mayHave_14 : decode cX1_mayHave 14 = .ok (.invokevirtual 299, 3) := dk_182 1 43 (dk_at dksX1_mayHave_0 14 rfl rfl)
theorem dX1_mayHave_17 : decode cX1_mayHave 17 = .ok (.ifCond .eq 5, 3) := dk_153 0 5 (dk_at dksX1_mayHave_0 17 rfl rfl)
theorem dX1_mayHave_20 : decode cX1_mayHave 20 = .ok (.iconst 0, 1) := dk_3 (dk_at dksX1_mayHave_0 20 rfl rfl)
theorem dX1_mayHave_21 : decode cX1_mayHave 21 = .ok (.ireturn, 1) := dk_172 (dk_at dksX1_mayHave_0 21 rfl rfl)
theorem dX1_mayHave_22 : decode cX1_mayHave 22 = .ok (.aload_n 0, 1) := dk_42 (dk_at dksX1_mayHave_0 22 rfl rfl)
theorem dX1_mayHave_23 : decode cX1_mayHave 23 = .ok (.invokevirtual 410, 3) := dk_182 1 154 (dk_at dksX1_mayHave_1 0 rfl rfl)
theorem dX1_mayHave_26 : decode cX1_mayHave 26 = .ok (.aload_n 0, 1) := dk_42 (dk_at dksX1_mayHave_1 3 rfl rfl)
theorem dX1_mayHave_27 : decode cX1_mayHave 27 = .ok (.iload_n 1, 1) := dk_27 (dk_at dksX1_mayHave_1 4 rfl rfl)
theorem dX1_mayHave_28 : decode cX1_mayHave 28 = .ok (.invokevirtual 444, 3) := dk_182 1 188 (dk_at dksX1_mayHave_1 5 rfl rfl)
theorem dX1_mayHave_31 : decode cX1_mayHave 31 = .ok (.aload_n 0, 1) := dk_42 (dk_at dksX1_mayHave_1 8 rfl rfl)
theorem dX1_mayHave_32 : decode cX1_mayHave 32 = .ok (.getfield 64, 3) := dk_180 0 64 (dk_at dksX1_mayHave_1 9 rfl rfl)
theorem dX1_mayHave_35 : decode cX1_mayHave 35 = .ok (.aload_n 2, 1) := dk_44 (dk_at dksX1_mayHave_1 12 rfl rfl)
theorem dX1_mayHave_36 : decode cX1_mayHave 36 = .ok (.getfield 233, 3) := dk_180 0 233 (dk_at dksX1_mayHave_1 13 rfl rfl)
theorem dX1_mayHave_39 : decode cX1_mayHave 39 = .ok (.aaload, 1) := dk_50 (dk_at dksX1_mayHave_1 16 rfl rfl)
theorem dX1_mayHave_40 : decode cX1_mayHave 40 = .ok (.iload_n 3, 1) := dk_29 (dk_at dksX1_mayHave_1 17 rfl rfl)
theorem dX1_mayHave_41 : decode cX1_mayHave 41 = .ok (.iaload, 1) := dk_46 (dk_at dksX1_mayHave_1 18 rfl rfl)
theorem dX1_mayHave_42 : decode cX1_mayHave 42 = .ok (.istore 4, 2) := dk_54 4 (dk_at dksX1_mayHave_1 19 rfl rfl)
theorem dX1_mayHave_44 : decode cX1_mayHave 44 = .ok (.aload_n 0, 1) := dk_42 (dk_at dksX1_mayHave_1 21 rfl rfl)
theorem dX1_mayHave_45 : decode cX1_mayHave 45 = .ok (.getfield 67, 3) := dk_180 0 67 (dk_at dksX1_mayHave_2 0 rfl rfl)
theorem dX1_mayHave_48 : decode cX1_mayHave 48 = .ok (.aload_n 2, 1) := dk_44 (dk_at dksX1_mayHave_2 3 rfl rfl)
theorem dX1_mayHave_49 : decode cX1_mayHave 49 = .ok (.getfield 233, 3) := dk_180 0 233 (dk_at dksX1_mayHave_2 4 rfl rfl)
theorem dX1_mayHave_52 : decode cX1_mayHave 52 = .ok (.aaload, 1) := dk_50 (dk_at dksX1_mayHave_2 7 rfl rfl)
theorem dX1_mayHave_53 : decode cX1_mayHave 53 = .ok (.iload_n 3, 1) := dk_29 (dk_at dksX1_mayHave_2 8 rfl rfl)
theorem dX1_mayHave_54 : decode cX1_mayHave 54 = .ok (.iaload, 1) := dk_46 (dk_at dksX1_mayHave_2 9 rfl rfl)
theorem dX1_mayHave_55 : decode cX1_mayHave 55 = .ok (.istore 5, 2) := dk_54 5 (dk_at dksX1_mayHave_2 10 rfl rfl)
theorem dX1_mayHave_57 : decode cX1_mayHave 57 = .ok (.aload_n 0, 1) := dk_42 (dk_at dksX1_mayHave_2 12 rfl rfl)
theorem dX1_mayHave_58 : decode cX1_mayHave 58 = .ok (.aload_n 2, 1) := dk_44 (dk_at dksX1_mayHave_2 13 rfl rfl)
theorem dX1_mayHave_59 : decode cX1_mayHave 59 = .ok (.getfield 233, 3) := dk_180 0 233 (dk_at dksX1_mayHave_2 14 rfl rfl)
theorem dX1_mayHave_62 : decode cX1_mayHave 62 = .ok (.iload_n 3, 1) := dk_29 (dk_at dksX1_mayHave_2 17 rfl rfl)
theorem dX1_mayHave_63 : decode cX1_mayHave 63 = .ok (.iload_n 1, 1) := dk_27 (dk_at dksX1_mayHave_2 18 rfl rfl)
theorem dX1_mayHave_64 : decode cX1_mayHave 64 = .ok (.invokevirtual 254, 3) := dk_182 0 254 (dk_at dksX1_mayHave_2 19 rfl rfl)
theorem dX1_mayHave_67 : decode cX1_mayHave 67 = .ok (.aload_n 0, 1) := dk_42 (dk_at dksX1_mayHave_2 22 rfl rfl)
theorem dX1_mayHave_68 : decode cX1_mayHave 68 = .ok (.invokevirtual 410, 3) := dk_182 1 154 (dk_at dksX1_mayHave_3 0 rfl rfl)
theorem dX1_mayHave_71 : decode cX1_mayHave 71 = .ok (.aload_n 0, 1) := dk_42 (dk_at dksX1_mayHave_3 3 rfl rfl)
theorem dX1_mayHave_72 : decode cX1_mayHave 72 = .ok (.iload_n 1, 1) := dk_27 (dk_at dksX1_mayHave_3 4 rfl rfl)
theorem dX1_mayHave_73 : decode cX1_mayHave 73 = .ok (.invokevirtual 447, 3) := dk_182 1 191 (dk_at dksX1_mayHave_3 5 rfl rfl)
theorem dX1_mayHave_76 : decode cX1_mayHave 76 = .ok (.ifCond .ne 7, 3) := dk_154 0 7 (dk_at dksX1_mayHave_3 8 rfl rfl)
theorem dX1_mayHave_79 : decode cX1_mayHave 79 = .ok (.iconst 1, 1) := dk_4 (dk_at dksX1_mayHave_3 11 rfl rfl)
theorem dX1_mayHave_80 : decode cX1_mayHave 80 = .ok (.goto 4, 3) := dk_167 0 4 (dk_at dksX1_mayHave_3 12 rfl rfl)
theorem dX1_mayHave_83 : decode cX1_mayHave 83 = .ok (.iconst 0, 1) := dk_3 (dk_at dksX1_mayHave_3 15 rfl rfl)
theorem dX1_mayHave_84 : decode cX1_mayHave 84 = .ok (.istore 6, 2) := dk_54 6 (dk_at dksX1_mayHave_3 16 rfl rfl)
theorem dX1_mayHave_86 : decode cX1_mayHave 86 = .ok (.aload_n 0, 1) := dk_42 (dk_at dksX1_mayHave_3 18 rfl rfl)
theorem dX1_mayHave_87 : decode cX1_mayHave 87 = .ok (.getfield 64, 3) := dk_180 0 64 (dk_at dksX1_mayHave_3 19 rfl rfl)
theorem dX1_mayHave_90 : decode cX1_mayHave 90 = .ok (.aload_n 2, 1) := dk_44 (dk_at dksX1_mayHave_3 22 rfl rfl)
theorem dX1_mayHave_91 : decode cX1_mayHave 91 = .ok (.getfield 233, 3) := dk_180 0 233 (dk_at dksX1_mayHave_4 0 rfl rfl)
theorem dX1_mayHave_94 : decode cX1_mayHave 94 = .ok (.aaload, 1) := dk_50 (dk_at dksX1_mayHave_4 3 rfl rfl)
theorem dX1_mayHave_95 : decode cX1_mayHave 95 = .ok (.iload_n 3, 1) := dk_29 (dk_at dksX1_mayHave_4 4 rfl rfl)
theorem dX1_mayHave_96 : decode cX1_mayHave 96 = .ok (.iload 4, 2) := dk_21 4 (dk_at dksX1_mayHave_4 5 rfl rfl)
theorem dX1_mayHave_98 : decode cX1_mayHave 98 = .ok (.iastore, 1) := dk_79 (dk_at dksX1_mayHave_4 7 rfl rfl)
theorem dX1_mayHave_99 : decode cX1_mayHave 99 = .ok (.aload_n 0, 1) := dk_42 (dk_at dksX1_mayHave_4 8 rfl rfl)
theorem dX1_mayHave_100 : decode cX1_mayHave 100 = .ok (.getfield 67, 3) := dk_180 0 67 (dk_at dksX1_mayHave_4 9 rfl rfl)
theorem dX1_mayHave_103 : decode cX1_mayHave 103 = .ok (.aload_n 2, 1) := dk_44 (dk_at dksX1_mayHave_4 12 rfl rfl)
theorem dX1_mayHave_104 : decode cX1_mayHave 104 = .ok (.getfield 233, 3) := dk_180 0 233 (dk_at dksX1_mayHave_4 13 rfl rfl)
theorem dX1_mayHave_107 : decode cX1_mayHave 107 = .ok (.aaload, 1) := dk_50 (dk_at dksX1_mayHave_4 16 rfl rfl)
theorem dX1_mayHave_108 : decode cX1_mayHave 108 = .ok (.iload_n 3, 1) := dk_29 (dk_at dksX1_mayHave_4 17 rfl rfl)
theorem dX1_mayHave_109 : decode cX1_mayHave 109 = .ok (.iload 5, 2) := dk_21 5 (dk_at dksX1_mayHave_4 18 rfl rfl)
theorem dX1_mayHave_111 : decode cX1_mayHave 111 = .ok (.iastore, 1) := dk_79 (dk_at dksX1_mayHave_4 20 rfl rfl)
theorem dX1_mayHave_112 : decode cX1_mayHave 112 = .ok (.iload 6, 2) := dk_21 6 (dk_at dksX1_mayHave_4 21 rfl rfl)
theorem dX1_mayHave_114 : decode cX1_mayHave 114 = .ok (.ireturn, 1) := dk_172 (dk_at dksX1_mayHave_4 23 rfl rfl)
abbrev cX1_keepWrongs : ByteArray := prog_1_method_52_code
def yX1_keepWrongs : MethodName := ⟨RX1, "keepWrongs", "(I)V"⟩
def dkwX1_keepWrongs_3 : List UInt8 := [132, 4, 1, 167, 255, 207, 132, 2, 1, 167, 255, 180, 177]
abbrev dktX1_keepWrongs_3 : List UInt8 := dkwX1_keepWrongs_3 ++ []
def dkwX1_keepWrongs_2 : List UInt8 := [27, 160, 0, 19, 42, 180, 0, 73, 29, 50, 21, 4, 46, 19, 1, 187, 126, 167, 0, 4, 3, 79]
abbrev dktX1_keepWrongs_2 : List UInt8 := dkwX1_keepWrongs_2 ++ dktX1_keepWrongs_3
def dkwX1_keepWrongs_1 : List UInt8 := [21, 4, 16, 8, 162, 0, 48, 42, 180, 0, 96, 29, 50, 21, 4, 42, 180, 0, 64, 29, 50, 21, 4, 46]
abbrev dktX1_keepWrongs_1 : List UInt8 := dkwX1_keepWrongs_1 ++ dktX1_keepWrongs_2
def dkwX1_keepWrongs_0 : List UInt8 := [3, 61, 28, 42, 180, 0, 227, 162, 0, 74, 42, 180, 0, 58, 28, 50, 180, 0, 233, 62, 3, 54, 4]
abbrev dktX1_keepWrongs_0 : List UInt8 := dkwX1_keepWrongs_0 ++ dktX1_keepWrongs_1
theorem dksX1_keepWrongs_0 : cX1_keepWrongs.data.toList.drop 0 = dktX1_keepWrongs_0 := by decide +kernel
theorem dksX1_keepWrongs_1 : cX1_keepWrongs.data.toList.drop 23 = dktX1_keepWrongs_1 := dk_seg dksX1_keepWrongs_0 23 rfl rfl
theorem dksX1_keepWrongs_2 : cX1_keepWrongs.data.toList.drop 47 = dktX1_keepWrongs_2 := dk_seg dksX1_keepWrongs_1 24 rfl rfl
theorem dksX1_keepWrongs_3 : cX1_keepWrongs.data.toList.drop 69 = dktX1_keepWrongs_3 := dk_seg dksX1_keepWrongs_2 22 rfl rfl
theorem dX1_keepWrongs_0 : decode cX1_keepWrongs 0 = .ok (.iconst 0, 1) := dk_3 (dk_at dksX1_keepWrongs_0 0 rfl rfl)
theorem dX1_keepWrongs_1 : decode cX1_keepWrongs 1 = .ok (.istore_n 2, 1) := dk_61 (dk_at dksX1_keepWrongs_0 1 rfl rfl)
theorem dX1_keepWrongs_2 : decode cX1_keepWrongs 2 = .ok (.iload_n 2, 1) := dk_28 (dk_at dksX1_keepWrongs_0 2 rfl rfl)
theorem dX1_keepWrongs_3 : decode cX1_keepWrongs 3 = .ok (.aload_n 0, 1) := dk_42 (dk_at dksX1_keepWrongs_0 3 rfl rfl)
theorem dX1_keepWrongs_4 : decode cX1_keepWrongs 4 = .ok (.getfield 227, 3) := dk_180 0 227 (dk_at dksX1_keepWrongs_0 4 rfl rfl)
theorem dX1_keepWrongs_7 : decode cX1_keepWrongs 7 = .ok (.if_icmp .ge 74, 3) := dk_162 0 74 (dk_at dksX1_keepWrongs_0 7 rfl rfl)
theorem dX1_keepWrongs_10 : decode cX1_keepWrongs 10 = .ok (.aload_n 0, 1) := dk_42 (dk_at dksX1_keepWrongs_0 10 rfl rfl)
theorem dX1_keepWrongs_11 : decode cX1_keepWrongs 11 = .ok (.getfield 58, 3) := dk_180 0 58 (dk_at dksX1_keepWrongs_0 11 rfl rfl)
theorem dX1_keepWrongs_14 : decode cX1_keepWrongs 14 = .ok (.iload_n 2, 1) := dk_28 (dk_at dksX1_keepWrongs_0 14 rfl rfl)
theorem dX1_keepWrongs_15 : decode cX1_keepWrongs 15 = .ok (.aaload, 1) := dk_50 (dk_at dksX1_keepWrongs_0 15 rfl rfl)
theorem dX1_keepWrongs_16 : decode cX1_keepWrongs 16 = .ok (.getfield 233, 3) := dk_180 0 233 (dk_at dksX1_keepWrongs_0 16 rfl rfl)
theorem dX1_keepWrongs_19 : decode cX1_keepWrongs 19 = .ok (.istore_n 3, 1) := dk_62 (dk_at dksX1_keepWrongs_0 19 rfl rfl)
theorem dX1_keepWrongs_20 : decode cX1_keepWrongs 20 = .ok (.iconst 0, 1) := dk_3 (dk_at dksX1_keepWrongs_0 20 rfl rfl)
theorem dX1_keepWrongs_21 : decode cX1_keepWrongs 21 = .ok (.istore 4, 2) := dk_54 4 (dk_at dksX1_keepWrongs_0 21 rfl rfl)
theorem dX1_keepWrongs_23 : decode cX1_keepWrongs 23 = .ok (.iload 4, 2) := dk_21 4 (dk_at dksX1_keepWrongs_1 0 rfl rfl)
theorem dX1_keepWrongs_25 : decode cX1_keepWrongs 25 = .ok (.bipush 8, 2) := dk_16 8 (dk_at dksX1_keepWrongs_1 2 rfl rfl)
theorem dX1_keepWrongs_27 : decode cX1_keepWrongs 27 = .ok (.if_icmp .ge 48, 3) := dk_162 0 48 (dk_at dksX1_keepWrongs_1 4 rfl rfl)
theorem dX1_keepWrongs_30 : decode cX1_keepWrongs 30 = .ok (.aload_n 0, 1) := dk_42 (dk_at dksX1_keepWrongs_1 7 rfl rfl)
theorem dX1_keepWrongs_31 : decode cX1_keepWrongs 31 = .ok (.getfield 96, 3) := dk_180 0 96 (dk_at dksX1_keepWrongs_1 8 rfl rfl)
theorem dX1_keepWrongs_34 : decode cX1_keepWrongs 34 = .ok (.iload_n 3, 1) := dk_29 (dk_at dksX1_keepWrongs_1 11 rfl rfl)
theorem dX1_keepWrongs_35 : decode cX1_keepWrongs 35 = .ok (.aaload, 1) := dk_50 (dk_at dksX1_keepWrongs_1 12 rfl rfl)
theorem dX1_keepWrongs_36 : decode cX1_keepWrongs 36 = .ok (.iload 4, 2) := dk_21 4 (dk_at dksX1_keepWrongs_1 13 rfl rfl)
theorem dX1_keepWrongs_38 : decode cX1_keepWrongs 38 = .ok (.aload_n 0, 1) := dk_42 (dk_at dksX1_keepWrongs_1 15 rfl rfl)
theorem dX1_keepWrongs_39 : decode cX1_keepWrongs 39 = .ok (.getfield 64, 3) := dk_180 0 64 (dk_at dksX1_keepWrongs_1 16 rfl rfl)
theorem dX1_keepWrongs_42 : decode cX1_keepWrongs 42 = .ok (.iload_n 3, 1) := dk_29 (dk_at dksX1_keepWrongs_1 19 rfl rfl)
theorem dX1_keepWrongs_43 : decode cX1_keepWrongs 43 = .ok (.aaload, 1) := dk_50 (dk_at dksX1_keepWrongs_1 20 rfl rfl)
theorem dX1_keepWrongs_44 : decode cX1_keepWrongs 44 = .ok (.iload 4, 2) := dk_21 4 (dk_at dksX1_keepWrongs_1 21 rfl rfl)
theorem dX1_keepWrongs_46 : decode cX1_keepWrongs 46 = .ok (.iaload, 1) := dk_46 (dk_at dksX1_keepWrongs_1 23 rfl rfl)
theorem dX1_keepWrongs_47 : decode cX1_keepWrongs 47 = .ok (.iload_n 1, 1) := dk_27 (dk_at dksX1_keepWrongs_2 0 rfl rfl)
theorem dX1_keepWrongs_48 : decode cX1_keepWrongs 48 = .ok (.if_icmp .ne 19, 3) := dk_160 0 19 (dk_at dksX1_keepWrongs_2 1 rfl rfl)
theorem dX1_keepWrongs_51 : decode cX1_keepWrongs 51 = .ok (.aload_n 0, 1) := dk_42 (dk_at dksX1_keepWrongs_2 4 rfl rfl)
theorem dX1_keepWrongs_52 : decode cX1_keepWrongs 52 = .ok (.getfield 73, 3) := dk_180 0 73 (dk_at dksX1_keepWrongs_2 5 rfl rfl)
theorem dX1_keepWrongs_55 : decode cX1_keepWrongs 55 = .ok (.iload_n 3, 1) := dk_29 (dk_at dksX1_keepWrongs_2 8 rfl rfl)
theorem dX1_keepWrongs_56 : decode cX1_keepWrongs 56 = .ok (.aaload, 1) := dk_50 (dk_at dksX1_keepWrongs_2 9 rfl rfl)
theorem dX1_keepWrongs_57 : decode cX1_keepWrongs 57 = .ok (.iload 4, 2) := dk_21 4 (dk_at dksX1_keepWrongs_2 10 rfl rfl)
theorem dX1_keepWrongs_59 : decode cX1_keepWrongs 59 = .ok (.iaload, 1) := dk_46 (dk_at dksX1_keepWrongs_2 12 rfl rfl)
theorem dX1_keepWrongs_60 : decode cX1_keepWrongs 60 = .ok (.ldc_w 443, 3) := dk_19 1 187 (dk_at dksX1_keepWrongs_2 13 rfl rfl)
theorem dX1_keepWrongs_63 : decode cX1_keepWrongs 63 = .ok (.iand, 1) := dk_126 (dk_at dksX1_keepWrongs_2 16 rfl rfl)
theorem dX1_keepWrongs_64 : decode cX1_keepWrongs 64 = .ok (.goto 4, 3) := dk_167 0 4 (dk_at dksX1_keepWrongs_2 17 rfl rfl)
theorem dX1_keepWrongs_67 : decode cX1_keepWrongs 67 = .ok (.iconst 0, 1) := dk_3 (dk_at dksX1_keepWrongs_2 20 rfl rfl)
theorem dX1_keepWrongs_68 : decode cX1_keepWrongs 68 = .ok (.iastore, 1) := dk_79 (dk_at dksX1_keepWrongs_2 21 rfl rfl)
theorem dX1_keepWrongs_69 : decode cX1_keepWrongs 69 = .ok (.iinc 4 1, 3) := dk_132 4 1 (dk_at dksX1_keepWrongs_3 0 rfl rfl)
theorem dX1_keepWrongs_72 : decode cX1_keepWrongs 72 = .ok (.goto (-49), 3) := dk_167 255 207 (dk_at dksX1_keepWrongs_3 3 rfl rfl)
theorem dX1_keepWrongs_75 : decode cX1_keepWrongs 75 = .ok (.iinc 2 1, 3) := dk_132 2 1 (dk_at dksX1_keepWrongs_3 6 rfl rfl)
theorem dX1_keepWrongs_78 : decode cX1_keepWrongs 78 = .ok (.goto (-76), 3) := dk_167 255 180 (dk_at dksX1_keepWrongs_3 9 rfl rfl)
theorem dX1_keepWrongs_81 : decode cX1_keepWrongs 81 = .ok (.return_, 1) := dk_177 (dk_at dksX1_keepWrongs_3 12 rfl rfl)
abbrev cX1_isAnythingNew : ByteArray := prog_1_method_53_code
def yX1_isAnythingNew : MethodName := ⟨RX1, "isAnythingNew", "(I)Z"⟩
def dkwX1_isAnythingNew_3 : List UInt8 := [4, 172, 132, 4, 1, 167, 255, 203, 132, 2, 1, 167, 255, 176, 3, 172]
abbrev dktX1_isAnythingNew_3 : List UInt8 := dkwX1_isAnythingNew_3 ++ []
def dkwX1_isAnythingNew_2 : List UInt8 := [29, 50, 21, 4, 46, 19, 1, 187, 126, 42, 180, 0, 96, 29, 50, 21, 4, 46, 2, 130, 126, 153, 0, 5]
abbrev dktX1_isAnythingNew_2 : List UInt8 := dkwX1_isAnythingNew_2 ++ dktX1_isAnythingNew_3
def dkwX1_isAnythingNew_1 : List UInt8 := [21, 4, 16, 8, 162, 0, 52, 42, 180, 0, 64, 29, 50, 21, 4, 46, 27, 160, 0, 33, 42, 180, 0, 73]
abbrev dktX1_isAnythingNew_1 : List UInt8 := dkwX1_isAnythingNew_1 ++ dktX1_isAnythingNew_2
def dkwX1_isAnythingNew_0 : List UInt8 := [3, 61, 28, 42, 180, 0, 227, 162, 0, 78, 42, 180, 0, 58, 28, 50, 180, 0, 233, 62, 3, 54, 4]
abbrev dktX1_isAnythingNew_0 : List UInt8 := dkwX1_isAnythingNew_0 ++ dktX1_isAnythingNew_1
theorem dksX1_isAnythingNew_0 : cX1_isAnythingNew.data.toList.drop 0 = dktX1_isAnythingNew_0 := by decide +kernel
theorem dksX1_isAnythingNew_1 : cX1_isAnythingNew.data.toList.drop 23 = dktX1_isAnythingNew_1 := dk_seg dksX1_isAnythingNew_0 23 rfl rfl
theorem dksX1_isAnythingNew_2 : cX1_isAnythingNew.data.toList.drop 47 = dktX1_isAnythingNew_2 := dk_seg dksX1_isAnythingNew_1 24 rfl rfl
theorem dksX1_isAnythingNew_3 : cX1_isAnythingNew.data.toList.drop 71 = dktX1_isAnythingNew_3 := dk_seg dksX1_isAnythingNew_2 24 rfl rfl
theorem dX1_isAnythingNew_0 : decode cX1_isAnythingNew 0 = .ok (.iconst 0, 1) := dk_3 (dk_at dksX1_isAnythingNew_0 0 rfl rfl)
theorem dX1_isAnythingNew_1 : decode cX1_isAnythingNew 1 = .ok (.istore_n 2, 1) := dk_61 (dk_at dksX1_isAnythingNew_0 1 rfl rfl)
theorem dX1_isAnythingNew_2 : decode cX1_isAnythingNew 2 = .ok (.iload_n 2, 1) := dk_28 (dk_at dksX1_isAnythingNew_0 2 rfl rfl)
theorem dX1_isAnythingNew_3 : decode cX1_isAnythingNew 3 = .ok (.aload_n 0, 1) := dk_42 (dk_at dksX1_isAnythingNew_0 3 rfl rfl)
theorem dX1_isAnythingNew_4 : decode cX1_isAnythingNew 4 = .ok (.getfield 227, 3) := dk_180 0 227 (dk_at dksX1_isAnythingNew_0 4 rfl rfl)
theorem dX1_isAnythingNew_7 : decode cX1_isAnythingNew 7 = .ok (.if_icmp .ge 78, 3) := dk_162 0 78 (dk_at dksX1_isAnythingNew_0 7 rfl rfl)
theorem dX1_isAnythingNew_10 : decode cX1_isAnythingNew 10 = .ok (.aload_n 0, 1) := dk_42 (dk_at dksX1_isAnythingNew_0 10 rfl rfl)
theorem dX1_isAnythingNew_11 : decode cX1_isAnythingNew 11 = .ok (.getfield 58, 3) := dk_180 0 58 (dk_at dksX1_isAnythingNew_0 11 rfl rfl)
theorem dX1_isAnythingNew_14 : decode cX1_isAnythingNew 14 = .ok (.iload_n 2, 1) := dk_28 (dk_at dksX1_isAnythingNew_0 14 rfl rfl)
theorem dX1_isAnythingNew_15 : decode cX1_isAnythingNew 15 = .ok (.aaload, 1) := dk_50 (dk_at dksX1_isAnythingNew_0 15 rfl rfl)
theorem dX1_isAnythingNew_16 : decode cX1_isAnythingNew 16 = .ok (.getfield 233, 3) := dk_180 0 233 (dk_at dksX1_isAnythingNew_0 16 rfl rfl)
theorem dX1_isAnythingNew_19 : decode cX1_isAnythingNew 19 = .ok (.istore_n 3, 1) := dk_62 (dk_at dksX1_isAnythingNew_0 19 rfl rfl)
theorem dX1_isAnythingNew_20 : decode cX1_isAnythingNew 20 = .ok (.iconst 0, 1) := dk_3 (dk_at dksX1_isAnythingNew_0 20 rfl rfl)
theorem dX1_isAnythingNew_21 : decode cX1_isAnythingNew 21 = .ok (.istore 4, 2) := dk_54 4 (dk_at dksX1_isAnythingNew_0 21 rfl rfl)
theorem dX1_isAnythingNew_23 : decode cX1_isAnythingNew 23 = .ok (.iload 4, 2) := dk_21 4 (dk_at dksX1_isAnythingNew_1 0 rfl rfl)
theorem dX1_isAnythingNew_25 : decode cX1_isAnythingNew 25 = .ok (.bipush 8, 2) := dk_16 8 (dk_at dksX1_isAnythingNew_1 2 rfl rfl)
theorem dX1_isAnythingNew_27 : decode cX1_isAnythingNew 27 = .ok (.if_icmp .ge 52, 3) := dk_162 0 52 (dk_at dksX1_isAnythingNew_1 4 rfl rfl)
theorem dX1_isAnythingNew_30 : decode cX1_isAnythingNew 30 = .ok (.aload_n 0, 1) := dk_42 (dk_at dksX1_isAnythingNew_1 7 rfl rfl)
theorem dX1_isAnythingNew_31 : decode cX1_isAnythingNew 31 = .ok (.getfield 64, 3) := dk_180 0 64 (dk_at dksX1_isAnythingNew_1 8 rfl rfl)
theorem dX1_isAnythingNew_34 : decode cX1_isAnythingNew 34 = .ok (.iload_n 3, 1) := dk_29 (dk_at dksX1_isAnythingNew_1 11 rfl rfl)
theorem dX1_isAnythingNew_35 : decode cX1_isAnythingNew 35 = .ok (.aaload, 1) := dk_50 (dk_at dksX1_isAnythingNew_1 12 rfl rfl)
theorem dX1_isAnythingNew_36 : decode cX1_isAnythingNew 36 = .ok (.iload 4, 2) := dk_21 4 (dk_at dksX1_isAnythingNew_1 13 rfl rfl)
theorem dX1_isAnythingNew_38 : decode cX1_isAnythingNew 38 = .ok (.iaload, 1) := dk_46 (dk_at dksX1_isAnythingNew_1 15 rfl rfl)
theorem dX1_isAnythingNew_39 : decode cX1_isAnythingNew 39 = .ok (.iload_n 1, 1) := dk_27 (dk_at dksX1_isAnythingNew_1 16 rfl rfl)
theorem dX1_isAnythingNew_40 : decode cX1_isAnythingNew 40 = .ok (.if_icmp .ne 33, 3) := dk_160 0 33 (dk_at dksX1_isAnythingNew_1 17 rfl rfl)
theorem dX1_isAnythingNew_43 : decode cX1_isAnythingNew 43 = .ok (.aload_n 0, 1) := dk_42 (dk_at dksX1_isAnythingNew_1 20 rfl rfl)
theorem dX1_isAnythingNew_44 : decode cX1_isAnythingNew 44 = .ok (.getfield 73, 3) := dk_180 0 73 (dk_at dksX1_isAnythingNew_1 21 rfl rfl)
theorem dX1_isAnythingNew_47 : decode cX1_isAnythingNew 47 = .ok (.iload_n 3, 1) := dk_29 (dk_at dksX1_isAnythingNew_2 0 rfl rfl)
theorem dX1_isAnythingNew_48 : decode cX1_isAnythingNew 48 = .ok (.aaload, 1) := dk_50 (dk_at dksX1_isAnythingNew_2 1 rfl rfl)
theorem dX1_isAnythingNew_49 : decode cX1_isAnythingNew 49 = .ok (.iload 4, 2) := dk_21 4 (dk_at dksX1_isAnythingNew_2 2 rfl rfl)
theorem dX1_isAnythingNew_51 : decode cX1_isAnythingNew 51 = .ok (.iaload, 1) := dk_46 (dk_at dksX1_isAnythingNew_2 4 rfl rfl)
theorem dX1_isAnythingNew_52 : decode cX1_isAnythingNew 52 = .ok (.ldc_w 443, 3) := dk_19 1 187 (dk_at dksX1_isAnythingNew_2 5 rfl rfl)
theorem dX1_isAnythingNew_55 : decode cX1_isAnythingNew 55 = .ok (.iand, 1) := dk_126 (dk_at dksX1_isAnythingNew_2 8 rfl rfl)
theorem dX1_isAnythingNew_56 : decode cX1_isAnythingNew 56 = .ok (.aload_n 0, 1) := dk_42 (dk_at dksX1_isAnythingNew_2 9 rfl rfl)
theorem dX1_isAnythingNew_57 : decode cX1_isAnythingNew 57 = .ok (.getfield 96, 3) := dk_180 0 96 (dk_at dksX1_isAnythingNew_2 10 rfl rfl)
theorem dX1_isAnythingNew_60 : decode cX1_isAnythingNew 60 = .ok (.iload_n 3, 1) := dk_29 (dk_at dksX1_isAnythingNew_2 13 rfl rfl)
theorem dX1_isAnythingNew_61 : decode cX1_isAnythingNew 61 = .ok (.aaload, 1) := dk_50 (dk_at dksX1_isAnythingNew_2 14 rfl rfl)
theorem dX1_isAnythingNew_62 : decode cX1_isAnythingNew 62 = .ok (.iload 4, 2) := dk_21 4 (dk_at dksX1_isAnythingNew_2 15 rfl rfl)
theorem dX1_isAnythingNew_64 : decode cX1_isAnythingNew 64 = .ok (.iaload, 1) := dk_46 (dk_at dksX1_isAnythingNew_2 17 rfl rfl)
theorem dX1_isAnythingNew_65 : decode cX1_isAnythingNew 65 = .ok (.iconst (-1), 1) := dk_2 (dk_at dksX1_isAnythingNew_2 18 rfl rfl)
theorem dX1_isAnythingNew_66 : decode cX1_isAnythingNew 66 = .ok (.ixor, 1) := dk_130 (dk_at dksX1_isAnythingNew_2 19 rfl rfl)
theorem dX1_isAnythingNew_67 : decode cX1_isAnythingNew 67 = .ok (.iand, 1) := dk_126 (dk_at dksX1_isAnythingNew_2 20 rfl rfl)
theorem dX1_isAnythingNew_68 : decode cX1_isAnythingNew 68 = .ok (.ifCond .eq 5, 3) := dk_153 0 5 (dk_at dksX1_isAnythingNew_2 21 rfl rfl)
theorem dX1_isAnythingNew_71 : decode cX1_isAnythingNew 71 = .ok (.iconst 1, 1) := dk_4 (dk_at dksX1_isAnythingNew_3 0 rfl rfl)
theorem dX1_isAnythingNew_72 : decode cX1_isAnythingNew 72 = .ok (.ireturn, 1) := dk_172 (dk_at dksX1_isAnythingNew_3 1 rfl rfl)
theorem dX1_isAnythingNew_73 : decode cX1_isAnythingNew 73 = .ok (.iinc 4 1, 3) := dk_132 4 1 (dk_at dksX1_isAnythingNew_3 2 rfl rfl)
theorem dX1_isAnythingNew_76 : decode cX1_isAnythingNew 76 = .ok (.goto (-53), 3) := dk_167 255 203 (dk_at dksX1_isAnythingNew_3 5 rfl rfl)
theorem dX1_isAnythingNew_79 : decode cX1_isAnythingNew 79 = .ok (.iinc 2 1, 3) := dk_132 2 1 (dk_at dksX1_isAnythingNew_3 8 rfl rfl)
theorem dX1_isAnythingNew_82 : decode cX1_isAnythingNew 82 = .ok (.goto (-80), 3) := dk_167 255 176 (dk_at dksX1_isAnythingNew_3 11 rfl rfl)
theorem dX1_isAnythingNew_85 : decode cX1_isAnythingNew 85 = .ok (.iconst 0, 1) := dk_3 (dk_at dksX1_isAnythingNew_3 14 rfl rfl)
theorem dX1_isAnythingNew_86 : decode cX1_isAnythingNew 86 = .ok (.ireturn, 1) := dk_172 (dk_at dksX1_isAnythingNew_3 15 rfl rfl)
abbrev cX1_harm : ByteArray := prog_1_method_58_code
def yX1_harm : MethodName := ⟨RX1, "harm", "(III)I"⟩
def dkwX1_harm_2 : List UInt8 := [167, 0, 21, 42, 42, 180, 0, 34, 27, 182, 0, 155, 192, 0, 152, 25, 4, 29, 182, 1, 208, 172]
abbrev dktX1_harm_2 : List UInt8 := dkwX1_harm_2 ++ []
def dkwX1_harm_1 : List UInt8 := [154, 0, 5, 2, 172, 42, 42, 180, 0, 116, 182, 1, 151, 42, 27, 25, 4, 182, 1, 43, 153, 0, 7, 2]
abbrev dktX1_harm_1 : List UInt8 := dkwX1_harm_1 ++ dktX1_harm_2
def dkwX1_harm_0 : List UInt8 := [42, 28, 182, 0, 208, 58, 4, 42, 27, 182, 0, 159, 198, 0, 13, 42, 25, 4, 29, 182, 1, 194]
abbrev dktX1_harm_0 : List UInt8 := dkwX1_harm_0 ++ dktX1_harm_1
theorem dksX1_harm_0 : cX1_harm.data.toList.drop 0 = dktX1_harm_0 := by decide +kernel
theorem dksX1_harm_1 : cX1_harm.data.toList.drop 22 = dktX1_harm_1 := dk_seg dksX1_harm_0 22 rfl rfl
theorem dksX1_harm_2 : cX1_harm.data.toList.drop 46 = dktX1_harm_2 := dk_seg dksX1_harm_1 24 rfl rfl
theorem dX1_harm_0 : decode cX1_harm 0 = .ok (.aload_n 0, 1) := dk_42 (dk_at dksX1_harm_0 0 rfl rfl)
theorem dX1_harm_1 : decode cX1_harm 1 = .ok (.iload_n 2, 1) := dk_28 (dk_at dksX1_harm_0 1 rfl rfl)
theorem dX1_harm_2 : decode cX1_harm 2 = .ok (.invokevirtual 208, 3) := dk_182 0 208 (dk_at dksX1_harm_0 2 rfl rfl)
theorem dX1_harm_5 : decode cX1_harm 5 = .ok (.astore 4, 2) := dk_58 4 (dk_at dksX1_harm_0 5 rfl rfl)
theorem dX1_harm_7 : decode cX1_harm 7 = .ok (.aload_n 0, 1) := dk_42 (dk_at dksX1_harm_0 7 rfl rfl)
theorem dX1_harm_8 : decode cX1_harm 8 = .ok (.iload_n 1, 1) := dk_27 (dk_at dksX1_harm_0 8 rfl rfl)
theorem dX1_harm_9 : decode cX1_harm 9 = .ok (.invokevirtual 159, 3) := dk_182 0 159 (dk_at dksX1_harm_0 9 rfl rfl)
theorem dX1_harm_12 : decode cX1_harm 12 = .ok (.ifnull 13, 3) := dk_198 0 13 (dk_at dksX1_harm_0 12 rfl rfl)
theorem dX1_harm_15 : decode cX1_harm 15 = .ok (.aload_n 0, 1) := dk_42 (dk_at dksX1_harm_0 15 rfl rfl)
theorem dX1_harm_16 : decode cX1_harm 16 = .ok (.aload 4, 2) := dk_25 4 (dk_at dksX1_harm_0 16 rfl rfl)
theorem dX1_harm_18 : decode cX1_harm 18 = .ok (.iload_n 3, 1) := dk_29 (dk_at dksX1_harm_0 18 rfl rfl)
theorem dX1_harm_19 : decode cX1_harm 19 = .ok (.invokevirtual 450, 3) := dk_182 1 194 (dk_at dksX1_harm_0 19 rfl rfl)
theorem dX1_harm_22 : decode cX1_harm 22 = .ok (.ifCond .ne 5, 3) := dk_154 0 5 (dk_at dksX1_harm_1 0 rfl rfl)
theorem dX1_harm_25 : decode cX1_harm 25 = .ok (.iconst (-1), 1) := dk_2 (dk_at dksX1_harm_1 3 rfl rfl)
theorem dX1_harm_26 : decode cX1_harm 26 = .ok (.ireturn, 1) := dk_172 (dk_at dksX1_harm_1 4 rfl rfl)
theorem dX1_harm_27 : decode cX1_harm 27 = .ok (.aload_n 0, 1) := dk_42 (dk_at dksX1_harm_1 5 rfl rfl)
theorem dX1_harm_28 : decode cX1_harm 28 = .ok (.aload_n 0, 1) := dk_42 (dk_at dksX1_harm_1 6 rfl rfl)
theorem dX1_harm_29 : decode cX1_harm 29 = .ok (.getfield 116, 3) := dk_180 0 116 (dk_at dksX1_harm_1 7 rfl rfl)
theorem dX1_harm_32 : decode cX1_harm 32 = .ok (.invokevirtual 407, 3) := dk_182 1 151 (dk_at dksX1_harm_1 10 rfl rfl)
theorem dX1_harm_35 : decode cX1_harm 35 = .ok (.aload_n 0, 1) := dk_42 (dk_at dksX1_harm_1 13 rfl rfl)
theorem dX1_harm_36 : decode cX1_harm 36 = .ok (.iload_n 1, 1) := dk_27 (dk_at dksX1_harm_1 14 rfl rfl)
theorem dX1_harm_37 : decode cX1_harm 37 = .ok (.aload 4, 2) := dk_25 4 (dk_at dksX1_harm_1 15 rfl rfl)
theorem dX1_harm_39 : decode cX1_harm 39 = .ok (.invokevirtual 299, 3) := dk_182 1 43 (dk_at dksX1_harm_1 17 rfl rfl)
theorem dX1_harm_42 : decode cX1_harm 42 = .ok (.ifCond .eq 7, 3) := dk_153 0 7 (dk_at dksX1_harm_1 20 rfl rfl)
theorem dX1_harm_45 : decode cX1_harm 45 = .ok (.iconst (-1), 1) := dk_2 (dk_at dksX1_harm_1 23 rfl rfl)
theorem dX1_harm_46 : decode cX1_harm 46 = .ok (.goto 21, 3) := dk_167 0 21 (dk_at dksX1_harm_2 0 rfl rfl)
theorem dX1_harm_49 : decode cX1_harm 49 = .ok (.aload_n 0, 1) := dk_42 (dk_at dksX1_harm_2 3 rfl rfl)
theorem dX1_harm_50 : decode cX1_harm 50 = .ok (.aload_n 0, 1) := dk_42 (dk_at dksX1_harm_2 4 rfl rfl)
theorem dX1_harm_51 : decode cX1_harm 51 = .ok (.getfield 34, 3) := dk_180 0 34 (dk_at dksX1_harm_2 5 rfl rfl)
theorem dX1_harm_54 : decode cX1_harm 54 = .ok (.iload_n 1, 1) := dk_27 (dk_at dksX1_harm_2 8 rfl rfl)
theorem dX1_harm_55 : decode cX1_harm 55 = .ok (.invokevirtual 155, 3) := dk_182 0 155 (dk_at dksX1_harm_2 9 rfl rfl)
theorem dX1_harm_58 : decode cX1_harm 58 = .ok (.checkcast 152, 3) := dk_192 0 152 (dk_at dksX1_harm_2 12 rfl rfl)
theorem dX1_harm_61 : decode cX1_harm 61 = .ok (.aload 4, 2) := dk_25 4 (dk_at dksX1_harm_2 15 rfl rfl)
theorem dX1_harm_63 : decode cX1_harm 63 = .ok (.iload_n 3, 1) := dk_29 (dk_at dksX1_harm_2 17 rfl rfl)
theorem dX1_harm_64 : decode cX1_harm 64 = .ok (.invokevirtual 464, 3) := dk_182 1 208 (dk_at dksX1_harm_2 18 rfl rfl)
theorem dX1_harm_67 : decode cX1_harm 67 = .ok (.ireturn, 1) := dk_172 (dk_at dksX1_harm_2 21 rfl rfl)
abbrev cX1_harmOf : ByteArray := prog_1_method_57_code
def yX1_harmOf : MethodName := ⟨RX1, "harmOf", "(LOperaHouse$Singer;LOperaHouse$Call;I)I"⟩
def dkwX1_harmOf_7 : List UInt8 := [180, 0, 233, 50, 29, 21, 7, 79, 21, 5, 172]
abbrev dktX1_harmOf_7 : List UInt8 := dkwX1_harmOf_7 ++ []
def dkwX1_harmOf_6 : List UInt8 := [16, 100, 108, 96, 54, 5, 42, 180, 0, 64, 44, 180, 0, 233, 50, 29, 21, 6, 79, 42, 180, 0, 67, 44]
abbrev dktX1_harmOf_6 : List UInt8 := dkwX1_harmOf_6 ++ dktX1_harmOf_7
def dkwX1_harmOf_5 : List UInt8 := [54, 7, 42, 44, 180, 0, 233, 29, 43, 180, 1, 100, 182, 0, 254, 21, 5, 42, 43, 44, 182, 1, 183]
abbrev dktX1_harmOf_5 : List UInt8 := dkwX1_harmOf_5 ++ dktX1_harmOf_6
def dkwX1_harmOf_4 : List UInt8 := [180, 0, 64, 44, 180, 0, 233, 50, 29, 46, 54, 6, 42, 180, 0, 67, 44, 180, 0, 233, 50, 29, 46]
abbrev dktX1_harmOf_4 : List UInt8 := dkwX1_harmOf_4 ++ dktX1_harmOf_5
def dkwX1_harmOf_3 : List UInt8 := [184, 1, 37, 104, 6, 43, 180, 1, 202, 25, 4, 180, 1, 204, 100, 184, 1, 205, 104, 96, 96, 54, 5, 42]
abbrev dktX1_harmOf_3 : List UInt8 := dkwX1_harmOf_3 ++ dktX1_harmOf_4
def dkwX1_harmOf_2 : List UInt8 := [180, 1, 2, 180, 1, 105, 42, 43, 180, 1, 100, 44, 180, 1, 2, 29, 44, 180, 0, 230, 182, 1, 101, 100]
abbrev dktX1_harmOf_2 : List UInt8 := dkwX1_harmOf_2 ++ dktX1_harmOf_3
def dkwX1_harmOf_1 : List UInt8 := [50, 29, 46, 43, 180, 1, 100, 160, 0, 7, 3, 167, 0, 5, 16, 100, 54, 5, 21, 5, 16, 10, 3, 44]
abbrev dktX1_harmOf_1 : List UInt8 := dkwX1_harmOf_1 ++ dktX1_harmOf_2
def dkwX1_harmOf_0 : List UInt8 := [44, 180, 1, 2, 180, 0, 137, 29, 182, 0, 155, 192, 0, 140, 58, 4, 42, 180, 0, 70, 44, 180, 0, 233]
abbrev dktX1_harmOf_0 : List UInt8 := dkwX1_harmOf_0 ++ dktX1_harmOf_1
theorem dksX1_harmOf_0 : cX1_harmOf.data.toList.drop 0 = dktX1_harmOf_0 := by decide +kernel
theorem dksX1_harmOf_1 : cX1_harmOf.data.toList.drop 24 = dktX1_harmOf_1 := dk_seg dksX1_harmOf_0 24 rfl rfl
theorem dksX1_harmOf_2 : cX1_harmOf.data.toList.drop 48 = dktX1_harmOf_2 := dk_seg dksX1_harmOf_1 24 rfl rfl
theorem dksX1_harmOf_3 : cX1_harmOf.data.toList.drop 72 = dktX1_harmOf_3 := dk_seg dksX1_harmOf_2 24 rfl rfl
theorem dksX1_harmOf_4 : cX1_harmOf.data.toList.drop 96 = dktX1_harmOf_4 := dk_seg dksX1_harmOf_3 24 rfl rfl
theorem dksX1_harmOf_5 : cX1_harmOf.data.toList.drop 119 = dktX1_harmOf_5 := dk_seg dksX1_harmOf_4 23 rfl rfl
theorem dksX1_harmOf_6 : cX1_harmOf.data.toList.drop 142 = dktX1_harmOf_6 := dk_seg dksX1_harmOf_5 23 rfl rfl
theorem dksX1_harmOf_7 : cX1_harmOf.data.toList.drop 166 = dktX1_harmOf_7 := dk_seg dksX1_harmOf_6 24 rfl rfl
theorem dX1_harmOf_0 : decode cX1_harmOf 0 = .ok (.aload_n 2, 1) := dk_44 (dk_at dksX1_harmOf_0 0 rfl rfl)
theorem dX1_harmOf_1 : decode cX1_harmOf 1 = .ok (.getfield 258, 3) := dk_180 1 2 (dk_at dksX1_harmOf_0 1 rfl rfl)
theorem dX1_harmOf_4 : decode cX1_harmOf 4 = .ok (.getfield 137, 3) := dk_180 0 137 (dk_at dksX1_harmOf_0 4 rfl rfl)
theorem dX1_harmOf_7 : decode cX1_harmOf 7 = .ok (.iload_n 3, 1) := dk_29 (dk_at dksX1_harmOf_0 7 rfl rfl)
theorem dX1_harmOf_8 : decode cX1_harmOf 8 = .ok (.invokevirtual 155, 3) := dk_182 0 155 (dk_at dksX1_harmOf_0 8 rfl rfl)
theorem dX1_harmOf_11 : decode cX1_harmOf 11 = .ok (.checkcast 140, 3) := dk_192 0 140 (dk_at dksX1_harmOf_0 11 rfl rfl)
theorem dX1_harmOf_14 : decode cX1_harmOf 14 = .ok (.astore 4, 2) := dk_58 4 (dk_at dksX1_harmOf_0 14 rfl rfl)
theorem dX1_harmOf_16 : decode cX1_harmOf 16 = .ok (.aload_n 0, 1) := dk_42 (dk_at dksX1_harmOf_0 16 rfl rfl)
theorem dX1_harmOf_17 : decode cX1_harmOf 17 = .ok (.getfield 70, 3) := dk_180 0 70 (dk_at dksX1_harmOf_0 17 rfl rfl)
theorem dX1_harmOf_20 : decode cX1_harmOf 20 = .ok (.aload_n 2, 1) := dk_44 (dk_at dksX1_harmOf_0 20 rfl rfl)
theorem dX1_harmOf_21 : decode cX1_harmOf 21 = .ok (.getfield 233, 3) := dk_180 0 233 (dk_at dksX1_harmOf_0 21 rfl rfl)
theorem dX1_harmOf_24 : decode cX1_harmOf 24 = .ok (.aaload, 1) := dk_50 (dk_at dksX1_harmOf_1 0 rfl rfl)
theorem dX1_harmOf_25 : decode cX1_harmOf 25 = .ok (.iload_n 3, 1) := dk_29 (dk_at dksX1_harmOf_1 1 rfl rfl)
theorem dX1_harmOf_26 : decode cX1_harmOf 26 = .ok (.iaload, 1) := dk_46 (dk_at dksX1_harmOf_1 2 rfl rfl)
theorem dX1_harmOf_27 : decode cX1_harmOf 27 = .ok (.aload_n 1, 1) := dk_43 (dk_at dksX1_harmOf_1 3 rfl rfl)
theorem dX1_harmOf_28 : decode cX1_harmOf 28 = .ok (.getfield 356, 3) := dk_180 1 100 (dk_at dksX1_harmOf_1 4 rfl rfl)
theorem dX1_harmOf_31 : decode cX1_harmOf 31 = .ok (.if_icmp .ne 7, 3) := dk_160 0 7 (dk_at dksX1_harmOf_1 7 rfl rfl)
theorem dX1_harmOf_34 : decode cX1_harmOf 34 = .ok (.iconst 0, 1) := dk_3 (dk_at dksX1_harmOf_1 10 rfl rfl)
theorem dX1_harmOf_35 : decode cX1_harmOf 35 = .ok (.goto 5, 3) := dk_167 0 5 (dk_at dksX1_harmOf_1 11 rfl rfl)
theorem dX1_harmOf_38 : decode cX1_harmOf 38 = .ok (.bipush 100, 2) := dk_16 100 (dk_at dksX1_harmOf_1 14 rfl rfl)
theorem dX1_harmOf_40 : decode cX1_harmOf 40 = .ok (.istore 5, 2) := dk_54 5 (dk_at dksX1_harmOf_1 16 rfl rfl)
theorem dX1_harmOf_42 : decode cX1_harmOf 42 = .ok (.iload 5, 2) := dk_21 5 (dk_at dksX1_harmOf_1 18 rfl rfl)
theorem dX1_harmOf_44 : decode cX1_harmOf 44 = .ok (.bipush 10, 2) := dk_16 10 (dk_at dksX1_harmOf_1 20 rfl rfl)
theorem dX1_harmOf_46 : decode cX1_harmOf 46 = .ok (.iconst 0, 1) := dk_3 (dk_at dksX1_harmOf_1 22 rfl rfl)
theorem dX1_harmOf_47 : decode cX1_harmOf 47 = .ok (.aload_n 2, 1) := dk_44 (dk_at dksX1_harmOf_1 23 rfl rfl)
theorem dX1_harmOf_48 : decode cX1_harmOf 48 = .ok (.getfield 258, 3) := dk_180 1 2 (dk_at dksX1_harmOf_2 0 rfl rfl)
theorem dX1_harmOf_51 : decode cX1_harmOf 51 = .ok (.getfield 361, 3) := dk_180 1 105 (dk_at dksX1_harmOf_2 3 rfl rfl)
theorem dX1_harmOf_54 : decode cX1_harmOf 54 = .ok (.aload_n 0, 1) := dk_42 (dk_at dksX1_harmOf_2 6 rfl rfl)
theorem dX1_harmOf_55 : decode cX1_harmOf 55 = .ok (.aload_n 1, 1) := dk_43 (dk_at dksX1_harmOf_2 7 rfl rfl)
theorem dX1_harmOf_56 : decode cX1_harmOf 56 = .ok (.getfield 356, 3) := dk_180 1 100 (dk_at dksX1_harmOf_2 8 rfl rfl)
theorem dX1_harmOf_59 : decode cX1_harmOf 59 = .ok (.aload_n 2, 1) := dk_44 (dk_at dksX1_harmOf_2 11 rfl rfl)
theorem dX1_harmOf_60 : decode cX1_harmOf 60 = .ok (.getfield 258, 3) := dk_180 1 2 (dk_at dksX1_harmOf_2 12 rfl rfl)
theorem dX1_harmOf_63 : decode cX1_harmOf 63 = .ok (.iload_n 3, 1) := dk_29 (dk_at dksX1_harmOf_2 15 rfl rfl)
theorem dX1_harmOf_64 : decode cX1_harmOf 64 = .ok (.aload_n 2, 1) := dk_44 (dk_at dksX1_harmOf_2 16 rfl rfl)
theorem dX1_harmOf_65 : decode cX1_harmOf 65 = .ok (.getfield 230, 3) := dk_180 0 230 (dk_at dksX1_harmOf_2 17 rfl rfl)
theorem dX1_harmOf_68 : decode cX1_harmOf 68 = .ok (.invokevirtual 357, 3) := dk_182 1 101 (dk_at dksX1_harmOf_2 20 rfl rfl)
theorem dX1_harmOf_71 : decode cX1_harmOf 71 = .ok (.isub, 1) := dk_100 (dk_at dksX1_harmOf_2 23 rfl rfl)
theorem dX1_harmOf_72 : decode cX1_harmOf 72 = .ok (.invokestatic 293, 3) := dk_184 1 37 (dk_at dksX1_harmOf_3 0 rfl rfl)
theorem dX1_harmOf_75 : decode cX1_harmOf 75 = .ok (.imul, 1) := dk_104 (dk_at dksX1_harmOf_3 3 rfl rfl)
theorem dX1_harmOf_76 : decode cX1_harmOf 76 = .ok (.iconst 3, 1) := dk_6 (dk_at dksX1_harmOf_3 4 rfl rfl)
theorem dX1_harmOf_77 : decode cX1_harmOf 77 = .ok (.aload_n 1, 1) := dk_43 (dk_at dksX1_harmOf_3 5 rfl rfl)
theorem dX1_harmOf_78 : decode cX1_harmOf 78 = .ok (.getfield 458, 3) := dk_180 1 202 (dk_at dksX1_harmOf_3 6 rfl rfl)
theorem dX1_harmOf_81 : decode cX1_harmOf 81 = .ok (.aload 4, 2) := dk_25 4 (dk_at dksX1_harmOf_3 9 rfl rfl)
theorem dX1_harmOf_83 : decode cX1_harmOf 83 = .ok (.getfield 460, 3) := dk_180 1 204 (dk_at dksX1_harmOf_3 11 rfl rfl)
theorem dX1_harmOf_86 : decode cX1_harmOf 86 = .ok (.isub, 1) := dk_100 (dk_at dksX1_harmOf_3 14 rfl rfl)
theorem dX1_harmOf_87 : decode cX1_harmOf 87 = .ok (.invokestatic 461, 3) := dk_184 1 205 (dk_at dksX1_harmOf_3 15 rfl rfl)
theorem dX1_harmOf_90 : decode cX1_harmOf 90 = .ok (.imul, 1) := dk_104 (dk_at dksX1_harmOf_3 18 rfl rfl)
theorem dX1_harmOf_91 : decode cX1_harmOf 91 = .ok (.iadd, 1) := dk_96 (dk_at dksX1_harmOf_3 19 rfl rfl)
theorem dX1_harmOf_92 : decode cX1_harmOf 92 = .ok (.iadd, 1) := dk_96 (dk_at dksX1_harmOf_3 20 rfl rfl)
theorem dX1_harmOf_93 : decode cX1_harmOf 93 = .ok (.istore 5, 2) := dk_54 5 (dk_at dksX1_harmOf_3 21 rfl rfl)
theorem dX1_harmOf_95 : decode cX1_harmOf 95 = .ok (.aload_n 0, 1) := dk_42 (dk_at dksX1_harmOf_3 23 rfl rfl)
theorem dX1_harmOf_96 : decode cX1_harmOf 96 = .ok (.getfield 64, 3) := dk_180 0 64 (dk_at dksX1_harmOf_4 0 rfl rfl)
theorem dX1_harmOf_99 : decode cX1_harmOf 99 = .ok (.aload_n 2, 1) := dk_44 (dk_at dksX1_harmOf_4 3 rfl rfl)
theorem dX1_harmOf_100 : decode cX1_harmOf 100 = .ok (.getfield 233, 3) := dk_180 0 233 (dk_at dksX1_harmOf_4 4 rfl rfl)
theorem dX1_harmOf_103 : decode cX1_harmOf 103 = .ok (.aaload, 1) := dk_50 (dk_at dksX1_harmOf_4 7 rfl rfl)
theorem dX1_harmOf_104 : decode cX1_harmOf 104 = .ok (.iload_n 3, 1) := dk_29 (dk_at dksX1_harmOf_4 8 rfl rfl)
theorem dX1_harmOf_105 : decode cX1_harmOf 105 = .ok (.iaload, 1) := dk_46 (dk_at dksX1_harmOf_4 9 rfl rfl)
theorem dX1_harmOf_106 : decode cX1_harmOf 106 = .ok (.istore 6, 2) := dk_54 6 (dk_at dksX1_harmOf_4 10 rfl rfl)
theorem dX1_harmOf_108 : decode cX1_harmOf 108 = .ok (.aload_n 0, 1) := dk_42 (dk_at dksX1_harmOf_4 12 rfl rfl)
theorem dX1_harmOf_109 : decode cX1_harmOf 109 = .ok (.getfield 67, 3) := dk_180 0 67 (dk_at dksX1_harmOf_4 13 rfl rfl)
theorem dX1_harmOf_112 : decode cX1_harmOf 112 = .ok (.aload_n 2, 1) := dk_44 (dk_at dksX1_harmOf_4 16 rfl rfl)
theorem dX1_harmOf_113 : decode cX1_harmOf 113 = .ok (.getfield 233, 3) := dk_180 0 233 (dk_at dksX1_harmOf_4 17 rfl rfl)
theorem dX1_harmOf_116 : decode cX1_harmOf 116 = .ok (.aaload, 1) := dk_50 (dk_at dksX1_harmOf_4 20 rfl rfl)
theorem dX1_harmOf_117 : decode cX1_harmOf 117 = .ok (.iload_n 3, 1) := dk_29 (dk_at dksX1_harmOf_4 21 rfl rfl)
theorem dX1_harmOf_118 : decode cX1_harmOf 118 = .ok (.iaload, 1) := dk_46 (dk_at dksX1_harmOf_4 22 rfl rfl)
theorem dX1_harmOf_119 : decode cX1_harmOf 119 = .ok (.istore 7, 2) := dk_54 7 (dk_at dksX1_harmOf_5 0 rfl rfl)
theorem dX1_harmOf_121 : decode cX1_harmOf 121 = .ok (.aload_n 0, 1) := dk_42 (dk_at dksX1_harmOf_5 2 rfl rfl)
theorem dX1_harmOf_122 : decode cX1_harmOf 122 = .ok (.aload_n 2, 1) := dk_44 (dk_at dksX1_harmOf_5 3 rfl rfl)
theorem dX1_harmOf_123 : decode cX1_harmOf 123 = .ok (.getfield 233, 3) := dk_180 0 233 (dk_at dksX1_harmOf_5 4 rfl rfl)
theorem dX1_harmOf_126 : decode cX1_harmOf 126 = .ok (.iload_n 3, 1) := dk_29 (dk_at dksX1_harmOf_5 7 rfl rfl)
theorem dX1_harmOf_127 : decode cX1_harmOf 127 = .ok (.aload_n 1, 1) := dk_43 (dk_at dksX1_harmOf_5 8 rfl rfl)
theorem dX1_harmOf_128 : decode cX1_harmOf 128 = .ok (.getfield 356, 3) := dk_180 1 100 (dk_at dksX1_harmOf_5 9 rfl rfl)
theorem dX1_harmOf_131 : decode cX1_harmOf 131 = .ok (.invokevirtual 254, 3) := dk_182 0 254 (dk_at dksX1_harmOf_5 12 rfl rfl)
theorem dX1_harmOf_134 : decode cX1_harmOf 134 = .ok (.iload 5, 2) := dk_21 5 (dk_at dksX1_harmOf_5 15 rfl rfl)
theorem dX1_harmOf_136 : decode cX1_harmOf 136 = .ok (.aload_n 0, 1) := dk_42 (dk_at dksX1_harmOf_5 17 rfl rfl)
theorem dX1_harmOf_137 : decode cX1_harmOf 137 = .ok (.aload_n 1, 1) := dk_43 (dk_at dksX1_harmOf_5 18 rfl rfl)
theorem dX1_harmOf_138 : decode cX1_harmOf 138 = .ok (.aload_n 2, 1) := dk_44 (dk_at dksX1_harmOf_5 19 rfl rfl)
theorem dX1_harmOf_139 : decode cX1_harmOf 139 = .ok (.invokevirtual 439, 3) := dk_182 1 183 (dk_at dksX1_harmOf_5 20 rfl rfl)
theorem dX1_harmOf_142 : decode cX1_harmOf 142 = .ok (.bipush 100, 2) := dk_16 100 (dk_at dksX1_harmOf_6 0 rfl rfl)
theorem dX1_harmOf_144 : decode cX1_harmOf 144 = .ok (.idiv, 1) := dk_108 (dk_at dksX1_harmOf_6 2 rfl rfl)
theorem dX1_harmOf_145 : decode cX1_harmOf 145 = .ok (.iadd, 1) := dk_96 (dk_at dksX1_harmOf_6 3 rfl rfl)
theorem dX1_harmOf_146 : decode cX1_harmOf 146 = .ok (.istore 5, 2) := dk_54 5 (dk_at dksX1_harmOf_6 4 rfl rfl)
theorem dX1_harmOf_148 : decode cX1_harmOf 148 = .ok (.aload_n 0, 1) := dk_42 (dk_at dksX1_harmOf_6 6 rfl rfl)
theorem dX1_harmOf_149 : decode cX1_harmOf 149 = .ok (.getfield 64, 3) := dk_180 0 64 (dk_at dksX1_harmOf_6 7 rfl rfl)
theorem dX1_harmOf_152 : decode cX1_harmOf 152 = .ok (.aload_n 2, 1) := dk_44 (dk_at dksX1_harmOf_6 10 rfl rfl)
theorem dX1_harmOf_153 : decode cX1_harmOf 153 = .ok (.getfield 233, 3) := dk_180 0 233 (dk_at dksX1_harmOf_6 11 rfl rfl)
theorem dX1_harmOf_156 : decode cX1_harmOf 156 = .ok (.aaload, 1) := dk_50 (dk_at dksX1_harmOf_6 14 rfl rfl)
theorem dX1_harmOf_157 : decode cX1_harmOf 157 = .ok (.iload_n 3, 1) := dk_29 (dk_at dksX1_harmOf_6 15 rfl rfl)
theorem dX1_harmOf_158 : decode cX1_harmOf 158 = .ok (.iload 6, 2) := dk_21 6 (dk_at dksX1_harmOf_6 16 rfl rfl)
theorem dX1_harmOf_160 : decode cX1_harmOf 160 = .ok (.iastore, 1) := dk_79 (dk_at dksX1_harmOf_6 18 rfl rfl)
theorem dX1_harmOf_161 : decode cX1_harmOf 161 = .ok (.aload_n 0, 1) := dk_42 (dk_at dksX1_harmOf_6 19 rfl rfl)
theorem dX1_harmOf_162 : decode cX1_harmOf 162 = .ok (.getfield 67, 3) := dk_180 0 67 (dk_at dksX1_harmOf_6 20 rfl rfl)
theorem dX1_harmOf_165 : decode cX1_harmOf 165 = .ok (.aload_n 2, 1) := dk_44 (dk_at dksX1_harmOf_6 23 rfl rfl)
theorem dX1_harmOf_166 : decode cX1_harmOf 166 = .ok (.getfield 233, 3) := dk_180 0 233 (dk_at dksX1_harmOf_7 0 rfl rfl)
theorem dX1_harmOf_169 : decode cX1_harmOf 169 = .ok (.aaload, 1) := dk_50 (dk_at dksX1_harmOf_7 3 rfl rfl)
theorem dX1_harmOf_170 : decode cX1_harmOf 170 = .ok (.iload_n 3, 1) := dk_29 (dk_at dksX1_harmOf_7 4 rfl rfl)
theorem dX1_harmOf_171 : decode cX1_harmOf 171 = .ok (.iload 7, 2) := dk_21 7 (dk_at dksX1_harmOf_7 5 rfl rfl)
theorem dX1_harmOf_173 : decode cX1_harmOf 173 = .ok (.iastore, 1) := dk_79 (dk_at dksX1_harmOf_7 7 rfl rfl)
theorem dX1_harmOf_174 : decode cX1_harmOf 174 = .ok (.iload 5, 2) := dk_21 5 (dk_at dksX1_harmOf_7 8 rfl rfl)
theorem dX1_harmOf_176 : decode cX1_harmOf 176 = .ok (.ireturn, 1) := dk_172 (dk_at dksX1_harmOf_7 10 rfl rfl)
abbrev cX1_instead : ByteArray := prog_1_method_59_code
def yX1_instead : MethodName := ⟨RX1, "instead", "(II)I"⟩
def dkwX1_instead_4 : List UInt8 := [167, 0, 11, 21, 6, 54, 4, 21, 7, 54, 5, 132, 6, 1, 167, 255, 183, 21, 4, 172]
abbrev dktX1_instead_4 : List UInt8 := dkwX1_instead_4 ++ []
def dkwX1_instead_3 : List UInt8 := [192, 0, 152, 45, 28, 182, 1, 208, 54, 7, 21, 4, 2, 159, 0, 13, 21, 7, 21, 5, 161, 0, 6]
abbrev dktX1_instead_3 : List UInt8 := dkwX1_instead_3 ++ dktX1_instead_4
def dkwX1_instead_2 : List UInt8 := [42, 21, 6, 45, 28, 182, 1, 198, 154, 0, 6, 167, 0, 47, 42, 42, 180, 0, 34, 21, 6, 182, 0, 155]
abbrev dktX1_instead_2 : List UInt8 := dkwX1_instead_2 ++ dktX1_instead_3
def dkwX1_instead_1 : List UInt8 := [182, 1, 151, 2, 54, 4, 3, 54, 5, 3, 54, 6, 21, 6, 42, 180, 0, 34, 182, 0, 126, 162, 0, 67]
abbrev dktX1_instead_1 : List UInt8 := dkwX1_instead_1 ++ dktX1_instead_2
def dkwX1_instead_0 : List UInt8 := [42, 27, 182, 0, 208, 78, 42, 45, 28, 182, 1, 194, 154, 0, 5, 2, 172, 42, 42, 180, 0, 116]
abbrev dktX1_instead_0 : List UInt8 := dkwX1_instead_0 ++ dktX1_instead_1
theorem dksX1_instead_0 : cX1_instead.data.toList.drop 0 = dktX1_instead_0 := by decide +kernel
theorem dksX1_instead_1 : cX1_instead.data.toList.drop 22 = dktX1_instead_1 := dk_seg dksX1_instead_0 22 rfl rfl
theorem dksX1_instead_2 : cX1_instead.data.toList.drop 46 = dktX1_instead_2 := dk_seg dksX1_instead_1 24 rfl rfl
theorem dksX1_instead_3 : cX1_instead.data.toList.drop 70 = dktX1_instead_3 := dk_seg dksX1_instead_2 24 rfl rfl
theorem dksX1_instead_4 : cX1_instead.data.toList.drop 93 = dktX1_instead_4 := dk_seg dksX1_instead_3 23 rfl rfl
theorem dX1_instead_0 : decode cX1_instead 0 = .ok (.aload_n 0, 1) := dk_42 (dk_at dksX1_instead_0 0 rfl rfl)
theorem dX1_instead_1 : decode cX1_instead 1 = .ok (.iload_n 1, 1) := dk_27 (dk_at dksX1_instead_0 1 rfl rfl)
theorem dX1_instead_2 : decode cX1_instead 2 = .ok (.invokevirtual 208, 3) := dk_182 0 208 (dk_at dksX1_instead_0 2 rfl rfl)
theorem dX1_instead_5 : decode cX1_instead 5 = .ok (.astore_n 3, 1) := dk_78 (dk_at dksX1_instead_0 5 rfl rfl)
theorem dX1_instead_6 : decode cX1_instead 6 = .ok (.aload_n 0, 1) := dk_42 (dk_at dksX1_instead_0 6 rfl rfl)
theorem dX1_instead_7 : decode cX1_instead 7 = .ok (.aload_n 3, 1) := dk_45 (dk_at dksX1_instead_0 7 rfl rfl)
theorem dX1_instead_8 : decode cX1_instead 8 = .ok (.iload_n 2, 1) := dk_28 (dk_at dksX1_instead_0 8 rfl rfl)
theorem dX1_instead_9 : decode cX1_instead 9 = .ok (.invokevirtual 450, 3) := dk_182 1 194 (dk_at dksX1_instead_0 9 rfl rfl)
theorem dX1_instead_12 : decode cX1_instead 12 = .ok (.ifCond .ne 5, 3) := dk_154 0 5 (dk_at dksX1_instead_0 12 rfl rfl)
theorem dX1_instead_15 : decode cX1_instead 15 = .ok (.iconst (-1), 1) := dk_2 (dk_at dksX1_instead_0 15 rfl rfl)
theorem dX1_instead_16 : decode cX1_instead 16 = .ok (.ireturn, 1) := dk_172 (dk_at dksX1_instead_0 16 rfl rfl)
theorem dX1_instead_17 : decode cX1_instead 17 = .ok (.aload_n 0, 1) := dk_42 (dk_at dksX1_instead_0 17 rfl rfl)
theorem dX1_instead_18 : decode cX1_instead 18 = .ok (.aload_n 0, 1) := dk_42 (dk_at dksX1_instead_0 18 rfl rfl)
theorem dX1_instead_19 : decode cX1_instead 19 = .ok (.getfield 116, 3) := dk_180 0 116 (dk_at dksX1_instead_0 19 rfl rfl)
theorem dX1_instead_22 : decode cX1_instead 22 = .ok (.invokevirtual 407, 3) := dk_182 1 151 (dk_at dksX1_instead_1 0 rfl rfl)
theorem dX1_instead_25 : decode cX1_instead 25 = .ok (.iconst (-1), 1) := dk_2 (dk_at dksX1_instead_1 3 rfl rfl)
theorem dX1_instead_26 : decode cX1_instead 26 = .ok (.istore 4, 2) := dk_54 4 (dk_at dksX1_instead_1 4 rfl rfl)
theorem dX1_instead_28 : decode cX1_instead 28 = .ok (.iconst 0, 1) := dk_3 (dk_at dksX1_instead_1 6 rfl rfl)
theorem dX1_instead_29 : decode cX1_instead 29 = .ok (.istore 5, 2) := dk_54 5 (dk_at dksX1_instead_1 7 rfl rfl)
theorem dX1_instead_31 : decode cX1_instead 31 = .ok (.iconst 0, 1) := dk_3 (dk_at dksX1_instead_1 9 rfl rfl)
theorem dX1_instead_32 : decode cX1_instead 32 = .ok (.istore 6, 2) := dk_54 6 (dk_at dksX1_instead_1 10 rfl rfl)
theorem dX1_instead_34 : decode cX1_instead 34 = .ok (.iload 6, 2) := dk_21 6 (dk_at dksX1_instead_1 12 rfl rfl)
theorem dX1_instead_36 : decode cX1_instead 36 = .ok (.aload_n 0, 1) := dk_42 (dk_at dksX1_instead_1 14 rfl rfl)
theorem dX1_instead_37 : decode cX1_instead 37 = .ok (.getfield 34, 3) := dk_180 0 34 (dk_at dksX1_instead_1 15 rfl rfl)
theorem dX1_instead_40 : decode cX1_instead 40 = .ok (.invokevirtual 126, 3) := dk_182 0 126 (dk_at dksX1_instead_1 18 rfl rfl)
theorem dX1_instead_43 : decode cX1_instead 43 = .ok (.if_icmp .ge 67, 3) := dk_162 0 67 (dk_at dksX1_instead_1 21 rfl rfl)
theorem dX1_instead_46 : decode cX1_instead 46 = .ok (.aload_n 0, 1) := dk_42 (dk_at dksX1_instead_2 0 rfl rfl)
theorem dX1_instead_47 : decode cX1_instead 47 = .ok (.iload 6, 2) := dk_21 6 (dk_at dksX1_instead_2 1 rfl rfl)
theorem dX1_instead_49 : decode cX1_instead 49 = .ok (.aload_n 3, 1) := dk_45 (dk_at dksX1_instead_2 3 rfl rfl)
theorem dX1_instead_50 : decode cX1_instead 50 = .ok (.iload_n 2, 1) := dk_28 (dk_at dksX1_instead_2 4 rfl rfl)
theorem dX1_instead_51 : decode cX1_instead 51 = .ok (.invokevirtual 454, 3) := dk_182 1 198 (dk_at dksX1_instead_2 5 rfl rfl)
theorem dX1_instead_54 : decode cX1_instead 54 = .ok (.ifCond .ne 6, 3) := dk_154 0 6 (dk_at dksX1_instead_2 8 rfl rfl)
theorem dX1_instead_57 : decode cX1_instead 57 = .ok (.goto 47, 3) := dk_167 0 47 (dk_at dksX1_instead_2 11 rfl rfl)
theorem dX1_instead_60 : decode cX1_instead 60 = .ok (.aload_n 0, 1) := dk_42 (dk_at dksX1_instead_2 14 rfl rfl)
theorem dX1_instead_61 : decode cX1_instead 61 = .ok (.aload_n 0, 1) := dk_42 (dk_at dksX1_instead_2 15 rfl rfl)
theorem dX1_instead_62 : decode cX1_instead 62 = .ok (.getfield 34, 3) := dk_180 0 34 (dk_at dksX1_instead_2 16 rfl rfl)
theorem dX1_instead_65 : decode cX1_instead 65 = .ok (.iload 6, 2) := dk_21 6 (dk_at dksX1_instead_2 19 rfl rfl)
theorem dX1_instead_67 : decode cX1_instead 67 = .ok (.invokevirtual 155, 3) := dk_182 0 155 (dk_at dksX1_instead_2 21 rfl rfl)
theorem dX1_instead_70 : decode cX1_instead 70 = .ok (.checkcast 152, 3) := dk_192 0 152 (dk_at dksX1_instead_3 0 rfl rfl)
theorem dX1_instead_73 : decode cX1_instead 73 = .ok (.aload_n 3, 1) := dk_45 (dk_at dksX1_instead_3 3 rfl rfl)
theorem dX1_instead_74 : decode cX1_instead 74 = .ok (.iload_n 2, 1) := dk_28 (dk_at dksX1_instead_3 4 rfl rfl)
theorem dX1_instead_75 : decode cX1_instead 75 = .ok (.invokevirtual 464, 3) := dk_182 1 208 (dk_at dksX1_instead_3 5 rfl rfl)
theorem dX1_instead_78 : decode cX1_instead 78 = .ok (.istore 7, 2) := dk_54 7 (dk_at dksX1_instead_3 8 rfl rfl)
theorem dX1_instead_80 : decode cX1_instead 80 = .ok (.iload 4, 2) := dk_21 4 (dk_at dksX1_instead_3 10 rfl rfl)
theorem dX1_instead_82 : decode cX1_instead 82 = .ok (.iconst (-1), 1) := dk_2 (dk_at dksX1_instead_3 12 rfl rfl)
theorem dX1_instead_83 : decode cX1_instead 83 = .ok (.if_icmp .eq 13, 3) := dk_159 0 13 (dk_at dksX1_instead_3 13 rfl rfl)
theorem dX1_instead_86 : decode cX1_instead 86 = .ok (.iload 7, 2) := dk_21 7 (dk_at dksX1_instead_3 16 rfl rfl)
theorem dX1_instead_88 : decode cX1_instead 88 = .ok (.iload 5, 2) := dk_21 5 (dk_at dksX1_instead_3 18 rfl rfl)
theorem dX1_instead_90 : decode cX1_instead 90 = .ok (.if_icmp .lt 6, 3) := dk_161 0 6 (dk_at dksX1_instead_3 20 rfl rfl)
theorem dX1_instead_93 : decode cX1_instead 93 = .ok (.goto 11, 3) := dk_167 0 11 (dk_at dksX1_instead_4 0 rfl rfl)
theorem dX1_instead_96 : decode cX1_instead 96 = .ok (.iload 6, 2) := dk_21 6 (dk_at dksX1_instead_4 3 rfl rfl)
theorem dX1_instead_98 : decode cX1_instead 98 = .ok (.istore 4, 2) := dk_54 4 (dk_at dksX1_instead_4 5 rfl rfl)
theorem dX1_instead_100 : decode cX1_instead 100 = .ok (.iload 7, 2) := dk_21 7 (dk_at dksX1_instead_4 7 rfl rfl)
theorem dX1_instead_102 : decode cX1_instead 102 = .ok (.istore 5, 2) := dk_54 5 (dk_at dksX1_instead_4 9 rfl rfl)
theorem dX1_instead_104 : decode cX1_instead 104 = .ok (.iinc 6 1, 3) := dk_132 6 1 (dk_at dksX1_instead_4 11 rfl rfl)
theorem dX1_instead_107 : decode cX1_instead 107 = .ok (.goto (-73), 3) := dk_167 255 183 (dk_at dksX1_instead_4 14 rfl rfl)
theorem dX1_instead_110 : decode cX1_instead 110 = .ok (.iload 4, 2) := dk_21 4 (dk_at dksX1_instead_4 17 rfl rfl)
theorem dX1_instead_112 : decode cX1_instead 112 = .ok (.ireturn, 1) := dk_172 (dk_at dksX1_instead_4 19 rfl rfl)
abbrev cX1_lay : ByteArray := prog_1_method_65_code
def yX1_lay : MethodName := ⟨RX1, "lay", "(III)I"⟩
def dkwX1_lay_8 : List UInt8 := [181, 1, 247, 42, 180, 1, 225, 172]
abbrev dktX1_lay_8 : List UInt8 := dkwX1_lay_8 ++ []
def dkwX1_lay_7 : List UInt8 := [17, 1, 144, 164, 0, 8, 16, 254, 167, 0, 4, 3, 172, 42, 21, 4, 181, 1, 241, 42, 42, 180, 0, 119]
abbrev dktX1_lay_7 : List UInt8 := dkwX1_lay_7 ++ dktX1_lay_8
def dkwX1_lay_6 : List UInt8 := [182, 1, 151, 42, 182, 1, 154, 42, 182, 1, 244, 42, 3, 27, 182, 1, 235, 154, 0, 20, 42, 180, 1, 225]
abbrev dktX1_lay_6 : List UInt8 := dkwX1_lay_6 ++ dktX1_lay_7
def dkwX1_lay_5 : List UInt8 := [181, 1, 219, 42, 3, 181, 1, 225, 42, 29, 181, 1, 216, 42, 28, 181, 1, 222, 42, 42, 180, 0, 116]
abbrev dktX1_lay_5 : List UInt8 := dkwX1_lay_5 ++ dktX1_lay_6
def dkwX1_lay_4 : List UInt8 := [180, 0, 102, 21, 5, 42, 180, 0, 9, 21, 5, 51, 79, 132, 5, 1, 167, 255, 212, 42, 21, 4]
abbrev dktX1_lay_4 : List UInt8 := dkwX1_lay_4 ++ dktX1_lay_5
def dkwX1_lay_3 : List UInt8 := [162, 0, 43, 42, 27, 29, 6, 42, 180, 0, 9, 21, 5, 51, 6, 182, 0, 201, 154, 0, 5, 2, 172, 42]
abbrev dktX1_lay_3 : List UInt8 := dkwX1_lay_3 ++ dktX1_lay_4
def dkwX1_lay_2 : List UInt8 := [180, 0, 37, 182, 0, 126, 21, 4, 96, 16, 60, 164, 0, 5, 2, 172, 3, 54, 5, 21, 5, 21, 4]
abbrev dktX1_lay_2 : List UInt8 := dkwX1_lay_2 ++ dktX1_lay_3
def dkwX1_lay_1 : List UInt8 := [180, 0, 116, 16, 29, 184, 0, 112, 153, 0, 28, 28, 27, 16, 29, 184, 0, 112, 153, 0, 18, 42]
abbrev dktX1_lay_1 : List UInt8 := dkwX1_lay_1 ++ dktX1_lay_2
def dkwX1_lay_0 : List UInt8 := [42, 182, 0, 122, 54, 4, 42, 3, 181, 1, 241, 21, 4, 4, 16, 6, 184, 0, 112, 153, 0, 41, 27, 42]
abbrev dktX1_lay_0 : List UInt8 := dkwX1_lay_0 ++ dktX1_lay_1
theorem dksX1_lay_0 : cX1_lay.data.toList.drop 0 = dktX1_lay_0 := by decide +kernel
theorem dksX1_lay_1 : cX1_lay.data.toList.drop 24 = dktX1_lay_1 := dk_seg dksX1_lay_0 24 rfl rfl
theorem dksX1_lay_2 : cX1_lay.data.toList.drop 46 = dktX1_lay_2 := dk_seg dksX1_lay_1 22 rfl rfl
theorem dksX1_lay_3 : cX1_lay.data.toList.drop 69 = dktX1_lay_3 := dk_seg dksX1_lay_2 23 rfl rfl
theorem dksX1_lay_4 : cX1_lay.data.toList.drop 93 = dktX1_lay_4 := dk_seg dksX1_lay_3 24 rfl rfl
theorem dksX1_lay_5 : cX1_lay.data.toList.drop 115 = dktX1_lay_5 := dk_seg dksX1_lay_4 22 rfl rfl
theorem dksX1_lay_6 : cX1_lay.data.toList.drop 138 = dktX1_lay_6 := dk_seg dksX1_lay_5 23 rfl rfl
theorem dksX1_lay_7 : cX1_lay.data.toList.drop 162 = dktX1_lay_7 := dk_seg dksX1_lay_6 24 rfl rfl
theorem dksX1_lay_8 : cX1_lay.data.toList.drop 186 = dktX1_lay_8 := dk_seg dksX1_lay_7 24 rfl rfl
theorem dX1_lay_0 : decode cX1_lay 0 = .ok (.aload_n 0, 1) := dk_42 (dk_at dksX1_lay_0 0 rfl rfl)
theorem dX1_lay_1 : decode cX1_lay 1 = .ok (.invokevirtual 122, 3) := dk_182 0 122 (dk_at dksX1_lay_0 1 rfl rfl)
theorem dX1_lay_4 : decode cX1_lay 4 = .ok (.istore 4, 2) := dk_54 4 (dk_at dksX1_lay_0 4 rfl rfl)
theorem dX1_lay_6 : decode cX1_lay 6 = .ok (.aload_n 0, 1) := dk_42 (dk_at dksX1_lay_0 6 rfl rfl)
theorem dX1_lay_7 : decode cX1_lay 7 = .ok (.iconst 0, 1) := dk_3 (dk_at dksX1_lay_0 7 rfl rfl)
theorem dX1_lay_8 : decode cX1_lay 8 = .ok (.putfield 497, 3) := dk_181 1 241 (dk_at dksX1_lay_0 8 rfl rfl)
theorem dX1_lay_11 : decode cX1_lay 11 = .ok (.iload 4, 2) := dk_21 4 (dk_at dksX1_lay_0 11 rfl rfl)
theorem dX1_lay_13 : decode cX1_lay 13 = .ok (.iconst 1, 1) := dk_4 (dk_at dksX1_lay_0 13 rfl rfl)
theorem dX1_lay_14 : decode cX1_lay 14 = .ok (.bipush 6, 2) := dk_16 6 (dk_at dksX1_lay_0 14 rfl rfl)
theorem dX1_lay_16 : decode cX1_lay 16 = .ok (.invokestatic 112, 3) := dk_184 0 112 (dk_at dksX1_lay_0 16 rfl rfl)
theorem dX1_lay_19 : decode cX1_lay 19 = .ok (.ifCond .eq 41, 3) := dk_153 0 41 (dk_at dksX1_lay_0 19 rfl rfl)
theorem dX1_lay_22 : decode cX1_lay 22 = .ok (.iload_n 1, 1) := dk_27 (dk_at dksX1_lay_0 22 rfl rfl)
theorem dX1_lay_23 : decode cX1_lay 23 = .ok (.aload_n 0, 1) := dk_42 (dk_at dksX1_lay_0 23 rfl rfl)
theorem dX1_lay_24 : decode cX1_lay 24 = .ok (.getfield 116, 3) := dk_180 0 116 (dk_at dksX1_lay_1 0 rfl rfl)
theorem dX1_lay_27 : decode cX1_lay 27 = .ok (.bipush 29, 2) := dk_16 29 (dk_at dksX1_lay_1 3 rfl rfl)
theorem dX1_lay_29 : decode cX1_lay 29 = .ok (.invokestatic 112, 3) := dk_184 0 112 (dk_at dksX1_lay_1 5 rfl rfl)
theorem dX1_lay_32 : decode cX1_lay 32 = .ok (.ifCond .eq 28, 3) := dk_153 0 28 (dk_at dksX1_lay_1 8 rfl rfl)
theorem dX1_lay_35 : decode cX1_lay 35 = .ok (.iload_n 2, 1) := dk_28 (dk_at dksX1_lay_1 11 rfl rfl)
theorem dX1_lay_36 : decode cX1_lay 36 = .ok (.iload_n 1, 1) := dk_27 (dk_at dksX1_lay_1 12 rfl rfl)
theorem dX1_lay_37 : decode cX1_lay 37 = .ok (.bipush 29, 2) := dk_16 29 (dk_at dksX1_lay_1 13 rfl rfl)
theorem dX1_lay_39 : decode cX1_lay 39 = .ok (.invokestatic 112, 3) := dk_184 0 112 (dk_at dksX1_lay_1 15 rfl rfl)
theorem dX1_lay_42 : decode cX1_lay 42 = .ok (.ifCond .eq 18, 3) := dk_153 0 18 (dk_at dksX1_lay_1 18 rfl rfl)
theorem dX1_lay_45 : decode cX1_lay 45 = .ok (.aload_n 0, 1) := dk_42 (dk_at dksX1_lay_1 21 rfl rfl)
theorem dX1_lay_46 : decode cX1_lay 46 = .ok (.getfield 37, 3) := dk_180 0 37 (dk_at dksX1_lay_2 0 rfl rfl)
theorem dX1_lay_49 : decode cX1_lay 49 = .ok (.invokevirtual 126, 3) := dk_182 0 126 (dk_at dksX1_lay_2 3 rfl rfl)
theorem dX1_lay_52 : decode cX1_lay 52 = .ok (.iload 4, 2) := dk_21 4 (dk_at dksX1_lay_2 6 rfl rfl)
theorem dX1_lay_54 : decode cX1_lay 54 = .ok (.iadd, 1) := dk_96 (dk_at dksX1_lay_2 8 rfl rfl)
theorem dX1_lay_55 : decode cX1_lay 55 = .ok (.bipush 60, 2) := dk_16 60 (dk_at dksX1_lay_2 9 rfl rfl)
theorem dX1_lay_57 : decode cX1_lay 57 = .ok (.if_icmp .le 5, 3) := dk_164 0 5 (dk_at dksX1_lay_2 11 rfl rfl)
theorem dX1_lay_60 : decode cX1_lay 60 = .ok (.iconst (-1), 1) := dk_2 (dk_at dksX1_lay_2 14 rfl rfl)
theorem dX1_lay_61 : decode cX1_lay 61 = .ok (.ireturn, 1) := dk_172 (dk_at dksX1_lay_2 15 rfl rfl)
theorem dX1_lay_62 : decode cX1_lay 62 = .ok (.iconst 0, 1) := dk_3 (dk_at dksX1_lay_2 16 rfl rfl)
theorem dX1_lay_63 : decode cX1_lay 63 = .ok (.istore 5, 2) := dk_54 5 (dk_at dksX1_lay_2 17 rfl rfl)
theorem dX1_lay_65 : decode cX1_lay 65 = .ok (.iload 5, 2) := dk_21 5 (dk_at dksX1_lay_2 19 rfl rfl)
theorem dX1_lay_67 : decode cX1_lay 67 = .ok (.iload 4, 2) := dk_21 4 (dk_at dksX1_lay_2 21 rfl rfl)
theorem dX1_lay_69 : decode cX1_lay 69 = .ok (.if_icmp .ge 43, 3) := dk_162 0 43 (dk_at dksX1_lay_3 0 rfl rfl)
theorem dX1_lay_72 : decode cX1_lay 72 = .ok (.aload_n 0, 1) := dk_42 (dk_at dksX1_lay_3 3 rfl rfl)
theorem dX1_lay_73 : decode cX1_lay 73 = .ok (.iload_n 1, 1) := dk_27 (dk_at dksX1_lay_3 4 rfl rfl)
theorem dX1_lay_74 : decode cX1_lay 74 = .ok (.iload_n 3, 1) := dk_29 (dk_at dksX1_lay_3 5 rfl rfl)
theorem dX1_lay_75 : decode cX1_lay 75 = .ok (.iconst 3, 1) := dk_6 (dk_at dksX1_lay_3 6 rfl rfl)
theorem dX1_lay_76 : decode cX1_lay 76 = .ok (.aload_n 0, 1) := dk_42 (dk_at dksX1_lay_3 7 rfl rfl)
theorem dX1_lay_77 : decode cX1_lay 77 = .ok (.getfield 9, 3) := dk_180 0 9 (dk_at dksX1_lay_3 8 rfl rfl)
theorem dX1_lay_80 : decode cX1_lay 80 = .ok (.iload 5, 2) := dk_21 5 (dk_at dksX1_lay_3 11 rfl rfl)
theorem dX1_lay_82 : decode cX1_lay 82 = .ok (.baload, 1) := dk_51 (dk_at dksX1_lay_3 13 rfl rfl)
theorem dX1_lay_83 : decode cX1_lay 83 = .ok (.iconst 3, 1) := dk_6 (dk_at dksX1_lay_3 14 rfl rfl)
theorem dX1_lay_84 : decode cX1_lay 84 = .ok (.invokevirtual 201, 3) := dk_182 0 201 (dk_at dksX1_lay_3 15 rfl rfl)
theorem dX1_lay_87 : decode cX1_lay 87 = .ok (.ifCond .ne 5, 3) := dk_154 0 5 (dk_at dksX1_lay_3 18 rfl rfl)
theorem dX1_lay_90 : decode cX1_lay 90 = .ok (.iconst (-1), 1) := dk_2 (dk_at dksX1_lay_3 21 rfl rfl)
theorem dX1_lay_91 : decode cX1_lay 91 = .ok (.ireturn, 1) := dk_172 (dk_at dksX1_lay_3 22 rfl rfl)
theorem dX1_lay_92 : decode cX1_lay 92 = .ok (.aload_n 0, 1) := dk_42 (dk_at dksX1_lay_3 23 rfl rfl)
theorem dX1_lay_93 : decode cX1_lay 93 = .ok (.getfield 102, 3) := dk_180 0 102 (dk_at dksX1_lay_4 0 rfl rfl)
theorem dX1_lay_96 : decode cX1_lay 96 = .ok (.iload 5, 2) := dk_21 5 (dk_at dksX1_lay_4 3 rfl rfl)
theorem dX1_lay_98 : decode cX1_lay 98 = .ok (.aload_n 0, 1) := dk_42 (dk_at dksX1_lay_4 5 rfl rfl)
theorem dX1_lay_99 : decode cX1_lay 99 = .ok (.getfield 9, 3) := dk_180 0 9 (dk_at dksX1_lay_4 6 rfl rfl)
theorem dX1_lay_102 : decode cX1_lay 102 = .ok (.iload 5, 2) := dk_21 5 (dk_at dksX1_lay_4 9 rfl rfl)
theorem dX1_lay_104 : decode cX1_lay 104 = .ok (.baload, 1) := dk_51 (dk_at dksX1_lay_4 11 rfl rfl)
theorem dX1_lay_105 : decode cX1_lay 105 = .ok (.iastore, 1) := dk_79 (dk_at dksX1_lay_4 12 rfl rfl)
theorem dX1_lay_106 : decode cX1_lay 106 = .ok (.iinc 5 1, 3) := dk_132 5 1 (dk_at dksX1_lay_4 13 rfl rfl)
theorem dX1_lay_109 : decode cX1_lay 109 = .ok (.goto (-44), 3) := dk_167 255 212 (dk_at dksX1_lay_4 16 rfl rfl)
theorem dX1_lay_112 : decode cX1_lay 112 = .ok (.aload_n 0, 1) := dk_42 (dk_at dksX1_lay_4 19 rfl rfl)
theorem dX1_lay_113 : decode cX1_lay 113 = .ok (.iload 4, 2) := dk_21 4 (dk_at dksX1_lay_4 20 rfl rfl)
theorem dX1_lay_115 : decode cX1_lay 115 = .ok (.putfield 475, 3) := dk_181 1 219 (dk_at dksX1_lay_5 0 rfl rfl)
theorem dX1_lay_118 : decode cX1_lay 118 = .ok (.aload_n 0, 1) := dk_42 (dk_at dksX1_lay_5 3 rfl rfl)
theorem dX1_lay_119 : decode cX1_lay 119 = .ok (.iconst 0, 1) := dk_3 (dk_at dksX1_lay_5 4 rfl rfl)
theorem dX1_lay_120 : decode cX1_lay 120 = .ok (.putfield 481, 3) := dk_181 1 225 (dk_at dksX1_lay_5 5 rfl rfl)
theorem dX1_lay_123 : decode cX1_lay 123 = .ok (.aload_n 0, 1) := dk_42 (dk_at dksX1_lay_5 8 rfl rfl)
theorem dX1_lay_124 : decode cX1_lay 124 = .ok (.iload_n 3, 1) := dk_29 (dk_at dksX1_lay_5 9 rfl rfl)
theorem dX1_lay_125 : decode cX1_lay 125 = .ok (.putfield 472, 3) := dk_181 1 216 (dk_at dksX1_lay_5 10 rfl rfl)
theorem dX1_lay_128 : decode cX1_lay 128 = .ok (.aload_n 0, 1) := dk_42 (dk_at dksX1_lay_5 13 rfl rfl)
theorem dX1_lay_129 : decode cX1_lay 129 = .ok (.iload_n 2, 1) := dk_28 (dk_at dksX1_lay_5 14 rfl rfl)
theorem dX1_lay_130 : decode cX1_lay 130 = .ok (.putfield 478, 3) := dk_181 1 222 (dk_at dksX1_lay_5 15 rfl rfl)
theorem dX1_lay_133 : decode cX1_lay 133 = .ok (.aload_n 0, 1) := dk_42 (dk_at dksX1_lay_5 18 rfl rfl)
theorem dX1_lay_134 : decode cX1_lay 134 = .ok (.aload_n 0, 1) := dk_42 (dk_at dksX1_lay_5 19 rfl rfl)
theorem dX1_lay_135 : decode cX1_lay 135 = .ok (.getfield 116, 3) := dk_180 0 116 (dk_at dksX1_lay_5 20 rfl rfl)
theorem dX1_lay_138 : decode cX1_lay 138 = .ok (.invokevirtual 407, 3) := dk_182 1 151 (dk_at dksX1_lay_6 0 rfl rfl)
theorem dX1_lay_141 : decode cX1_lay 141 = .ok (.aload_n 0, 1) := dk_42 (dk_at dksX1_lay_6 3 rfl rfl)
theorem dX1_lay_142 : decode cX1_lay 142 = .ok (.invokevirtual 410, 3) := dk_182 1 154 (dk_at dksX1_lay_6 4 rfl rfl)
theorem dX1_lay_145 : decode cX1_lay 145 = .ok (.aload_n 0, 1) := dk_42 (dk_at dksX1_lay_6 7 rfl rfl)
theorem dX1_lay_146 : decode cX1_lay 146 = .ok (.invokevirtual 500, 3) := dk_182 1 244 (dk_at dksX1_lay_6 8 rfl rfl)
theorem dX1_lay_149 : decode cX1_lay 149 = .ok (.aload_n 0, 1) := dk_42 (dk_at dksX1_lay_6 11 rfl rfl)
theorem dX1_lay_150 : decode cX1_lay 150 = .ok (.iconst 0, 1) := dk_3 (dk_at dksX1_lay_6 12 rfl rfl)
theorem dX1_lay_151 : decode cX1_lay 151 = .ok (.iload_n 1, 1) := dk_27 (dk_at dksX1_lay_6 13 rfl rfl)
theorem dX1_lay_152 : decode cX1_lay 152 = .ok (.invokevirtual 491, 3) := dk_182 1 235 (dk_at dksX1_lay_6 14 rfl rfl)
theorem dX1_lay_155 : decode cX1_lay 155 = .ok (.ifCond .ne 20, 3) := dk_154 0 20 (dk_at dksX1_lay_6 17 rfl rfl)
theorem dX1_lay_158 : decode cX1_lay 158 = .ok (.aload_n 0, 1) := dk_42 (dk_at dksX1_lay_6 20 rfl rfl)
theorem dX1_lay_159 : decode cX1_lay 159 = .ok (.getfield 481, 3) := dk_180 1 225 (dk_at dksX1_lay_6 21 rfl rfl)
theorem dX1_lay_162 : decode cX1_lay 162 = .ok (.sipush 400, 3) := dk_17 1 144 (dk_at dksX1_lay_7 0 rfl rfl)
theorem dX1_lay_165 : decode cX1_lay 165 = .ok (.if_icmp .le 8, 3) := dk_164 0 8 (dk_at dksX1_lay_7 3 rfl rfl)
theorem dX1_lay_168 : decode cX1_lay 168 = .ok (.bipush (-2), 2) := dk_16 254 (dk_at dksX1_lay_7 6 rfl rfl)
theorem dX1_lay_170 : decode cX1_lay 170 = .ok (.goto 4, 3) := dk_167 0 4 (dk_at dksX1_lay_7 8 rfl rfl)
theorem dX1_lay_173 : decode cX1_lay 173 = .ok (.iconst 0, 1) := dk_3 (dk_at dksX1_lay_7 11 rfl rfl)
theorem dX1_lay_174 : decode cX1_lay 174 = .ok (.ireturn, 1) := dk_172 (dk_at dksX1_lay_7 12 rfl rfl)
theorem dX1_lay_175 : decode cX1_lay 175 = .ok (.aload_n 0, 1) := dk_42 (dk_at dksX1_lay_7 13 rfl rfl)
theorem dX1_lay_176 : decode cX1_lay 176 = .ok (.iload 4, 2) := dk_21 4 (dk_at dksX1_lay_7 14 rfl rfl)
theorem dX1_lay_178 : decode cX1_lay 178 = .ok (.putfield 497, 3) := dk_181 1 241 (dk_at dksX1_lay_7 16 rfl rfl)
theorem dX1_lay_181 : decode cX1_lay 181 = .ok (.aload_n 0, 1) := dk_42 (dk_at dksX1_lay_7 19 rfl rfl)
theorem dX1_lay_182 : decode cX1_lay 182 = .ok (.aload_n 0, 1) := dk_42 (dk_at dksX1_lay_7 20 rfl rfl)
theorem dX1_lay_183 : decode cX1_lay 183 = .ok (.getfield 119, 3) := dk_180 0 119 (dk_at dksX1_lay_7 21 rfl rfl)
theorem dX1_lay_186 : decode cX1_lay 186 = .ok (.putfield 503, 3) := dk_181 1 247 (dk_at dksX1_lay_8 0 rfl rfl)
theorem dX1_lay_189 : decode cX1_lay 189 = .ok (.aload_n 0, 1) := dk_42 (dk_at dksX1_lay_8 3 rfl rfl)
theorem dX1_lay_190 : decode cX1_lay 190 = .ok (.getfield 481, 3) := dk_180 1 225 (dk_at dksX1_lay_8 4 rfl rfl)
theorem dX1_lay_193 : decode cX1_lay 193 = .ok (.ireturn, 1) := dk_172 (dk_at dksX1_lay_8 7 rfl rfl)
abbrev cX1_keepAllWrongs : ByteArray := prog_1_method_60_code
def yX1_keepAllWrongs : MethodName := ⟨RX1, "keepAllWrongs", "()V"⟩
def dkwX1_keepAllWrongs_2 : List UInt8 := [167, 255, 212, 177]
abbrev dktX1_keepAllWrongs_2 : List UInt8 := dkwX1_keepAllWrongs_2 ++ []
def dkwX1_keepAllWrongs_1 : List UInt8 := [180, 0, 96, 27, 50, 28, 42, 180, 0, 73, 27, 50, 28, 46, 79, 132, 2, 1, 167, 255, 231, 132, 1, 1]
abbrev dktX1_keepAllWrongs_1 : List UInt8 := dkwX1_keepAllWrongs_1 ++ dktX1_keepAllWrongs_2
def dkwX1_keepAllWrongs_0 : List UInt8 := [3, 60, 27, 42, 180, 0, 37, 182, 0, 126, 162, 0, 39, 3, 61, 28, 16, 8, 163, 0, 25, 42]
abbrev dktX1_keepAllWrongs_0 : List UInt8 := dkwX1_keepAllWrongs_0 ++ dktX1_keepAllWrongs_1
theorem dksX1_keepAllWrongs_0 : cX1_keepAllWrongs.data.toList.drop 0 = dktX1_keepAllWrongs_0 := by decide +kernel
theorem dksX1_keepAllWrongs_1 : cX1_keepAllWrongs.data.toList.drop 22 = dktX1_keepAllWrongs_1 := dk_seg dksX1_keepAllWrongs_0 22 rfl rfl
theorem dksX1_keepAllWrongs_2 : cX1_keepAllWrongs.data.toList.drop 46 = dktX1_keepAllWrongs_2 := dk_seg dksX1_keepAllWrongs_1 24 rfl rfl
theorem dX1_keepAllWrongs_0 : decode cX1_keepAllWrongs 0 = .ok (.iconst 0, 1) := dk_3 (dk_at dksX1_keepAllWrongs_0 0 rfl rfl)
theorem dX1_keepAllWrongs_1 : decode cX1_keepAllWrongs 1 = .ok (.istore_n 1, 1) := dk_60 (dk_at dksX1_keepAllWrongs_0 1 rfl rfl)
theorem dX1_keepAllWrongs_2 : decode cX1_keepAllWrongs 2 = .ok (.iload_n 1, 1) := dk_27 (dk_at dksX1_keepAllWrongs_0 2 rfl rfl)
theorem dX1_keepAllWrongs_3 : decode cX1_keepAllWrongs 3 = .ok (.aload_n 0, 1) := dk_42 (dk_at dksX1_keepAllWrongs_0 3 rfl rfl)
theorem dX1_keepAllWrongs_4 : decode cX1_keepAllWrongs 4 = .ok (.getfield 37, 3) := dk_180 0 37 (dk_at dksX1_keepAllWrongs_0 4 rfl rfl)
theorem dX1_keepAllWrongs_7 : decode cX1_keepAllWrongs 7 = .ok (.invokevirtual 126, 3) := dk_182 0 126 (dk_at dksX1_keepAllWrongs_0 7 rfl rfl)
theorem dX1_keepAllWrongs_10 : decode cX1_keepAllWrongs 10 = .ok (.if_icmp .ge 39, 3) := dk_162 0 39 (dk_at dksX1_keepAllWrongs_0 10 rfl rfl)
theorem dX1_keepAllWrongs_13 : decode cX1_keepAllWrongs 13 = .ok (.iconst 0, 1) := dk_3 (dk_at dksX1_keepAllWrongs_0 13 rfl rfl)
theorem dX1_keepAllWrongs_14 : decode cX1_keepAllWrongs 14 = .ok (.istore_n 2, 1) := dk_61 (dk_at dksX1_keepAllWrongs_0 14 rfl rfl)
theorem dX1_keepAllWrongs_15 : decode cX1_keepAllWrongs 15 = .ok (.iload_n 2, 1) := dk_28 (dk_at dksX1_keepAllWrongs_0 15 rfl rfl)
theorem dX1_keepAllWrongs_16 : decode cX1_keepAllWrongs 16 = .ok (.bipush 8, 2) := dk_16 8 (dk_at dksX1_keepAllWrongs_0 16 rfl rfl)
theorem dX1_keepAllWrongs_18 : decode cX1_keepAllWrongs 18 = .ok (.if_icmp .gt 25, 3) := dk_163 0 25 (dk_at dksX1_keepAllWrongs_0 18 rfl rfl)
theorem dX1_keepAllWrongs_21 : decode cX1_keepAllWrongs 21 = .ok (.aload_n 0, 1) := dk_42 (dk_at dksX1_keepAllWrongs_0 21 rfl rfl)
theorem dX1_keepAllWrongs_22 : decode cX1_keepAllWrongs 22 = .ok (.getfield 96, 3) := dk_180 0 96 (dk_at dksX1_keepAllWrongs_1 0 rfl rfl)
theorem dX1_keepAllWrongs_25 : decode cX1_keepAllWrongs 25 = .ok (.iload_n 1, 1) := dk_27 (dk_at dksX1_keepAllWrongs_1 3 rfl rfl)
theorem dX1_keepAllWrongs_26 : decode cX1_keepAllWrongs 26 = .ok (.aaload, 1) := dk_50 (dk_at dksX1_keepAllWrongs_1 4 rfl rfl)
theorem dX1_keepAllWrongs_27 : decode cX1_keepAllWrongs 27 = .ok (.iload_n 2, 1) := dk_28 (dk_at dksX1_keepAllWrongs_1 5 rfl rfl)
theorem dX1_keepAllWrongs_28 : decode cX1_keepAllWrongs 28 = .ok (.aload_n 0, 1) := dk_42 (dk_at dksX1_keepAllWrongs_1 6 rfl rfl)
theorem dX1_keepAllWrongs_29 : decode cX1_keepAllWrongs 29 = .ok (.getfield 73, 3) := dk_180 0 73 (dk_at dksX1_keepAllWrongs_1 7 rfl rfl)
theorem dX1_keepAllWrongs_32 : decode cX1_keepAllWrongs 32 = .ok (.iload_n 1, 1) := dk_27 (dk_at dksX1_keepAllWrongs_1 10 rfl rfl)
theorem dX1_keepAllWrongs_33 : decode cX1_keepAllWrongs 33 = .ok (.aaload, 1) := dk_50 (dk_at dksX1_keepAllWrongs_1 11 rfl rfl)
theorem dX1_keepAllWrongs_34 : decode cX1_keepAllWrongs 34 = .ok (.iload_n 2, 1) := dk_28 (dk_at dksX1_keepAllWrongs_1 12 rfl rfl)
theorem dX1_keepAllWrongs_35 : decode cX1_keepAllWrongs 35 = .ok (.iaload, 1) := dk_46 (dk_at dksX1_keepAllWrongs_1 13 rfl rfl)
theorem dX1_keepAllWrongs_36 : decode cX1_keepAllWrongs 36 = .ok (.iastore, 1) := dk_79 (dk_at dksX1_keepAllWrongs_1 14 rfl rfl)
theorem dX1_keepAllWrongs_37 : decode cX1_keepAllWrongs 37 = .ok (.iinc 2 1, 3) := dk_132 2 1 (dk_at dksX1_keepAllWrongs_1 15 rfl rfl)
theorem dX1_keepAllWrongs_40 : decode cX1_keepAllWrongs 40 = .ok (.goto (-25), 3) := dk_167 255 231 (dk_at dksX1_keepAllWrongs_1 18 rfl rfl)
theorem dX1_keepAllWrongs_43 : decode cX1_keepAllWrongs 43 = .ok (.iinc 1 1, 3) := dk_132 1 1 (dk_at dksX1_keepAllWrongs_1 21 rfl rfl)
theorem dX1_keepAllWrongs_46 : decode cX1_keepAllWrongs 46 = .ok (.goto (-44), 3) := dk_167 255 212 (dk_at dksX1_keepAllWrongs_2 0 rfl rfl)
theorem dX1_keepAllWrongs_49 : decode cX1_keepAllWrongs 49 = .ok (.return_, 1) := dk_177 (dk_at dksX1_keepAllWrongs_2 3 rfl rfl)
abbrev cX1_tryFrom : ByteArray := prog_1_method_64_code
def yX1_tryFrom : MethodName := ⟨RX1, "tryFrom", "(II)Z"⟩
def dkwX1_tryFrom_4 : List UInt8 := [132, 3, 1, 167, 255, 172, 3, 172]
abbrev dktX1_tryFrom_4 : List UInt8 := dkwX1_tryFrom_4 ++ []
def dkwX1_tryFrom_3 : List UInt8 := [96, 29, 4, 96, 182, 1, 235, 153, 0, 5, 4, 172, 42, 42, 180, 0, 99, 27, 50, 182, 1, 238]
abbrev dktX1_tryFrom_3 : List UInt8 := dkwX1_tryFrom_3 ++ dktX1_tryFrom_4
def dkwX1_tryFrom_2 : List UInt8 := [164, 0, 5, 3, 172, 42, 27, 29, 182, 1, 228, 42, 27, 4, 96, 182, 1, 232, 153, 0, 18, 42, 27, 4]
abbrev dktX1_tryFrom_2 : List UInt8 := dkwX1_tryFrom_2 ++ dktX1_tryFrom_3
def dkwX1_tryFrom_1 : List UInt8 := [17, 1, 144, 163, 0, 72, 42, 89, 180, 1, 225, 4, 96, 181, 1, 225, 42, 180, 1, 225, 17, 1, 144]
abbrev dktX1_tryFrom_1 : List UInt8 := dkwX1_tryFrom_1 ++ dktX1_tryFrom_2
def dkwX1_tryFrom_0 : List UInt8 := [27, 42, 180, 1, 219, 160, 0, 5, 4, 172, 28, 62, 29, 42, 180, 1, 222, 163, 0, 82, 42, 180, 1, 225]
abbrev dktX1_tryFrom_0 : List UInt8 := dkwX1_tryFrom_0 ++ dktX1_tryFrom_1
theorem dksX1_tryFrom_0 : cX1_tryFrom.data.toList.drop 0 = dktX1_tryFrom_0 := by decide +kernel
theorem dksX1_tryFrom_1 : cX1_tryFrom.data.toList.drop 24 = dktX1_tryFrom_1 := dk_seg dksX1_tryFrom_0 24 rfl rfl
theorem dksX1_tryFrom_2 : cX1_tryFrom.data.toList.drop 47 = dktX1_tryFrom_2 := dk_seg dksX1_tryFrom_1 23 rfl rfl
theorem dksX1_tryFrom_3 : cX1_tryFrom.data.toList.drop 71 = dktX1_tryFrom_3 := dk_seg dksX1_tryFrom_2 24 rfl rfl
theorem dksX1_tryFrom_4 : cX1_tryFrom.data.toList.drop 93 = dktX1_tryFrom_4 := dk_seg dksX1_tryFrom_3 22 rfl rfl
theorem dX1_tryFrom_0 : decode cX1_tryFrom 0 = .ok (.iload_n 1, 1) := dk_27 (dk_at dksX1_tryFrom_0 0 rfl rfl)
theorem dX1_tryFrom_1 : decode cX1_tryFrom 1 = .ok (.aload_n 0, 1) := dk_42 (dk_at dksX1_tryFrom_0 1 rfl rfl)
theorem dX1_tryFrom_2 : decode cX1_tryFrom 2 = .ok (.getfield 475, 3) := dk_180 1 219 (dk_at dksX1_tryFrom_0 2 rfl rfl)
theorem dX1_tryFrom_5 : decode cX1_tryFrom 5 = .ok (.if_icmp .ne 5, 3) := dk_160 0 5 (dk_at dksX1_tryFrom_0 5 rfl rfl)
theorem dX1_tryFrom_8 : decode cX1_tryFrom 8 = .ok (.iconst 1, 1) := dk_4 (dk_at dksX1_tryFrom_0 8 rfl rfl)
theorem dX1_tryFrom_9 : decode cX1_tryFrom 9 = .ok (.ireturn, 1) := dk_172 (dk_at dksX1_tryFrom_0 9 rfl rfl)
theorem dX1_tryFrom_10 : decode cX1_tryFrom 10 = .ok (.iload_n 2, 1) := dk_28 (dk_at dksX1_tryFrom_0 10 rfl rfl)
theorem dX1_tryFrom_11 : decode cX1_tryFrom 11 = .ok (.istore_n 3, 1) := dk_62 (dk_at dksX1_tryFrom_0 11 rfl rfl)
theorem dX1_tryFrom_12 : decode cX1_tryFrom 12 = .ok (.iload_n 3, 1) := dk_29 (dk_at dksX1_tryFrom_0 12 rfl rfl)
theorem dX1_tryFrom_13 : decode cX1_tryFrom 13 = .ok (.aload_n 0, 1) := dk_42 (dk_at dksX1_tryFrom_0 13 rfl rfl)
theorem dX1_tryFrom_14 : decode cX1_tryFrom 14 = .ok (.getfield 478, 3) := dk_180 1 222 (dk_at dksX1_tryFrom_0 14 rfl rfl)
theorem dX1_tryFrom_17 : decode cX1_tryFrom 17 = .ok (.if_icmp .gt 82, 3) := dk_163 0 82 (dk_at dksX1_tryFrom_0 17 rfl rfl)
theorem dX1_tryFrom_20 : decode cX1_tryFrom 20 = .ok (.aload_n 0, 1) := dk_42 (dk_at dksX1_tryFrom_0 20 rfl rfl)
theorem dX1_tryFrom_21 : decode cX1_tryFrom 21 = .ok (.getfield 481, 3) := dk_180 1 225 (dk_at dksX1_tryFrom_0 21 rfl rfl)
theorem dX1_tryFrom_24 : decode cX1_tryFrom 24 = .ok (.sipush 400, 3) := dk_17 1 144 (dk_at dksX1_tryFrom_1 0 rfl rfl)
theorem dX1_tryFrom_27 : decode cX1_tryFrom 27 = .ok (.if_icmp .gt 72, 3) := dk_163 0 72 (dk_at dksX1_tryFrom_1 3 rfl rfl)
theorem dX1_tryFrom_30 : decode cX1_tryFrom 30 = .ok (.aload_n 0, 1) := dk_42 (dk_at dksX1_tryFrom_1 6 rfl rfl)
theorem dX1_tryFrom_31 : decode cX1_tryFrom 31 = .ok (.dup, 1) := dk_89 (dk_at dksX1_tryFrom_1 7 rfl rfl)
theorem dX1_tryFrom_32 : decode cX1_tryFrom 32 = .ok (.getfield 481, 3) := dk_180 1 225 (dk_at dksX1_tryFrom_1 8 rfl rfl)
theorem dX1_tryFrom_35 : decode cX1_tryFrom 35 = .ok (.iconst 1, 1) := dk_4 (dk_at dksX1_tryFrom_1 11 rfl rfl)
theorem dX1_tryFrom_36 : decode cX1_tryFrom 36 = .ok (.iadd, 1) := dk_96 (dk_at dksX1_tryFrom_1 12 rfl rfl)
theorem dX1_tryFrom_37 : decode cX1_tryFrom 37 = .ok (.putfield 481, 3) := dk_181 1 225 (dk_at dksX1_tryFrom_1 13 rfl rfl)
theorem dX1_tryFrom_40 : decode cX1_tryFrom 40 = .ok (.aload_n 0, 1) := dk_42 (dk_at dksX1_tryFrom_1 16 rfl rfl)
theorem dX1_tryFrom_41 : decode cX1_tryFrom 41 = .ok (.getfield 481, 3) := dk_180 1 225 (dk_at dksX1_tryFrom_1 17 rfl rfl)
theorem dX1_tryFrom_44 : decode cX1_tryFrom 44 = .ok (.sipush 400, 3) := dk_17 1 144 (dk_at dksX1_tryFrom_1 20 rfl rfl)
theorem dX1_tryFrom_47 : decode cX1_tryFrom 47 = .ok (.if_icmp .le 5, 3) := dk_164 0 5 (dk_at dksX1_tryFrom_2 0 rfl rfl)
theorem dX1_tryFrom_50 : decode cX1_tryFrom 50 = .ok (.iconst 0, 1) := dk_3 (dk_at dksX1_tryFrom_2 3 rfl rfl)
theorem dX1_tryFrom_51 : decode cX1_tryFrom 51 = .ok (.ireturn, 1) := dk_172 (dk_at dksX1_tryFrom_2 4 rfl rfl)
theorem dX1_tryFrom_52 : decode cX1_tryFrom 52 = .ok (.aload_n 0, 1) := dk_42 (dk_at dksX1_tryFrom_2 5 rfl rfl)
theorem dX1_tryFrom_53 : decode cX1_tryFrom 53 = .ok (.iload_n 1, 1) := dk_27 (dk_at dksX1_tryFrom_2 6 rfl rfl)
theorem dX1_tryFrom_54 : decode cX1_tryFrom 54 = .ok (.iload_n 3, 1) := dk_29 (dk_at dksX1_tryFrom_2 7 rfl rfl)
theorem dX1_tryFrom_55 : decode cX1_tryFrom 55 = .ok (.invokevirtual 484, 3) := dk_182 1 228 (dk_at dksX1_tryFrom_2 8 rfl rfl)
theorem dX1_tryFrom_58 : decode cX1_tryFrom 58 = .ok (.aload_n 0, 1) := dk_42 (dk_at dksX1_tryFrom_2 11 rfl rfl)
theorem dX1_tryFrom_59 : decode cX1_tryFrom 59 = .ok (.iload_n 1, 1) := dk_27 (dk_at dksX1_tryFrom_2 12 rfl rfl)
theorem dX1_tryFrom_60 : decode cX1_tryFrom 60 = .ok (.iconst 1, 1) := dk_4 (dk_at dksX1_tryFrom_2 13 rfl rfl)
theorem dX1_tryFrom_61 : decode cX1_tryFrom 61 = .ok (.iadd, 1) := dk_96 (dk_at dksX1_tryFrom_2 14 rfl rfl)
theorem dX1_tryFrom_62 : decode cX1_tryFrom 62 = .ok (.invokevirtual 488, 3) := dk_182 1 232 (dk_at dksX1_tryFrom_2 15 rfl rfl)
theorem dX1_tryFrom_65 : decode cX1_tryFrom 65 = .ok (.ifCond .eq 18, 3) := dk_153 0 18 (dk_at dksX1_tryFrom_2 18 rfl rfl)
theorem dX1_tryFrom_68 : decode cX1_tryFrom 68 = .ok (.aload_n 0, 1) := dk_42 (dk_at dksX1_tryFrom_2 21 rfl rfl)
theorem dX1_tryFrom_69 : decode cX1_tryFrom 69 = .ok (.iload_n 1, 1) := dk_27 (dk_at dksX1_tryFrom_2 22 rfl rfl)
theorem dX1_tryFrom_70 : decode cX1_tryFrom 70 = .ok (.iconst 1, 1) := dk_4 (dk_at dksX1_tryFrom_2 23 rfl rfl)
theorem dX1_tryFrom_71 : decode cX1_tryFrom 71 = .ok (.iadd, 1) := dk_96 (dk_at dksX1_tryFrom_3 0 rfl rfl)
theorem dX1_tryFrom_72 : decode cX1_tryFrom 72 = .ok (.iload_n 3, 1) := dk_29 (dk_at dksX1_tryFrom_3 1 rfl rfl)
theorem dX1_tryFrom_73 : decode cX1_tryFrom 73 = .ok (.iconst 1, 1) := dk_4 (dk_at dksX1_tryFrom_3 2 rfl rfl)
theorem dX1_tryFrom_74 : decode cX1_tryFrom 74 = .ok (.iadd, 1) := dk_96 (dk_at dksX1_tryFrom_3 3 rfl rfl)
theorem dX1_tryFrom_75 : decode cX1_tryFrom 75 = .ok (.invokevirtual 491, 3) := dk_182 1 235 (dk_at dksX1_tryFrom_3 4 rfl rfl)
theorem dX1_tryFrom_78 : decode cX1_tryFrom 78 = .ok (.ifCond .eq 5, 3) := dk_153 0 5 (dk_at dksX1_tryFrom_3 7 rfl rfl)
theorem dX1_tryFrom_81 : decode cX1_tryFrom 81 = .ok (.iconst 1, 1) := dk_4 (dk_at dksX1_tryFrom_3 10 rfl rfl)
theorem dX1_tryFrom_82 : decode cX1_tryFrom 82 = .ok (.ireturn, 1) := dk_172 (dk_at dksX1_tryFrom_3 11 rfl rfl)
theorem dX1_tryFrom_83 : decode cX1_tryFrom 83 = .ok (.aload_n 0, 1) := dk_42 (dk_at dksX1_tryFrom_3 12 rfl rfl)
theorem dX1_tryFrom_84 : decode cX1_tryFrom 84 = .ok (.aload_n 0, 1) := dk_42 (dk_at dksX1_tryFrom_3 13 rfl rfl)
theorem dX1_tryFrom_85 : decode cX1_tryFrom 85 = .ok (.getfield 99, 3) := dk_180 0 99 (dk_at dksX1_tryFrom_3 14 rfl rfl)
theorem dX1_tryFrom_88 : decode cX1_tryFrom 88 = .ok (.iload_n 1, 1) := dk_27 (dk_at dksX1_tryFrom_3 17 rfl rfl)
theorem dX1_tryFrom_89 : decode cX1_tryFrom 89 = .ok (.aaload, 1) := dk_50 (dk_at dksX1_tryFrom_3 18 rfl rfl)
theorem dX1_tryFrom_90 : decode cX1_tryFrom 90 = .ok (.invokevirtual 494, 3) := dk_182 1 238 (dk_at dksX1_tryFrom_3 19 rfl rfl)
theorem dX1_tryFrom_93 : decode cX1_tryFrom 93 = .ok (.iinc 3 1, 3) := dk_132 3 1 (dk_at dksX1_tryFrom_4 0 rfl rfl)
theorem dX1_tryFrom_96 : decode cX1_tryFrom 96 = .ok (.goto (-84), 3) := dk_167 255 172 (dk_at dksX1_tryFrom_4 3 rfl rfl)
theorem dX1_tryFrom_99 : decode cX1_tryFrom 99 = .ok (.iconst 0, 1) := dk_3 (dk_at dksX1_tryFrom_4 6 rfl rfl)
theorem dX1_tryFrom_100 : decode cX1_tryFrom 100 = .ok (.ireturn, 1) := dk_172 (dk_at dksX1_tryFrom_4 7 rfl rfl)
abbrev cX1_putIn : ByteArray := prog_1_method_63_code
def yX1_putIn : MethodName := ⟨RX1, "putIn", "(II)V"⟩
def dkwX1_putIn_5 : List UInt8 := [132, 5, 1, 167, 255, 204, 177]
abbrev dktX1_putIn_5 : List UInt8 := dkwX1_putIn_5 ++ []
def dkwX1_putIn_4 : List UInt8 := [27, 50, 180, 0, 233, 50, 21, 5, 42, 180, 0, 64, 25, 4, 180, 0, 233, 50, 21, 5, 46, 79]
abbrev dktX1_putIn_4 : List UInt8 := dkwX1_putIn_4 ++ dktX1_putIn_5
def dkwX1_putIn_3 : List UInt8 := [180, 0, 99, 27, 50, 182, 0, 212, 162, 0, 44, 25, 4, 198, 0, 39, 42, 180, 0, 64, 42, 180, 0, 99]
abbrev dktX1_putIn_3 : List UInt8 := dkwX1_putIn_3 ++ dktX1_putIn_4
def dkwX1_putIn_2 : List UInt8 := [45, 6, 183, 0, 205, 83, 42, 42, 180, 0, 99, 27, 50, 182, 0, 237, 3, 54, 5, 21, 5, 42]
abbrev dktX1_putIn_2 : List UInt8 := dkwX1_putIn_2 ++ dktX1_putIn_3
def dkwX1_putIn_1 : List UInt8 := [42, 180, 0, 99, 27, 187, 0, 56, 89, 42, 180, 0, 37, 182, 0, 126, 27, 96, 28, 42, 180, 1, 216, 6]
abbrev dktX1_putIn_1 : List UInt8 := dkwX1_putIn_1 ++ dktX1_putIn_2
def dkwX1_putIn_0 : List UInt8 := [42, 180, 0, 30, 42, 180, 0, 102, 27, 46, 182, 0, 155, 192, 0, 129, 78, 42, 45, 182, 1, 212, 58, 4]
abbrev dktX1_putIn_0 : List UInt8 := dkwX1_putIn_0 ++ dktX1_putIn_1
theorem dksX1_putIn_0 : cX1_putIn.data.toList.drop 0 = dktX1_putIn_0 := by decide +kernel
theorem dksX1_putIn_1 : cX1_putIn.data.toList.drop 24 = dktX1_putIn_1 := dk_seg dksX1_putIn_0 24 rfl rfl
theorem dksX1_putIn_2 : cX1_putIn.data.toList.drop 48 = dktX1_putIn_2 := dk_seg dksX1_putIn_1 24 rfl rfl
theorem dksX1_putIn_3 : cX1_putIn.data.toList.drop 70 = dktX1_putIn_3 := dk_seg dksX1_putIn_2 22 rfl rfl
theorem dksX1_putIn_4 : cX1_putIn.data.toList.drop 94 = dktX1_putIn_4 := dk_seg dksX1_putIn_3 24 rfl rfl
theorem dksX1_putIn_5 : cX1_putIn.data.toList.drop 116 = dktX1_putIn_5 := dk_seg dksX1_putIn_4 22 rfl rfl
theorem dX1_putIn_0 : decode cX1_putIn 0 = .ok (.aload_n 0, 1) := dk_42 (dk_at dksX1_putIn_0 0 rfl rfl)
theorem dX1_putIn_1 : decode cX1_putIn 1 = .ok (.getfield 30, 3) := dk_180 0 30 (dk_at dksX1_putIn_0 1 rfl rfl)
theorem dX1_putIn_4 : decode cX1_putIn 4 = .ok (.aload_n 0, 1) := dk_42 (dk_at dksX1_putIn_0 4 rfl rfl)
theorem dX1_putIn_5 : decode cX1_putIn 5 = .ok (.getfield 102, 3) := dk_180 0 102 (dk_at dksX1_putIn_0 5 rfl rfl)
theorem dX1_putIn_8 : decode cX1_putIn 8 = .ok (.iload_n 1, 1) := dk_27 (dk_at dksX1_putIn_0 8 rfl rfl)
theorem dX1_putIn_9 : decode cX1_putIn 9 = .ok (.iaload, 1) := dk_46 (dk_at dksX1_putIn_0 9 rfl rfl)
theorem dX1_putIn_10 : decode cX1_putIn 10 = .ok (.invokevirtual 155, 3) := dk_182 0 155 (dk_at dksX1_putIn_0 10 rfl rfl)
theorem dX1_putIn_13 : decode cX1_putIn 13 = .ok (.checkcast 129, 3) := dk_192 0 129 (dk_at dksX1_putIn_0 13 rfl rfl)
theorem dX1_putIn_16 : decode cX1_putIn 16 = .ok (.astore_n 3, 1) := dk_78 (dk_at dksX1_putIn_0 16 rfl rfl)
theorem dX1_putIn_17 : decode cX1_putIn 17 = .ok (.aload_n 0, 1) := dk_42 (dk_at dksX1_putIn_0 17 rfl rfl)
theorem dX1_putIn_18 : decode cX1_putIn 18 = .ok (.aload_n 3, 1) := dk_45 (dk_at dksX1_putIn_0 18 rfl rfl)
theorem dX1_putIn_19 : decode cX1_putIn 19 = .ok (.invokevirtual 468, 3) := dk_182 1 212 (dk_at dksX1_putIn_0 19 rfl rfl)
theorem dX1_putIn_22 : decode cX1_putIn 22 = .ok (.astore 4, 2) := dk_58 4 (dk_at dksX1_putIn_0 22 rfl rfl)
theorem dX1_putIn_24 : decode cX1_putIn 24 = .ok (.aload_n 0, 1) := dk_42 (dk_at dksX1_putIn_1 0 rfl rfl)
theorem dX1_putIn_25 : decode cX1_putIn 25 = .ok (.getfield 99, 3) := dk_180 0 99 (dk_at dksX1_putIn_1 1 rfl rfl)
theorem dX1_putIn_28 : decode cX1_putIn 28 = .ok (.iload_n 1, 1) := dk_27 (dk_at dksX1_putIn_1 4 rfl rfl)
theorem dX1_putIn_29 : decode cX1_putIn 29 = .ok (.new 56, 3) := dk_187 0 56 (dk_at dksX1_putIn_1 5 rfl rfl)
theorem dX1_putIn_32 : decode cX1_putIn 32 = .ok (.dup, 1) := dk_89 (dk_at dksX1_putIn_1 8 rfl rfl)
theorem dX1_putIn_33 : decode cX1_putIn 33 = .ok (.aload_n 0, 1) := dk_42 (dk_at dksX1_putIn_1 9 rfl rfl)
theorem dX1_putIn_34 : decode cX1_putIn 34 = .ok (.getfield 37, 3) := dk_180 0 37 (dk_at dksX1_putIn_1 10 rfl rfl)
theorem dX1_putIn_37 : decode cX1_putIn 37 = .ok (.invokevirtual 126, 3) := dk_182 0 126 (dk_at dksX1_putIn_1 13 rfl rfl)
theorem dX1_putIn_40 : decode cX1_putIn 40 = .ok (.iload_n 1, 1) := dk_27 (dk_at dksX1_putIn_1 16 rfl rfl)
theorem dX1_putIn_41 : decode cX1_putIn 41 = .ok (.iadd, 1) := dk_96 (dk_at dksX1_putIn_1 17 rfl rfl)
theorem dX1_putIn_42 : decode cX1_putIn 42 = .ok (.iload_n 2, 1) := dk_28 (dk_at dksX1_putIn_1 18 rfl rfl)
theorem dX1_putIn_43 : decode cX1_putIn 43 = .ok (.aload_n 0, 1) := dk_42 (dk_at dksX1_putIn_1 19 rfl rfl)
theorem dX1_putIn_44 : decode cX1_putIn 44 = .ok (.getfield 472, 3) := dk_180 1 216 (dk_at dksX1_putIn_1 20 rfl rfl)
theorem dX1_putIn_47 : decode cX1_putIn 47 = .ok (.iconst 3, 1) := dk_6 (dk_at dksX1_putIn_1 23 rfl rfl)
theorem dX1_putIn_48 : decode cX1_putIn 48 = .ok (.aload_n 3, 1) := dk_45 (dk_at dksX1_putIn_2 0 rfl rfl)
theorem dX1_putIn_49 : decode cX1_putIn 49 = .ok (.iconst 3, 1) := dk_6 (dk_at dksX1_putIn_2 1 rfl rfl)
theorem dX1_putIn_50 : decode cX1_putIn 50 = .ok (.invokespecial 205, 3) := dk_183 0 205 (dk_at dksX1_putIn_2 2 rfl rfl)
theorem dX1_putIn_53 : decode cX1_putIn 53 = .ok (.aastore, 1) := dk_83 (dk_at dksX1_putIn_2 5 rfl rfl)
theorem dX1_putIn_54 : decode cX1_putIn 54 = .ok (.aload_n 0, 1) := dk_42 (dk_at dksX1_putIn_2 6 rfl rfl)
theorem dX1_putIn_55 : decode cX1_putIn 55 = .ok (.aload_n 0, 1) := dk_42 (dk_at dksX1_putIn_2 7 rfl rfl)
theorem dX1_putIn_56 : decode cX1_putIn 56 = .ok (.getfield 99, 3) := dk_180 0 99 (dk_at dksX1_putIn_2 8 rfl rfl)
theorem dX1_putIn_59 : decode cX1_putIn 59 = .ok (.iload_n 1, 1) := dk_27 (dk_at dksX1_putIn_2 11 rfl rfl)
theorem dX1_putIn_60 : decode cX1_putIn 60 = .ok (.aaload, 1) := dk_50 (dk_at dksX1_putIn_2 12 rfl rfl)
theorem dX1_putIn_61 : decode cX1_putIn 61 = .ok (.invokevirtual 237, 3) := dk_182 0 237 (dk_at dksX1_putIn_2 13 rfl rfl)
theorem dX1_putIn_64 : decode cX1_putIn 64 = .ok (.iconst 0, 1) := dk_3 (dk_at dksX1_putIn_2 16 rfl rfl)
theorem dX1_putIn_65 : decode cX1_putIn 65 = .ok (.istore 5, 2) := dk_54 5 (dk_at dksX1_putIn_2 17 rfl rfl)
theorem dX1_putIn_67 : decode cX1_putIn 67 = .ok (.iload 5, 2) := dk_21 5 (dk_at dksX1_putIn_2 19 rfl rfl)
theorem dX1_putIn_69 : decode cX1_putIn 69 = .ok (.aload_n 0, 1) := dk_42 (dk_at dksX1_putIn_2 21 rfl rfl)
theorem dX1_putIn_70 : decode cX1_putIn 70 = .ok (.getfield 99, 3) := dk_180 0 99 (dk_at dksX1_putIn_3 0 rfl rfl)
theorem dX1_putIn_73 : decode cX1_putIn 73 = .ok (.iload_n 1, 1) := dk_27 (dk_at dksX1_putIn_3 3 rfl rfl)
theorem dX1_putIn_74 : decode cX1_putIn 74 = .ok (.aaload, 1) := dk_50 (dk_at dksX1_putIn_3 4 rfl rfl)
theorem dX1_putIn_75 : decode cX1_putIn 75 = .ok (.invokevirtual 212, 3) := dk_182 0 212 (dk_at dksX1_putIn_3 5 rfl rfl)
theorem dX1_putIn_78 : decode cX1_putIn 78 = .ok (.if_icmp .ge 44, 3) := dk_162 0 44 (dk_at dksX1_putIn_3 8 rfl rfl)
theorem dX1_putIn_81 : decode cX1_putIn 81 = .ok (.aload 4, 2) := dk_25 4 (dk_at dksX1_putIn_3 11 rfl rfl)
theorem dX1_putIn_83 : decode cX1_putIn 83 = .ok (.ifnull 39, 3) := dk_198 0 39 (dk_at dksX1_putIn_3 13 rfl rfl)
theorem dX1_putIn_86 : decode cX1_putIn 86 = .ok (.aload_n 0, 1) := dk_42 (dk_at dksX1_putIn_3 16 rfl rfl)
theorem dX1_putIn_87 : decode cX1_putIn 87 = .ok (.getfield 64, 3) := dk_180 0 64 (dk_at dksX1_putIn_3 17 rfl rfl)
theorem dX1_putIn_90 : decode cX1_putIn 90 = .ok (.aload_n 0, 1) := dk_42 (dk_at dksX1_putIn_3 20 rfl rfl)
theorem dX1_putIn_91 : decode cX1_putIn 91 = .ok (.getfield 99, 3) := dk_180 0 99 (dk_at dksX1_putIn_3 21 rfl rfl)
theorem dX1_putIn_94 : decode cX1_putIn 94 = .ok (.iload_n 1, 1) := dk_27 (dk_at dksX1_putIn_4 0 rfl rfl)
theorem dX1_putIn_95 : decode cX1_putIn 95 = .ok (.aaload, 1) := dk_50 (dk_at dksX1_putIn_4 1 rfl rfl)
theorem dX1_putIn_96 : decode cX1_putIn 96 = .ok (.getfield 233, 3) := dk_180 0 233 (dk_at dksX1_putIn_4 2 rfl rfl)
theorem dX1_putIn_99 : decode cX1_putIn 99 = .ok (.aaload, 1) := dk_50 (dk_at dksX1_putIn_4 5 rfl rfl)
theorem dX1_putIn_100 : decode cX1_putIn 100 = .ok (.iload 5, 2) := dk_21 5 (dk_at dksX1_putIn_4 6 rfl rfl)
theorem dX1_putIn_102 : decode cX1_putIn 102 = .ok (.aload_n 0, 1) := dk_42 (dk_at dksX1_putIn_4 8 rfl rfl)
theorem dX1_putIn_103 : decode cX1_putIn 103 = .ok (.getfield 64, 3) := dk_180 0 64 (dk_at dksX1_putIn_4 9 rfl rfl)
theorem dX1_putIn_106 : decode cX1_putIn 106 = .ok (.aload 4, 2) := dk_25 4 (dk_at dksX1_putIn_4 12 rfl rfl)
theorem dX1_putIn_108 : decode cX1_putIn 108 = .ok (.getfield 233, 3) := dk_180 0 233 (dk_at dksX1_putIn_4 14 rfl rfl)
theorem dX1_putIn_111 : decode cX1_putIn 111 = .ok (.aaload, 1) := dk_50 (dk_at dksX1_putIn_4 17 rfl rfl)
theorem dX1_putIn_112 : decode cX1_putIn 112 = .ok (.iload 5, 2) := dk_21 5 (dk_at dksX1_putIn_4 18 rfl rfl)
theorem dX1_putIn_114 : decode cX1_putIn 114 = .ok (.iaload, 1) := dk_46 (dk_at dksX1_putIn_4 20 rfl rfl)
theorem dX1_putIn_115 : decode cX1_putIn 115 = .ok (.iastore, 1) := dk_79 (dk_at dksX1_putIn_4 21 rfl rfl)
theorem dX1_putIn_116 : decode cX1_putIn 116 = .ok (.iinc 5 1, 3) := dk_132 5 1 (dk_at dksX1_putIn_5 0 rfl rfl)
theorem dX1_putIn_119 : decode cX1_putIn 119 = .ok (.goto (-52), 3) := dk_167 255 204 (dk_at dksX1_putIn_5 3 rfl rfl)
theorem dX1_putIn_122 : decode cX1_putIn 122 = .ok (.return_, 1) := dk_177 (dk_at dksX1_putIn_5 6 rfl rfl)
abbrev cX1_firstOf : ByteArray := prog_1_method_62_code
def yX1_firstOf : MethodName := ⟨RX1, "firstOf", "(LOperaHouse$Opera;)LOperaHouse$Call;"⟩
def dkwX1_firstOf_2 : List UInt8 := [167, 255, 212, 1, 176]
abbrev dktX1_firstOf_2 : List UInt8 := dkwX1_firstOf_2 ++ []
def dkwX1_firstOf_1 : List UInt8 := [180, 1, 2, 43, 166, 0, 15, 42, 180, 0, 37, 28, 182, 0, 155, 192, 0, 56, 176, 132, 2, 1]
abbrev dktX1_firstOf_1 : List UInt8 := dkwX1_firstOf_1 ++ dktX1_firstOf_2
def dkwX1_firstOf_0 : List UInt8 := [3, 61, 28, 42, 180, 0, 37, 182, 0, 126, 162, 0, 39, 42, 180, 0, 37, 28, 182, 0, 155, 192, 0, 56]
abbrev dktX1_firstOf_0 : List UInt8 := dkwX1_firstOf_0 ++ dktX1_firstOf_1
theorem dksX1_firstOf_0 : cX1_firstOf.data.toList.drop 0 = dktX1_firstOf_0 := by decide +kernel
theorem dksX1_firstOf_1 : cX1_firstOf.data.toList.drop 24 = dktX1_firstOf_1 := dk_seg dksX1_firstOf_0 24 rfl rfl
theorem dksX1_firstOf_2 : cX1_firstOf.data.toList.drop 46 = dktX1_firstOf_2 := dk_seg dksX1_firstOf_1 22 rfl rfl
theorem dX1_firstOf_0 : decode cX1_firstOf 0 = .ok (.iconst 0, 1) := dk_3 (dk_at dksX1_firstOf_0 0 rfl rfl)
theorem dX1_firstOf_1 : decode cX1_firstOf 1 = .ok (.istore_n 2, 1) := dk_61 (dk_at dksX1_firstOf_0 1 rfl rfl)
theorem dX1_firstOf_2 : decode cX1_firstOf 2 = .ok (.iload_n 2, 1) := dk_28 (dk_at dksX1_firstOf_0 2 rfl rfl)
theorem dX1_firstOf_3 : decode cX1_firstOf 3 = .ok (.aload_n 0, 1) := dk_42 (dk_at dksX1_firstOf_0 3 rfl rfl)
theorem dX1_firstOf_4 : decode cX1_firstOf 4 = .ok (.getfield 37, 3) := dk_180 0 37 (dk_at dksX1_firstOf_0 4 rfl rfl)
theorem dX1_firstOf_7 : decode cX1_firstOf 7 = .ok (.invokevirtual 126, 3) := dk_182 0 126 (dk_at dksX1_firstOf_0 7 rfl rfl)
theorem dX1_firstOf_10 : decode cX1_firstOf 10 = .ok (.if_icmp .ge 39, 3) := dk_162 0 39 (dk_at dksX1_firstOf_0 10 rfl rfl)
theorem dX1_firstOf_13 : decode cX1_firstOf 13 = .ok (.aload_n 0, 1) := dk_42 (dk_at dksX1_firstOf_0 13 rfl rfl)
theorem dX1_firstOf_14 : decode cX1_firstOf 14 = .ok (.getfield 37, 3) := dk_180 0 37 (dk_at dksX1_firstOf_0 14 rfl rfl)
theorem dX1_firstOf_17 : decode cX1_firstOf 17 = .ok (.iload_n 2, 1) := dk_28 (dk_at dksX1_firstOf_0 17 rfl rfl)
theorem dX1_firstOf_18 : decode cX1_firstOf 18 = .ok (.invokevirtual 155, 3) := dk_182 0 155 (dk_at dksX1_firstOf_0 18 rfl rfl)
theorem dX1_firstOf_21 : decode cX1_firstOf 21 = .ok (.checkcast 56, 3) := dk_192 0 56 (dk_at dksX1_firstOf_0 21 rfl rfl)
theorem dX1_firstOf_24 : decode cX1_firstOf 24 = .ok (.getfield 258, 3) := dk_180 1 2 (dk_at dksX1_firstOf_1 0 rfl rfl)
theorem dX1_firstOf_27 : decode cX1_firstOf 27 = .ok (.aload_n 1, 1) := dk_43 (dk_at dksX1_firstOf_1 3 rfl rfl)
theorem dX1_firstOf_28 : decode cX1_firstOf 28 = .ok (.if_acmp .ne 15, 3) := dk_166 0 15 (dk_at dksX1_firstOf_1 4 rfl rfl)
theorem dX1_firstOf_31 : decode cX1_firstOf 31 = .ok (.aload_n 0, 1) := dk_42 (dk_at dksX1_firstOf_1 7 rfl rfl)
theorem dX1_firstOf_32 : decode cX1_firstOf 32 = .ok (.getfield 37, 3) := dk_180 0 37 (dk_at dksX1_firstOf_1 8 rfl rfl)
theorem dX1_firstOf_35 : decode cX1_firstOf 35 = .ok (.iload_n 2, 1) := dk_28 (dk_at dksX1_firstOf_1 11 rfl rfl)
theorem dX1_firstOf_36 : decode cX1_firstOf 36 = .ok (.invokevirtual 155, 3) := dk_182 0 155 (dk_at dksX1_firstOf_1 12 rfl rfl)
theorem dX1_firstOf_39 : decode cX1_firstOf 39 = .ok (.checkcast 56, 3) := dk_192 0 56 (dk_at dksX1_firstOf_1 15 rfl rfl)
theorem dX1_firstOf_42 : decode cX1_firstOf 42 = .ok (.areturn, 1) := dk_176 (dk_at dksX1_firstOf_1 18 rfl rfl)
theorem dX1_firstOf_43 : decode cX1_firstOf 43 = .ok (.iinc 2 1, 3) := dk_132 2 1 (dk_at dksX1_firstOf_1 19 rfl rfl)
theorem dX1_firstOf_46 : decode cX1_firstOf 46 = .ok (.goto (-44), 3) := dk_167 255 212 (dk_at dksX1_firstOf_2 0 rfl rfl)
theorem dX1_firstOf_49 : decode cX1_firstOf 49 = .ok (.aconst_null, 1) := dk_1 (dk_at dksX1_firstOf_2 3 rfl rfl)
theorem dX1_firstOf_50 : decode cX1_firstOf 50 = .ok (.areturn, 1) := dk_176 (dk_at dksX1_firstOf_2 4 rfl rfl)
abbrev cX1_holds : ByteArray := prog_1_method_61_code
def yX1_holds : MethodName := ⟨RX1, "holds", "(I)Z"⟩
def dkwX1_holds_3 : List UInt8 := [167, 255, 208, 132, 2, 1, 167, 255, 187, 4, 172]
abbrev dktX1_holds_3 : List UInt8 := dkwX1_holds_3 ++ []
def dkwX1_holds_2 : List UInt8 := [180, 0, 96, 28, 50, 29, 46, 167, 0, 4, 3, 2, 130, 126, 153, 0, 5, 3, 172, 132, 3, 1]
abbrev dktX1_holds_2 : List UInt8 := dkwX1_holds_2 ++ dktX1_holds_3
def dkwX1_holds_1 : List UInt8 := [163, 0, 48, 42, 180, 0, 73, 28, 50, 29, 46, 28, 42, 180, 0, 37, 182, 0, 126, 162, 0, 14, 42]
abbrev dktX1_holds_1 : List UInt8 := dkwX1_holds_1 ++ dktX1_holds_2
def dkwX1_holds_0 : List UInt8 := [42, 182, 1, 154, 3, 61, 28, 42, 180, 0, 37, 182, 0, 126, 27, 96, 162, 0, 62, 3, 62, 29, 16, 8]
abbrev dktX1_holds_0 : List UInt8 := dkwX1_holds_0 ++ dktX1_holds_1
theorem dksX1_holds_0 : cX1_holds.data.toList.drop 0 = dktX1_holds_0 := by decide +kernel
theorem dksX1_holds_1 : cX1_holds.data.toList.drop 24 = dktX1_holds_1 := dk_seg dksX1_holds_0 24 rfl rfl
theorem dksX1_holds_2 : cX1_holds.data.toList.drop 47 = dktX1_holds_2 := dk_seg dksX1_holds_1 23 rfl rfl
theorem dksX1_holds_3 : cX1_holds.data.toList.drop 69 = dktX1_holds_3 := dk_seg dksX1_holds_2 22 rfl rfl
theorem dX1_holds_0 : decode cX1_holds 0 = .ok (.aload_n 0, 1) := dk_42 (dk_at dksX1_holds_0 0 rfl rfl)
theorem dX1_holds_1 : decode cX1_holds 1 = .ok (.invokevirtual 410, 3) := dk_182 1 154 (dk_at dksX1_holds_0 1 rfl rfl)
theorem dX1_holds_4 : decode cX1_holds 4 = .ok (.iconst 0, 1) := dk_3 (dk_at dksX1_holds_0 4 rfl rfl)
theorem dX1_holds_5 : decode cX1_holds 5 = .ok (.istore_n 2, 1) := dk_61 (dk_at dksX1_holds_0 5 rfl rfl)
theorem dX1_holds_6 : decode cX1_holds 6 = .ok (.iload_n 2, 1) := dk_28 (dk_at dksX1_holds_0 6 rfl rfl)
theorem dX1_holds_7 : decode cX1_holds 7 = .ok (.aload_n 0, 1) := dk_42 (dk_at dksX1_holds_0 7 rfl rfl)
theorem dX1_holds_8 : decode cX1_holds 8 = .ok (.getfield 37, 3) := dk_180 0 37 (dk_at dksX1_holds_0 8 rfl rfl)
theorem dX1_holds_11 : decode cX1_holds 11 = .ok (.invokevirtual 126, 3) := dk_182 0 126 (dk_at dksX1_holds_0 11 rfl rfl)
theorem dX1_holds_14 : decode cX1_holds 14 = .ok (.iload_n 1, 1) := dk_27 (dk_at dksX1_holds_0 14 rfl rfl)
theorem dX1_holds_15 : decode cX1_holds 15 = .ok (.iadd, 1) := dk_96 (dk_at dksX1_holds_0 15 rfl rfl)
theorem dX1_holds_16 : decode cX1_holds 16 = .ok (.if_icmp .ge 62, 3) := dk_162 0 62 (dk_at dksX1_holds_0 16 rfl rfl)
theorem dX1_holds_19 : decode cX1_holds 19 = .ok (.iconst 0, 1) := dk_3 (dk_at dksX1_holds_0 19 rfl rfl)
theorem dX1_holds_20 : decode cX1_holds 20 = .ok (.istore_n 3, 1) := dk_62 (dk_at dksX1_holds_0 20 rfl rfl)
theorem dX1_holds_21 : decode cX1_holds 21 = .ok (.iload_n 3, 1) := dk_29 (dk_at dksX1_holds_0 21 rfl rfl)
theorem dX1_holds_22 : decode cX1_holds 22 = .ok (.bipush 8, 2) := dk_16 8 (dk_at dksX1_holds_0 22 rfl rfl)
theorem dX1_holds_24 : decode cX1_holds 24 = .ok (.if_icmp .gt 48, 3) := dk_163 0 48 (dk_at dksX1_holds_1 0 rfl rfl)
theorem dX1_holds_27 : decode cX1_holds 27 = .ok (.aload_n 0, 1) := dk_42 (dk_at dksX1_holds_1 3 rfl rfl)
theorem dX1_holds_28 : decode cX1_holds 28 = .ok (.getfield 73, 3) := dk_180 0 73 (dk_at dksX1_holds_1 4 rfl rfl)
theorem dX1_holds_31 : decode cX1_holds 31 = .ok (.iload_n 2, 1) := dk_28 (dk_at dksX1_holds_1 7 rfl rfl)
theorem dX1_holds_32 : decode cX1_holds 32 = .ok (.aaload, 1) := dk_50 (dk_at dksX1_holds_1 8 rfl rfl)
theorem dX1_holds_33 : decode cX1_holds 33 = .ok (.iload_n 3, 1) := dk_29 (dk_at dksX1_holds_1 9 rfl rfl)
theorem dX1_holds_34 : decode cX1_holds 34 = .ok (.iaload, 1) := dk_46 (dk_at dksX1_holds_1 10 rfl rfl)
theorem dX1_holds_35 : decode cX1_holds 35 = .ok (.iload_n 2, 1) := dk_28 (dk_at dksX1_holds_1 11 rfl rfl)
theorem dX1_holds_36 : decode cX1_holds 36 = .ok (.aload_n 0, 1) := dk_42 (dk_at dksX1_holds_1 12 rfl rfl)
theorem dX1_holds_37 : decode cX1_holds 37 = .ok (.getfield 37, 3) := dk_180 0 37 (dk_at dksX1_holds_1 13 rfl rfl)
theorem dX1_holds_40 : decode cX1_holds 40 = .ok (.invokevirtual 126, 3) := dk_182 0 126 (dk_at dksX1_holds_1 16 rfl rfl)
theorem dX1_holds_43 : decode cX1_holds 43 = .ok (.if_icmp .ge 14, 3) := dk_162 0 14 (dk_at dksX1_holds_1 19 rfl rfl)
theorem dX1_holds_46 : decode cX1_holds 46 = .ok (.aload_n 0, 1) := dk_42 (dk_at dksX1_holds_1 22 rfl rfl)
theorem dX1_holds_47 : decode cX1_holds 47 = .ok (.getfield 96, 3) := dk_180 0 96 (dk_at dksX1_holds_2 0 rfl rfl)
theorem dX1_holds_50 : decode cX1_holds 50 = .ok (.iload_n 2, 1) := dk_28 (dk_at dksX1_holds_2 3 rfl rfl)
theorem dX1_holds_51 : decode cX1_holds 51 = .ok (.aaload, 1) := dk_50 (dk_at dksX1_holds_2 4 rfl rfl)
theorem dX1_holds_52 : decode cX1_holds 52 = .ok (.iload_n 3, 1) := dk_29 (dk_at dksX1_holds_2 5 rfl rfl)
theorem dX1_holds_53 : decode cX1_holds 53 = .ok (.iaload, 1) := dk_46 (dk_at dksX1_holds_2 6 rfl rfl)
theorem dX1_holds_54 : decode cX1_holds 54 = .ok (.goto 4, 3) := dk_167 0 4 (dk_at dksX1_holds_2 7 rfl rfl)
theorem dX1_holds_57 : decode cX1_holds 57 = .ok (.iconst 0, 1) := dk_3 (dk_at dksX1_holds_2 10 rfl rfl)
theorem dX1_holds_58 : decode cX1_holds 58 = .ok (.iconst (-1), 1) := dk_2 (dk_at dksX1_holds_2 11 rfl rfl)
theorem dX1_holds_59 : decode cX1_holds 59 = .ok (.ixor, 1) := dk_130 (dk_at dksX1_holds_2 12 rfl rfl)
theorem dX1_holds_60 : decode cX1_holds 60 = .ok (.iand, 1) := dk_126 (dk_at dksX1_holds_2 13 rfl rfl)
theorem dX1_holds_61 : decode cX1_holds 61 = .ok (.ifCond .eq 5, 3) := dk_153 0 5 (dk_at dksX1_holds_2 14 rfl rfl)
theorem dX1_holds_64 : decode cX1_holds 64 = .ok (.iconst 0, 1) := dk_3 (dk_at dksX1_holds_2 17 rfl rfl)
theorem dX1_holds_65 : decode cX1_holds 65 = .ok (.ireturn, 1) := dk_172 (dk_at dksX1_holds_2 18 rfl rfl)
theorem dX1_holds_66 : decode cX1_holds 66 = .ok (.iinc 3 1, 3) := dk_132 3 1 (dk_at dksX1_holds_2 19 rfl rfl)
theorem dX1_holds_69 : decode cX1_holds 69 = .ok (.goto (-48), 3) := dk_167 255 208 (dk_at dksX1_holds_3 0 rfl rfl)
theorem dX1_holds_72 : decode cX1_holds 72 = .ok (.iinc 2 1, 3) := dk_132 2 1 (dk_at dksX1_holds_3 3 rfl rfl)
theorem dX1_holds_75 : decode cX1_holds 75 = .ok (.goto (-69), 3) := dk_167 255 187 (dk_at dksX1_holds_3 6 rfl rfl)
theorem dX1_holds_78 : decode cX1_holds 78 = .ok (.iconst 1, 1) := dk_4 (dk_at dksX1_holds_3 9 rfl rfl)
theorem dX1_holds_79 : decode cX1_holds 79 = .ok (.ireturn, 1) := dk_172 (dk_at dksX1_holds_3 10 rfl rfl)
abbrev cX1_leave : ByteArray := prog_1_method_23_code
def yX1_leave : MethodName := ⟨RX1, "leave", "(LOperaHouse$Call;)V"⟩
def dkwX1_leave_2 : List UInt8 := [4, 96, 50, 83, 132, 3, 1, 167, 255, 231, 177]
abbrev dktX1_leave_2 : List UInt8 := dkwX1_leave_2 ++ []
def dkwX1_leave_1 : List UInt8 := [100, 181, 0, 227, 28, 62, 29, 42, 180, 0, 227, 162, 0, 23, 42, 180, 0, 58, 29, 42, 180, 0, 58, 29]
abbrev dktX1_leave_1 : List UInt8 := dkwX1_leave_1 ++ dktX1_leave_2
def dkwX1_leave_0 : List UInt8 := [3, 61, 42, 180, 0, 58, 28, 50, 43, 165, 0, 9, 132, 2, 1, 167, 255, 243, 42, 89, 180, 0, 227, 4]
abbrev dktX1_leave_0 : List UInt8 := dkwX1_leave_0 ++ dktX1_leave_1
theorem dksX1_leave_0 : cX1_leave.data.toList.drop 0 = dktX1_leave_0 := by decide +kernel
theorem dksX1_leave_1 : cX1_leave.data.toList.drop 24 = dktX1_leave_1 := dk_seg dksX1_leave_0 24 rfl rfl
theorem dksX1_leave_2 : cX1_leave.data.toList.drop 48 = dktX1_leave_2 := dk_seg dksX1_leave_1 24 rfl rfl
theorem dX1_leave_0 : decode cX1_leave 0 = .ok (.iconst 0, 1) := dk_3 (dk_at dksX1_leave_0 0 rfl rfl)
theorem dX1_leave_1 : decode cX1_leave 1 = .ok (.istore_n 2, 1) := dk_61 (dk_at dksX1_leave_0 1 rfl rfl)
theorem dX1_leave_2 : decode cX1_leave 2 = .ok (.aload_n 0, 1) := dk_42 (dk_at dksX1_leave_0 2 rfl rfl)
theorem dX1_leave_3 : decode cX1_leave 3 = .ok (.getfield 58, 3) := dk_180 0 58 (dk_at dksX1_leave_0 3 rfl rfl)
theorem dX1_leave_6 : decode cX1_leave 6 = .ok (.iload_n 2, 1) := dk_28 (dk_at dksX1_leave_0 6 rfl rfl)
theorem dX1_leave_7 : decode cX1_leave 7 = .ok (.aaload, 1) := dk_50 (dk_at dksX1_leave_0 7 rfl rfl)
theorem dX1_leave_8 : decode cX1_leave 8 = .ok (.aload_n 1, 1) := dk_43 (dk_at dksX1_leave_0 8 rfl rfl)
theorem dX1_leave_9 : decode cX1_leave 9 = .ok (.if_acmp .eq 9, 3) := dk_165 0 9 (dk_at dksX1_leave_0 9 rfl rfl)
theorem dX1_leave_12 : decode cX1_leave 12 = .ok (.iinc 2 1, 3) := dk_132 2 1 (dk_at dksX1_leave_0 12 rfl rfl)
theorem dX1_leave_15 : decode cX1_leave 15 = .ok (.goto (-13), 3) := dk_167 255 243 (dk_at dksX1_leave_0 15 rfl rfl)
theorem dX1_leave_18 : decode cX1_leave 18 = .ok (.aload_n 0, 1) := dk_42 (dk_at dksX1_leave_0 18 rfl rfl)
theorem dX1_leave_19 : decode cX1_leave 19 = .ok (.dup, 1) := dk_89 (dk_at dksX1_leave_0 19 rfl rfl)
theorem dX1_leave_20 : decode cX1_leave 20 = .ok (.getfield 227, 3) := dk_180 0 227 (dk_at dksX1_leave_0 20 rfl rfl)
theorem dX1_leave_23 : decode cX1_leave 23 = .ok (.iconst 1, 1) := dk_4 (dk_at dksX1_leave_0 23 rfl rfl)
theorem dX1_leave_24 : decode cX1_leave 24 = .ok (.isub, 1) := dk_100 (dk_at dksX1_leave_1 0 rfl rfl)
theorem dX1_leave_25 : decode cX1_leave 25 = .ok (.putfield 227, 3) := dk_181 0 227 (dk_at dksX1_leave_1 1 rfl rfl)
theorem dX1_leave_28 : decode cX1_leave 28 = .ok (.iload_n 2, 1) := dk_28 (dk_at dksX1_leave_1 4 rfl rfl)
theorem dX1_leave_29 : decode cX1_leave 29 = .ok (.istore_n 3, 1) := dk_62 (dk_at dksX1_leave_1 5 rfl rfl)
theorem dX1_leave_30 : decode cX1_leave 30 = .ok (.iload_n 3, 1) := dk_29 (dk_at dksX1_leave_1 6 rfl rfl)
theorem dX1_leave_31 : decode cX1_leave 31 = .ok (.aload_n 0, 1) := dk_42 (dk_at dksX1_leave_1 7 rfl rfl)
theorem dX1_leave_32 : decode cX1_leave 32 = .ok (.getfield 227, 3) := dk_180 0 227 (dk_at dksX1_leave_1 8 rfl rfl)
theorem dX1_leave_35 : decode cX1_leave 35 = .ok (.if_icmp .ge 23, 3) := dk_162 0 23 (dk_at dksX1_leave_1 11 rfl rfl)
theorem dX1_leave_38 : decode cX1_leave 38 = .ok (.aload_n 0, 1) := dk_42 (dk_at dksX1_leave_1 14 rfl rfl)
theorem dX1_leave_39 : decode cX1_leave 39 = .ok (.getfield 58, 3) := dk_180 0 58 (dk_at dksX1_leave_1 15 rfl rfl)
theorem dX1_leave_42 : decode cX1_leave 42 = .ok (.iload_n 3, 1) := dk_29 (dk_at dksX1_leave_1 18 rfl rfl)
theorem dX1_leave_43 : decode cX1_leave 43 = .ok (.aload_n 0, 1) := dk_42 (dk_at dksX1_leave_1 19 rfl rfl)
theorem dX1_leave_44 : decode cX1_leave 44 = .ok (.getfield 58, 3) := dk_180 0 58 (dk_at dksX1_leave_1 20 rfl rfl)
theorem dX1_leave_47 : decode cX1_leave 47 = .ok (.iload_n 3, 1) := dk_29 (dk_at dksX1_leave_1 23 rfl rfl)
theorem dX1_leave_48 : decode cX1_leave 48 = .ok (.iconst 1, 1) := dk_4 (dk_at dksX1_leave_2 0 rfl rfl)
theorem dX1_leave_49 : decode cX1_leave 49 = .ok (.iadd, 1) := dk_96 (dk_at dksX1_leave_2 1 rfl rfl)
theorem dX1_leave_50 : decode cX1_leave 50 = .ok (.aaload, 1) := dk_50 (dk_at dksX1_leave_2 2 rfl rfl)
theorem dX1_leave_51 : decode cX1_leave 51 = .ok (.aastore, 1) := dk_83 (dk_at dksX1_leave_2 3 rfl rfl)
theorem dX1_leave_52 : decode cX1_leave 52 = .ok (.iinc 3 1, 3) := dk_132 3 1 (dk_at dksX1_leave_2 4 rfl rfl)
theorem dX1_leave_55 : decode cX1_leave 55 = .ok (.goto (-25), 3) := dk_167 255 231 (dk_at dksX1_leave_2 7 rfl rfl)
theorem dX1_leave_58 : decode cX1_leave 58 = .ok (.return_, 1) := dk_177 (dk_at dksX1_leave_2 10 rfl rfl)
abbrev cX1_laid : ByteArray := prog_1_method_66_code
def yX1_laid : MethodName := ⟨RX1, "laid", "(I)I"⟩
def dkwX1_laid_1 : List UInt8 := [167, 0, 4, 2, 172]
abbrev dktX1_laid_1 : List UInt8 := dkwX1_laid_1 ++ []
def dkwX1_laid_0 : List UInt8 := [27, 3, 42, 180, 1, 241, 4, 100, 184, 0, 112, 153, 0, 15, 42, 180, 0, 99, 27, 50, 180, 0, 214]
abbrev dktX1_laid_0 : List UInt8 := dkwX1_laid_0 ++ dktX1_laid_1
theorem dksX1_laid_0 : cX1_laid.data.toList.drop 0 = dktX1_laid_0 := by decide +kernel
theorem dksX1_laid_1 : cX1_laid.data.toList.drop 23 = dktX1_laid_1 := dk_seg dksX1_laid_0 23 rfl rfl
theorem dX1_laid_0 : decode cX1_laid 0 = .ok (.iload_n 1, 1) := dk_27 (dk_at dksX1_laid_0 0 rfl rfl)
theorem dX1_laid_1 : decode cX1_laid 1 = .ok (.iconst 0, 1) := dk_3 (dk_at dksX1_laid_0 1 rfl rfl)
theorem dX1_laid_2 : decode cX1_laid 2 = .ok (.aload_n 0, 1) := dk_42 (dk_at dksX1_laid_0 2 rfl rfl)
theorem dX1_laid_3 : decode cX1_laid 3 = .ok (.getfield 497, 3) := dk_180 1 241 (dk_at dksX1_laid_0 3 rfl rfl)
theorem dX1_laid_6 : decode cX1_laid 6 = .ok (.iconst 1, 1) := dk_4 (dk_at dksX1_laid_0 6 rfl rfl)
theorem dX1_laid_7 : decode cX1_laid 7 = .ok (.isub, 1) := dk_100 (dk_at dksX1_laid_0 7 rfl rfl)
theorem dX1_laid_8 : decode cX1_laid 8 = .ok (.invokestatic 112, 3) := dk_184 0 112 (dk_at dksX1_laid_0 8 rfl rfl)
theorem dX1_laid_11 : decode cX1_laid 11 = .ok (.ifCond .eq 15, 3) := dk_153 0 15 (dk_at dksX1_laid_0 11 rfl rfl)
theorem dX1_laid_14 : decode cX1_laid 14 = .ok (.aload_n 0, 1) := dk_42 (dk_at dksX1_laid_0 14 rfl rfl)
theorem dX1_laid_15 : decode cX1_laid 15 = .ok (.getfield 99, 3) := dk_180 0 99 (dk_at dksX1_laid_0 15 rfl rfl)
theorem dX1_laid_18 : decode cX1_laid 18 = .ok (.iload_n 1, 1) := dk_27 (dk_at dksX1_laid_0 18 rfl rfl)
theorem dX1_laid_19 : decode cX1_laid 19 = .ok (.aaload, 1) := dk_50 (dk_at dksX1_laid_0 19 rfl rfl)
theorem dX1_laid_20 : decode cX1_laid 20 = .ok (.getfield 214, 3) := dk_180 0 214 (dk_at dksX1_laid_0 20 rfl rfl)
theorem dX1_laid_23 : decode cX1_laid 23 = .ok (.goto 4, 3) := dk_167 0 4 (dk_at dksX1_laid_1 0 rfl rfl)
theorem dX1_laid_26 : decode cX1_laid 26 = .ok (.iconst (-1), 1) := dk_2 (dk_at dksX1_laid_1 3 rfl rfl)
theorem dX1_laid_27 : decode cX1_laid 27 = .ok (.ireturn, 1) := dk_172 (dk_at dksX1_laid_1 4 rfl rfl)
abbrev cX1_keep : ByteArray := prog_1_method_67_code
def yX1_keep : MethodName := ⟨RX1, "keep", "()I"⟩
def dkwX1_keep_9 : List UInt8 := [89, 180, 0, 119, 4, 96, 181, 0, 119, 42, 180, 0, 37, 182, 0, 126, 172]
abbrev dktX1_keep_9 : List UInt8 := dkwX1_keep_9 ++ []
def dkwX1_keep_8 : List UInt8 := [162, 0, 23, 42, 180, 0, 37, 42, 180, 0, 99, 28, 50, 182, 0, 145, 87, 132, 2, 1, 167, 255, 231, 42]
abbrev dktX1_keep_8 : List UInt8 := dkwX1_keep_8 ++ dktX1_keep_9
def dkwX1_keep_7 : List UInt8 := [182, 0, 145, 87, 132, 3, 1, 167, 255, 194, 132, 2, 1, 167, 255, 178, 3, 61, 28, 42, 180, 1, 241]
abbrev dktX1_keep_7 : List UInt8 := dkwX1_keep_7 ++ dktX1_keep_8
def dkwX1_keep_6 : List UInt8 := [42, 180, 0, 99, 28, 50, 180, 0, 233, 29, 42, 28, 29, 182, 1, 250, 3, 42, 180, 0, 116, 183, 0, 219]
abbrev dktX1_keep_6 : List UInt8 := dkwX1_keep_6 ++ dktX1_keep_7
def dkwX1_keep_5 : List UInt8 := [182, 0, 212, 162, 0, 55, 42, 28, 29, 182, 1, 250, 2, 159, 0, 39, 42, 180, 0, 40, 187, 0, 217, 89]
abbrev dktX1_keep_5 : List UInt8 := dkwX1_keep_5 ++ dktX1_keep_6
def dkwX1_keep_4 : List UInt8 := [164, 0, 5, 2, 172, 3, 61, 28, 42, 180, 1, 241, 162, 0, 76, 3, 62, 29, 42, 180, 0, 99, 28, 50]
abbrev dktX1_keep_4 : List UInt8 := dkwX1_keep_4 ++ dktX1_keep_5
def dkwX1_keep_3 : List UInt8 := [132, 3, 1, 167, 255, 227, 132, 2, 1, 167, 255, 211, 42, 180, 0, 40, 182, 0, 126, 27, 96, 17, 1, 144]
abbrev dktX1_keep_3 : List UInt8 := dkwX1_keep_3 ++ dktX1_keep_4
def dkwX1_keep_2 : List UInt8 := [180, 0, 99, 28, 50, 182, 0, 212, 162, 0, 22, 42, 28, 29, 182, 1, 250, 2, 159, 0, 6, 132, 1, 1]
abbrev dktX1_keep_2 : List UInt8 := dkwX1_keep_2 ++ dktX1_keep_3
def dkwX1_keep_1 : List UInt8 := [180, 0, 116, 182, 1, 151, 3, 60, 3, 61, 28, 42, 180, 1, 241, 162, 0, 43, 3, 62, 29, 42]
abbrev dktX1_keep_1 : List UInt8 := dkwX1_keep_1 ++ dktX1_keep_2
def dkwX1_keep_0 : List UInt8 := [42, 180, 1, 241, 153, 0, 14, 42, 180, 1, 247, 42, 180, 0, 119, 159, 0, 5, 2, 172, 42, 42]
abbrev dktX1_keep_0 : List UInt8 := dkwX1_keep_0 ++ dktX1_keep_1
theorem dksX1_keep_0 : cX1_keep.data.toList.drop 0 = dktX1_keep_0 := by decide +kernel
theorem dksX1_keep_1 : cX1_keep.data.toList.drop 22 = dktX1_keep_1 := dk_seg dksX1_keep_0 22 rfl rfl
theorem dksX1_keep_2 : cX1_keep.data.toList.drop 44 = dktX1_keep_2 := dk_seg dksX1_keep_1 22 rfl rfl
theorem dksX1_keep_3 : cX1_keep.data.toList.drop 68 = dktX1_keep_3 := dk_seg dksX1_keep_2 24 rfl rfl
theorem dksX1_keep_4 : cX1_keep.data.toList.drop 92 = dktX1_keep_4 := dk_seg dksX1_keep_3 24 rfl rfl
theorem dksX1_keep_5 : cX1_keep.data.toList.drop 116 = dktX1_keep_5 := dk_seg dksX1_keep_4 24 rfl rfl
theorem dksX1_keep_6 : cX1_keep.data.toList.drop 140 = dktX1_keep_6 := dk_seg dksX1_keep_5 24 rfl rfl
theorem dksX1_keep_7 : cX1_keep.data.toList.drop 164 = dktX1_keep_7 := dk_seg dksX1_keep_6 24 rfl rfl
theorem dksX1_keep_8 : cX1_keep.data.toList.drop 187 = dktX1_keep_8 := dk_seg dksX1_keep_7 23 rfl rfl
theorem dksX1_keep_9 : cX1_keep.data.toList.drop 211 = dktX1_keep_9 := dk_seg dksX1_keep_8 24 rfl rfl
theorem dX1_keep_0 : decode cX1_keep 0 = .ok (.aload_n 0, 1) := dk_42 (dk_at dksX1_keep_0 0 rfl rfl)
theorem dX1_keep_1 : decode cX1_keep 1 = .ok (.getfield 497, 3) := dk_180 1 241 (dk_at dksX1_keep_0 1 rfl rfl)
theorem dX1_keep_4 : decode cX1_keep 4 = .ok (.ifCond .eq 14, 3) := dk_153 0 14 (dk_at dksX1_keep_0 4 rfl rfl)
theorem dX1_keep_7 : decode cX1_keep 7 = .ok (.aload_n 0, 1) := dk_42 (dk_at dksX1_keep_0 7 rfl rfl)
theorem dX1_keep_8 : decode cX1_keep 8 = .ok (.getfield 503, 3) := dk_180 1 247 (dk_at dksX1_keep_0 8 rfl rfl)
theorem dX1_keep_11 : decode cX1_keep 11 = .ok (.aload_n 0, 1) := dk_42 (dk_at dksX1_keep_0 11 rfl rfl)
theorem dX1_keep_12 : decode cX1_keep 12 = .ok (.getfield 119, 3) := dk_180 0 119 (dk_at dksX1_keep_0 12 rfl rfl)
theorem dX1_keep_15 : decode cX1_keep 15 = .ok (.if_icmp .eq 5, 3) := dk_159 0 5 (dk_at dksX1_keep_0 15 rfl rfl)
theorem dX1_keep_18 : decode cX1_keep 18 = .ok (.iconst (-1), 1) := dk_2 (dk_at dksX1_keep_0 18 rfl rfl)
theorem dX1_keep_19 : decode cX1_keep 19 = .ok (.ireturn, 1) := dk_172 (dk_at dksX1_keep_0 19 rfl rfl)
theorem dX1_keep_20 : decode cX1_keep 20 = .ok (.aload_n 0, 1) := dk_42 (dk_at dksX1_keep_0 20 rfl rfl)
theorem dX1_keep_21 : decode cX1_keep 21 = .ok (.aload_n 0, 1) := dk_42 (dk_at dksX1_keep_0 21 rfl rfl)
theorem dX1_keep_22 : decode cX1_keep 22 = .ok (.getfield 116, 3) := dk_180 0 116 (dk_at dksX1_keep_1 0 rfl rfl)
theorem dX1_keep_25 : decode cX1_keep 25 = .ok (.invokevirtual 407, 3) := dk_182 1 151 (dk_at dksX1_keep_1 3 rfl rfl)
theorem dX1_keep_28 : decode cX1_keep 28 = .ok (.iconst 0, 1) := dk_3 (dk_at dksX1_keep_1 6 rfl rfl)
theorem dX1_keep_29 : decode cX1_keep 29 = .ok (.istore_n 1, 1) := dk_60 (dk_at dksX1_keep_1 7 rfl rfl)
theorem dX1_keep_30 : decode cX1_keep 30 = .ok (.iconst 0, 1) := dk_3 (dk_at dksX1_keep_1 8 rfl rfl)
theorem dX1_keep_31 : decode cX1_keep 31 = .ok (.istore_n 2, 1) := dk_61 (dk_at dksX1_keep_1 9 rfl rfl)
theorem dX1_keep_32 : decode cX1_keep 32 = .ok (.iload_n 2, 1) := dk_28 (dk_at dksX1_keep_1 10 rfl rfl)
theorem dX1_keep_33 : decode cX1_keep 33 = .ok (.aload_n 0, 1) := dk_42 (dk_at dksX1_keep_1 11 rfl rfl)
theorem dX1_keep_34 : decode cX1_keep 34 = .ok (.getfield 497, 3) := dk_180 1 241 (dk_at dksX1_keep_1 12 rfl rfl)
theorem dX1_keep_37 : decode cX1_keep 37 = .ok (.if_icmp .ge 43, 3) := dk_162 0 43 (dk_at dksX1_keep_1 15 rfl rfl)
theorem dX1_keep_40 : decode cX1_keep 40 = .ok (.iconst 0, 1) := dk_3 (dk_at dksX1_keep_1 18 rfl rfl)
theorem dX1_keep_41 : decode cX1_keep 41 = .ok (.istore_n 3, 1) := dk_62 (dk_at dksX1_keep_1 19 rfl rfl)
theorem dX1_keep_42 : decode cX1_keep 42 = .ok (.iload_n 3, 1) := dk_29 (dk_at dksX1_keep_1 20 rfl rfl)
theorem dX1_keep_43 : decode cX1_keep 43 = .ok (.aload_n 0, 1) := dk_42 (dk_at dksX1_keep_1 21 rfl rfl)
theorem dX1_keep_44 : decode cX1_keep 44 = .ok (.getfield 99, 3) := dk_180 0 99 (dk_at dksX1_keep_2 0 rfl rfl)
theorem dX1_keep_47 : decode cX1_keep 47 = .ok (.iload_n 2, 1) := dk_28 (dk_at dksX1_keep_2 3 rfl rfl)
theorem dX1_keep_48 : decode cX1_keep 48 = .ok (.aaload, 1) := dk_50 (dk_at dksX1_keep_2 4 rfl rfl)
theorem dX1_keep_49 : decode cX1_keep 49 = .ok (.invokevirtual 212, 3) := dk_182 0 212 (dk_at dksX1_keep_2 5 rfl rfl)
theorem dX1_keep_52 : decode cX1_keep 52 = .ok (.if_icmp .ge 22, 3) := dk_162 0 22 (dk_at dksX1_keep_2 8 rfl rfl)
theorem dX1_keep_55 : decode cX1_keep 55 = .ok (.aload_n 0, 1) := dk_42 (dk_at dksX1_keep_2 11 rfl rfl)
theorem dX1_keep_56 : decode cX1_keep 56 = .ok (.iload_n 2, 1) := dk_28 (dk_at dksX1_keep_2 12 rfl rfl)
theorem dX1_keep_57 : decode cX1_keep 57 = .ok (.iload_n 3, 1) := dk_29 (dk_at dksX1_keep_2 13 rfl rfl)
theorem dX1_keep_58 : decode cX1_keep 58 = .ok (.invokevirtual 506, 3) := dk_182 1 250 (dk_at dksX1_keep_2 14 rfl rfl)
theorem dX1_keep_61 : decode cX1_keep 61 = .ok (.iconst (-1), 1) := dk_2 (dk_at dksX1_keep_2 17 rfl rfl)
theorem dX1_keep_62 : decode cX1_keep 62 = .ok (.if_icmp .eq 6, 3) := dk_159 0 6 (dk_at dksX1_keep_2 18 rfl rfl)
theorem dX1_keep_65 : decode cX1_keep 65 = .ok (.iinc 1 1, 3) := dk_132 1 1 (dk_at dksX1_keep_2 21 rfl rfl)
theorem dX1_keep_68 : decode cX1_keep 68 = .ok (.iinc 3 1, 3) := dk_132 3 1 (dk_at dksX1_keep_3 0 rfl rfl)
theorem dX1_keep_71 : decode cX1_keep 71 = .ok (.goto (-29), 3) := dk_167 255 227 (dk_at dksX1_keep_3 3 rfl rfl)
theorem dX1_keep_74 : decode cX1_keep 74 = .ok (.iinc 2 1, 3) := dk_132 2 1 (dk_at dksX1_keep_3 6 rfl rfl)
theorem dX1_keep_77 : decode cX1_keep 77 = .ok (.goto (-45), 3) := dk_167 255 211 (dk_at dksX1_keep_3 9 rfl rfl)
theorem dX1_keep_80 : decode cX1_keep 80 = .ok (.aload_n 0, 1) := dk_42 (dk_at dksX1_keep_3 12 rfl rfl)
theorem dX1_keep_81 : decode cX1_keep 81 = .ok (.getfield 40, 3) := dk_180 0 40 (dk_at dksX1_keep_3 13 rfl rfl)
theorem dX1_keep_84 : decode cX1_keep 84 = .ok (.invokevirtual 126, 3) := dk_182 0 126 (dk_at dksX1_keep_3 16 rfl rfl)
theorem dX1_keep_87 : decode cX1_keep 87 = .ok (.iload_n 1, 1) := dk_27 (dk_at dksX1_keep_3 19 rfl rfl)
theorem dX1_keep_88 : decode cX1_keep 88 = .ok (.iadd, 1) := dk_96 (dk_at dksX1_keep_3 20 rfl rfl)
theorem dX1_keep_89 : decode cX1_keep 89 = .ok (.sipush 400, 3) := dk_17 1 144 (dk_at dksX1_keep_3 21 rfl rfl)
theorem dX1_keep_92 : decode cX1_keep 92 = .ok (.if_icmp .le 5, 3) := dk_164 0 5 (dk_at dksX1_keep_4 0 rfl rfl)
theorem dX1_keep_95 : decode cX1_keep 95 = .ok (.iconst (-1), 1) := dk_2 (dk_at dksX1_keep_4 3 rfl rfl)
theorem dX1_keep_96 : decode cX1_keep 96 = .ok (.ireturn, 1) := dk_172 (dk_at dksX1_keep_4 4 rfl rfl)
theorem dX1_keep_97 : decode cX1_keep 97 = .ok (.iconst 0, 1) := dk_3 (dk_at dksX1_keep_4 5 rfl rfl)
theorem dX1_keep_98 : decode cX1_keep 98 = .ok (.istore_n 2, 1) := dk_61 (dk_at dksX1_keep_4 6 rfl rfl)
theorem dX1_keep_99 : decode cX1_keep 99 = .ok (.iload_n 2, 1) := dk_28 (dk_at dksX1_keep_4 7 rfl rfl)
theorem dX1_keep_100 : decode cX1_keep 100 = .ok (.aload_n 0, 1) := dk_42 (dk_at dksX1_keep_4 8 rfl rfl)
theorem dX1_keep_101 : decode cX1_keep 101 = .ok (.getfield 497, 3) := dk_180 1 241 (dk_at dksX1_keep_4 9 rfl rfl)
theorem dX1_keep_104 : decode cX1_keep 104 = .ok (.if_icmp .ge 76, 3) := dk_162 0 76 (dk_at dksX1_keep_4 12 rfl rfl)
theorem dX1_keep_107 : decode cX1_keep 107 = .ok (.iconst 0, 1) := dk_3 (dk_at dksX1_keep_4 15 rfl rfl)
theorem dX1_keep_108 : decode cX1_keep 108 = .ok (.istore_n 3, 1) := dk_62 (dk_at dksX1_keep_4 16 rfl rfl)
theorem dX1_keep_109 : decode cX1_keep 109 = .ok (.iload_n 3, 1) := dk_29 (dk_at dksX1_keep_4 17 rfl rfl)
theorem dX1_keep_110 : decode cX1_keep 110 = .ok (.aload_n 0, 1) := dk_42 (dk_at dksX1_keep_4 18 rfl rfl)
theorem dX1_keep_111 : decode cX1_keep 111 = .ok (.getfield 99, 3) := dk_180 0 99 (dk_at dksX1_keep_4 19 rfl rfl)
theorem dX1_keep_114 : decode cX1_keep 114 = .ok (.iload_n 2, 1) := dk_28 (dk_at dksX1_keep_4 22 rfl rfl)
theorem dX1_keep_115 : decode cX1_keep 115 = .ok (.aaload, 1) := dk_50 (dk_at dksX1_keep_4 23 rfl rfl)
theorem dX1_keep_116 : decode cX1_keep 116 = .ok (.invokevirtual 212, 3) := dk_182 0 212 (dk_at dksX1_keep_5 0 rfl rfl)
theorem dX1_keep_119 : decode cX1_keep 119 = .ok (.if_icmp .ge 55, 3) := dk_162 0 55 (dk_at dksX1_keep_5 3 rfl rfl)
theorem dX1_keep_122 : decode cX1_keep 122 = .ok (.aload_n 0, 1) := dk_42 (dk_at dksX1_keep_5 6 rfl rfl)
theorem dX1_keep_123 : decode cX1_keep 123 = .ok (.iload_n 2, 1) := dk_28 (dk_at dksX1_keep_5 7 rfl rfl)
theorem dX1_keep_124 : decode cX1_keep 124 = .ok (.iload_n 3, 1) := dk_29 (dk_at dksX1_keep_5 8 rfl rfl)
theorem dX1_keep_125 : decode cX1_keep 125 = .ok (.invokevirtual 506, 3) := dk_182 1 250 (dk_at dksX1_keep_5 9 rfl rfl)
theorem dX1_keep_128 : decode cX1_keep 128 = .ok (.iconst (-1), 1) := dk_2 (dk_at dksX1_keep_5 12 rfl rfl)
theorem dX1_keep_129 : decode cX1_keep 129 = .ok (.if_icmp .eq 39, 3) := dk_159 0 39 (dk_at dksX1_keep_5 13 rfl rfl)
theorem dX1_keep_132 : decode cX1_keep 132 = .ok (.aload_n 0, 1) := dk_42 (dk_at dksX1_keep_5 16 rfl rfl)
theorem dX1_keep_133 : decode cX1_keep 133 = .ok (.getfield 40, 3) := dk_180 0 40 (dk_at dksX1_keep_5 17 rfl rfl)
theorem dX1_keep_136 : decode cX1_keep 136 = .ok (.new 217, 3) := dk_187 0 217 (dk_at dksX1_keep_5 20 rfl rfl)
theorem dX1_keep_139 : decode cX1_keep 139 = .ok (.dup, 1) := dk_89 (dk_at dksX1_keep_5 23 rfl rfl)
theorem dX1_keep_140 : decode cX1_keep 140 = .ok (.aload_n 0, 1) := dk_42 (dk_at dksX1_keep_6 0 rfl rfl)
theorem dX1_keep_141 : decode cX1_keep 141 = .ok (.getfield 99, 3) := dk_180 0 99 (dk_at dksX1_keep_6 1 rfl rfl)
theorem dX1_keep_144 : decode cX1_keep 144 = .ok (.iload_n 2, 1) := dk_28 (dk_at dksX1_keep_6 4 rfl rfl)
theorem dX1_keep_145 : decode cX1_keep 145 = .ok (.aaload, 1) := dk_50 (dk_at dksX1_keep_6 5 rfl rfl)
theorem dX1_keep_146 : decode cX1_keep 146 = .ok (.getfield 233, 3) := dk_180 0 233 (dk_at dksX1_keep_6 6 rfl rfl)
theorem dX1_keep_149 : decode cX1_keep 149 = .ok (.iload_n 3, 1) := dk_29 (dk_at dksX1_keep_6 9 rfl rfl)
theorem dX1_keep_150 : decode cX1_keep 150 = .ok (.aload_n 0, 1) := dk_42 (dk_at dksX1_keep_6 10 rfl rfl)
theorem dX1_keep_151 : decode cX1_keep 151 = .ok (.iload_n 2, 1) := dk_28 (dk_at dksX1_keep_6 11 rfl rfl)
theorem dX1_keep_152 : decode cX1_keep 152 = .ok (.iload_n 3, 1) := dk_29 (dk_at dksX1_keep_6 12 rfl rfl)
theorem dX1_keep_153 : decode cX1_keep 153 = .ok (.invokevirtual 506, 3) := dk_182 1 250 (dk_at dksX1_keep_6 13 rfl rfl)
theorem dX1_keep_156 : decode cX1_keep 156 = .ok (.iconst 0, 1) := dk_3 (dk_at dksX1_keep_6 16 rfl rfl)
theorem dX1_keep_157 : decode cX1_keep 157 = .ok (.aload_n 0, 1) := dk_42 (dk_at dksX1_keep_6 17 rfl rfl)
theorem dX1_keep_158 : decode cX1_keep 158 = .ok (.getfield 116, 3) := dk_180 0 116 (dk_at dksX1_keep_6 18 rfl rfl)
theorem dX1_keep_161 : decode cX1_keep 161 = .ok (.invokespecial 219, 3) := dk_183 0 219 (dk_at dksX1_keep_6 21 rfl rfl)
theorem dX1_keep_164 : decode cX1_keep 164 = .ok (.invokevirtual 145, 3) := dk_182 0 145 (dk_at dksX1_keep_7 0 rfl rfl)
theorem dX1_keep_167 : decode cX1_keep 167 = .ok (.pop, 1) := dk_87 (dk_at dksX1_keep_7 3 rfl rfl)
theorem dX1_keep_168 : decode cX1_keep 168 = .ok (.iinc 3 1, 3) := dk_132 3 1 (dk_at dksX1_keep_7 4 rfl rfl)
theorem dX1_keep_171 : decode cX1_keep 171 = .ok (.goto (-62), 3) := dk_167 255 194 (dk_at dksX1_keep_7 7 rfl rfl)
theorem dX1_keep_174 : decode cX1_keep 174 = .ok (.iinc 2 1, 3) := dk_132 2 1 (dk_at dksX1_keep_7 10 rfl rfl)
theorem dX1_keep_177 : decode cX1_keep 177 = .ok (.goto (-78), 3) := dk_167 255 178 (dk_at dksX1_keep_7 13 rfl rfl)
theorem dX1_keep_180 : decode cX1_keep 180 = .ok (.iconst 0, 1) := dk_3 (dk_at dksX1_keep_7 16 rfl rfl)
theorem dX1_keep_181 : decode cX1_keep 181 = .ok (.istore_n 2, 1) := dk_61 (dk_at dksX1_keep_7 17 rfl rfl)
theorem dX1_keep_182 : decode cX1_keep 182 = .ok (.iload_n 2, 1) := dk_28 (dk_at dksX1_keep_7 18 rfl rfl)
theorem dX1_keep_183 : decode cX1_keep 183 = .ok (.aload_n 0, 1) := dk_42 (dk_at dksX1_keep_7 19 rfl rfl)
theorem dX1_keep_184 : decode cX1_keep 184 = .ok (.getfield 497, 3) := dk_180 1 241 (dk_at dksX1_keep_7 20 rfl rfl)
theorem dX1_keep_187 : decode cX1_keep 187 = .ok (.if_icmp .ge 23, 3) := dk_162 0 23 (dk_at dksX1_keep_8 0 rfl rfl)
theorem dX1_keep_190 : decode cX1_keep 190 = .ok (.aload_n 0, 1) := dk_42 (dk_at dksX1_keep_8 3 rfl rfl)
theorem dX1_keep_191 : decode cX1_keep 191 = .ok (.getfield 37, 3) := dk_180 0 37 (dk_at dksX1_keep_8 4 rfl rfl)
theorem dX1_keep_194 : decode cX1_keep 194 = .ok (.aload_n 0, 1) := dk_42 (dk_at dksX1_keep_8 7 rfl rfl)
theorem dX1_keep_195 : decode cX1_keep 195 = .ok (.getfield 99, 3) := dk_180 0 99 (dk_at dksX1_keep_8 8 rfl rfl)
theorem dX1_keep_198 : decode cX1_keep 198 = .ok (.iload_n 2, 1) := dk_28 (dk_at dksX1_keep_8 11 rfl rfl)
theorem dX1_keep_199 : decode cX1_keep 199 = .ok (.aaload, 1) := dk_50 (dk_at dksX1_keep_8 12 rfl rfl)
theorem dX1_keep_200 : decode cX1_keep 200 = .ok (.invokevirtual 145, 3) := dk_182 0 145 (dk_at dksX1_keep_8 13 rfl rfl)
theorem dX1_keep_203 : decode cX1_keep 203 = .ok (.pop, 1) := dk_87 (dk_at dksX1_keep_8 16 rfl rfl)
theorem dX1_keep_204 : decode cX1_keep 204 = .ok (.iinc 2 1, 3) := dk_132 2 1 (dk_at dksX1_keep_8 17 rfl rfl)
theorem dX1_keep_207 : decode cX1_keep 207 = .ok (.goto (-25), 3) := dk_167 255 231 (dk_at dksX1_keep_8 20 rfl rfl)
theorem dX1_keep_210 : decode cX1_keep 210 = .ok (.aload_n 0, 1) := dk_42 (dk_at dksX1_keep_8 23 rfl rfl)
theorem dX1_keep_211 : decode cX1_keep 211 = .ok (.dup, 1) := dk_89 (dk_at dksX1_keep_9 0 rfl rfl)
theorem dX1_keep_212 : decode cX1_keep 212 = .ok (.getfield 119, 3) := dk_180 0 119 (dk_at dksX1_keep_9 1 rfl rfl)
theorem dX1_keep_215 : decode cX1_keep 215 = .ok (.iconst 1, 1) := dk_4 (dk_at dksX1_keep_9 4 rfl rfl)
theorem dX1_keep_216 : decode cX1_keep 216 = .ok (.iadd, 1) := dk_96 (dk_at dksX1_keep_9 5 rfl rfl)
theorem dX1_keep_217 : decode cX1_keep 217 = .ok (.putfield 119, 3) := dk_181 0 119 (dk_at dksX1_keep_9 6 rfl rfl)
theorem dX1_keep_220 : decode cX1_keep 220 = .ok (.aload_n 0, 1) := dk_42 (dk_at dksX1_keep_9 9 rfl rfl)
theorem dX1_keep_221 : decode cX1_keep 221 = .ok (.getfield 37, 3) := dk_180 0 37 (dk_at dksX1_keep_9 10 rfl rfl)
theorem dX1_keep_224 : decode cX1_keep 224 = .ok (.invokevirtual 126, 3) := dk_182 0 126 (dk_at dksX1_keep_9 13 rfl rfl)
theorem dX1_keep_227 : decode cX1_keep 227 = .ok (.ireturn, 1) := dk_172 (dk_at dksX1_keep_9 16 rfl rfl)
abbrev cX1_castOfFirst : ByteArray := prog_1_method_68_code
def yX1_castOfFirst : MethodName := ⟨RX1, "castOfFirst", "(II)I"⟩
def dkwX1_castOfFirst_1 : List UInt8 := [180, 0, 64, 45, 180, 0, 233, 50, 28, 46, 172]
abbrev dktX1_castOfFirst_1 : List UInt8 := dkwX1_castOfFirst_1 ++ []
def dkwX1_castOfFirst_0 : List UInt8 := [42, 42, 180, 0, 99, 27, 50, 180, 1, 2, 182, 1, 212, 78, 45, 199, 0, 7, 2, 167, 0, 14, 42]
abbrev dktX1_castOfFirst_0 : List UInt8 := dkwX1_castOfFirst_0 ++ dktX1_castOfFirst_1
theorem dksX1_castOfFirst_0 : cX1_castOfFirst.data.toList.drop 0 = dktX1_castOfFirst_0 := by decide +kernel
theorem dksX1_castOfFirst_1 : cX1_castOfFirst.data.toList.drop 23 = dktX1_castOfFirst_1 := dk_seg dksX1_castOfFirst_0 23 rfl rfl
theorem dX1_castOfFirst_0 : decode cX1_castOfFirst 0 = .ok (.aload_n 0, 1) := dk_42 (dk_at dksX1_castOfFirst_0 0 rfl rfl)
theorem dX1_castOfFirst_1 : decode cX1_castOfFirst 1 = .ok (.aload_n 0, 1) := dk_42 (dk_at dksX1_castOfFirst_0 1 rfl rfl)
theorem dX1_castOfFirst_2 : decode cX1_castOfFirst 2 = .ok (.getfield 99, 3) := dk_180 0 99 (dk_at dksX1_castOfFirst_0 2 rfl rfl)
theorem dX1_castOfFirst_5 : decode cX1_castOfFirst 5 = .ok (.iload_n 1, 1) := dk_27 (dk_at dksX1_castOfFirst_0 5 rfl rfl)
theorem dX1_castOfFirst_6 : decode cX1_castOfFirst 6 = .ok (.aaload, 1) := dk_50 (dk_at dksX1_castOfFirst_0 6 rfl rfl)
theorem dX1_castOfFirst_7 : decode cX1_castOfFirst 7 = .ok (.getfield 258, 3) := dk_180 1 2 (dk_at dksX1_castOfFirst_0 7 rfl rfl)
theorem dX1_castOfFirst_10 : decode cX1_castOfFirst 10 = .ok (.invokevirtual 468, 3) := dk_182 1 212 (dk_at dksX1_castOfFirst_0 10 rfl rfl)
theorem dX1_castOfFirst_13 : decode cX1_castOfFirst 13 = .ok (.astore_n 3, 1) := dk_78 (dk_at dksX1_castOfFirst_0 13 rfl rfl)
theorem dX1_castOfFirst_14 : decode cX1_castOfFirst 14 = .ok (.aload_n 3, 1) := dk_45 (dk_at dksX1_castOfFirst_0 14 rfl rfl)
theorem dX1_castOfFirst_15 : decode cX1_castOfFirst 15 = .ok (.ifnonnull 7, 3) := dk_199 0 7 (dk_at dksX1_castOfFirst_0 15 rfl rfl)
theorem dX1_castOfFirst_18 : decode cX1_castOfFirst 18 = .ok (.iconst (-1), 1) := dk_2 (dk_at dksX1_castOfFirst_0 18 rfl rfl)
theorem dX1_castOfFirst_19 : decode cX1_castOfFirst 19 = .ok (.goto 14, 3) := dk_167 0 14 (dk_at dksX1_castOfFirst_0 19 rfl rfl)
theorem dX1_castOfFirst_22 : decode cX1_castOfFirst 22 = .ok (.aload_n 0, 1) := dk_42 (dk_at dksX1_castOfFirst_0 22 rfl rfl)
theorem dX1_castOfFirst_23 : decode cX1_castOfFirst 23 = .ok (.getfield 64, 3) := dk_180 0 64 (dk_at dksX1_castOfFirst_1 0 rfl rfl)
theorem dX1_castOfFirst_26 : decode cX1_castOfFirst 26 = .ok (.aload_n 3, 1) := dk_45 (dk_at dksX1_castOfFirst_1 3 rfl rfl)
theorem dX1_castOfFirst_27 : decode cX1_castOfFirst 27 = .ok (.getfield 233, 3) := dk_180 0 233 (dk_at dksX1_castOfFirst_1 4 rfl rfl)
theorem dX1_castOfFirst_30 : decode cX1_castOfFirst 30 = .ok (.aaload, 1) := dk_50 (dk_at dksX1_castOfFirst_1 7 rfl rfl)
theorem dX1_castOfFirst_31 : decode cX1_castOfFirst 31 = .ok (.iload_n 2, 1) := dk_28 (dk_at dksX1_castOfFirst_1 8 rfl rfl)
theorem dX1_castOfFirst_32 : decode cX1_castOfFirst 32 = .ok (.iaload, 1) := dk_46 (dk_at dksX1_castOfFirst_1 9 rfl rfl)
theorem dX1_castOfFirst_33 : decode cX1_castOfFirst 33 = .ok (.ireturn, 1) := dk_172 (dk_at dksX1_castOfFirst_1 10 rfl rfl)
abbrev cX1_count : ByteArray := prog_1_method_69_code
def yX1_count : MethodName := ⟨RX1, "count", "(I)I"⟩
def dkwX1_count_4 : List UInt8 := [180, 0, 105, 172, 2, 172]
abbrev dktX1_count_4 : List UInt8 := dkwX1_count_4 ++ []
def dkwX1_count_3 : List UInt8 := [180, 0, 37, 182, 0, 126, 172, 42, 180, 0, 40, 182, 0, 126, 172, 42, 180, 0, 43, 182, 0, 126, 172, 42]
abbrev dktX1_count_3 : List UInt8 := dkwX1_count_3 ++ dktX1_count_4
def dkwX1_count_2 : List UInt8 := [42, 180, 0, 116, 172, 42, 180, 0, 30, 182, 0, 126, 172, 42, 180, 0, 34, 182, 0, 126, 172, 42]
abbrev dktX1_count_2 : List UInt8 := dkwX1_count_2 ++ dktX1_count_3
def dkwX1_count_1 : List UInt8 := [170, 0, 0, 0, 0, 0, 93, 0, 0, 0, 0, 0, 0, 0, 6, 0, 0, 0, 43, 0, 0, 0, 48, 0, 0, 0, 56, 0, 0, 0, 64, 0, 0, 0, 72, 0, 0, 0, 80, 0, 0, 0, 88]
abbrev dktX1_count_1 : List UInt8 := dkwX1_count_1 ++ dktX1_count_2
def dkwX1_count_0 : List UInt8 := [27]
abbrev dktX1_count_0 : List UInt8 := dkwX1_count_0 ++ dktX1_count_1
theorem dksX1_count_0 : cX1_count.data.toList.drop 0 = dktX1_count_0 := by decide +kernel
theorem dksX1_count_1 : cX1_count.data.toList.drop 1 = dktX1_count_1 := dk_seg dksX1_count_0 1 rfl rfl
theorem dksX1_count_2 : cX1_count.data.toList.drop 44 = dktX1_count_2 := dk_seg dksX1_count_1 43 rfl rfl
theorem dksX1_count_3 : cX1_count.data.toList.drop 66 = dktX1_count_3 := dk_seg dksX1_count_2 22 rfl rfl
theorem dksX1_count_4 : cX1_count.data.toList.drop 90 = dktX1_count_4 := dk_seg dksX1_count_3 24 rfl rfl
theorem dX1_count_0 : decode cX1_count 0 = .ok (.iload_n 1, 1) := dk_27 (dk_at dksX1_count_0 0 rfl rfl)
theorem dX1_count_1 : decode cX1_count 1 = .ok (.tableswitch 93 0 6 #[43, 48, 56, 64, 72, 80, 88], 43) := by decide +kernel
theorem dX1_count_44 : decode cX1_count 44 = .ok (.aload_n 0, 1) := dk_42 (dk_at dksX1_count_2 0 rfl rfl)
theorem dX1_count_45 : decode cX1_count 45 = .ok (.getfield 116, 3) := dk_180 0 116 (dk_at dksX1_count_2 1 rfl rfl)
theorem dX1_count_48 : decode cX1_count 48 = .ok (.ireturn, 1) := dk_172 (dk_at dksX1_count_2 4 rfl rfl)
theorem dX1_count_49 : decode cX1_count 49 = .ok (.aload_n 0, 1) := dk_42 (dk_at dksX1_count_2 5 rfl rfl)
theorem dX1_count_50 : decode cX1_count 50 = .ok (.getfield 30, 3) := dk_180 0 30 (dk_at dksX1_count_2 6 rfl rfl)
theorem dX1_count_53 : decode cX1_count 53 = .ok (.invokevirtual 126, 3) := dk_182 0 126 (dk_at dksX1_count_2 9 rfl rfl)
theorem dX1_count_56 : decode cX1_count 56 = .ok (.ireturn, 1) := dk_172 (dk_at dksX1_count_2 12 rfl rfl)
theorem dX1_count_57 : decode cX1_count 57 = .ok (.aload_n 0, 1) := dk_42 (dk_at dksX1_count_2 13 rfl rfl)
theorem dX1_count_58 : decode cX1_count 58 = .ok (.getfield 34, 3) := dk_180 0 34 (dk_at dksX1_count_2 14 rfl rfl)
theorem dX1_count_61 : decode cX1_count 61 = .ok (.invokevirtual 126, 3) := dk_182 0 126 (dk_at dksX1_count_2 17 rfl rfl)
theorem dX1_count_64 : decode cX1_count 64 = .ok (.ireturn, 1) := dk_172 (dk_at dksX1_count_2 20 rfl rfl)
theorem dX1_count_65 : decode cX1_count 65 = .ok (.aload_n 0, 1) := dk_42 (dk_at dksX1_count_2 21 rfl rfl)
theorem dX1_count_66 : decode cX1_count 66 = .ok (.getfield 37, 3) := dk_180 0 37 (dk_at dksX1_count_3 0 rfl rfl)
theorem dX1_count_69 : decode cX1_count 69 = .ok (.invokevirtual 126, 3) := dk_182 0 126 (dk_at dksX1_count_3 3 rfl rfl)
theorem dX1_count_72 : decode cX1_count 72 = .ok (.ireturn, 1) := dk_172 (dk_at dksX1_count_3 6 rfl rfl)
theorem dX1_count_73 : decode cX1_count 73 = .ok (.aload_n 0, 1) := dk_42 (dk_at dksX1_count_3 7 rfl rfl)
theorem dX1_count_74 : decode cX1_count 74 = .ok (.getfield 40, 3) := dk_180 0 40 (dk_at dksX1_count_3 8 rfl rfl)
theorem dX1_count_77 : decode cX1_count 77 = .ok (.invokevirtual 126, 3) := dk_182 0 126 (dk_at dksX1_count_3 11 rfl rfl)
theorem dX1_count_80 : decode cX1_count 80 = .ok (.ireturn, 1) := dk_172 (dk_at dksX1_count_3 14 rfl rfl)
theorem dX1_count_81 : decode cX1_count 81 = .ok (.aload_n 0, 1) := dk_42 (dk_at dksX1_count_3 15 rfl rfl)
theorem dX1_count_82 : decode cX1_count 82 = .ok (.getfield 43, 3) := dk_180 0 43 (dk_at dksX1_count_3 16 rfl rfl)
theorem dX1_count_85 : decode cX1_count 85 = .ok (.invokevirtual 126, 3) := dk_182 0 126 (dk_at dksX1_count_3 19 rfl rfl)
theorem dX1_count_88 : decode cX1_count 88 = .ok (.ireturn, 1) := dk_172 (dk_at dksX1_count_3 22 rfl rfl)
theorem dX1_count_89 : decode cX1_count 89 = .ok (.aload_n 0, 1) := dk_42 (dk_at dksX1_count_3 23 rfl rfl)
theorem dX1_count_90 : decode cX1_count 90 = .ok (.getfield 105, 3) := dk_180 0 105 (dk_at dksX1_count_4 0 rfl rfl)
theorem dX1_count_93 : decode cX1_count 93 = .ok (.ireturn, 1) := dk_172 (dk_at dksX1_count_4 3 rfl rfl)
theorem dX1_count_94 : decode cX1_count 94 = .ok (.iconst (-1), 1) := dk_2 (dk_at dksX1_count_4 4 rfl rfl)
theorem dX1_count_95 : decode cX1_count 95 = .ok (.ireturn, 1) := dk_172 (dk_at dksX1_count_4 5 rfl rfl)
abbrev cX1_told : ByteArray := prog_1_method_45_code
def yX1_told : MethodName := ⟨RX1, "told", "(II)I"⟩
def dkwX1_told_3 : List UInt8 := [16, 10, 108, 16, 100, 112, 167, 0, 14, 29, 16, 8, 160, 0, 7, 2, 167, 0, 4, 29, 172]
abbrev dktX1_told_3 : List UInt8 := dkwX1_told_3 ++ []
def dkwX1_told_2 : List UInt8 := [180, 0, 86, 27, 46, 17, 3, 232, 108, 167, 0, 34, 28, 4, 160, 0, 18, 42, 180, 0, 86, 27, 46]
abbrev dktX1_told_2 : List UInt8 := dkwX1_told_2 ++ dktX1_told_3
def dkwX1_told_1 : List UInt8 := [187, 1, 161, 89, 183, 1, 163, 191, 42, 180, 0, 86, 27, 46, 16, 10, 112, 62, 28, 154, 0, 16, 42]
abbrev dktX1_told_1 : List UInt8 := dkwX1_told_1 ++ dktX1_told_2
def dkwX1_told_0 : List UInt8 := [27, 3, 42, 180, 0, 86, 190, 4, 100, 184, 0, 112, 153, 0, 12, 28, 3, 5, 184, 0, 112, 154, 0, 11]
abbrev dktX1_told_0 : List UInt8 := dkwX1_told_0 ++ dktX1_told_1
theorem dksX1_told_0 : cX1_told.data.toList.drop 0 = dktX1_told_0 := by decide +kernel
theorem dksX1_told_1 : cX1_told.data.toList.drop 24 = dktX1_told_1 := dk_seg dksX1_told_0 24 rfl rfl
theorem dksX1_told_2 : cX1_told.data.toList.drop 47 = dktX1_told_2 := dk_seg dksX1_told_1 23 rfl rfl
theorem dksX1_told_3 : cX1_told.data.toList.drop 70 = dktX1_told_3 := dk_seg dksX1_told_2 23 rfl rfl
theorem dX1_told_0 : decode cX1_told 0 = .ok (.iload_n 1, 1) := dk_27 (dk_at dksX1_told_0 0 rfl rfl)
theorem dX1_told_1 : decode cX1_told 1 = .ok (.iconst 0, 1) := dk_3 (dk_at dksX1_told_0 1 rfl rfl)
theorem dX1_told_2 : decode cX1_told 2 = .ok (.aload_n 0, 1) := dk_42 (dk_at dksX1_told_0 2 rfl rfl)
theorem dX1_told_3 : decode cX1_told 3 = .ok (.getfield 86, 3) := dk_180 0 86 (dk_at dksX1_told_0 3 rfl rfl)
theorem dX1_told_6 : decode cX1_told 6 = .ok (.arraylength, 1) := dk_190 (dk_at dksX1_told_0 6 rfl rfl)
theorem dX1_told_7 : decode cX1_told 7 = .ok (.iconst 1, 1) := dk_4 (dk_at dksX1_told_0 7 rfl rfl)
theorem dX1_told_8 : decode cX1_told 8 = .ok (.isub, 1) := dk_100 (dk_at dksX1_told_0 8 rfl rfl)
theorem dX1_told_9 : decode cX1_told 9 = .ok (.invokestatic 112, 3) := dk_184 0 112 (dk_at dksX1_told_0 9 rfl rfl)
theorem dX1_told_12 : decode cX1_told 12 = .ok (.ifCond .eq 12, 3) := dk_153 0 12 (dk_at dksX1_told_0 12 rfl rfl)
theorem dX1_told_15 : decode cX1_told 15 = .ok (.iload_n 2, 1) := dk_28 (dk_at dksX1_told_0 15 rfl rfl)
theorem dX1_told_16 : decode cX1_told 16 = .ok (.iconst 0, 1) := dk_3 (dk_at dksX1_told_0 16 rfl rfl)
theorem dX1_told_17 : decode cX1_told 17 = .ok (.iconst 2, 1) := dk_5 (dk_at dksX1_told_0 17 rfl rfl)
theorem dX1_told_18 : decode cX1_told 18 = .ok (.invokestatic 112, 3) := dk_184 0 112 (dk_at dksX1_told_0 18 rfl rfl)
theorem dX1_told_21 : decode cX1_told 21 = .ok (.ifCond .ne 11, 3) := dk_154 0 11 (dk_at dksX1_told_0 21 rfl rfl)
theorem dX1_told_24 : decode cX1_told 24 = .ok (.new 417, 3) := dk_187 1 161 (dk_at dksX1_told_1 0 rfl rfl)
theorem dX1_told_27 : decode cX1_told 27 = .ok (.dup, 1) := dk_89 (dk_at dksX1_told_1 3 rfl rfl)
theorem dX1_told_28 : decode cX1_told 28 = .ok (.invokespecial 419, 3) := dk_183 1 163 (dk_at dksX1_told_1 4 rfl rfl)
theorem dX1_told_31 : decode cX1_told 31 = .ok (.athrow, 1) := dk_191 (dk_at dksX1_told_1 7 rfl rfl)
theorem dX1_told_32 : decode cX1_told 32 = .ok (.aload_n 0, 1) := dk_42 (dk_at dksX1_told_1 8 rfl rfl)
theorem dX1_told_33 : decode cX1_told 33 = .ok (.getfield 86, 3) := dk_180 0 86 (dk_at dksX1_told_1 9 rfl rfl)
theorem dX1_told_36 : decode cX1_told 36 = .ok (.iload_n 1, 1) := dk_27 (dk_at dksX1_told_1 12 rfl rfl)
theorem dX1_told_37 : decode cX1_told 37 = .ok (.iaload, 1) := dk_46 (dk_at dksX1_told_1 13 rfl rfl)
theorem dX1_told_38 : decode cX1_told 38 = .ok (.bipush 10, 2) := dk_16 10 (dk_at dksX1_told_1 14 rfl rfl)
theorem dX1_told_40 : decode cX1_told 40 = .ok (.irem, 1) := dk_112 (dk_at dksX1_told_1 16 rfl rfl)
theorem dX1_told_41 : decode cX1_told 41 = .ok (.istore_n 3, 1) := dk_62 (dk_at dksX1_told_1 17 rfl rfl)
theorem dX1_told_42 : decode cX1_told 42 = .ok (.iload_n 2, 1) := dk_28 (dk_at dksX1_told_1 18 rfl rfl)
theorem dX1_told_43 : decode cX1_told 43 = .ok (.ifCond .ne 16, 3) := dk_154 0 16 (dk_at dksX1_told_1 19 rfl rfl)
theorem dX1_told_46 : decode cX1_told 46 = .ok (.aload_n 0, 1) := dk_42 (dk_at dksX1_told_1 22 rfl rfl)
theorem dX1_told_47 : decode cX1_told 47 = .ok (.getfield 86, 3) := dk_180 0 86 (dk_at dksX1_told_2 0 rfl rfl)
theorem dX1_told_50 : decode cX1_told 50 = .ok (.iload_n 1, 1) := dk_27 (dk_at dksX1_told_2 3 rfl rfl)
theorem dX1_told_51 : decode cX1_told 51 = .ok (.iaload, 1) := dk_46 (dk_at dksX1_told_2 4 rfl rfl)
theorem dX1_told_52 : decode cX1_told 52 = .ok (.sipush 1000, 3) := dk_17 3 232 (dk_at dksX1_told_2 5 rfl rfl)
theorem dX1_told_55 : decode cX1_told 55 = .ok (.idiv, 1) := dk_108 (dk_at dksX1_told_2 8 rfl rfl)
theorem dX1_told_56 : decode cX1_told 56 = .ok (.goto 34, 3) := dk_167 0 34 (dk_at dksX1_told_2 9 rfl rfl)
theorem dX1_told_59 : decode cX1_told 59 = .ok (.iload_n 2, 1) := dk_28 (dk_at dksX1_told_2 12 rfl rfl)
theorem dX1_told_60 : decode cX1_told 60 = .ok (.iconst 1, 1) := dk_4 (dk_at dksX1_told_2 13 rfl rfl)
theorem dX1_told_61 : decode cX1_told 61 = .ok (.if_icmp .ne 18, 3) := dk_160 0 18 (dk_at dksX1_told_2 14 rfl rfl)
theorem dX1_told_64 : decode cX1_told 64 = .ok (.aload_n 0, 1) := dk_42 (dk_at dksX1_told_2 17 rfl rfl)
theorem dX1_told_65 : decode cX1_told 65 = .ok (.getfield 86, 3) := dk_180 0 86 (dk_at dksX1_told_2 18 rfl rfl)
theorem dX1_told_68 : decode cX1_told 68 = .ok (.iload_n 1, 1) := dk_27 (dk_at dksX1_told_2 21 rfl rfl)
theorem dX1_told_69 : decode cX1_told 69 = .ok (.iaload, 1) := dk_46 (dk_at dksX1_told_2 22 rfl rfl)
theorem dX1_told_70 : decode cX1_told 70 = .ok (.bipush 10, 2) := dk_16 10 (dk_at dksX1_told_3 0 rfl rfl)
theorem dX1_told_72 : decode cX1_told 72 = .ok (.idiv, 1) := dk_108 (dk_at dksX1_told_3 2 rfl rfl)
theorem dX1_told_73 : decode cX1_told 73 = .ok (.bipush 100, 2) := dk_16 100 (dk_at dksX1_told_3 3 rfl rfl)
theorem dX1_told_75 : decode cX1_told 75 = .ok (.irem, 1) := dk_112 (dk_at dksX1_told_3 5 rfl rfl)
theorem dX1_told_76 : decode cX1_told 76 = .ok (.goto 14, 3) := dk_167 0 14 (dk_at dksX1_told_3 6 rfl rfl)
theorem dX1_told_79 : decode cX1_told 79 = .ok (.iload_n 3, 1) := dk_29 (dk_at dksX1_told_3 9 rfl rfl)
theorem dX1_told_80 : decode cX1_told 80 = .ok (.bipush 8, 2) := dk_16 8 (dk_at dksX1_told_3 10 rfl rfl)
theorem dX1_told_82 : decode cX1_told 82 = .ok (.if_icmp .ne 7, 3) := dk_160 0 7 (dk_at dksX1_told_3 12 rfl rfl)
theorem dX1_told_85 : decode cX1_told 85 = .ok (.iconst (-1), 1) := dk_2 (dk_at dksX1_told_3 15 rfl rfl)
theorem dX1_told_86 : decode cX1_told 86 = .ok (.goto 4, 3) := dk_167 0 4 (dk_at dksX1_told_3 16 rfl rfl)
theorem dX1_told_89 : decode cX1_told 89 = .ok (.iload_n 3, 1) := dk_29 (dk_at dksX1_told_3 19 rfl rfl)
theorem dX1_told_90 : decode cX1_told 90 = .ok (.ireturn, 1) := dk_172 (dk_at dksX1_told_3 20 rfl rfl)
theorem q129 : (Jvm.Cond.initialized "OperaHouse") ∈ lw_all := lw_g (lw_at lw_m1 1 rfl) rfl
theorem q171 : (Jvm.Cond.instantiable "OperaHouse" (37 : Nat)) ∈ lw_all := lw_g (lw_at lw_m1 43 rfl) rfl
theorem q173 : (Jvm.Cond.instanceMethod ({ cls := "OperaHouse", name := "<init>", desc := "()V" } : Jvm.MethodName)) ∈ lw_all := lw_g (lw_at lw_m1 45 rfl) rfl
theorem q174 : (Jvm.Cond.code ({ cls := "OperaHouse", name := "<init>", desc := "()V" } : Jvm.MethodName) prog_1_method_2_code (1 : Nat) (Option.none : Option Jvm.ClassFile.FieldType)) ∈ lw_all := lw_g (lw_at lw_m1 46 rfl) rfl
theorem q175 : (Jvm.Cond.methodLink "OperaHouse" (1 : Nat) ({ cls := "java/lang/Object", name := "<init>", desc := "()V" } : Jvm.MethodName)) ∈ lw_all := lw_g (lw_at lw_m1 47 rfl) rfl
theorem q178 : (Jvm.Cond.classLink "OperaHouse" (27 : Nat) "java/util/ArrayList") ∈ lw_all := lw_g (lw_at lw_m1 50 rfl) rfl
theorem q180 : (Jvm.Cond.methodLink "OperaHouse" (29 : Nat) ({ cls := "java/util/ArrayList", name := "<init>", desc := "()V" } : Jvm.MethodName)) ∈ lw_all := lw_g (lw_at lw_m1 52 rfl) rfl
theorem q206 : (Jvm.Cond.classLink "OperaHouse" (49 : Nat) "OperaHouse$Wagons") ∈ lw_all := lw_g (lw_at lw_m1 78 rfl) rfl
theorem q208 : (Jvm.Cond.methodLink "OperaHouse" (51 : Nat) ({ cls := "OperaHouse$Wagons", name := "<init>", desc := "()V" } : Jvm.MethodName)) ∈ lw_all := lw_g (lw_at lw_m1 80 rfl) rfl
theorem q238 : (Jvm.Cond.static ({ cls := "OperaHouse", name := "isIn", desc := "(III)Z" } : Jvm.MethodName)) ∈ lw_all := lw_g (lw_at lw_m1 110 rfl) rfl
theorem q239 : (Jvm.Cond.code ({ cls := "OperaHouse", name := "isIn", desc := "(III)Z" } : Jvm.MethodName) prog_1_method_1_code (3 : Nat) (Option.some Jvm.ClassFile.FieldType.boolean)) ∈ lw_all := lw_g (lw_at lw_m1 111 rfl) rfl
theorem q242 : (Jvm.Cond.fieldLinkNest "OperaHouse" (401 : Nat) "OperaHouse$Wagons" "onStage" "[I" "OperaHouse") ∈ lw_tbl := lw_at lw_m1 114 rfl
theorem q254 : (Jvm.Cond.classLink "OperaHouse" (56 : Nat) "OperaHouse$Call") ∈ lw_all := lw_g (lw_at lw_m1 126 rfl) rfl
theorem q256 : (Jvm.Cond.classLink "OperaHouse" (62 : Nat) "[[I") ∈ lw_all := lw_g (lw_at lw_m1 128 rfl) rfl
theorem q257 : (Jvm.Cond.classLink "OperaHouse" (89 : Nat) "OperaHouse$Asked") ∈ lw_all := lw_g (lw_at lw_m1 129 rfl) rfl
theorem q259 : (Jvm.Cond.methodLinkNest "OperaHouse" (91 : Nat) ({ cls := "OperaHouse$Asked", name := "<init>", desc := "()V" } : Jvm.MethodName) "OperaHouse") ∈ lw_tbl := lw_at lw_m1 131 rfl
theorem q264 : (Jvm.Cond.fieldLinkNest "OperaHouse" (420 : Nat) "OperaHouse$Asked" "kind" "I" "OperaHouse") ∈ lw_tbl := lw_at lw_m1 136 rfl
theorem q266 : (Jvm.Cond.fieldLinkNest "OperaHouse" (421 : Nat) "OperaHouse$Asked" "hours" "I" "OperaHouse") ∈ lw_tbl := lw_at lw_m1 138 rfl
theorem q268 : (Jvm.Cond.fieldLinkNest "OperaHouse" (429 : Nat) "OperaHouse$Asked" "nth" "I" "OperaHouse") ∈ lw_tbl := lw_at lw_m1 140 rfl
theorem q270 : (Jvm.Cond.fieldLinkNest "OperaHouse" (432 : Nat) "OperaHouse$Asked" "over" "I" "OperaHouse") ∈ lw_tbl := lw_at lw_m1 142 rfl
theorem q272 : (Jvm.Cond.fieldLinkNest "OperaHouse" (422 : Nat) "OperaHouse$Asked" "late" "Z" "OperaHouse") ∈ lw_tbl := lw_at lw_m1 144 rfl
theorem q274 : (Jvm.Cond.fieldLinkNest "OperaHouse" (425 : Nat) "OperaHouse$Asked" "cover" "Z" "OperaHouse") ∈ lw_tbl := lw_at lw_m1 146 rfl
theorem q276 : (Jvm.Cond.fieldLinkNest "OperaHouse" (426 : Nat) "OperaHouse$Asked" "instead" "Z" "OperaHouse") ∈ lw_tbl := lw_at lw_m1 148 rfl
theorem q293 : (Jvm.Cond.fieldLink "OperaHouse" (9 : Nat) "OperaHouse" "tape" "[B") ∈ lw_all := lw_g (lw_at lw_m1 165 rfl) rfl
theorem q294 : (Jvm.Cond.fieldLink "OperaHouse" (105 : Nat) "OperaHouse" "taped" "I") ∈ lw_all := lw_g (lw_at lw_m1 166 rfl) rfl
theorem q295 : (Jvm.Cond.fieldLink "OperaHouse" (163 : Nat) "OperaHouse" "fault" "I") ∈ lw_all := lw_g (lw_at lw_m1 167 rfl) rfl
theorem q296 : (Jvm.Cond.fieldLink "OperaHouse" (116 : Nat) "OperaHouse" "today" "I") ∈ lw_all := lw_g (lw_at lw_m1 168 rfl) rfl
theorem q297 : (Jvm.Cond.fieldLink "OperaHouse" (13 : Nat) "OperaHouse" "daily" "I") ∈ lw_all := lw_g (lw_at lw_m1 169 rfl) rfl
theorem q298 : (Jvm.Cond.fieldLink "OperaHouse" (17 : Nat) "OperaHouse" "weekly" "I") ∈ lw_all := lw_g (lw_at lw_m1 170 rfl) rfl
theorem q299 : (Jvm.Cond.fieldLink "OperaHouse" (119 : Nat) "OperaHouse" "stamp" "I") ∈ lw_all := lw_g (lw_at lw_m1 171 rfl) rfl
theorem q300 : (Jvm.Cond.fieldLink "OperaHouse" (20 : Nat) "OperaHouse" "one" "[I") ∈ lw_all := lw_g (lw_at lw_m1 172 rfl) rfl
theorem q301 : (Jvm.Cond.fieldLink "OperaHouse" (24 : Nat) "OperaHouse" "other" "[I") ∈ lw_all := lw_g (lw_at lw_m1 173 rfl) rfl
theorem q302 : (Jvm.Cond.fieldLink "OperaHouse" (30 : Nat) "OperaHouse" "operas" "Ljava/util/ArrayList;") ∈ lw_all := lw_g (lw_at lw_m1 174 rfl) rfl
theorem q303 : (Jvm.Cond.fieldLink "OperaHouse" (34 : Nat) "OperaHouse" "singers" "Ljava/util/ArrayList;") ∈ lw_all := lw_g (lw_at lw_m1 175 rfl) rfl
theorem q304 : (Jvm.Cond.fieldLink "OperaHouse" (37 : Nat) "OperaHouse" "calls" "Ljava/util/ArrayList;") ∈ lw_all := lw_g (lw_at lw_m1 176 rfl) rfl
theorem q305 : (Jvm.Cond.fieldLink "OperaHouse" (40 : Nat) "OperaHouse" "parts" "Ljava/util/ArrayList;") ∈ lw_all := lw_g (lw_at lw_m1 177 rfl) rfl
theorem q306 : (Jvm.Cond.fieldLink "OperaHouse" (43 : Nat) "OperaHouse" "ills" "Ljava/util/ArrayList;") ∈ lw_all := lw_g (lw_at lw_m1 178 rfl) rfl
theorem q307 : (Jvm.Cond.fieldLink "OperaHouse" (46 : Nat) "OperaHouse" "lessons" "Ljava/util/ArrayList;") ∈ lw_all := lw_g (lw_at lw_m1 179 rfl) rfl
theorem q308 : (Jvm.Cond.fieldLink "OperaHouse" (52 : Nat) "OperaHouse" "wagons" "LOperaHouse$Wagons;") ∈ lw_all := lw_g (lw_at lw_m1 180 rfl) rfl
theorem q309 : (Jvm.Cond.fieldLink "OperaHouse" (58 : Nat) "OperaHouse" "order" "[LOperaHouse$Call;") ∈ lw_all := lw_g (lw_at lw_m1 181 rfl) rfl
theorem q310 : (Jvm.Cond.fieldLink "OperaHouse" (227 : Nat) "OperaHouse" "ordered" "I") ∈ lw_all := lw_g (lw_at lw_m1 182 rfl) rfl
theorem q311 : (Jvm.Cond.fieldLink "OperaHouse" (234 : Nat) "OperaHouse" "asOf" "I") ∈ lw_all := lw_g (lw_at lw_m1 183 rfl) rfl
theorem q312 : (Jvm.Cond.fieldLink "OperaHouse" (64 : Nat) "OperaHouse" "cast" "[[I") ∈ lw_all := lw_g (lw_at lw_m1 184 rfl) rfl
theorem q313 : (Jvm.Cond.fieldLink "OperaHouse" (67 : Nat) "OperaHouse" "ahead" "[[I") ∈ lw_all := lw_g (lw_at lw_m1 185 rfl) rfl
theorem q314 : (Jvm.Cond.fieldLink "OperaHouse" (70 : Nat) "OperaHouse" "cover" "[[I") ∈ lw_all := lw_g (lw_at lw_m1 186 rfl) rfl
theorem q315 : (Jvm.Cond.fieldLink "OperaHouse" (73 : Nat) "OperaHouse" "wrong" "[[I") ∈ lw_all := lw_g (lw_at lw_m1 187 rfl) rfl
theorem q316 : (Jvm.Cond.fieldLink "OperaHouse" (76 : Nat) "OperaHouse" "stand" "[Z") ∈ lw_all := lw_g (lw_at lw_m1 188 rfl) rfl
theorem q317 : (Jvm.Cond.fieldLink "OperaHouse" (80 : Nat) "OperaHouse" "spare" "[Z") ∈ lw_all := lw_g (lw_at lw_m1 189 rfl) rfl
theorem q318 : (Jvm.Cond.fieldLink "OperaHouse" (83 : Nat) "OperaHouse" "busy" "[Z") ∈ lw_all := lw_g (lw_at lw_m1 190 rfl) rfl
theorem q319 : (Jvm.Cond.fieldLink "OperaHouse" (86 : Nat) "OperaHouse" "found" "[I") ∈ lw_all := lw_g (lw_at lw_m1 191 rfl) rfl
theorem q320 : (Jvm.Cond.fieldLink "OperaHouse" (92 : Nat) "OperaHouse" "asked" "LOperaHouse$Asked;") ∈ lw_all := lw_g (lw_at lw_m1 192 rfl) rfl
theorem q321 : (Jvm.Cond.fieldLink "OperaHouse" (96 : Nat) "OperaHouse" "had" "[[I") ∈ lw_all := lw_g (lw_at lw_m1 193 rfl) rfl
theorem q322 : (Jvm.Cond.fieldLink "OperaHouse" (99 : Nat) "OperaHouse" "tried" "[LOperaHouse$Call;") ∈ lw_all := lw_g (lw_at lw_m1 194 rfl) rfl
theorem q323 : (Jvm.Cond.fieldLink "OperaHouse" (102 : Nat) "OperaHouse" "wished" "[I") ∈ lw_all := lw_g (lw_at lw_m1 195 rfl) rfl
theorem q324 : (Jvm.Cond.fieldLink "OperaHouse" (475 : Nat) "OperaHouse" "wishes" "I") ∈ lw_all := lw_g (lw_at lw_m1 196 rfl) rfl
theorem q325 : (Jvm.Cond.fieldLink "OperaHouse" (481 : Nat) "OperaHouse" "tries" "I") ∈ lw_all := lw_g (lw_at lw_m1 197 rfl) rfl
theorem q326 : (Jvm.Cond.fieldLink "OperaHouse" (472 : Nat) "OperaHouse" "hourOf" "I") ∈ lw_all := lw_g (lw_at lw_m1 198 rfl) rfl
theorem q327 : (Jvm.Cond.fieldLink "OperaHouse" (478 : Nat) "OperaHouse" "lastDay" "I") ∈ lw_all := lw_g (lw_at lw_m1 199 rfl) rfl
theorem q328 : (Jvm.Cond.fieldLink "OperaHouse" (497 : Nat) "OperaHouse" "laidMany" "I") ∈ lw_all := lw_g (lw_at lw_m1 200 rfl) rfl
theorem q329 : (Jvm.Cond.fieldLink "OperaHouse" (503 : Nat) "OperaHouse" "laidStamp" "I") ∈ lw_all := lw_g (lw_at lw_m1 201 rfl) rfl
theorem q330 : (Jvm.Cond.laysFinal "OperaHouse" "OperaHouse" "tape" "[B") ∈ lw_all := lw_g (lw_at lw_m1 202 rfl) rfl
theorem q331 : (Jvm.Cond.soleField "OperaHouse" "tape") ∈ lw_all := lw_g (lw_at lw_m1 203 rfl) rfl
theorem q332 : (Jvm.Cond.lays "OperaHouse" "OperaHouse" "taped" "I") ∈ lw_all := lw_g (lw_at lw_m1 204 rfl) rfl
theorem q333 : (Jvm.Cond.soleField "OperaHouse" "taped") ∈ lw_all := lw_g (lw_at lw_m1 205 rfl) rfl
theorem q334 : (Jvm.Cond.lays "OperaHouse" "OperaHouse" "fault" "I") ∈ lw_all := lw_g (lw_at lw_m1 206 rfl) rfl
theorem q335 : (Jvm.Cond.soleField "OperaHouse" "fault") ∈ lw_all := lw_g (lw_at lw_m1 207 rfl) rfl
theorem q336 : (Jvm.Cond.lays "OperaHouse" "OperaHouse" "today" "I") ∈ lw_all := lw_g (lw_at lw_m1 208 rfl) rfl
theorem q337 : (Jvm.Cond.soleField "OperaHouse" "today") ∈ lw_all := lw_g (lw_at lw_m1 209 rfl) rfl
theorem q338 : (Jvm.Cond.lays "OperaHouse" "OperaHouse" "daily" "I") ∈ lw_all := lw_g (lw_at lw_m1 210 rfl) rfl
theorem q339 : (Jvm.Cond.soleField "OperaHouse" "daily") ∈ lw_all := lw_g (lw_at lw_m1 211 rfl) rfl
theorem q340 : (Jvm.Cond.lays "OperaHouse" "OperaHouse" "weekly" "I") ∈ lw_all := lw_g (lw_at lw_m1 212 rfl) rfl
theorem q341 : (Jvm.Cond.soleField "OperaHouse" "weekly") ∈ lw_all := lw_g (lw_at lw_m1 213 rfl) rfl
theorem q342 : (Jvm.Cond.lays "OperaHouse" "OperaHouse" "stamp" "I") ∈ lw_all := lw_g (lw_at lw_m1 214 rfl) rfl
theorem q343 : (Jvm.Cond.soleField "OperaHouse" "stamp") ∈ lw_all := lw_g (lw_at lw_m1 215 rfl) rfl
theorem q344 : (Jvm.Cond.laysFinal "OperaHouse" "OperaHouse" "one" "[I") ∈ lw_all := lw_g (lw_at lw_m1 216 rfl) rfl
theorem q345 : (Jvm.Cond.soleField "OperaHouse" "one") ∈ lw_all := lw_g (lw_at lw_m1 217 rfl) rfl
theorem q346 : (Jvm.Cond.laysFinal "OperaHouse" "OperaHouse" "other" "[I") ∈ lw_all := lw_g (lw_at lw_m1 218 rfl) rfl
theorem q347 : (Jvm.Cond.soleField "OperaHouse" "other") ∈ lw_all := lw_g (lw_at lw_m1 219 rfl) rfl
theorem q348 : (Jvm.Cond.laysFinal "OperaHouse" "OperaHouse" "operas" "Ljava/util/ArrayList;") ∈ lw_all := lw_g (lw_at lw_m1 220 rfl) rfl
theorem q349 : (Jvm.Cond.soleField "OperaHouse" "operas") ∈ lw_all := lw_g (lw_at lw_m1 221 rfl) rfl
theorem q350 : (Jvm.Cond.laysFinal "OperaHouse" "OperaHouse" "singers" "Ljava/util/ArrayList;") ∈ lw_all := lw_g (lw_at lw_m1 222 rfl) rfl
theorem q351 : (Jvm.Cond.soleField "OperaHouse" "singers") ∈ lw_all := lw_g (lw_at lw_m1 223 rfl) rfl
theorem q352 : (Jvm.Cond.laysFinal "OperaHouse" "OperaHouse" "calls" "Ljava/util/ArrayList;") ∈ lw_all := lw_g (lw_at lw_m1 224 rfl) rfl
theorem q353 : (Jvm.Cond.soleField "OperaHouse" "calls") ∈ lw_all := lw_g (lw_at lw_m1 225 rfl) rfl
theorem q354 : (Jvm.Cond.laysFinal "OperaHouse" "OperaHouse" "parts" "Ljava/util/ArrayList;") ∈ lw_all := lw_g (lw_at lw_m1 226 rfl) rfl
theorem q355 : (Jvm.Cond.soleField "OperaHouse" "parts") ∈ lw_all := lw_g (lw_at lw_m1 227 rfl) rfl
theorem q356 : (Jvm.Cond.laysFinal "OperaHouse" "OperaHouse" "ills" "Ljava/util/ArrayList;") ∈ lw_all := lw_g (lw_at lw_m1 228 rfl) rfl
theorem q357 : (Jvm.Cond.soleField "OperaHouse" "ills") ∈ lw_all := lw_g (lw_at lw_m1 229 rfl) rfl
theorem q358 : (Jvm.Cond.laysFinal "OperaHouse" "OperaHouse" "lessons" "Ljava/util/ArrayList;") ∈ lw_all := lw_g (lw_at lw_m1 230 rfl) rfl
theorem q359 : (Jvm.Cond.soleField "OperaHouse" "lessons") ∈ lw_all := lw_g (lw_at lw_m1 231 rfl) rfl
theorem q360 : (Jvm.Cond.laysFinal "OperaHouse" "OperaHouse" "wagons" "LOperaHouse$Wagons;") ∈ lw_all := lw_g (lw_at lw_m1 232 rfl) rfl
theorem q361 : (Jvm.Cond.soleField "OperaHouse" "wagons") ∈ lw_all := lw_g (lw_at lw_m1 233 rfl) rfl
theorem q362 : (Jvm.Cond.laysFinal "OperaHouse" "OperaHouse" "order" "[LOperaHouse$Call;") ∈ lw_all := lw_g (lw_at lw_m1 234 rfl) rfl
theorem q363 : (Jvm.Cond.soleField "OperaHouse" "order") ∈ lw_all := lw_g (lw_at lw_m1 235 rfl) rfl
theorem q364 : (Jvm.Cond.lays "OperaHouse" "OperaHouse" "ordered" "I") ∈ lw_all := lw_g (lw_at lw_m1 236 rfl) rfl
theorem q365 : (Jvm.Cond.soleField "OperaHouse" "ordered") ∈ lw_all := lw_g (lw_at lw_m1 237 rfl) rfl
theorem q366 : (Jvm.Cond.lays "OperaHouse" "OperaHouse" "asOf" "I") ∈ lw_all := lw_g (lw_at lw_m1 238 rfl) rfl
theorem q367 : (Jvm.Cond.soleField "OperaHouse" "asOf") ∈ lw_all := lw_g (lw_at lw_m1 239 rfl) rfl
theorem q368 : (Jvm.Cond.laysFinal "OperaHouse" "OperaHouse" "cast" "[[I") ∈ lw_all := lw_g (lw_at lw_m2 0 rfl) rfl
theorem q369 : (Jvm.Cond.soleField "OperaHouse" "cast") ∈ lw_all := lw_g (lw_at lw_m2 1 rfl) rfl
theorem q370 : (Jvm.Cond.laysFinal "OperaHouse" "OperaHouse" "ahead" "[[I") ∈ lw_all := lw_g (lw_at lw_m2 2 rfl) rfl
theorem q371 : (Jvm.Cond.soleField "OperaHouse" "ahead") ∈ lw_all := lw_g (lw_at lw_m2 3 rfl) rfl
theorem q372 : (Jvm.Cond.laysFinal "OperaHouse" "OperaHouse" "cover" "[[I") ∈ lw_all := lw_g (lw_at lw_m2 4 rfl) rfl
theorem q373 : (Jvm.Cond.soleField "OperaHouse" "cover") ∈ lw_all := lw_g (lw_at lw_m2 5 rfl) rfl
theorem q374 : (Jvm.Cond.laysFinal "OperaHouse" "OperaHouse" "wrong" "[[I") ∈ lw_all := lw_g (lw_at lw_m2 6 rfl) rfl
theorem q375 : (Jvm.Cond.soleField "OperaHouse" "wrong") ∈ lw_all := lw_g (lw_at lw_m2 7 rfl) rfl
theorem q376 : (Jvm.Cond.laysFinal "OperaHouse" "OperaHouse" "stand" "[Z") ∈ lw_all := lw_g (lw_at lw_m2 8 rfl) rfl
theorem q377 : (Jvm.Cond.soleField "OperaHouse" "stand") ∈ lw_all := lw_g (lw_at lw_m2 9 rfl) rfl
theorem q378 : (Jvm.Cond.laysFinal "OperaHouse" "OperaHouse" "spare" "[Z") ∈ lw_all := lw_g (lw_at lw_m2 10 rfl) rfl
theorem q379 : (Jvm.Cond.soleField "OperaHouse" "spare") ∈ lw_all := lw_g (lw_at lw_m2 11 rfl) rfl
theorem q380 : (Jvm.Cond.laysFinal "OperaHouse" "OperaHouse" "busy" "[Z") ∈ lw_all := lw_g (lw_at lw_m2 12 rfl) rfl
theorem q381 : (Jvm.Cond.soleField "OperaHouse" "busy") ∈ lw_all := lw_g (lw_at lw_m2 13 rfl) rfl
theorem q382 : (Jvm.Cond.lays "OperaHouse" "OperaHouse" "found" "[I") ∈ lw_all := lw_g (lw_at lw_m2 14 rfl) rfl
theorem q383 : (Jvm.Cond.soleField "OperaHouse" "found") ∈ lw_all := lw_g (lw_at lw_m2 15 rfl) rfl
theorem q384 : (Jvm.Cond.laysFinal "OperaHouse" "OperaHouse" "asked" "LOperaHouse$Asked;") ∈ lw_all := lw_g (lw_at lw_m2 16 rfl) rfl
theorem q385 : (Jvm.Cond.soleField "OperaHouse" "asked") ∈ lw_all := lw_g (lw_at lw_m2 17 rfl) rfl
theorem q386 : (Jvm.Cond.laysFinal "OperaHouse" "OperaHouse" "had" "[[I") ∈ lw_all := lw_g (lw_at lw_m2 18 rfl) rfl
theorem q387 : (Jvm.Cond.soleField "OperaHouse" "had") ∈ lw_all := lw_g (lw_at lw_m2 19 rfl) rfl
theorem q388 : (Jvm.Cond.laysFinal "OperaHouse" "OperaHouse" "tried" "[LOperaHouse$Call;") ∈ lw_all := lw_g (lw_at lw_m2 20 rfl) rfl
theorem q389 : (Jvm.Cond.soleField "OperaHouse" "tried") ∈ lw_all := lw_g (lw_at lw_m2 21 rfl) rfl
theorem q390 : (Jvm.Cond.laysFinal "OperaHouse" "OperaHouse" "wished" "[I") ∈ lw_all := lw_g (lw_at lw_m2 22 rfl) rfl
theorem q391 : (Jvm.Cond.soleField "OperaHouse" "wished") ∈ lw_all := lw_g (lw_at lw_m2 23 rfl) rfl
theorem q392 : (Jvm.Cond.lays "OperaHouse" "OperaHouse" "wishes" "I") ∈ lw_all := lw_g (lw_at lw_m2 24 rfl) rfl
theorem q393 : (Jvm.Cond.soleField "OperaHouse" "wishes") ∈ lw_all := lw_g (lw_at lw_m2 25 rfl) rfl
theorem q394 : (Jvm.Cond.lays "OperaHouse" "OperaHouse" "tries" "I") ∈ lw_all := lw_g (lw_at lw_m2 26 rfl) rfl
theorem q395 : (Jvm.Cond.soleField "OperaHouse" "tries") ∈ lw_all := lw_g (lw_at lw_m2 27 rfl) rfl
theorem q396 : (Jvm.Cond.lays "OperaHouse" "OperaHouse" "hourOf" "I") ∈ lw_all := lw_g (lw_at lw_m2 28 rfl) rfl
theorem q397 : (Jvm.Cond.soleField "OperaHouse" "hourOf") ∈ lw_all := lw_g (lw_at lw_m2 29 rfl) rfl
theorem q398 : (Jvm.Cond.lays "OperaHouse" "OperaHouse" "lastDay" "I") ∈ lw_all := lw_g (lw_at lw_m2 30 rfl) rfl
theorem q399 : (Jvm.Cond.soleField "OperaHouse" "lastDay") ∈ lw_all := lw_g (lw_at lw_m2 31 rfl) rfl
theorem q400 : (Jvm.Cond.lays "OperaHouse" "OperaHouse" "laidMany" "I") ∈ lw_all := lw_g (lw_at lw_m2 32 rfl) rfl
theorem q401 : (Jvm.Cond.soleField "OperaHouse" "laidMany") ∈ lw_all := lw_g (lw_at lw_m2 33 rfl) rfl
theorem q402 : (Jvm.Cond.lays "OperaHouse" "OperaHouse" "laidStamp" "I") ∈ lw_all := lw_g (lw_at lw_m2 34 rfl) rfl
theorem q403 : (Jvm.Cond.soleField "OperaHouse" "laidStamp") ∈ lw_all := lw_g (lw_at lw_m2 35 rfl) rfl
theorem q404 : (Jvm.Cond.superclass "OperaHouse" "java/lang/Object") ∈ lw_all := lw_g (lw_at lw_m2 36 rfl) rfl
theorem q406 : (Jvm.Cond.instanceMethod ({ cls := "OperaHouse", name := "feed", desc := "(IIIII)I" } : Jvm.MethodName)) ∈ lw_all := lw_g (lw_at lw_m2 38 rfl) rfl
theorem q407 : (Jvm.Cond.selects "OperaHouse" ({ cls := "OperaHouse", name := "feed", desc := "(IIIII)I" } : Jvm.MethodName) ({ cls := "OperaHouse", name := "feed", desc := "(IIIII)I" } : Jvm.MethodName)) ∈ lw_all := lw_g (lw_at lw_m2 39 rfl) rfl
theorem q408 : (Jvm.Cond.code ({ cls := "OperaHouse", name := "feed", desc := "(IIIII)I" } : Jvm.MethodName) prog_1_method_4_code (6 : Nat) (Option.some Jvm.ClassFile.FieldType.int)) ∈ lw_all := lw_g (lw_at lw_m2 40 rfl) rfl
theorem q409 : (Jvm.Cond.methodLink "OperaHouse" (108 : Nat) ({ cls := "OperaHouse", name := "come", desc := "(I)V" } : Jvm.MethodName)) ∈ lw_all := lw_g (lw_at lw_m2 41 rfl) rfl
theorem q410 : (Jvm.Cond.privateMethod ({ cls := "OperaHouse", name := "come", desc := "(I)V" } : Jvm.MethodName)) ∈ lw_tbl := lw_at lw_m2 42 rfl
theorem q411 : (Jvm.Cond.instanceMethod ({ cls := "OperaHouse", name := "come", desc := "(I)V" } : Jvm.MethodName)) ∈ lw_all := lw_g (lw_at lw_m2 43 rfl) rfl
theorem q412 : (Jvm.Cond.code ({ cls := "OperaHouse", name := "come", desc := "(I)V" } : Jvm.MethodName) prog_1_method_3_code (3 : Nat) (Option.none : Option Jvm.ClassFile.FieldType)) ∈ lw_all := lw_g (lw_at lw_m2 44 rfl) rfl
theorem q414 : (Jvm.Cond.instanceMethod ({ cls := "OperaHouse", name := "end", desc := "(I)Z" } : Jvm.MethodName)) ∈ lw_all := lw_g (lw_at lw_m2 46 rfl) rfl
theorem q415 : (Jvm.Cond.selects "OperaHouse" ({ cls := "OperaHouse", name := "end", desc := "(I)Z" } : Jvm.MethodName) ({ cls := "OperaHouse", name := "end", desc := "(I)Z" } : Jvm.MethodName)) ∈ lw_all := lw_g (lw_at lw_m2 47 rfl) rfl
theorem q416 : (Jvm.Cond.code ({ cls := "OperaHouse", name := "end", desc := "(I)Z" } : Jvm.MethodName) prog_1_method_5_code (2 : Nat) (Option.some Jvm.ClassFile.FieldType.boolean)) ∈ lw_all := lw_g (lw_at lw_m2 48 rfl) rfl
theorem q418 : (Jvm.Cond.instanceMethod ({ cls := "OperaHouse", name := "next", desc := "(I)I" } : Jvm.MethodName)) ∈ lw_all := lw_g (lw_at lw_m2 50 rfl) rfl
theorem q419 : (Jvm.Cond.selects "OperaHouse" ({ cls := "OperaHouse", name := "next", desc := "(I)I" } : Jvm.MethodName) ({ cls := "OperaHouse", name := "next", desc := "(I)I" } : Jvm.MethodName)) ∈ lw_all := lw_g (lw_at lw_m2 51 rfl) rfl
theorem q420 : (Jvm.Cond.code ({ cls := "OperaHouse", name := "next", desc := "(I)I" } : Jvm.MethodName) prog_1_method_8_code (2 : Nat) (Option.some Jvm.ClassFile.FieldType.int)) ∈ lw_all := lw_g (lw_at lw_m2 52 rfl) rfl
theorem q421 : (Jvm.Cond.methodLink "OperaHouse" (112 : Nat) ({ cls := "OperaHouse", name := "isIn", desc := "(III)Z" } : Jvm.MethodName)) ∈ lw_all := lw_g (lw_at lw_m2 53 rfl) rfl
theorem q423 : (Jvm.Cond.instanceMethod ({ cls := "OperaHouse", name := "opera", desc := "(IIZI)I" } : Jvm.MethodName)) ∈ lw_all := lw_g (lw_at lw_m2 55 rfl) rfl
theorem q424 : (Jvm.Cond.selects "OperaHouse" ({ cls := "OperaHouse", name := "opera", desc := "(IIZI)I" } : Jvm.MethodName) ({ cls := "OperaHouse", name := "opera", desc := "(IIZI)I" } : Jvm.MethodName)) ∈ lw_all := lw_g (lw_at lw_m2 56 rfl) rfl
theorem q425 : (Jvm.Cond.code ({ cls := "OperaHouse", name := "opera", desc := "(IIZI)I" } : Jvm.MethodName) prog_1_method_9_code (8 : Nat) (Option.some Jvm.ClassFile.FieldType.int)) ∈ lw_all := lw_g (lw_at lw_m2 57 rfl) rfl
theorem q426 : (Jvm.Cond.methodLink "OperaHouse" (122 : Nat) ({ cls := "OperaHouse", name := "take", desc := "()I" } : Jvm.MethodName)) ∈ lw_all := lw_g (lw_at lw_m2 58 rfl) rfl
theorem q427 : (Jvm.Cond.privateMethod ({ cls := "OperaHouse", name := "take", desc := "()I" } : Jvm.MethodName)) ∈ lw_tbl := lw_at lw_m2 59 rfl
theorem q428 : (Jvm.Cond.instanceMethod ({ cls := "OperaHouse", name := "take", desc := "()I" } : Jvm.MethodName)) ∈ lw_all := lw_g (lw_at lw_m2 60 rfl) rfl
theorem q429 : (Jvm.Cond.code ({ cls := "OperaHouse", name := "take", desc := "()I" } : Jvm.MethodName) prog_1_method_6_code (2 : Nat) (Option.some Jvm.ClassFile.FieldType.int)) ∈ lw_all := lw_g (lw_at lw_m2 61 rfl) rfl
theorem q430 : (Jvm.Cond.methodLink "OperaHouse" (126 : Nat) ({ cls := "java/util/ArrayList", name := "size", desc := "()I" } : Jvm.MethodName)) ∈ lw_all := lw_g (lw_at lw_m2 62 rfl) rfl
theorem q434 : (Jvm.Cond.classLink "OperaHouse" (129 : Nat) "OperaHouse$Opera") ∈ lw_all := lw_g (lw_at lw_m2 66 rfl) rfl
theorem q436 : (Jvm.Cond.methodLink "OperaHouse" (131 : Nat) ({ cls := "OperaHouse$Opera", name := "<init>", desc := "(IIIZI)V" } : Jvm.MethodName)) ∈ lw_all := lw_g (lw_at lw_m2 68 rfl) rfl
theorem q443 : (Jvm.Cond.fieldLinkNest "OperaHouse" (149 : Nat) "OperaHouse$Opera" "number" "I" "OperaHouse") ∈ lw_tbl := lw_at lw_m2 75 rfl
theorem q447 : (Jvm.Cond.fieldLinkNest "OperaHouse" (404 : Nat) "OperaHouse$Opera" "set" "I" "OperaHouse") ∈ lw_tbl := lw_at lw_m2 79 rfl
theorem q449 : (Jvm.Cond.fieldLinkNest "OperaHouse" (361 : Nat) "OperaHouse$Opera" "need" "I" "OperaHouse") ∈ lw_tbl := lw_at lw_m2 81 rfl
theorem q453 : (Jvm.Cond.fieldLinkNest "OperaHouse" (134 : Nat) "OperaHouse$Opera" "seats" "[I" "OperaHouse") ∈ lw_tbl := lw_at lw_m2 85 rfl
theorem q456 : (Jvm.Cond.fieldLinkNest "OperaHouse" (137 : Nat) "OperaHouse$Opera" "roles" "Ljava/util/ArrayList;" "OperaHouse") ∈ lw_tbl := lw_at lw_m2 88 rfl
theorem q472 : (Jvm.Cond.classLink "OperaHouse" (140 : Nat) "OperaHouse$Role") ∈ lw_all := lw_g (lw_at lw_m2 104 rfl) rfl
theorem q474 : (Jvm.Cond.methodLink "OperaHouse" (142 : Nat) ({ cls := "OperaHouse$Role", name := "<init>", desc := "(IIII)V" } : Jvm.MethodName)) ∈ lw_all := lw_g (lw_at lw_m2 106 rfl) rfl
theorem q481 : (Jvm.Cond.fieldLinkNest "OperaHouse" (262 : Nat) "OperaHouse$Role" "strain" "I" "OperaHouse") ∈ lw_tbl := lw_at lw_m2 113 rfl
theorem q486 : (Jvm.Cond.fieldLinkNest "OperaHouse" (460 : Nat) "OperaHouse$Role" "size" "I" "OperaHouse") ∈ lw_tbl := lw_at lw_m2 118 rfl
theorem q496 : (Jvm.Cond.methodLink "OperaHouse" (145 : Nat) ({ cls := "java/util/ArrayList", name := "add", desc := "(Ljava/lang/Object;)Z" } : Jvm.MethodName)) ∈ lw_all := lw_g (lw_at lw_m2 128 rfl) rfl
theorem q526 : (Jvm.Cond.selects "OperaHouse" ({ cls := "java/lang/Object", name := "getClass", desc := "()Ljava/lang/Class;" } : Jvm.MethodName) ({ cls := "java/lang/Object", name := "getClass", desc := "()Ljava/lang/Class;" } : Jvm.MethodName)) ∈ lw_all := lw_g (lw_at lw_m2 158 rfl) rfl
theorem q562 : (Jvm.Cond.instanceMethod ({ cls := "OperaHouse", name := "singer", desc := "(III)I" } : Jvm.MethodName)) ∈ lw_all := lw_g (lw_at lw_m2 194 rfl) rfl
theorem q563 : (Jvm.Cond.selects "OperaHouse" ({ cls := "OperaHouse", name := "singer", desc := "(III)I" } : Jvm.MethodName) ({ cls := "OperaHouse", name := "singer", desc := "(III)I" } : Jvm.MethodName)) ∈ lw_all := lw_g (lw_at lw_m2 195 rfl) rfl
theorem q564 : (Jvm.Cond.code ({ cls := "OperaHouse", name := "singer", desc := "(III)I" } : Jvm.MethodName) prog_1_method_10_code (4 : Nat) (Option.some Jvm.ClassFile.FieldType.int)) ∈ lw_all := lw_g (lw_at lw_m2 196 rfl) rfl
theorem q565 : (Jvm.Cond.classLink "OperaHouse" (152 : Nat) "OperaHouse$Singer") ∈ lw_all := lw_g (lw_at lw_m2 197 rfl) rfl
theorem q567 : (Jvm.Cond.methodLink "OperaHouse" (154 : Nat) ({ cls := "OperaHouse$Singer", name := "<init>", desc := "(IIII)V" } : Jvm.MethodName)) ∈ lw_all := lw_g (lw_at lw_m2 199 rfl) rfl
theorem q581 : (Jvm.Cond.fieldLinkNest "OperaHouse" (377 : Nat) "OperaHouse$Contract" "rest" "I" "OperaHouse") ∈ lw_tbl := lw_at lw_m2 213 rfl
theorem q584 : (Jvm.Cond.fieldLinkNest "OperaHouse" (383 : Nat) "OperaHouse$Contract" "day" "I" "OperaHouse") ∈ lw_tbl := lw_at lw_m2 216 rfl
theorem q587 : (Jvm.Cond.fieldLinkNest "OperaHouse" (388 : Nat) "OperaHouse$Contract" "week" "I" "OperaHouse") ∈ lw_tbl := lw_at lw_m2 219 rfl
theorem q590 : (Jvm.Cond.fieldLinkNest "OperaHouse" (394 : Nat) "OperaHouse$Contract" "voice" "I" "OperaHouse") ∈ lw_tbl := lw_at lw_m2 222 rfl
theorem q592 : (Jvm.Cond.fieldLinkNest "OperaHouse" (179 : Nat) "OperaHouse$Contract" "many" "I" "OperaHouse") ∈ lw_tbl := lw_at lw_m2 224 rfl
theorem q613 : (Jvm.Cond.fieldLinkNest "OperaHouse" (356 : Nat) "OperaHouse$Singer" "number" "I" "OperaHouse") ∈ lw_tbl := lw_at lw_m3 5 rfl
theorem q617 : (Jvm.Cond.fieldLinkNest "OperaHouse" (458 : Nat) "OperaHouse$Singer" "size" "I" "OperaHouse") ∈ lw_tbl := lw_at lw_m3 9 rfl
theorem q619 : (Jvm.Cond.fieldLinkNest "OperaHouse" (175 : Nat) "OperaHouse$Singer" "contract" "LOperaHouse$Contract;" "OperaHouse") ∈ lw_tbl := lw_at lw_m3 11 rfl
theorem q632 : (Jvm.Cond.instanceMethod ({ cls := "OperaHouse", name := "players", desc := "(III)Z" } : Jvm.MethodName)) ∈ lw_all := lw_g (lw_at lw_m3 24 rfl) rfl
theorem q633 : (Jvm.Cond.selects "OperaHouse" ({ cls := "OperaHouse", name := "players", desc := "(III)Z" } : Jvm.MethodName) ({ cls := "OperaHouse", name := "players", desc := "(III)Z" } : Jvm.MethodName)) ∈ lw_all := lw_g (lw_at lw_m3 25 rfl) rfl
theorem q634 : (Jvm.Cond.code ({ cls := "OperaHouse", name := "players", desc := "(III)Z" } : Jvm.MethodName) prog_1_method_11_code (4 : Nat) (Option.some Jvm.ClassFile.FieldType.boolean)) ∈ lw_all := lw_g (lw_at lw_m3 26 rfl) rfl
theorem q636 : (Jvm.Cond.instanceMethod ({ cls := "OperaHouse", name := "chorus", desc := "(II)Z" } : Jvm.MethodName)) ∈ lw_all := lw_g (lw_at lw_m3 28 rfl) rfl
theorem q637 : (Jvm.Cond.selects "OperaHouse" ({ cls := "OperaHouse", name := "chorus", desc := "(II)Z" } : Jvm.MethodName) ({ cls := "OperaHouse", name := "chorus", desc := "(II)Z" } : Jvm.MethodName)) ∈ lw_all := lw_g (lw_at lw_m3 29 rfl) rfl
theorem q638 : (Jvm.Cond.code ({ cls := "OperaHouse", name := "chorus", desc := "(II)Z" } : Jvm.MethodName) prog_1_method_12_code (3 : Nat) (Option.some Jvm.ClassFile.FieldType.boolean)) ∈ lw_all := lw_g (lw_at lw_m3 30 rfl) rfl
theorem q640 : (Jvm.Cond.instanceMethod ({ cls := "OperaHouse", name := "contract", desc := "(I)I" } : Jvm.MethodName)) ∈ lw_all := lw_g (lw_at lw_m3 32 rfl) rfl
theorem q641 : (Jvm.Cond.selects "OperaHouse" ({ cls := "OperaHouse", name := "contract", desc := "(I)I" } : Jvm.MethodName) ({ cls := "OperaHouse", name := "contract", desc := "(I)I" } : Jvm.MethodName)) ∈ lw_all := lw_g (lw_at lw_m3 33 rfl) rfl
theorem q642 : (Jvm.Cond.codeWith ({ cls := "OperaHouse", name := "contract", desc := "(I)I" } : Jvm.MethodName) prog_1_method_15_code (5 : Nat) (Option.some Jvm.ClassFile.FieldType.int) [((24 : Nat), (60 : Nat), (61 : Nat), (184 : Nat))]) ∈ lw_all := lw_g (lw_at lw_m3 34 rfl) rfl
theorem q643 : (Jvm.Cond.classLink "OperaHouse" (184 : Nat) "OperaHouse$Fault") ∈ lw_all := lw_g (lw_at lw_m3 35 rfl) rfl
theorem q644 : (Jvm.Cond.methodLink "OperaHouse" (159 : Nat) ({ cls := "OperaHouse", name := "singerOf", desc := "(I)LOperaHouse$Singer;" } : Jvm.MethodName)) ∈ lw_all := lw_g (lw_at lw_m3 36 rfl) rfl
theorem q645 : (Jvm.Cond.privateMethod ({ cls := "OperaHouse", name := "singerOf", desc := "(I)LOperaHouse$Singer;" } : Jvm.MethodName)) ∈ lw_tbl := lw_at lw_m3 37 rfl
theorem q646 : (Jvm.Cond.instanceMethod ({ cls := "OperaHouse", name := "singerOf", desc := "(I)LOperaHouse$Singer;" } : Jvm.MethodName)) ∈ lw_all := lw_g (lw_at lw_m3 38 rfl) rfl
theorem q647 : (Jvm.Cond.code ({ cls := "OperaHouse", name := "singerOf", desc := "(I)LOperaHouse$Singer;" } : Jvm.MethodName) prog_1_method_13_code (2 : Nat) (Option.some (Jvm.ClassFile.FieldType.object "OperaHouse$Singer"))) ∈ lw_all := lw_g (lw_at lw_m3 39 rfl) rfl
theorem q648 : (Jvm.Cond.methodLink "OperaHouse" (155 : Nat) ({ cls := "java/util/ArrayList", name := "get", desc := "(I)Ljava/lang/Object;" } : Jvm.MethodName)) ∈ lw_all := lw_g (lw_at lw_m3 40 rfl) rfl
theorem q662 : (Jvm.Cond.classLink "OperaHouse" (166 : Nat) "OperaHouse$Reader") ∈ lw_all := lw_g (lw_at lw_m3 54 rfl) rfl
theorem q664 : (Jvm.Cond.methodLink "OperaHouse" (168 : Nat) ({ cls := "OperaHouse$Reader", name := "<init>", desc := "([BI)V" } : Jvm.MethodName)) ∈ lw_all := lw_g (lw_at lw_m3 56 rfl) rfl
theorem q708 : (Jvm.Cond.methodLink "OperaHouse" (171 : Nat) ({ cls := "OperaHouse$Reader", name := "read", desc := "()LOperaHouse$Contract;" } : Jvm.MethodName)) ∈ lw_all := lw_g (lw_at lw_m3 100 rfl) rfl
theorem q1034 : (Jvm.Cond.fieldLinkNest "OperaHouse" (186 : Nat) "OperaHouse$Fault" "kind" "I" "OperaHouse") ∈ lw_tbl := lw_at lw_m4 186 rfl
theorem q1036 : (Jvm.Cond.fieldLinkNest "OperaHouse" (189 : Nat) "OperaHouse$Fault" "place" "I" "OperaHouse") ∈ lw_tbl := lw_at lw_m4 188 rfl
theorem q1264 : (Jvm.Cond.instanceMethod ({ cls := "OperaHouse", name := "fault", desc := "()I" } : Jvm.MethodName)) ∈ lw_all := lw_g (lw_at lw_m5 176 rfl) rfl
theorem q1265 : (Jvm.Cond.selects "OperaHouse" ({ cls := "OperaHouse", name := "fault", desc := "()I" } : Jvm.MethodName) ({ cls := "OperaHouse", name := "fault", desc := "()I" } : Jvm.MethodName)) ∈ lw_all := lw_g (lw_at lw_m5 177 rfl) rfl
theorem q1266 : (Jvm.Cond.code ({ cls := "OperaHouse", name := "fault", desc := "()I" } : Jvm.MethodName) prog_1_method_16_code (1 : Nat) (Option.some Jvm.ClassFile.FieldType.int)) ∈ lw_all := lw_g (lw_at lw_m5 178 rfl) rfl
theorem q1268 : (Jvm.Cond.instanceMethod ({ cls := "OperaHouse", name := "learn", desc := "(IIII)Z" } : Jvm.MethodName)) ∈ lw_all := lw_g (lw_at lw_m5 180 rfl) rfl
theorem q1269 : (Jvm.Cond.selects "OperaHouse" ({ cls := "OperaHouse", name := "learn", desc := "(IIII)Z" } : Jvm.MethodName) ({ cls := "OperaHouse", name := "learn", desc := "(IIII)Z" } : Jvm.MethodName)) ∈ lw_all := lw_g (lw_at lw_m5 181 rfl) rfl
theorem q1270 : (Jvm.Cond.code ({ cls := "OperaHouse", name := "learn", desc := "(IIII)Z" } : Jvm.MethodName) prog_1_method_17_code (5 : Nat) (Option.some Jvm.ClassFile.FieldType.boolean)) ∈ lw_all := lw_g (lw_at lw_m5 182 rfl) rfl
theorem q1271 : (Jvm.Cond.classLink "OperaHouse" (192 : Nat) "OperaHouse$Lesson") ∈ lw_all := lw_g (lw_at lw_m5 183 rfl) rfl
theorem q1273 : (Jvm.Cond.methodLink "OperaHouse" (194 : Nat) ({ cls := "OperaHouse$Lesson", name := "<init>", desc := "(IIIII)V" } : Jvm.MethodName)) ∈ lw_all := lw_g (lw_at lw_m5 185 rfl) rfl
theorem q1278 : (Jvm.Cond.fieldLinkNest "OperaHouse" (273 : Nat) "OperaHouse$Lesson" "singer" "I" "OperaHouse") ∈ lw_tbl := lw_at lw_m5 190 rfl
theorem q1280 : (Jvm.Cond.fieldLinkNest "OperaHouse" (274 : Nat) "OperaHouse$Lesson" "opera" "I" "OperaHouse") ∈ lw_tbl := lw_at lw_m5 192 rfl
theorem q1282 : (Jvm.Cond.fieldLinkNest "OperaHouse" (276 : Nat) "OperaHouse$Lesson" "role" "I" "OperaHouse") ∈ lw_tbl := lw_at lw_m5 194 rfl
theorem q1284 : (Jvm.Cond.fieldLinkNest "OperaHouse" (278 : Nat) "OperaHouse$Lesson" "hours" "I" "OperaHouse") ∈ lw_tbl := lw_at lw_m5 196 rfl
theorem q1286 : (Jvm.Cond.fieldLinkNest "OperaHouse" (277 : Nat) "OperaHouse$Lesson" "day" "I" "OperaHouse") ∈ lw_tbl := lw_at lw_m5 198 rfl
theorem q1299 : (Jvm.Cond.instanceMethod ({ cls := "OperaHouse", name := "call", desc := "(IIIII)I" } : Jvm.MethodName)) ∈ lw_all := lw_g (lw_at lw_m5 211 rfl) rfl
theorem q1300 : (Jvm.Cond.selects "OperaHouse" ({ cls := "OperaHouse", name := "call", desc := "(IIIII)I" } : Jvm.MethodName) ({ cls := "OperaHouse", name := "call", desc := "(IIIII)I" } : Jvm.MethodName)) ∈ lw_all := lw_g (lw_at lw_m5 212 rfl) rfl
theorem q1301 : (Jvm.Cond.code ({ cls := "OperaHouse", name := "call", desc := "(IIIII)I" } : Jvm.MethodName) prog_1_method_19_code (6 : Nat) (Option.some Jvm.ClassFile.FieldType.int)) ∈ lw_all := lw_g (lw_at lw_m5 213 rfl) rfl
theorem q1302 : (Jvm.Cond.methodLink "OperaHouse" (201 : Nat) ({ cls := "OperaHouse", name := "mayBe", desc := "(IIIII)Z" } : Jvm.MethodName)) ∈ lw_all := lw_g (lw_at lw_m5 214 rfl) rfl
theorem q1303 : (Jvm.Cond.privateMethod ({ cls := "OperaHouse", name := "mayBe", desc := "(IIIII)Z" } : Jvm.MethodName)) ∈ lw_tbl := lw_at lw_m5 215 rfl
theorem q1304 : (Jvm.Cond.instanceMethod ({ cls := "OperaHouse", name := "mayBe", desc := "(IIIII)Z" } : Jvm.MethodName)) ∈ lw_all := lw_g (lw_at lw_m5 216 rfl) rfl
theorem q1305 : (Jvm.Cond.code ({ cls := "OperaHouse", name := "mayBe", desc := "(IIIII)Z" } : Jvm.MethodName) prog_1_method_18_code (6 : Nat) (Option.some Jvm.ClassFile.FieldType.boolean)) ∈ lw_all := lw_g (lw_at lw_m5 217 rfl) rfl
theorem q1306 : (Jvm.Cond.methodLink "OperaHouse" (197 : Nat) ({ cls := "OperaHouse$Call", name := "hoursOf", desc := "(ILOperaHouse$Opera;)I" } : Jvm.MethodName)) ∈ lw_all := lw_g (lw_at lw_m5 218 rfl) rfl
theorem q1310 : (Jvm.Cond.methodLink "OperaHouse" (205 : Nat) ({ cls := "OperaHouse$Call", name := "<init>", desc := "(IIIILOperaHouse$Opera;I)V" } : Jvm.MethodName)) ∈ lw_all := lw_g (lw_at lw_m5 222 rfl) rfl
theorem q1316 : (Jvm.Cond.fieldLinkNest "OperaHouse" (233 : Nat) "OperaHouse$Call" "number" "I" "OperaHouse") ∈ lw_tbl := lw_at lw_m5 228 rfl
theorem q1318 : (Jvm.Cond.fieldLinkNest "OperaHouse" (214 : Nat) "OperaHouse$Call" "day" "I" "OperaHouse") ∈ lw_tbl := lw_at lw_m5 230 rfl
theorem q1320 : (Jvm.Cond.fieldLinkNest "OperaHouse" (281 : Nat) "OperaHouse$Call" "kind" "I" "OperaHouse") ∈ lw_tbl := lw_at lw_m5 232 rfl
theorem q1322 : (Jvm.Cond.fieldLinkNest "OperaHouse" (349 : Nat) "OperaHouse$Call" "halves" "I" "OperaHouse") ∈ lw_tbl := lw_at lw_m5 234 rfl
theorem q1324 : (Jvm.Cond.fieldLinkNest "OperaHouse" (230 : Nat) "OperaHouse$Call" "begin" "I" "OperaHouse") ∈ lw_tbl := lw_at lw_m5 236 rfl
theorem q1326 : (Jvm.Cond.fieldLinkNest "OperaHouse" (282 : Nat) "OperaHouse$Call" "end" "I" "OperaHouse") ∈ lw_tbl := lw_at lw_m5 238 rfl
theorem q1328 : (Jvm.Cond.fieldLinkNest "OperaHouse" (258 : Nat) "OperaHouse$Call" "opera" "LOperaHouse$Opera;" "OperaHouse") ∈ lw_tbl := lw_at lw_m6 0 rfl
theorem q1345 : (Jvm.Cond.instanceMethod ({ cls := "OperaHouse", name := "cast", desc := "(IIIZ)Z" } : Jvm.MethodName)) ∈ lw_all := lw_g (lw_at lw_m6 17 rfl) rfl
theorem q1346 : (Jvm.Cond.selects "OperaHouse" ({ cls := "OperaHouse", name := "cast", desc := "(IIIZ)Z" } : Jvm.MethodName) ({ cls := "OperaHouse", name := "cast", desc := "(IIIZ)Z" } : Jvm.MethodName)) ∈ lw_all := lw_g (lw_at lw_m6 18 rfl) rfl
theorem q1347 : (Jvm.Cond.code ({ cls := "OperaHouse", name := "cast", desc := "(IIIZ)Z" } : Jvm.MethodName) prog_1_method_20_code (6 : Nat) (Option.some Jvm.ClassFile.FieldType.boolean)) ∈ lw_all := lw_g (lw_at lw_m6 19 rfl) rfl
theorem q1348 : (Jvm.Cond.methodLink "OperaHouse" (208 : Nat) ({ cls := "OperaHouse", name := "callOf", desc := "(I)LOperaHouse$Call;" } : Jvm.MethodName)) ∈ lw_all := lw_g (lw_at lw_m6 20 rfl) rfl
theorem q1349 : (Jvm.Cond.privateMethod ({ cls := "OperaHouse", name := "callOf", desc := "(I)LOperaHouse$Call;" } : Jvm.MethodName)) ∈ lw_tbl := lw_at lw_m6 21 rfl
theorem q1350 : (Jvm.Cond.instanceMethod ({ cls := "OperaHouse", name := "callOf", desc := "(I)LOperaHouse$Call;" } : Jvm.MethodName)) ∈ lw_all := lw_g (lw_at lw_m6 22 rfl) rfl
theorem q1351 : (Jvm.Cond.code ({ cls := "OperaHouse", name := "callOf", desc := "(I)LOperaHouse$Call;" } : Jvm.MethodName) prog_1_method_14_code (2 : Nat) (Option.some (Jvm.ClassFile.FieldType.object "OperaHouse$Call"))) ∈ lw_all := lw_g (lw_at lw_m6 23 rfl) rfl
theorem q1352 : (Jvm.Cond.methodLink "OperaHouse" (212 : Nat) ({ cls := "OperaHouse$Call", name := "roles", desc := "()I" } : Jvm.MethodName)) ∈ lw_all := lw_g (lw_at lw_m6 24 rfl) rfl
theorem q1357 : (Jvm.Cond.classLink "OperaHouse" (217 : Nat) "OperaHouse$Part") ∈ lw_all := lw_g (lw_at lw_m6 29 rfl) rfl
theorem q1359 : (Jvm.Cond.methodLink "OperaHouse" (219 : Nat) ({ cls := "OperaHouse$Part", name := "<init>", desc := "(IIIZI)V" } : Jvm.MethodName)) ∈ lw_all := lw_g (lw_at lw_m6 31 rfl) rfl
theorem q1364 : (Jvm.Cond.fieldLinkNest "OperaHouse" (245 : Nat) "OperaHouse$Part" "call" "I" "OperaHouse") ∈ lw_tbl := lw_at lw_m6 36 rfl
theorem q1366 : (Jvm.Cond.fieldLinkNest "OperaHouse" (248 : Nat) "OperaHouse$Part" "role" "I" "OperaHouse") ∈ lw_tbl := lw_at lw_m6 38 rfl
theorem q1368 : (Jvm.Cond.fieldLinkNest "OperaHouse" (251 : Nat) "OperaHouse$Part" "singer" "I" "OperaHouse") ∈ lw_tbl := lw_at lw_m6 40 rfl
theorem q1370 : (Jvm.Cond.fieldLinkNest "OperaHouse" (241 : Nat) "OperaHouse$Part" "day" "I" "OperaHouse") ∈ lw_tbl := lw_at lw_m6 42 rfl
theorem q1372 : (Jvm.Cond.fieldLinkNest "OperaHouse" (242 : Nat) "OperaHouse$Part" "cover" "Z" "OperaHouse") ∈ lw_tbl := lw_at lw_m6 44 rfl
theorem q1385 : (Jvm.Cond.instanceMethod ({ cls := "OperaHouse", name := "ill", desc := "(III)Z" } : Jvm.MethodName)) ∈ lw_all := lw_g (lw_at lw_m6 57 rfl) rfl
theorem q1386 : (Jvm.Cond.selects "OperaHouse" ({ cls := "OperaHouse", name := "ill", desc := "(III)Z" } : Jvm.MethodName) ({ cls := "OperaHouse", name := "ill", desc := "(III)Z" } : Jvm.MethodName)) ∈ lw_all := lw_g (lw_at lw_m6 58 rfl) rfl
theorem q1387 : (Jvm.Cond.code ({ cls := "OperaHouse", name := "ill", desc := "(III)Z" } : Jvm.MethodName) prog_1_method_21_code (4 : Nat) (Option.some Jvm.ClassFile.FieldType.boolean)) ∈ lw_all := lw_g (lw_at lw_m6 59 rfl) rfl
theorem q1388 : (Jvm.Cond.methodLink "OperaHouse" (220 : Nat) ({ cls := "OperaHouse", name := "isDay", desc := "(I)Z" } : Jvm.MethodName)) ∈ lw_all := lw_g (lw_at lw_m6 60 rfl) rfl
theorem q1389 : (Jvm.Cond.static ({ cls := "OperaHouse", name := "isDay", desc := "(I)Z" } : Jvm.MethodName)) ∈ lw_all := lw_g (lw_at lw_m6 61 rfl) rfl
theorem q1390 : (Jvm.Cond.code ({ cls := "OperaHouse", name := "isDay", desc := "(I)Z" } : Jvm.MethodName) prog_1_method_7_code (1 : Nat) (Option.some Jvm.ClassFile.FieldType.boolean)) ∈ lw_all := lw_g (lw_at lw_m6 62 rfl) rfl
theorem q1391 : (Jvm.Cond.classLink "OperaHouse" (224 : Nat) "OperaHouse$Ill") ∈ lw_all := lw_g (lw_at lw_m6 63 rfl) rfl
theorem q1393 : (Jvm.Cond.methodLink "OperaHouse" (226 : Nat) ({ cls := "OperaHouse$Ill", name := "<init>", desc := "(IIII)V" } : Jvm.MethodName)) ∈ lw_all := lw_g (lw_at lw_m6 65 rfl) rfl
theorem q1398 : (Jvm.Cond.fieldLinkNest "OperaHouse" (265 : Nat) "OperaHouse$Ill" "singer" "I" "OperaHouse") ∈ lw_tbl := lw_at lw_m6 70 rfl
theorem q1400 : (Jvm.Cond.fieldLinkNest "OperaHouse" (267 : Nat) "OperaHouse$Ill" "from" "I" "OperaHouse") ∈ lw_tbl := lw_at lw_m6 72 rfl
theorem q1402 : (Jvm.Cond.fieldLinkNest "OperaHouse" (270 : Nat) "OperaHouse$Ill" "to" "I" "OperaHouse") ∈ lw_tbl := lw_at lw_m6 74 rfl
theorem q1404 : (Jvm.Cond.fieldLinkNest "OperaHouse" (266 : Nat) "OperaHouse$Ill" "day" "I" "OperaHouse") ∈ lw_tbl := lw_at lw_m6 76 rfl
theorem q1415 : (Jvm.Cond.instanceMethod ({ cls := "OperaHouse", name := "who", desc := "(IIZI)I" } : Jvm.MethodName)) ∈ lw_all := lw_g (lw_at lw_m6 87 rfl) rfl
theorem q1416 : (Jvm.Cond.selects "OperaHouse" ({ cls := "OperaHouse", name := "who", desc := "(IIZI)I" } : Jvm.MethodName) ({ cls := "OperaHouse", name := "who", desc := "(IIZI)I" } : Jvm.MethodName)) ∈ lw_all := lw_g (lw_at lw_m6 88 rfl) rfl
theorem q1417 : (Jvm.Cond.code ({ cls := "OperaHouse", name := "who", desc := "(IIZI)I" } : Jvm.MethodName) prog_1_method_43_code (6 : Nat) (Option.some Jvm.ClassFile.FieldType.int)) ∈ lw_all := lw_g (lw_at lw_m6 89 rfl) rfl
theorem q1418 : (Jvm.Cond.methodLink "OperaHouse" (407 : Nat) ({ cls := "OperaHouse", name := "layOut", desc := "(I)V" } : Jvm.MethodName)) ∈ lw_all := lw_g (lw_at lw_m6 90 rfl) rfl
theorem q1419 : (Jvm.Cond.privateMethod ({ cls := "OperaHouse", name := "layOut", desc := "(I)V" } : Jvm.MethodName)) ∈ lw_tbl := lw_at lw_m6 91 rfl
theorem q1420 : (Jvm.Cond.instanceMethod ({ cls := "OperaHouse", name := "layOut", desc := "(I)V" } : Jvm.MethodName)) ∈ lw_all := lw_g (lw_at lw_m6 92 rfl) rfl
theorem q1421 : (Jvm.Cond.code ({ cls := "OperaHouse", name := "layOut", desc := "(I)V" } : Jvm.MethodName) prog_1_method_25_code (4 : Nat) (Option.none : Option Jvm.ClassFile.FieldType)) ∈ lw_all := lw_g (lw_at lw_m6 93 rfl) rfl
theorem q1422 : (Jvm.Cond.methodLink "OperaHouse" (237 : Nat) ({ cls := "OperaHouse", name := "enter", desc := "(LOperaHouse$Call;)V" } : Jvm.MethodName)) ∈ lw_all := lw_g (lw_at lw_m6 94 rfl) rfl
theorem q1423 : (Jvm.Cond.privateMethod ({ cls := "OperaHouse", name := "enter", desc := "(LOperaHouse$Call;)V" } : Jvm.MethodName)) ∈ lw_tbl := lw_at lw_m6 95 rfl
theorem q1424 : (Jvm.Cond.instanceMethod ({ cls := "OperaHouse", name := "enter", desc := "(LOperaHouse$Call;)V" } : Jvm.MethodName)) ∈ lw_all := lw_g (lw_at lw_m6 96 rfl) rfl
theorem q1425 : (Jvm.Cond.code ({ cls := "OperaHouse", name := "enter", desc := "(LOperaHouse$Call;)V" } : Jvm.MethodName) prog_1_method_22_code (4 : Nat) (Option.none : Option Jvm.ClassFile.FieldType)) ∈ lw_all := lw_g (lw_at lw_m6 97 rfl) rfl
theorem q1426 : (Jvm.Cond.methodLink "OperaHouse" (254 : Nat) ({ cls := "OperaHouse", name := "give", desc := "(III)V" } : Jvm.MethodName)) ∈ lw_all := lw_g (lw_at lw_m6 98 rfl) rfl
theorem q1427 : (Jvm.Cond.privateMethod ({ cls := "OperaHouse", name := "give", desc := "(III)V" } : Jvm.MethodName)) ∈ lw_tbl := lw_at lw_m6 99 rfl
theorem q1428 : (Jvm.Cond.instanceMethod ({ cls := "OperaHouse", name := "give", desc := "(III)V" } : Jvm.MethodName)) ∈ lw_all := lw_g (lw_at lw_m6 100 rfl) rfl
theorem q1429 : (Jvm.Cond.code ({ cls := "OperaHouse", name := "give", desc := "(III)V" } : Jvm.MethodName) prog_1_method_24_code (4 : Nat) (Option.none : Option Jvm.ClassFile.FieldType)) ∈ lw_all := lw_g (lw_at lw_m6 101 rfl) rfl
theorem q1431 : (Jvm.Cond.instanceMethod ({ cls := "OperaHouse", name := "wrong", desc := "(I)I" } : Jvm.MethodName)) ∈ lw_all := lw_g (lw_at lw_m6 103 rfl) rfl
theorem q1432 : (Jvm.Cond.selects "OperaHouse" ({ cls := "OperaHouse", name := "wrong", desc := "(I)I" } : Jvm.MethodName) ({ cls := "OperaHouse", name := "wrong", desc := "(I)I" } : Jvm.MethodName)) ∈ lw_all := lw_g (lw_at lw_m6 104 rfl) rfl
theorem q1433 : (Jvm.Cond.code ({ cls := "OperaHouse", name := "wrong", desc := "(I)I" } : Jvm.MethodName) prog_1_method_44_code (8 : Nat) (Option.some Jvm.ClassFile.FieldType.int)) ∈ lw_all := lw_g (lw_at lw_m6 105 rfl) rfl
theorem q1434 : (Jvm.Cond.methodLink "OperaHouse" (410 : Nat) ({ cls := "OperaHouse", name := "judge", desc := "()V" } : Jvm.MethodName)) ∈ lw_all := lw_g (lw_at lw_m6 106 rfl) rfl
theorem q1435 : (Jvm.Cond.privateMethod ({ cls := "OperaHouse", name := "judge", desc := "()V" } : Jvm.MethodName)) ∈ lw_tbl := lw_at lw_m6 107 rfl
theorem q1436 : (Jvm.Cond.instanceMethod ({ cls := "OperaHouse", name := "judge", desc := "()V" } : Jvm.MethodName)) ∈ lw_all := lw_g (lw_at lw_m6 108 rfl) rfl
theorem q1437 : (Jvm.Cond.code ({ cls := "OperaHouse", name := "judge", desc := "()V" } : Jvm.MethodName) prog_1_method_34_code (5 : Nat) (Option.none : Option Jvm.ClassFile.FieldType)) ∈ lw_all := lw_g (lw_at lw_m6 109 rfl) rfl
theorem q1438 : (Jvm.Cond.methodLink "OperaHouse" (303 : Nat) ({ cls := "OperaHouse", name := "judgeSets", desc := "()V" } : Jvm.MethodName)) ∈ lw_all := lw_g (lw_at lw_m6 110 rfl) rfl
theorem q1439 : (Jvm.Cond.privateMethod ({ cls := "OperaHouse", name := "judgeSets", desc := "()V" } : Jvm.MethodName)) ∈ lw_tbl := lw_at lw_m6 111 rfl
theorem q1440 : (Jvm.Cond.instanceMethod ({ cls := "OperaHouse", name := "judgeSets", desc := "()V" } : Jvm.MethodName)) ∈ lw_all := lw_g (lw_at lw_m6 112 rfl) rfl
theorem q1441 : (Jvm.Cond.code ({ cls := "OperaHouse", name := "judgeSets", desc := "()V" } : Jvm.MethodName) prog_1_method_42_code (7 : Nat) (Option.none : Option Jvm.ClassFile.FieldType)) ∈ lw_all := lw_g (lw_at lw_m6 113 rfl) rfl
theorem q1442 : (Jvm.Cond.methodLink "OperaHouse" (337 : Nat) ({ cls := "OperaHouse$Call", name := "isOnStage", desc := "()Z" } : Jvm.MethodName)) ∈ lw_all := lw_g (lw_at lw_m6 114 rfl) rfl
theorem q1446 : (Jvm.Cond.methodLink "OperaHouse" (317 : Nat) ({ cls := "OperaHouse$Call", name := "hasSet", desc := "()Z" } : Jvm.MethodName)) ∈ lw_all := lw_g (lw_at lw_m6 118 rfl) rfl
theorem q1450 : (Jvm.Cond.methodLink "OperaHouse" (397 : Nat) ({ cls := "OperaHouse$Wagons", name := "spread", desc := "([Z[Z)Z" } : Jvm.MethodName)) ∈ lw_all := lw_g (lw_at lw_m6 122 rfl) rfl
theorem q1454 : (Jvm.Cond.methodLink "OperaHouse" (309 : Nat) ({ cls := "OperaHouse", name := "blame", desc := "(LOperaHouse$Call;IIZ)V" } : Jvm.MethodName)) ∈ lw_all := lw_g (lw_at lw_m6 126 rfl) rfl
theorem q1455 : (Jvm.Cond.privateMethod ({ cls := "OperaHouse", name := "blame", desc := "(LOperaHouse$Call;IIZ)V" } : Jvm.MethodName)) ∈ lw_tbl := lw_at lw_m6 127 rfl
theorem q1456 : (Jvm.Cond.instanceMethod ({ cls := "OperaHouse", name := "blame", desc := "(LOperaHouse$Call;IIZ)V" } : Jvm.MethodName)) ∈ lw_all := lw_g (lw_at lw_m6 128 rfl) rfl
theorem q1457 : (Jvm.Cond.code ({ cls := "OperaHouse", name := "blame", desc := "(LOperaHouse$Call;IIZ)V" } : Jvm.MethodName) prog_1_method_33_code (5 : Nat) (Option.none : Option Jvm.ClassFile.FieldType)) ∈ lw_all := lw_g (lw_at lw_m6 129 rfl) rfl
theorem q1458 : (Jvm.Cond.methodLink "OperaHouse" (306 : Nat) ({ cls := "OperaHouse", name := "isTaken", desc := "(I)Z" } : Jvm.MethodName)) ∈ lw_all := lw_g (lw_at lw_m6 130 rfl) rfl
theorem q1459 : (Jvm.Cond.privateMethod ({ cls := "OperaHouse", name := "isTaken", desc := "(I)Z" } : Jvm.MethodName)) ∈ lw_tbl := lw_at lw_m6 131 rfl
theorem q1460 : (Jvm.Cond.instanceMethod ({ cls := "OperaHouse", name := "isTaken", desc := "(I)Z" } : Jvm.MethodName)) ∈ lw_all := lw_g (lw_at lw_m6 132 rfl) rfl
theorem q1461 : (Jvm.Cond.code ({ cls := "OperaHouse", name := "isTaken", desc := "(I)Z" } : Jvm.MethodName) prog_1_method_35_code (5 : Nat) (Option.some Jvm.ClassFile.FieldType.boolean)) ∈ lw_all := lw_g (lw_at lw_m6 133 rfl) rfl
theorem q1462 : (Jvm.Cond.methodLink "OperaHouse" (340 : Nat) ({ cls := "OperaHouse$Call", name := "isOn", desc := "(I)Z" } : Jvm.MethodName)) ∈ lw_all := lw_g (lw_at lw_m6 134 rfl) rfl
theorem q1466 : (Jvm.Cond.methodLink "OperaHouse" (313 : Nat) ({ cls := "OperaHouse", name := "isRehearsed", desc := "(LOperaHouse$Call;)Z" } : Jvm.MethodName)) ∈ lw_all := lw_g (lw_at lw_m6 138 rfl) rfl
theorem q1467 : (Jvm.Cond.privateMethod ({ cls := "OperaHouse", name := "isRehearsed", desc := "(LOperaHouse$Call;)Z" } : Jvm.MethodName)) ∈ lw_tbl := lw_at lw_m6 139 rfl
theorem q1468 : (Jvm.Cond.instanceMethod ({ cls := "OperaHouse", name := "isRehearsed", desc := "(LOperaHouse$Call;)Z" } : Jvm.MethodName)) ∈ lw_all := lw_g (lw_at lw_m6 140 rfl) rfl
theorem q1469 : (Jvm.Cond.code ({ cls := "OperaHouse", name := "isRehearsed", desc := "(LOperaHouse$Call;)Z" } : Jvm.MethodName) prog_1_method_36_code (5 : Nat) (Option.some Jvm.ClassFile.FieldType.boolean)) ∈ lw_all := lw_g (lw_at lw_m6 141 rfl) rfl
theorem q1470 : (Jvm.Cond.constant "OperaHouse" (345 : Nat) (2147483647 : Int32)) ∈ lw_all := lw_g (lw_at lw_m6 142 rfl) rfl
theorem q1471 : (Jvm.Cond.methodLink "OperaHouse" (346 : Nat) ({ cls := "java/lang/Math", name := "min", desc := "(II)I" } : Jvm.MethodName)) ∈ lw_all := lw_g (lw_at lw_m6 143 rfl) rfl
theorem q1472 : (Jvm.Cond.methodLink "OperaHouse" (321 : Nat) ({ cls := "OperaHouse", name := "lacks", desc := "(LOperaHouse$Call;)Z" } : Jvm.MethodName)) ∈ lw_all := lw_g (lw_at lw_m6 144 rfl) rfl
theorem q1473 : (Jvm.Cond.privateMethod ({ cls := "OperaHouse", name := "lacks", desc := "(LOperaHouse$Call;)Z" } : Jvm.MethodName)) ∈ lw_tbl := lw_at lw_m6 145 rfl
theorem q1474 : (Jvm.Cond.instanceMethod ({ cls := "OperaHouse", name := "lacks", desc := "(LOperaHouse$Call;)Z" } : Jvm.MethodName)) ∈ lw_all := lw_g (lw_at lw_m6 146 rfl) rfl
theorem q1475 : (Jvm.Cond.code ({ cls := "OperaHouse", name := "lacks", desc := "(LOperaHouse$Call;)Z" } : Jvm.MethodName) prog_1_method_37_code (3 : Nat) (Option.some Jvm.ClassFile.FieldType.boolean)) ∈ lw_all := lw_g (lw_at lw_m6 147 rfl) rfl
theorem q1476 : (Jvm.Cond.methodLink "OperaHouse" (324 : Nat) ({ cls := "OperaHouse", name := "isPlaying", desc := "(I)Z" } : Jvm.MethodName)) ∈ lw_all := lw_g (lw_at lw_m6 148 rfl) rfl
theorem q1477 : (Jvm.Cond.privateMethod ({ cls := "OperaHouse", name := "isPlaying", desc := "(I)Z" } : Jvm.MethodName)) ∈ lw_tbl := lw_at lw_m6 149 rfl
theorem q1478 : (Jvm.Cond.instanceMethod ({ cls := "OperaHouse", name := "isPlaying", desc := "(I)Z" } : Jvm.MethodName)) ∈ lw_all := lw_g (lw_at lw_m6 150 rfl) rfl
theorem q1479 : (Jvm.Cond.code ({ cls := "OperaHouse", name := "isPlaying", desc := "(I)Z" } : Jvm.MethodName) prog_1_method_38_code (3 : Nat) (Option.some Jvm.ClassFile.FieldType.boolean)) ∈ lw_all := lw_g (lw_at lw_m6 151 rfl) rfl
theorem q1480 : (Jvm.Cond.methodLink "OperaHouse" (327 : Nat) ({ cls := "OperaHouse$Call", name := "hasChorus", desc := "()Z" } : Jvm.MethodName)) ∈ lw_all := lw_g (lw_at lw_m6 152 rfl) rfl
theorem q1484 : (Jvm.Cond.methodLink "OperaHouse" (330 : Nat) ({ cls := "OperaHouse", name := "isChorusOver", desc := "(I)Z" } : Jvm.MethodName)) ∈ lw_all := lw_g (lw_at lw_m6 156 rfl) rfl
theorem q1485 : (Jvm.Cond.privateMethod ({ cls := "OperaHouse", name := "isChorusOver", desc := "(I)Z" } : Jvm.MethodName)) ∈ lw_tbl := lw_at lw_m6 157 rfl
theorem q1486 : (Jvm.Cond.instanceMethod ({ cls := "OperaHouse", name := "isChorusOver", desc := "(I)Z" } : Jvm.MethodName)) ∈ lw_all := lw_g (lw_at lw_m6 158 rfl) rfl
theorem q1487 : (Jvm.Cond.code ({ cls := "OperaHouse", name := "isChorusOver", desc := "(I)Z" } : Jvm.MethodName) prog_1_method_39_code (5 : Nat) (Option.some Jvm.ClassFile.FieldType.boolean)) ∈ lw_all := lw_g (lw_at lw_m6 159 rfl) rfl
theorem q1488 : (Jvm.Cond.methodLink "OperaHouse" (285 : Nat) ({ cls := "OperaHouse$Call", name := "hours", desc := "()I" } : Jvm.MethodName)) ∈ lw_all := lw_g (lw_at lw_m6 160 rfl) rfl
theorem q1492 : (Jvm.Cond.methodLink "OperaHouse" (333 : Nat) ({ cls := "OperaHouse", name := "judgeRole", desc := "(IILOperaHouse$Singer;)V" } : Jvm.MethodName)) ∈ lw_all := lw_g (lw_at lw_m6 164 rfl) rfl
theorem q1493 : (Jvm.Cond.privateMethod ({ cls := "OperaHouse", name := "judgeRole", desc := "(IILOperaHouse$Singer;)V" } : Jvm.MethodName)) ∈ lw_tbl := lw_at lw_m6 165 rfl
theorem q1494 : (Jvm.Cond.instanceMethod ({ cls := "OperaHouse", name := "judgeRole", desc := "(IILOperaHouse$Singer;)V" } : Jvm.MethodName)) ∈ lw_all := lw_g (lw_at lw_m6 166 rfl) rfl
theorem q1495 : (Jvm.Cond.code ({ cls := "OperaHouse", name := "judgeRole", desc := "(IILOperaHouse$Singer;)V" } : Jvm.MethodName) prog_1_method_40_code (8 : Nat) (Option.none : Option Jvm.ClassFile.FieldType)) ∈ lw_all := lw_g (lw_at lw_m6 167 rfl) rfl
theorem q1496 : (Jvm.Cond.methodLink "OperaHouse" (352 : Nat) ({ cls := "OperaHouse$Singer", name := "suits", desc := "(LOperaHouse$Role;)Z" } : Jvm.MethodName)) ∈ lw_all := lw_g (lw_at lw_m6 168 rfl) rfl
theorem q1503 : (Jvm.Cond.methodLink "OperaHouse" (357 : Nat) ({ cls := "OperaHouse", name := "learnedOf", desc := "(ILOperaHouse$Opera;II)I" } : Jvm.MethodName)) ∈ lw_all := lw_g (lw_at lw_m6 175 rfl) rfl
theorem q1504 : (Jvm.Cond.privateMethod ({ cls := "OperaHouse", name := "learnedOf", desc := "(ILOperaHouse$Opera;II)I" } : Jvm.MethodName)) ∈ lw_tbl := lw_at lw_m6 176 rfl
theorem q1505 : (Jvm.Cond.instanceMethod ({ cls := "OperaHouse", name := "learnedOf", desc := "(ILOperaHouse$Opera;II)I" } : Jvm.MethodName)) ∈ lw_all := lw_g (lw_at lw_m6 177 rfl) rfl
theorem q1506 : (Jvm.Cond.code ({ cls := "OperaHouse", name := "learnedOf", desc := "(ILOperaHouse$Opera;II)I" } : Jvm.MethodName) prog_1_method_29_code (8 : Nat) (Option.some Jvm.ClassFile.FieldType.int)) ∈ lw_all := lw_g (lw_at lw_m6 178 rfl) rfl
theorem q1507 : (Jvm.Cond.methodLink "OperaHouse" (364 : Nat) ({ cls := "OperaHouse$Contract", name := "isAway", desc := "(I)Z" } : Jvm.MethodName)) ∈ lw_all := lw_g (lw_at lw_m6 179 rfl) rfl
theorem q1515 : (Jvm.Cond.methodLink "OperaHouse" (367 : Nat) ({ cls := "OperaHouse", name := "isIll", desc := "(II)Z" } : Jvm.MethodName)) ∈ lw_all := lw_g (lw_at lw_m6 187 rfl) rfl
theorem q1516 : (Jvm.Cond.privateMethod ({ cls := "OperaHouse", name := "isIll", desc := "(II)Z" } : Jvm.MethodName)) ∈ lw_tbl := lw_at lw_m6 188 rfl
theorem q1517 : (Jvm.Cond.instanceMethod ({ cls := "OperaHouse", name := "isIll", desc := "(II)Z" } : Jvm.MethodName)) ∈ lw_all := lw_g (lw_at lw_m6 189 rfl) rfl
theorem q1518 : (Jvm.Cond.code ({ cls := "OperaHouse", name := "isIll", desc := "(II)Z" } : Jvm.MethodName) prog_1_method_28_code (5 : Nat) (Option.some Jvm.ClassFile.FieldType.boolean)) ∈ lw_all := lw_g (lw_at lw_m6 190 rfl) rfl
theorem q1519 : (Jvm.Cond.methodLink "OperaHouse" (371 : Nat) ({ cls := "OperaHouse", name := "isTwice", desc := "(III)Z" } : Jvm.MethodName)) ∈ lw_all := lw_g (lw_at lw_m6 191 rfl) rfl
theorem q1520 : (Jvm.Cond.privateMethod ({ cls := "OperaHouse", name := "isTwice", desc := "(III)Z" } : Jvm.MethodName)) ∈ lw_tbl := lw_at lw_m6 192 rfl
theorem q1521 : (Jvm.Cond.instanceMethod ({ cls := "OperaHouse", name := "isTwice", desc := "(III)Z" } : Jvm.MethodName)) ∈ lw_all := lw_g (lw_at lw_m6 193 rfl) rfl
theorem q1522 : (Jvm.Cond.code ({ cls := "OperaHouse", name := "isTwice", desc := "(III)Z" } : Jvm.MethodName) prog_1_method_41_code (6 : Nat) (Option.some Jvm.ClassFile.FieldType.boolean)) ∈ lw_all := lw_g (lw_at lw_m6 194 rfl) rfl
theorem q1523 : (Jvm.Cond.methodLink "OperaHouse" (299 : Nat) ({ cls := "OperaHouse", name := "isCast", desc := "(ILOperaHouse$Call;)Z" } : Jvm.MethodName)) ∈ lw_all := lw_g (lw_at lw_m6 195 rfl) rfl
theorem q1524 : (Jvm.Cond.privateMethod ({ cls := "OperaHouse", name := "isCast", desc := "(ILOperaHouse$Call;)Z" } : Jvm.MethodName)) ∈ lw_tbl := lw_at lw_m6 196 rfl
theorem q1525 : (Jvm.Cond.instanceMethod ({ cls := "OperaHouse", name := "isCast", desc := "(ILOperaHouse$Call;)Z" } : Jvm.MethodName)) ∈ lw_all := lw_g (lw_at lw_m6 197 rfl) rfl
theorem q1526 : (Jvm.Cond.code ({ cls := "OperaHouse", name := "isCast", desc := "(ILOperaHouse$Call;)Z" } : Jvm.MethodName) prog_1_method_26_code (4 : Nat) (Option.some Jvm.ClassFile.FieldType.boolean)) ∈ lw_all := lw_g (lw_at lw_m6 198 rfl) rfl
theorem q1527 : (Jvm.Cond.methodLink "OperaHouse" (374 : Nat) ({ cls := "OperaHouse$Call", name := "isSung", desc := "()Z" } : Jvm.MethodName)) ∈ lw_all := lw_g (lw_at lw_m6 199 rfl) rfl
theorem q1531 : (Jvm.Cond.methodLink "OperaHouse" (380 : Nat) ({ cls := "OperaHouse", name := "hoursOn", desc := "(ILOperaHouse$Call;)I" } : Jvm.MethodName)) ∈ lw_all := lw_g (lw_at lw_m6 203 rfl) rfl
theorem q1532 : (Jvm.Cond.privateMethod ({ cls := "OperaHouse", name := "hoursOn", desc := "(ILOperaHouse$Call;)I" } : Jvm.MethodName)) ∈ lw_tbl := lw_at lw_m6 204 rfl
theorem q1533 : (Jvm.Cond.instanceMethod ({ cls := "OperaHouse", name := "hoursOn", desc := "(ILOperaHouse$Call;)I" } : Jvm.MethodName)) ∈ lw_all := lw_g (lw_at lw_m6 205 rfl) rfl
theorem q1534 : (Jvm.Cond.code ({ cls := "OperaHouse", name := "hoursOn", desc := "(ILOperaHouse$Call;)I" } : Jvm.MethodName) prog_1_method_31_code (6 : Nat) (Option.some Jvm.ClassFile.FieldType.int)) ∈ lw_all := lw_g (lw_at lw_m6 206 rfl) rfl
theorem q1535 : (Jvm.Cond.methodLink "OperaHouse" (384 : Nat) ({ cls := "OperaHouse", name := "nightsOf", desc := "(ILOperaHouse$Call;I)I" } : Jvm.MethodName)) ∈ lw_all := lw_g (lw_at lw_m6 207 rfl) rfl
theorem q1536 : (Jvm.Cond.privateMethod ({ cls := "OperaHouse", name := "nightsOf", desc := "(ILOperaHouse$Call;I)I" } : Jvm.MethodName)) ∈ lw_tbl := lw_at lw_m6 208 rfl
theorem q1537 : (Jvm.Cond.instanceMethod ({ cls := "OperaHouse", name := "nightsOf", desc := "(ILOperaHouse$Call;I)I" } : Jvm.MethodName)) ∈ lw_all := lw_g (lw_at lw_m6 209 rfl) rfl
theorem q1538 : (Jvm.Cond.code ({ cls := "OperaHouse", name := "nightsOf", desc := "(ILOperaHouse$Call;I)I" } : Jvm.MethodName) prog_1_method_32_code (7 : Nat) (Option.some Jvm.ClassFile.FieldType.int)) ∈ lw_all := lw_g (lw_at lw_m6 210 rfl) rfl
theorem q1539 : (Jvm.Cond.methodLink "OperaHouse" (391 : Nat) ({ cls := "OperaHouse", name := "tiredAt", desc := "(ILOperaHouse$Call;)I" } : Jvm.MethodName)) ∈ lw_all := lw_g (lw_at lw_m6 211 rfl) rfl
theorem q1540 : (Jvm.Cond.privateMethod ({ cls := "OperaHouse", name := "tiredAt", desc := "(ILOperaHouse$Call;)I" } : Jvm.MethodName)) ∈ lw_tbl := lw_at lw_m6 212 rfl
theorem q1541 : (Jvm.Cond.instanceMethod ({ cls := "OperaHouse", name := "tiredAt", desc := "(ILOperaHouse$Call;)I" } : Jvm.MethodName)) ∈ lw_all := lw_g (lw_at lw_m6 213 rfl) rfl
theorem q1542 : (Jvm.Cond.code ({ cls := "OperaHouse", name := "tiredAt", desc := "(ILOperaHouse$Call;)I" } : Jvm.MethodName) prog_1_method_30_code (8 : Nat) (Option.some Jvm.ClassFile.FieldType.int)) ∈ lw_all := lw_g (lw_at lw_m6 214 rfl) rfl
theorem q1543 : (Jvm.Cond.methodLink "OperaHouse" (287 : Nat) ({ cls := "OperaHouse$Call", name := "weight", desc := "()I" } : Jvm.MethodName)) ∈ lw_all := lw_g (lw_at lw_m6 215 rfl) rfl
theorem q1547 : (Jvm.Cond.methodLink "OperaHouse" (290 : Nat) ({ cls := "OperaHouse", name := "strain", desc := "(ILOperaHouse$Call;)I" } : Jvm.MethodName)) ∈ lw_all := lw_g (lw_at lw_m6 219 rfl) rfl
theorem q1548 : (Jvm.Cond.privateMethod ({ cls := "OperaHouse", name := "strain", desc := "(ILOperaHouse$Call;)I" } : Jvm.MethodName)) ∈ lw_tbl := lw_at lw_m6 220 rfl
theorem q1549 : (Jvm.Cond.instanceMethod ({ cls := "OperaHouse", name := "strain", desc := "(ILOperaHouse$Call;)I" } : Jvm.MethodName)) ∈ lw_all := lw_g (lw_at lw_m6 221 rfl) rfl
theorem q1550 : (Jvm.Cond.code ({ cls := "OperaHouse", name := "strain", desc := "(ILOperaHouse$Call;)I" } : Jvm.MethodName) prog_1_method_27_code (5 : Nat) (Option.some Jvm.ClassFile.FieldType.int)) ∈ lw_all := lw_g (lw_at lw_m6 222 rfl) rfl
theorem q1551 : (Jvm.Cond.methodLink "OperaHouse" (293 : Nat) ({ cls := "java/lang/Math", name := "max", desc := "(II)I" } : Jvm.MethodName)) ∈ lw_all := lw_g (lw_at lw_m6 223 rfl) rfl
theorem q1552 : (Jvm.Cond.methodLink "OperaHouse" (413 : Nat) ({ cls := "java/lang/Integer", name := "bitCount", desc := "(I)I" } : Jvm.MethodName)) ∈ lw_all := lw_g (lw_at lw_m6 224 rfl) rfl
theorem q1559 : (Jvm.Cond.instanceMethod ({ cls := "OperaHouse", name := "learned", desc := "(IIII)I" } : Jvm.MethodName)) ∈ lw_all := lw_g (lw_at lw_m6 231 rfl) rfl
theorem q1560 : (Jvm.Cond.selects "OperaHouse" ({ cls := "OperaHouse", name := "learned", desc := "(IIII)I" } : Jvm.MethodName) ({ cls := "OperaHouse", name := "learned", desc := "(IIII)I" } : Jvm.MethodName)) ∈ lw_all := lw_g (lw_at lw_m6 232 rfl) rfl
theorem q1561 : (Jvm.Cond.code ({ cls := "OperaHouse", name := "learned", desc := "(IIII)I" } : Jvm.MethodName) prog_1_method_46_code (6 : Nat) (Option.some Jvm.ClassFile.FieldType.int)) ∈ lw_all := lw_g (lw_at lw_m6 233 rfl) rfl
theorem q1563 : (Jvm.Cond.instanceMethod ({ cls := "OperaHouse", name := "tired", desc := "(III)I" } : Jvm.MethodName)) ∈ lw_all := lw_g (lw_at lw_m6 235 rfl) rfl
theorem q1564 : (Jvm.Cond.selects "OperaHouse" ({ cls := "OperaHouse", name := "tired", desc := "(III)I" } : Jvm.MethodName) ({ cls := "OperaHouse", name := "tired", desc := "(III)I" } : Jvm.MethodName)) ∈ lw_all := lw_g (lw_at lw_m6 236 rfl) rfl
theorem q1565 : (Jvm.Cond.code ({ cls := "OperaHouse", name := "tired", desc := "(III)I" } : Jvm.MethodName) prog_1_method_47_code (5 : Nat) (Option.some Jvm.ClassFile.FieldType.int)) ∈ lw_all := lw_g (lw_at lw_m6 237 rfl) rfl
theorem q1567 : (Jvm.Cond.instanceMethod ({ cls := "OperaHouse", name := "fee", desc := "(III)I" } : Jvm.MethodName)) ∈ lw_all := lw_g (lw_at lw_m6 239 rfl) rfl
theorem q1568 : (Jvm.Cond.selects "OperaHouse" ({ cls := "OperaHouse", name := "fee", desc := "(III)I" } : Jvm.MethodName) ({ cls := "OperaHouse", name := "fee", desc := "(III)I" } : Jvm.MethodName)) ∈ lw_all := lw_g (lw_at lw_m7 0 rfl) rfl
theorem q1569 : (Jvm.Cond.code ({ cls := "OperaHouse", name := "fee", desc := "(III)I" } : Jvm.MethodName) prog_1_method_49_code (6 : Nat) (Option.some Jvm.ClassFile.FieldType.int)) ∈ lw_all := lw_g (lw_at lw_m7 1 rfl) rfl
theorem q1570 : (Jvm.Cond.methodLink "OperaHouse" (439 : Nat) ({ cls := "OperaHouse", name := "feeOf", desc := "(LOperaHouse$Singer;LOperaHouse$Call;)I" } : Jvm.MethodName)) ∈ lw_all := lw_g (lw_at lw_m7 2 rfl) rfl
theorem q1571 : (Jvm.Cond.privateMethod ({ cls := "OperaHouse", name := "feeOf", desc := "(LOperaHouse$Singer;LOperaHouse$Call;)I" } : Jvm.MethodName)) ∈ lw_tbl := lw_at lw_m7 3 rfl
theorem q1572 : (Jvm.Cond.instanceMethod ({ cls := "OperaHouse", name := "feeOf", desc := "(LOperaHouse$Singer;LOperaHouse$Call;)I" } : Jvm.MethodName)) ∈ lw_all := lw_g (lw_at lw_m7 4 rfl) rfl
theorem q1573 : (Jvm.Cond.code ({ cls := "OperaHouse", name := "feeOf", desc := "(LOperaHouse$Singer;LOperaHouse$Call;)I" } : Jvm.MethodName) prog_1_method_48_code (6 : Nat) (Option.some Jvm.ClassFile.FieldType.int)) ∈ lw_all := lw_g (lw_at lw_m7 5 rfl) rfl
theorem q1574 : (Jvm.Cond.methodLink "OperaHouse" (435 : Nat) ({ cls := "OperaHouse$Contract", name := "earns", desc := "(LOperaHouse$Asked;)I" } : Jvm.MethodName)) ∈ lw_all := lw_g (lw_at lw_m7 6 rfl) rfl
theorem q1589 : (Jvm.Cond.instanceMethod ({ cls := "OperaHouse", name := "pay", desc := "(III)I" } : Jvm.MethodName)) ∈ lw_all := lw_g (lw_at lw_m7 21 rfl) rfl
theorem q1590 : (Jvm.Cond.selects "OperaHouse" ({ cls := "OperaHouse", name := "pay", desc := "(III)I" } : Jvm.MethodName) ({ cls := "OperaHouse", name := "pay", desc := "(III)I" } : Jvm.MethodName)) ∈ lw_all := lw_g (lw_at lw_m7 22 rfl) rfl
theorem q1591 : (Jvm.Cond.code ({ cls := "OperaHouse", name := "pay", desc := "(III)I" } : Jvm.MethodName) prog_1_method_50_code (7 : Nat) (Option.some Jvm.ClassFile.FieldType.int)) ∈ lw_all := lw_g (lw_at lw_m7 23 rfl) rfl
theorem q1593 : (Jvm.Cond.instanceMethod ({ cls := "OperaHouse", name := "moves", desc := "(II)I" } : Jvm.MethodName)) ∈ lw_all := lw_g (lw_at lw_m7 25 rfl) rfl
theorem q1594 : (Jvm.Cond.selects "OperaHouse" ({ cls := "OperaHouse", name := "moves", desc := "(II)I" } : Jvm.MethodName) ({ cls := "OperaHouse", name := "moves", desc := "(II)I" } : Jvm.MethodName)) ∈ lw_all := lw_g (lw_at lw_m7 26 rfl) rfl
theorem q1595 : (Jvm.Cond.code ({ cls := "OperaHouse", name := "moves", desc := "(II)I" } : Jvm.MethodName) prog_1_method_51_code (5 : Nat) (Option.some Jvm.ClassFile.FieldType.int)) ∈ lw_all := lw_g (lw_at lw_m7 27 rfl) rfl
theorem q1597 : (Jvm.Cond.instanceMethod ({ cls := "OperaHouse", name := "may", desc := "(III)Z" } : Jvm.MethodName)) ∈ lw_all := lw_g (lw_at lw_m7 29 rfl) rfl
theorem q1598 : (Jvm.Cond.selects "OperaHouse" ({ cls := "OperaHouse", name := "may", desc := "(III)Z" } : Jvm.MethodName) ({ cls := "OperaHouse", name := "may", desc := "(III)Z" } : Jvm.MethodName)) ∈ lw_all := lw_g (lw_at lw_m7 30 rfl) rfl
theorem q1599 : (Jvm.Cond.code ({ cls := "OperaHouse", name := "may", desc := "(III)Z" } : Jvm.MethodName) prog_1_method_56_code (5 : Nat) (Option.some Jvm.ClassFile.FieldType.boolean)) ∈ lw_all := lw_g (lw_at lw_m7 31 rfl) rfl
theorem q1600 : (Jvm.Cond.methodLink "OperaHouse" (450 : Nat) ({ cls := "OperaHouse", name := "isRole", desc := "(LOperaHouse$Call;I)Z" } : Jvm.MethodName)) ∈ lw_all := lw_g (lw_at lw_m7 32 rfl) rfl
theorem q1601 : (Jvm.Cond.privateMethod ({ cls := "OperaHouse", name := "isRole", desc := "(LOperaHouse$Call;I)Z" } : Jvm.MethodName)) ∈ lw_tbl := lw_at lw_m7 33 rfl
theorem q1602 : (Jvm.Cond.instanceMethod ({ cls := "OperaHouse", name := "isRole", desc := "(LOperaHouse$Call;I)Z" } : Jvm.MethodName)) ∈ lw_all := lw_g (lw_at lw_m7 34 rfl) rfl
theorem q1603 : (Jvm.Cond.code ({ cls := "OperaHouse", name := "isRole", desc := "(LOperaHouse$Call;I)Z" } : Jvm.MethodName) prog_1_method_54_code (3 : Nat) (Option.some Jvm.ClassFile.FieldType.boolean)) ∈ lw_all := lw_g (lw_at lw_m7 35 rfl) rfl
theorem q1604 : (Jvm.Cond.methodLink "OperaHouse" (454 : Nat) ({ cls := "OperaHouse", name := "mayHave", desc := "(ILOperaHouse$Call;I)Z" } : Jvm.MethodName)) ∈ lw_all := lw_g (lw_at lw_m7 36 rfl) rfl
theorem q1605 : (Jvm.Cond.privateMethod ({ cls := "OperaHouse", name := "mayHave", desc := "(ILOperaHouse$Call;I)Z" } : Jvm.MethodName)) ∈ lw_tbl := lw_at lw_m7 37 rfl
theorem q1606 : (Jvm.Cond.instanceMethod ({ cls := "OperaHouse", name := "mayHave", desc := "(ILOperaHouse$Call;I)Z" } : Jvm.MethodName)) ∈ lw_all := lw_g (lw_at lw_m7 38 rfl) rfl
theorem q1607 : (Jvm.Cond.code ({ cls := "OperaHouse", name := "mayHave", desc := "(ILOperaHouse$Call;I)Z" } : Jvm.MethodName) prog_1_method_55_code (7 : Nat) (Option.some Jvm.ClassFile.FieldType.boolean)) ∈ lw_all := lw_g (lw_at lw_m7 39 rfl) rfl
theorem q1608 : (Jvm.Cond.methodLink "OperaHouse" (444 : Nat) ({ cls := "OperaHouse", name := "keepWrongs", desc := "(I)V" } : Jvm.MethodName)) ∈ lw_all := lw_g (lw_at lw_m7 40 rfl) rfl
theorem q1609 : (Jvm.Cond.privateMethod ({ cls := "OperaHouse", name := "keepWrongs", desc := "(I)V" } : Jvm.MethodName)) ∈ lw_tbl := lw_at lw_m7 41 rfl
theorem q1610 : (Jvm.Cond.instanceMethod ({ cls := "OperaHouse", name := "keepWrongs", desc := "(I)V" } : Jvm.MethodName)) ∈ lw_all := lw_g (lw_at lw_m7 42 rfl) rfl
theorem q1611 : (Jvm.Cond.code ({ cls := "OperaHouse", name := "keepWrongs", desc := "(I)V" } : Jvm.MethodName) prog_1_method_52_code (5 : Nat) (Option.none : Option Jvm.ClassFile.FieldType)) ∈ lw_all := lw_g (lw_at lw_m7 43 rfl) rfl
theorem q1612 : (Jvm.Cond.constant "OperaHouse" (443 : Nat) (64768 : Int32)) ∈ lw_all := lw_g (lw_at lw_m7 44 rfl) rfl
theorem q1613 : (Jvm.Cond.methodLink "OperaHouse" (447 : Nat) ({ cls := "OperaHouse", name := "isAnythingNew", desc := "(I)Z" } : Jvm.MethodName)) ∈ lw_all := lw_g (lw_at lw_m7 45 rfl) rfl
theorem q1614 : (Jvm.Cond.privateMethod ({ cls := "OperaHouse", name := "isAnythingNew", desc := "(I)Z" } : Jvm.MethodName)) ∈ lw_tbl := lw_at lw_m7 46 rfl
theorem q1615 : (Jvm.Cond.instanceMethod ({ cls := "OperaHouse", name := "isAnythingNew", desc := "(I)Z" } : Jvm.MethodName)) ∈ lw_all := lw_g (lw_at lw_m7 47 rfl) rfl
theorem q1616 : (Jvm.Cond.code ({ cls := "OperaHouse", name := "isAnythingNew", desc := "(I)Z" } : Jvm.MethodName) prog_1_method_53_code (5 : Nat) (Option.some Jvm.ClassFile.FieldType.boolean)) ∈ lw_all := lw_g (lw_at lw_m7 48 rfl) rfl
theorem q1618 : (Jvm.Cond.instanceMethod ({ cls := "OperaHouse", name := "harm", desc := "(III)I" } : Jvm.MethodName)) ∈ lw_all := lw_g (lw_at lw_m7 50 rfl) rfl
theorem q1619 : (Jvm.Cond.selects "OperaHouse" ({ cls := "OperaHouse", name := "harm", desc := "(III)I" } : Jvm.MethodName) ({ cls := "OperaHouse", name := "harm", desc := "(III)I" } : Jvm.MethodName)) ∈ lw_all := lw_g (lw_at lw_m7 51 rfl) rfl
theorem q1620 : (Jvm.Cond.code ({ cls := "OperaHouse", name := "harm", desc := "(III)I" } : Jvm.MethodName) prog_1_method_58_code (5 : Nat) (Option.some Jvm.ClassFile.FieldType.int)) ∈ lw_all := lw_g (lw_at lw_m7 52 rfl) rfl
theorem q1621 : (Jvm.Cond.methodLink "OperaHouse" (464 : Nat) ({ cls := "OperaHouse", name := "harmOf", desc := "(LOperaHouse$Singer;LOperaHouse$Call;I)I" } : Jvm.MethodName)) ∈ lw_all := lw_g (lw_at lw_m7 53 rfl) rfl
theorem q1622 : (Jvm.Cond.privateMethod ({ cls := "OperaHouse", name := "harmOf", desc := "(LOperaHouse$Singer;LOperaHouse$Call;I)I" } : Jvm.MethodName)) ∈ lw_tbl := lw_at lw_m7 54 rfl
theorem q1623 : (Jvm.Cond.instanceMethod ({ cls := "OperaHouse", name := "harmOf", desc := "(LOperaHouse$Singer;LOperaHouse$Call;I)I" } : Jvm.MethodName)) ∈ lw_all := lw_g (lw_at lw_m7 55 rfl) rfl
theorem q1624 : (Jvm.Cond.code ({ cls := "OperaHouse", name := "harmOf", desc := "(LOperaHouse$Singer;LOperaHouse$Call;I)I" } : Jvm.MethodName) prog_1_method_57_code (8 : Nat) (Option.some Jvm.ClassFile.FieldType.int)) ∈ lw_all := lw_g (lw_at lw_m7 56 rfl) rfl
theorem q1625 : (Jvm.Cond.methodLink "OperaHouse" (461 : Nat) ({ cls := "java/lang/Math", name := "abs", desc := "(I)I" } : Jvm.MethodName)) ∈ lw_all := lw_g (lw_at lw_m7 57 rfl) rfl
theorem q1627 : (Jvm.Cond.instanceMethod ({ cls := "OperaHouse", name := "instead", desc := "(II)I" } : Jvm.MethodName)) ∈ lw_all := lw_g (lw_at lw_m7 59 rfl) rfl
theorem q1628 : (Jvm.Cond.selects "OperaHouse" ({ cls := "OperaHouse", name := "instead", desc := "(II)I" } : Jvm.MethodName) ({ cls := "OperaHouse", name := "instead", desc := "(II)I" } : Jvm.MethodName)) ∈ lw_all := lw_g (lw_at lw_m7 60 rfl) rfl
theorem q1629 : (Jvm.Cond.code ({ cls := "OperaHouse", name := "instead", desc := "(II)I" } : Jvm.MethodName) prog_1_method_59_code (8 : Nat) (Option.some Jvm.ClassFile.FieldType.int)) ∈ lw_all := lw_g (lw_at lw_m7 61 rfl) rfl
theorem q1631 : (Jvm.Cond.instanceMethod ({ cls := "OperaHouse", name := "lay", desc := "(III)I" } : Jvm.MethodName)) ∈ lw_all := lw_g (lw_at lw_m7 63 rfl) rfl
theorem q1632 : (Jvm.Cond.selects "OperaHouse" ({ cls := "OperaHouse", name := "lay", desc := "(III)I" } : Jvm.MethodName) ({ cls := "OperaHouse", name := "lay", desc := "(III)I" } : Jvm.MethodName)) ∈ lw_all := lw_g (lw_at lw_m7 64 rfl) rfl
theorem q1633 : (Jvm.Cond.code ({ cls := "OperaHouse", name := "lay", desc := "(III)I" } : Jvm.MethodName) prog_1_method_65_code (6 : Nat) (Option.some Jvm.ClassFile.FieldType.int)) ∈ lw_all := lw_g (lw_at lw_m7 65 rfl) rfl
theorem q1634 : (Jvm.Cond.methodLink "OperaHouse" (500 : Nat) ({ cls := "OperaHouse", name := "keepAllWrongs", desc := "()V" } : Jvm.MethodName)) ∈ lw_all := lw_g (lw_at lw_m7 66 rfl) rfl
theorem q1635 : (Jvm.Cond.privateMethod ({ cls := "OperaHouse", name := "keepAllWrongs", desc := "()V" } : Jvm.MethodName)) ∈ lw_tbl := lw_at lw_m7 67 rfl
theorem q1636 : (Jvm.Cond.instanceMethod ({ cls := "OperaHouse", name := "keepAllWrongs", desc := "()V" } : Jvm.MethodName)) ∈ lw_all := lw_g (lw_at lw_m7 68 rfl) rfl
theorem q1637 : (Jvm.Cond.code ({ cls := "OperaHouse", name := "keepAllWrongs", desc := "()V" } : Jvm.MethodName) prog_1_method_60_code (3 : Nat) (Option.none : Option Jvm.ClassFile.FieldType)) ∈ lw_all := lw_g (lw_at lw_m7 69 rfl) rfl
theorem q1638 : (Jvm.Cond.methodLink "OperaHouse" (491 : Nat) ({ cls := "OperaHouse", name := "tryFrom", desc := "(II)Z" } : Jvm.MethodName)) ∈ lw_all := lw_g (lw_at lw_m7 70 rfl) rfl
theorem q1639 : (Jvm.Cond.privateMethod ({ cls := "OperaHouse", name := "tryFrom", desc := "(II)Z" } : Jvm.MethodName)) ∈ lw_tbl := lw_at lw_m7 71 rfl
theorem q1640 : (Jvm.Cond.instanceMethod ({ cls := "OperaHouse", name := "tryFrom", desc := "(II)Z" } : Jvm.MethodName)) ∈ lw_all := lw_g (lw_at lw_m7 72 rfl) rfl
theorem q1641 : (Jvm.Cond.code ({ cls := "OperaHouse", name := "tryFrom", desc := "(II)Z" } : Jvm.MethodName) prog_1_method_64_code (4 : Nat) (Option.some Jvm.ClassFile.FieldType.boolean)) ∈ lw_all := lw_g (lw_at lw_m7 73 rfl) rfl
theorem q1642 : (Jvm.Cond.methodLink "OperaHouse" (484 : Nat) ({ cls := "OperaHouse", name := "putIn", desc := "(II)V" } : Jvm.MethodName)) ∈ lw_all := lw_g (lw_at lw_m7 74 rfl) rfl
theorem q1643 : (Jvm.Cond.privateMethod ({ cls := "OperaHouse", name := "putIn", desc := "(II)V" } : Jvm.MethodName)) ∈ lw_tbl := lw_at lw_m7 75 rfl
theorem q1644 : (Jvm.Cond.instanceMethod ({ cls := "OperaHouse", name := "putIn", desc := "(II)V" } : Jvm.MethodName)) ∈ lw_all := lw_g (lw_at lw_m7 76 rfl) rfl
theorem q1645 : (Jvm.Cond.code ({ cls := "OperaHouse", name := "putIn", desc := "(II)V" } : Jvm.MethodName) prog_1_method_63_code (6 : Nat) (Option.none : Option Jvm.ClassFile.FieldType)) ∈ lw_all := lw_g (lw_at lw_m7 77 rfl) rfl
theorem q1646 : (Jvm.Cond.methodLink "OperaHouse" (468 : Nat) ({ cls := "OperaHouse", name := "firstOf", desc := "(LOperaHouse$Opera;)LOperaHouse$Call;" } : Jvm.MethodName)) ∈ lw_all := lw_g (lw_at lw_m7 78 rfl) rfl
theorem q1647 : (Jvm.Cond.privateMethod ({ cls := "OperaHouse", name := "firstOf", desc := "(LOperaHouse$Opera;)LOperaHouse$Call;" } : Jvm.MethodName)) ∈ lw_tbl := lw_at lw_m7 79 rfl
theorem q1648 : (Jvm.Cond.instanceMethod ({ cls := "OperaHouse", name := "firstOf", desc := "(LOperaHouse$Opera;)LOperaHouse$Call;" } : Jvm.MethodName)) ∈ lw_all := lw_g (lw_at lw_m7 80 rfl) rfl
theorem q1649 : (Jvm.Cond.code ({ cls := "OperaHouse", name := "firstOf", desc := "(LOperaHouse$Opera;)LOperaHouse$Call;" } : Jvm.MethodName) prog_1_method_62_code (3 : Nat) (Option.some (Jvm.ClassFile.FieldType.object "OperaHouse$Call"))) ∈ lw_all := lw_g (lw_at lw_m7 81 rfl) rfl
theorem q1650 : (Jvm.Cond.methodLink "OperaHouse" (488 : Nat) ({ cls := "OperaHouse", name := "holds", desc := "(I)Z" } : Jvm.MethodName)) ∈ lw_all := lw_g (lw_at lw_m7 82 rfl) rfl
theorem q1651 : (Jvm.Cond.privateMethod ({ cls := "OperaHouse", name := "holds", desc := "(I)Z" } : Jvm.MethodName)) ∈ lw_tbl := lw_at lw_m7 83 rfl
theorem q1652 : (Jvm.Cond.instanceMethod ({ cls := "OperaHouse", name := "holds", desc := "(I)Z" } : Jvm.MethodName)) ∈ lw_all := lw_g (lw_at lw_m7 84 rfl) rfl
theorem q1653 : (Jvm.Cond.code ({ cls := "OperaHouse", name := "holds", desc := "(I)Z" } : Jvm.MethodName) prog_1_method_61_code (4 : Nat) (Option.some Jvm.ClassFile.FieldType.boolean)) ∈ lw_all := lw_g (lw_at lw_m7 85 rfl) rfl
theorem q1654 : (Jvm.Cond.methodLink "OperaHouse" (494 : Nat) ({ cls := "OperaHouse", name := "leave", desc := "(LOperaHouse$Call;)V" } : Jvm.MethodName)) ∈ lw_all := lw_g (lw_at lw_m7 86 rfl) rfl
theorem q1655 : (Jvm.Cond.privateMethod ({ cls := "OperaHouse", name := "leave", desc := "(LOperaHouse$Call;)V" } : Jvm.MethodName)) ∈ lw_tbl := lw_at lw_m7 87 rfl
theorem q1656 : (Jvm.Cond.instanceMethod ({ cls := "OperaHouse", name := "leave", desc := "(LOperaHouse$Call;)V" } : Jvm.MethodName)) ∈ lw_all := lw_g (lw_at lw_m7 88 rfl) rfl
theorem q1657 : (Jvm.Cond.code ({ cls := "OperaHouse", name := "leave", desc := "(LOperaHouse$Call;)V" } : Jvm.MethodName) prog_1_method_23_code (4 : Nat) (Option.none : Option Jvm.ClassFile.FieldType)) ∈ lw_all := lw_g (lw_at lw_m7 89 rfl) rfl
theorem q1659 : (Jvm.Cond.instanceMethod ({ cls := "OperaHouse", name := "laid", desc := "(I)I" } : Jvm.MethodName)) ∈ lw_all := lw_g (lw_at lw_m7 91 rfl) rfl
theorem q1660 : (Jvm.Cond.selects "OperaHouse" ({ cls := "OperaHouse", name := "laid", desc := "(I)I" } : Jvm.MethodName) ({ cls := "OperaHouse", name := "laid", desc := "(I)I" } : Jvm.MethodName)) ∈ lw_all := lw_g (lw_at lw_m7 92 rfl) rfl
theorem q1661 : (Jvm.Cond.code ({ cls := "OperaHouse", name := "laid", desc := "(I)I" } : Jvm.MethodName) prog_1_method_66_code (2 : Nat) (Option.some Jvm.ClassFile.FieldType.int)) ∈ lw_all := lw_g (lw_at lw_m7 93 rfl) rfl
theorem q1663 : (Jvm.Cond.instanceMethod ({ cls := "OperaHouse", name := "keep", desc := "()I" } : Jvm.MethodName)) ∈ lw_all := lw_g (lw_at lw_m7 95 rfl) rfl
theorem q1664 : (Jvm.Cond.selects "OperaHouse" ({ cls := "OperaHouse", name := "keep", desc := "()I" } : Jvm.MethodName) ({ cls := "OperaHouse", name := "keep", desc := "()I" } : Jvm.MethodName)) ∈ lw_all := lw_g (lw_at lw_m7 96 rfl) rfl
theorem q1665 : (Jvm.Cond.code ({ cls := "OperaHouse", name := "keep", desc := "()I" } : Jvm.MethodName) prog_1_method_67_code (4 : Nat) (Option.some Jvm.ClassFile.FieldType.int)) ∈ lw_all := lw_g (lw_at lw_m7 97 rfl) rfl
theorem q1666 : (Jvm.Cond.methodLink "OperaHouse" (506 : Nat) ({ cls := "OperaHouse", name := "castOfFirst", desc := "(II)I" } : Jvm.MethodName)) ∈ lw_all := lw_g (lw_at lw_m7 98 rfl) rfl
theorem q1667 : (Jvm.Cond.privateMethod ({ cls := "OperaHouse", name := "castOfFirst", desc := "(II)I" } : Jvm.MethodName)) ∈ lw_tbl := lw_at lw_m7 99 rfl
theorem q1668 : (Jvm.Cond.instanceMethod ({ cls := "OperaHouse", name := "castOfFirst", desc := "(II)I" } : Jvm.MethodName)) ∈ lw_all := lw_g (lw_at lw_m7 100 rfl) rfl
theorem q1669 : (Jvm.Cond.code ({ cls := "OperaHouse", name := "castOfFirst", desc := "(II)I" } : Jvm.MethodName) prog_1_method_68_code (4 : Nat) (Option.some Jvm.ClassFile.FieldType.int)) ∈ lw_all := lw_g (lw_at lw_m7 101 rfl) rfl
theorem q1671 : (Jvm.Cond.instanceMethod ({ cls := "OperaHouse", name := "count", desc := "(I)I" } : Jvm.MethodName)) ∈ lw_all := lw_g (lw_at lw_m7 103 rfl) rfl
theorem q1672 : (Jvm.Cond.selects "OperaHouse" ({ cls := "OperaHouse", name := "count", desc := "(I)I" } : Jvm.MethodName) ({ cls := "OperaHouse", name := "count", desc := "(I)I" } : Jvm.MethodName)) ∈ lw_all := lw_g (lw_at lw_m7 104 rfl) rfl
theorem q1673 : (Jvm.Cond.code ({ cls := "OperaHouse", name := "count", desc := "(I)I" } : Jvm.MethodName) prog_1_method_69_code (2 : Nat) (Option.some Jvm.ClassFile.FieldType.int)) ∈ lw_all := lw_g (lw_at lw_m7 105 rfl) rfl
theorem q1679 : (Jvm.Cond.instanceMethod ({ cls := "OperaHouse", name := "told", desc := "(II)I" } : Jvm.MethodName)) ∈ lw_all := lw_g (lw_at lw_m7 111 rfl) rfl
theorem q1680 : (Jvm.Cond.selects "OperaHouse" ({ cls := "OperaHouse", name := "told", desc := "(II)I" } : Jvm.MethodName) ({ cls := "OperaHouse", name := "told", desc := "(II)I" } : Jvm.MethodName)) ∈ lw_all := lw_g (lw_at lw_m7 112 rfl) rfl
theorem q1681 : (Jvm.Cond.code ({ cls := "OperaHouse", name := "told", desc := "(II)I" } : Jvm.MethodName) prog_1_method_45_code (4 : Nat) (Option.some Jvm.ClassFile.FieldType.int)) ∈ lw_all := lw_g (lw_at lw_m7 113 rfl) rfl
theorem q1682 : (Jvm.Cond.classLink "OperaHouse" (417 : Nat) "java/util/NoSuchElementException") ∈ lw_all := lw_g (lw_at lw_m7 114 rfl) rfl
theorem q1693 : (Jvm.Cond.methodLink "OperaHouse" (419 : Nat) ({ cls := "java/util/NoSuchElementException", name := "<init>", desc := "()V" } : Jvm.MethodName)) ∈ lw_all := lw_g (lw_at lw_m7 125 rfl) rfl
theorem q2461 : (Jvm.Cond.castable "OperaHouse" "java/lang/Object") ∈ lw_tbl := lw_at lw_m10 173 rfl
theorem in_X1 : ∀ w ∈ wsX10, w ∈ lw_all := lw_in wsX10 [330, 332, 334, 336, 338, 340, 342, 344, 346, 348, 350, 352, 354, 356, 358, 360, 362, 364, 366, 368, 370, 372, 374, 376, 378, 380, 382, 384, 386, 388, 390, 392, 394, 396, 398, 400, 402] (by decide +kernel) (by decide +kernel)
