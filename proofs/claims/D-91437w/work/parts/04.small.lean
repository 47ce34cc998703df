/-! OperaHouseLaw -/
set_option maxRecDepth 100000
def RX0 : String := "OperaHouseLaw"
abbrev cX0_told : ByteArray := method_3_code
def yX0_told : MethodName := ⟨RX0, "told", "(LOperaHouse;II[J)I"⟩
def dkwX0_told_0 : List UInt8 := [45, 3, 42, 27, 28, 182, 0, 7, 133, 80, 167, 0, 7, 58, 4, 4, 172, 3, 172]
abbrev dktX0_told_0 : List UInt8 := dkwX0_told_0 ++ []
theorem dksX0_told_0 : cX0_told.data.toList.drop 0 = dktX0_told_0 := by decide +kernel
theorem dX0_told_0 : decode cX0_told 0 = .ok (.aload_n 3, 1) := dk_45 (dk_at dksX0_told_0 0 rfl rfl)
theorem dX0_told_1 : decode cX0_told 1 = .ok (.iconst 0, 1) := dk_3 (dk_at dksX0_told_0 1 rfl rfl)
theorem dX0_told_2 : decode cX0_told 2 = .ok (.aload_n 0, 1) := dk_42 (dk_at dksX0_told_0 2 rfl rfl)
theorem dX0_told_3 : decode cX0_told 3 = .ok (.iload_n 1, 1) := dk_27 (dk_at dksX0_told_0 3 rfl rfl)
theorem dX0_told_4 : decode cX0_told 4 = .ok (.iload_n 2, 1) := dk_28 (dk_at dksX0_told_0 4 rfl rfl)
theorem dX0_told_5 : decode cX0_told 5 = .ok (.invokevirtual 7, 3) := dk_182 0 7 (dk_at dksX0_told_0 5 rfl rfl)
theorem dX0_told_8 : decode cX0_told 8 = .ok (.i2l, 1) := dk_133 (dk_at dksX0_told_0 8 rfl rfl)
theorem dX0_told_9 : decode cX0_told 9 = .ok (.lastore, 1) := dk_80 (dk_at dksX0_told_0 9 rfl rfl)
theorem dX0_told_10 : decode cX0_told 10 = .ok (.goto 7, 3) := dk_167 0 7 (dk_at dksX0_told_0 10 rfl rfl)
theorem dX0_told_13 : decode cX0_told 13 = .ok (.astore 4, 2) := dk_58 4 (dk_at dksX0_told_0 13 rfl rfl)
theorem dX0_told_15 : decode cX0_told 15 = .ok (.iconst 1, 1) := dk_4 (dk_at dksX0_told_0 15 rfl rfl)
theorem dX0_told_16 : decode cX0_told 16 = .ok (.ireturn, 1) := dk_172 (dk_at dksX0_told_0 16 rfl rfl)
theorem dX0_told_17 : decode cX0_told 17 = .ok (.iconst 0, 1) := dk_3 (dk_at dksX0_told_0 17 rfl rfl)
theorem dX0_told_18 : decode cX0_told 18 = .ok (.ireturn, 1) := dk_172 (dk_at dksX0_told_0 18 rfl rfl)
theorem q128 : (Jvm.Cond.initialized "OperaHouseLaw") ∈ lw_all := lw_g (lw_at lw_m1 0 rfl) rfl
theorem q170 : (Jvm.Cond.classLink "OperaHouseLaw" (8 : Nat) "OperaHouse") ∈ lw_all := lw_g (lw_at lw_m1 42 rfl) rfl
theorem q172 : (Jvm.Cond.methodLink "OperaHouseLaw" (15 : Nat) ({ cls := "OperaHouse", name := "<init>", desc := "()V" } : Jvm.MethodName)) ∈ lw_all := lw_g (lw_at lw_m1 44 rfl) rfl
theorem q405 : (Jvm.Cond.methodLink "OperaHouseLaw" (19 : Nat) ({ cls := "OperaHouse", name := "feed", desc := "(IIIII)I" } : Jvm.MethodName)) ∈ lw_all := lw_g (lw_at lw_m2 37 rfl) rfl
theorem q413 : (Jvm.Cond.methodLink "OperaHouseLaw" (24 : Nat) ({ cls := "OperaHouse", name := "end", desc := "(I)Z" } : Jvm.MethodName)) ∈ lw_all := lw_g (lw_at lw_m2 45 rfl) rfl
theorem q417 : (Jvm.Cond.methodLink "OperaHouseLaw" (29 : Nat) ({ cls := "OperaHouse", name := "next", desc := "(I)I" } : Jvm.MethodName)) ∈ lw_all := lw_g (lw_at lw_m2 49 rfl) rfl
theorem q422 : (Jvm.Cond.methodLink "OperaHouseLaw" (34 : Nat) ({ cls := "OperaHouse", name := "opera", desc := "(IIZI)I" } : Jvm.MethodName)) ∈ lw_all := lw_g (lw_at lw_m2 54 rfl) rfl
theorem q561 : (Jvm.Cond.methodLink "OperaHouseLaw" (39 : Nat) ({ cls := "OperaHouse", name := "singer", desc := "(III)I" } : Jvm.MethodName)) ∈ lw_all := lw_g (lw_at lw_m2 193 rfl) rfl
theorem q631 : (Jvm.Cond.methodLink "OperaHouseLaw" (44 : Nat) ({ cls := "OperaHouse", name := "players", desc := "(III)Z" } : Jvm.MethodName)) ∈ lw_all := lw_g (lw_at lw_m3 23 rfl) rfl
theorem q635 : (Jvm.Cond.methodLink "OperaHouseLaw" (49 : Nat) ({ cls := "OperaHouse", name := "chorus", desc := "(II)Z" } : Jvm.MethodName)) ∈ lw_all := lw_g (lw_at lw_m3 27 rfl) rfl
theorem q639 : (Jvm.Cond.methodLink "OperaHouseLaw" (54 : Nat) ({ cls := "OperaHouse", name := "contract", desc := "(I)I" } : Jvm.MethodName)) ∈ lw_all := lw_g (lw_at lw_m3 31 rfl) rfl
theorem q1263 : (Jvm.Cond.methodLink "OperaHouseLaw" (58 : Nat) ({ cls := "OperaHouse", name := "fault", desc := "()I" } : Jvm.MethodName)) ∈ lw_all := lw_g (lw_at lw_m5 175 rfl) rfl
theorem q1267 : (Jvm.Cond.methodLink "OperaHouseLaw" (63 : Nat) ({ cls := "OperaHouse", name := "learn", desc := "(IIII)Z" } : Jvm.MethodName)) ∈ lw_all := lw_g (lw_at lw_m5 179 rfl) rfl
theorem q1298 : (Jvm.Cond.methodLink "OperaHouseLaw" (68 : Nat) ({ cls := "OperaHouse", name := "call", desc := "(IIIII)I" } : Jvm.MethodName)) ∈ lw_all := lw_g (lw_at lw_m5 210 rfl) rfl
theorem q1344 : (Jvm.Cond.methodLink "OperaHouseLaw" (72 : Nat) ({ cls := "OperaHouse", name := "cast", desc := "(IIIZ)Z" } : Jvm.MethodName)) ∈ lw_all := lw_g (lw_at lw_m6 16 rfl) rfl
theorem q1384 : (Jvm.Cond.methodLink "OperaHouseLaw" (77 : Nat) ({ cls := "OperaHouse", name := "ill", desc := "(III)Z" } : Jvm.MethodName)) ∈ lw_all := lw_g (lw_at lw_m6 56 rfl) rfl
theorem q1414 : (Jvm.Cond.methodLink "OperaHouseLaw" (81 : Nat) ({ cls := "OperaHouse", name := "who", desc := "(IIZI)I" } : Jvm.MethodName)) ∈ lw_all := lw_g (lw_at lw_m6 86 rfl) rfl
theorem q1430 : (Jvm.Cond.methodLink "OperaHouseLaw" (85 : Nat) ({ cls := "OperaHouse", name := "wrong", desc := "(I)I" } : Jvm.MethodName)) ∈ lw_all := lw_g (lw_at lw_m6 102 rfl) rfl
theorem q1558 : (Jvm.Cond.methodLink "OperaHouseLaw" (98 : Nat) ({ cls := "OperaHouse", name := "learned", desc := "(IIII)I" } : Jvm.MethodName)) ∈ lw_all := lw_g (lw_at lw_m6 230 rfl) rfl
theorem q1562 : (Jvm.Cond.methodLink "OperaHouseLaw" (103 : Nat) ({ cls := "OperaHouse", name := "tired", desc := "(III)I" } : Jvm.MethodName)) ∈ lw_all := lw_g (lw_at lw_m6 234 rfl) rfl
theorem q1566 : (Jvm.Cond.methodLink "OperaHouseLaw" (107 : Nat) ({ cls := "OperaHouse", name := "fee", desc := "(III)I" } : Jvm.MethodName)) ∈ lw_all := lw_g (lw_at lw_m6 238 rfl) rfl
theorem q1588 : (Jvm.Cond.methodLink "OperaHouseLaw" (111 : Nat) ({ cls := "OperaHouse", name := "pay", desc := "(III)I" } : Jvm.MethodName)) ∈ lw_all := lw_g (lw_at lw_m7 20 rfl) rfl
theorem q1592 : (Jvm.Cond.methodLink "OperaHouseLaw" (115 : Nat) ({ cls := "OperaHouse", name := "moves", desc := "(II)I" } : Jvm.MethodName)) ∈ lw_all := lw_g (lw_at lw_m7 24 rfl) rfl
theorem q1596 : (Jvm.Cond.methodLink "OperaHouseLaw" (119 : Nat) ({ cls := "OperaHouse", name := "may", desc := "(III)Z" } : Jvm.MethodName)) ∈ lw_all := lw_g (lw_at lw_m7 28 rfl) rfl
theorem q1617 : (Jvm.Cond.methodLink "OperaHouseLaw" (123 : Nat) ({ cls := "OperaHouse", name := "harm", desc := "(III)I" } : Jvm.MethodName)) ∈ lw_all := lw_g (lw_at lw_m7 49 rfl) rfl
theorem q1626 : (Jvm.Cond.methodLink "OperaHouseLaw" (127 : Nat) ({ cls := "OperaHouse", name := "instead", desc := "(II)I" } : Jvm.MethodName)) ∈ lw_all := lw_g (lw_at lw_m7 58 rfl) rfl
theorem q1630 : (Jvm.Cond.methodLink "OperaHouseLaw" (131 : Nat) ({ cls := "OperaHouse", name := "lay", desc := "(III)I" } : Jvm.MethodName)) ∈ lw_all := lw_g (lw_at lw_m7 62 rfl) rfl
theorem q1658 : (Jvm.Cond.methodLink "OperaHouseLaw" (135 : Nat) ({ cls := "OperaHouse", name := "laid", desc := "(I)I" } : Jvm.MethodName)) ∈ lw_all := lw_g (lw_at lw_m7 90 rfl) rfl
theorem q1662 : (Jvm.Cond.methodLink "OperaHouseLaw" (139 : Nat) ({ cls := "OperaHouse", name := "keep", desc := "()I" } : Jvm.MethodName)) ∈ lw_all := lw_g (lw_at lw_m7 94 rfl) rfl
theorem q1670 : (Jvm.Cond.methodLink "OperaHouseLaw" (143 : Nat) ({ cls := "OperaHouse", name := "count", desc := "(I)I" } : Jvm.MethodName)) ∈ lw_all := lw_g (lw_at lw_m7 102 rfl) rfl
theorem q1674 : (Jvm.Cond.methodLink "OperaHouseLaw" (89 : Nat) ({ cls := "OperaHouseLaw", name := "told", desc := "(LOperaHouse;II[J)I" } : Jvm.MethodName)) ∈ lw_all := lw_g (lw_at lw_m7 106 rfl) rfl
theorem q1675 : (Jvm.Cond.static ({ cls := "OperaHouseLaw", name := "told", desc := "(LOperaHouse;II[J)I" } : Jvm.MethodName)) ∈ lw_all := lw_g (lw_at lw_m7 107 rfl) rfl
theorem q1676 : (Jvm.Cond.codeWith ({ cls := "OperaHouseLaw", name := "told", desc := "(LOperaHouse;II[J)I" } : Jvm.MethodName) method_3_code (5 : Nat) (Option.some Jvm.ClassFile.FieldType.int) [((0 : Nat), (10 : Nat), (13 : Nat), (13 : Nat))]) ∈ lw_all := lw_g (lw_at lw_m7 108 rfl) rfl
theorem q1677 : (Jvm.Cond.classLink "OperaHouseLaw" (13 : Nat) "java/util/NoSuchElementException") ∈ lw_all := lw_g (lw_at lw_m7 109 rfl) rfl
theorem q1678 : (Jvm.Cond.methodLink "OperaHouseLaw" (7 : Nat) ({ cls := "OperaHouse", name := "told", desc := "(II)I" } : Jvm.MethodName)) ∈ lw_all := lw_g (lw_at lw_m7 110 rfl) rfl
theorem q1702 : (Jvm.Cond.classLink "OperaHouseLaw" (16 : Nat) "OperaHouseModel") ∈ lw_all := lw_g (lw_at lw_m7 134 rfl) rfl
theorem q1704 : (Jvm.Cond.methodLink "OperaHouseLaw" (18 : Nat) ({ cls := "OperaHouseModel", name := "<init>", desc := "()V" } : Jvm.MethodName)) ∈ lw_all := lw_g (lw_at lw_m7 136 rfl) rfl
theorem q2012 : (Jvm.Cond.methodLink "OperaHouseLaw" (95 : Nat) ({ cls := "OperaHouseModel", name := "thrown", desc := "()I" } : Jvm.MethodName)) ∈ lw_all := lw_g (lw_at lw_m8 204 rfl) rfl
theorem q2016 : (Jvm.Cond.methodLink "OperaHouseLaw" (23 : Nat) ({ cls := "OperaHouseModel", name := "feed", desc := "(IIIII)I" } : Jvm.MethodName)) ∈ lw_all := lw_g (lw_at lw_m8 208 rfl) rfl
theorem q2024 : (Jvm.Cond.methodLink "OperaHouseLaw" (28 : Nat) ({ cls := "OperaHouseModel", name := "end", desc := "(I)Z" } : Jvm.MethodName)) ∈ lw_all := lw_g (lw_at lw_m8 216 rfl) rfl
theorem q2028 : (Jvm.Cond.methodLink "OperaHouseLaw" (33 : Nat) ({ cls := "OperaHouseModel", name := "next", desc := "(I)I" } : Jvm.MethodName)) ∈ lw_all := lw_g (lw_at lw_m8 220 rfl) rfl
theorem q2035 : (Jvm.Cond.methodLink "OperaHouseLaw" (38 : Nat) ({ cls := "OperaHouseModel", name := "opera", desc := "(IIZI)I" } : Jvm.MethodName)) ∈ lw_all := lw_g (lw_at lw_m8 227 rfl) rfl
theorem q2043 : (Jvm.Cond.methodLink "OperaHouseLaw" (43 : Nat) ({ cls := "OperaHouseModel", name := "singer", desc := "(III)I" } : Jvm.MethodName)) ∈ lw_all := lw_g (lw_at lw_m8 235 rfl) rfl
theorem q2051 : (Jvm.Cond.methodLink "OperaHouseLaw" (48 : Nat) ({ cls := "OperaHouseModel", name := "players", desc := "(III)Z" } : Jvm.MethodName)) ∈ lw_all := lw_g (lw_at lw_m9 3 rfl) rfl
theorem q2055 : (Jvm.Cond.methodLink "OperaHouseLaw" (53 : Nat) ({ cls := "OperaHouseModel", name := "chorus", desc := "(II)Z" } : Jvm.MethodName)) ∈ lw_all := lw_g (lw_at lw_m9 7 rfl) rfl
theorem q2059 : (Jvm.Cond.methodLink "OperaHouseLaw" (57 : Nat) ({ cls := "OperaHouseModel", name := "contract", desc := "(I)I" } : Jvm.MethodName)) ∈ lw_all := lw_g (lw_at lw_m9 11 rfl) rfl
theorem q2165 : (Jvm.Cond.methodLink "OperaHouseLaw" (62 : Nat) ({ cls := "OperaHouseModel", name := "fault", desc := "()I" } : Jvm.MethodName)) ∈ lw_all := lw_g (lw_at lw_m9 117 rfl) rfl
theorem q2169 : (Jvm.Cond.methodLink "OperaHouseLaw" (67 : Nat) ({ cls := "OperaHouseModel", name := "learn", desc := "(IIII)Z" } : Jvm.MethodName)) ∈ lw_all := lw_g (lw_at lw_m9 121 rfl) rfl
theorem q2177 : (Jvm.Cond.methodLink "OperaHouseLaw" (71 : Nat) ({ cls := "OperaHouseModel", name := "call", desc := "(IIIII)I" } : Jvm.MethodName)) ∈ lw_all := lw_g (lw_at lw_m9 129 rfl) rfl
theorem q2189 : (Jvm.Cond.methodLink "OperaHouseLaw" (76 : Nat) ({ cls := "OperaHouseModel", name := "cast", desc := "(IIIZ)Z" } : Jvm.MethodName)) ∈ lw_all := lw_g (lw_at lw_m9 141 rfl) rfl
theorem q2201 : (Jvm.Cond.methodLink "OperaHouseLaw" (80 : Nat) ({ cls := "OperaHouseModel", name := "ill", desc := "(III)Z" } : Jvm.MethodName)) ∈ lw_all := lw_g (lw_at lw_m9 153 rfl) rfl
theorem q2205 : (Jvm.Cond.methodLink "OperaHouseLaw" (84 : Nat) ({ cls := "OperaHouseModel", name := "who", desc := "(IIZI)I" } : Jvm.MethodName)) ∈ lw_all := lw_g (lw_at lw_m9 157 rfl) rfl
theorem q2221 : (Jvm.Cond.methodLink "OperaHouseLaw" (102 : Nat) ({ cls := "OperaHouseModel", name := "learned", desc := "(IIII)I" } : Jvm.MethodName)) ∈ lw_all := lw_g (lw_at lw_m9 173 rfl) rfl
theorem q2233 : (Jvm.Cond.methodLink "OperaHouseLaw" (106 : Nat) ({ cls := "OperaHouseModel", name := "tired", desc := "(III)I" } : Jvm.MethodName)) ∈ lw_all := lw_g (lw_at lw_m9 185 rfl) rfl
theorem q2245 : (Jvm.Cond.methodLink "OperaHouseLaw" (110 : Nat) ({ cls := "OperaHouseModel", name := "fee", desc := "(III)I" } : Jvm.MethodName)) ∈ lw_all := lw_g (lw_at lw_m9 197 rfl) rfl
theorem q2285 : (Jvm.Cond.methodLink "OperaHouseLaw" (114 : Nat) ({ cls := "OperaHouseModel", name := "pay", desc := "(III)I" } : Jvm.MethodName)) ∈ lw_all := lw_g (lw_at lw_m9 237 rfl) rfl
theorem q2289 : (Jvm.Cond.methodLink "OperaHouseLaw" (118 : Nat) ({ cls := "OperaHouseModel", name := "moves", desc := "(II)I" } : Jvm.MethodName)) ∈ lw_all := lw_g (lw_at lw_m10 1 rfl) rfl
theorem q2314 : (Jvm.Cond.methodLink "OperaHouseLaw" (88 : Nat) ({ cls := "OperaHouseModel", name := "wrong", desc := "(I)I" } : Jvm.MethodName)) ∈ lw_all := lw_g (lw_at lw_m10 26 rfl) rfl
theorem q2386 : (Jvm.Cond.methodLink "OperaHouseLaw" (94 : Nat) ({ cls := "OperaHouseModel", name := "told", desc := "(II)I" } : Jvm.MethodName)) ∈ lw_all := lw_g (lw_at lw_m10 98 rfl) rfl
theorem q2394 : (Jvm.Cond.methodLink "OperaHouseLaw" (122 : Nat) ({ cls := "OperaHouseModel", name := "may", desc := "(III)Z" } : Jvm.MethodName)) ∈ lw_all := lw_g (lw_at lw_m10 106 rfl) rfl
theorem q2417 : (Jvm.Cond.methodLink "OperaHouseLaw" (126 : Nat) ({ cls := "OperaHouseModel", name := "harm", desc := "(III)I" } : Jvm.MethodName)) ∈ lw_all := lw_g (lw_at lw_m10 129 rfl) rfl
theorem q2425 : (Jvm.Cond.methodLink "OperaHouseLaw" (130 : Nat) ({ cls := "OperaHouseModel", name := "instead", desc := "(II)I" } : Jvm.MethodName)) ∈ lw_all := lw_g (lw_at lw_m10 137 rfl) rfl
theorem q2429 : (Jvm.Cond.methodLink "OperaHouseLaw" (134 : Nat) ({ cls := "OperaHouseModel", name := "lay", desc := "(III)I" } : Jvm.MethodName)) ∈ lw_all := lw_g (lw_at lw_m10 141 rfl) rfl
theorem q2441 : (Jvm.Cond.methodLink "OperaHouseLaw" (138 : Nat) ({ cls := "OperaHouseModel", name := "laid", desc := "(I)I" } : Jvm.MethodName)) ∈ lw_all := lw_g (lw_at lw_m10 153 rfl) rfl
theorem q2445 : (Jvm.Cond.methodLink "OperaHouseLaw" (142 : Nat) ({ cls := "OperaHouseModel", name := "keep", desc := "()I" } : Jvm.MethodName)) ∈ lw_all := lw_g (lw_at lw_m10 157 rfl) rfl
theorem q2449 : (Jvm.Cond.methodLink "OperaHouseLaw" (146 : Nat) ({ cls := "OperaHouseModel", name := "count", desc := "(I)I" } : Jvm.MethodName)) ∈ lw_all := lw_g (lw_at lw_m10 161 rfl) rfl

/-! OperaHouse$Wagons -/
set_option maxRecDepth 100000
def RX2 : String := "OperaHouse$Wagons"
def TX2 : u_T := fun k => match k with
  | 0 => ("OperaHouse$Wagons", "code", "[I", true)
  | 1 => ("OperaHouse$Wagons", "onStage", "[I", true)
  | 2 => ("OperaHouse$Wagons", "next", "[[I", true)
  | _ => ("OperaHouse$Wagons", "many", "I", false)
def tyX2 : Nat → FieldType := fun k => match k with
  | 0 => .array .int
  | 1 => .array .int
  | 2 => .array (.array .int)
  | _ => .int
abbrev wsX20 : List Cond := u_ws RX2 TX2 4
theorem nmX2 : ∀ a, a < 4 → ∀ b, b < 4 → a ≠ b → (TX2 a).2.1 ≠ (TX2 b).2.1 := by decide +kernel
theorem tyX2_ok : ∀ k, k < 4 → parseFieldDescriptor (TX2 k).2.2.1 = some (tyX2 k) := by decide +kernel
abbrev cX2_init : ByteArray := prog_16_method_1_code
def yX2_init : MethodName := ⟨RX2, "<init>", "()V"⟩
def dkwX2_init_3 : List UInt8 := [42, 180, 0, 20, 27, 50, 5, 2, 79, 42, 27, 182, 0, 34, 132, 1, 1, 167, 255, 213, 177]
abbrev dktX2_init_3 : List UInt8 := dkwX2_init_3 ++ []
def dkwX2_init_2 : List UInt8 := [180, 0, 30, 162, 0, 41, 42, 180, 0, 20, 27, 50, 3, 2, 79, 42, 180, 0, 20, 27, 50, 4, 2, 79]
abbrev dktX2_init_2 : List UInt8 := dkwX2_init_2 ++ dktX2_init_3
def dkwX2_init_1 : List UInt8 := [197, 0, 18, 2, 181, 0, 20, 42, 3, 4, 5, 6, 7, 184, 0, 23, 182, 0, 26, 87, 3, 60, 27, 42]
abbrev dktX2_init_1 : List UInt8 := dkwX2_init_1 ++ dktX2_init_2
def dkwX2_init_0 : List UInt8 := [42, 183, 0, 3, 42, 16, 120, 188, 10, 181, 0, 11, 42, 16, 120, 188, 10, 181, 0, 15, 42, 16, 120, 6]
abbrev dktX2_init_0 : List UInt8 := dkwX2_init_0 ++ dktX2_init_1
theorem dksX2_init_0 : cX2_init.data.toList.drop 0 = dktX2_init_0 := by decide +kernel
theorem dksX2_init_1 : cX2_init.data.toList.drop 24 = dktX2_init_1 := dk_seg dksX2_init_0 24 rfl rfl
theorem dksX2_init_2 : cX2_init.data.toList.drop 48 = dktX2_init_2 := dk_seg dksX2_init_1 24 rfl rfl
theorem dksX2_init_3 : cX2_init.data.toList.drop 72 = dktX2_init_3 := dk_seg dksX2_init_2 24 rfl rfl
theorem dX2_init_0 : decode cX2_init 0 = .ok (.aload_n 0, 1) := dk_42 (dk_at dksX2_init_0 0 rfl rfl)
theorem dX2_init_1 : decode cX2_init 1 = .ok (.invokespecial 3, 3) := dk_183 0 3 (dk_at dksX2_init_0 1 rfl rfl)
theorem dX2_init_4 : decode cX2_init 4 = .ok (.aload_n 0, 1) := dk_42 (dk_at dksX2_init_0 4 rfl rfl)
theorem dX2_init_5 : decode cX2_init 5 = .ok (.bipush 120, 2) := dk_16 120 (dk_at dksX2_init_0 5 rfl rfl)
theorem dX2_init_7 : decode cX2_init 7 = .ok (.newarray .int, 2) := dk_188_10 (dk_at dksX2_init_0 7 rfl rfl)
theorem dX2_init_9 : decode cX2_init 9 = .ok (.putfield 11, 3) := dk_181 0 11 (dk_at dksX2_init_0 9 rfl rfl)
theorem dX2_init_12 : decode cX2_init 12 = .ok (.aload_n 0, 1) := dk_42 (dk_at dksX2_init_0 12 rfl rfl)
theorem dX2_init_13 : decode cX2_init 13 = .ok (.bipush 120, 2) := dk_16 120 (dk_at dksX2_init_0 13 rfl rfl)
theorem dX2_init_15 : decode cX2_init 15 = .ok (.newarray .int, 2) := dk_188_10 (dk_at dksX2_init_0 15 rfl rfl)
theorem dX2_init_17 : decode cX2_init 17 = .ok (.putfield 15, 3) := dk_181 0 15 (dk_at dksX2_init_0 17 rfl rfl)
theorem dX2_init_20 : decode cX2_init 20 = .ok (.aload_n 0, 1) := dk_42 (dk_at dksX2_init_0 20 rfl rfl)
theorem dX2_init_21 : decode cX2_init 21 = .ok (.bipush 120, 2) := dk_16 120 (dk_at dksX2_init_0 21 rfl rfl)
theorem dX2_init_23 : decode cX2_init 23 = .ok (.iconst 3, 1) := dk_6 (dk_at dksX2_init_0 23 rfl rfl)
theorem dX2_init_24 : decode cX2_init 24 = .ok (.multianewarray 18 2, 4) := by decide +kernel
theorem dX2_init_28 : decode cX2_init 28 = .ok (.putfield 20, 3) := dk_181 0 20 (dk_at dksX2_init_1 4 rfl rfl)
theorem dX2_init_31 : decode cX2_init 31 = .ok (.aload_n 0, 1) := dk_42 (dk_at dksX2_init_1 7 rfl rfl)
theorem dX2_init_32 : decode cX2_init 32 = .ok (.iconst 0, 1) := dk_3 (dk_at dksX2_init_1 8 rfl rfl)
theorem dX2_init_33 : decode cX2_init 33 = .ok (.iconst 1, 1) := dk_4 (dk_at dksX2_init_1 9 rfl rfl)
theorem dX2_init_34 : decode cX2_init 34 = .ok (.iconst 2, 1) := dk_5 (dk_at dksX2_init_1 10 rfl rfl)
theorem dX2_init_35 : decode cX2_init 35 = .ok (.iconst 3, 1) := dk_6 (dk_at dksX2_init_1 11 rfl rfl)
theorem dX2_init_36 : decode cX2_init 36 = .ok (.iconst 4, 1) := dk_7 (dk_at dksX2_init_1 12 rfl rfl)
theorem dX2_init_37 : decode cX2_init 37 = .ok (.invokestatic 23, 3) := dk_184 0 23 (dk_at dksX2_init_1 13 rfl rfl)
theorem dX2_init_40 : decode cX2_init 40 = .ok (.invokevirtual 26, 3) := dk_182 0 26 (dk_at dksX2_init_1 16 rfl rfl)
theorem dX2_init_43 : decode cX2_init 43 = .ok (.pop, 1) := dk_87 (dk_at dksX2_init_1 19 rfl rfl)
theorem dX2_init_44 : decode cX2_init 44 = .ok (.iconst 0, 1) := dk_3 (dk_at dksX2_init_1 20 rfl rfl)
theorem dX2_init_45 : decode cX2_init 45 = .ok (.istore_n 1, 1) := dk_60 (dk_at dksX2_init_1 21 rfl rfl)
theorem dX2_init_46 : decode cX2_init 46 = .ok (.iload_n 1, 1) := dk_27 (dk_at dksX2_init_1 22 rfl rfl)
theorem dX2_init_47 : decode cX2_init 47 = .ok (.aload_n 0, 1) := dk_42 (dk_at dksX2_init_1 23 rfl rfl)
theorem dX2_init_48 : decode cX2_init 48 = .ok (.getfield 30, 3) := dk_180 0 30 (dk_at dksX2_init_2 0 rfl rfl)
theorem dX2_init_51 : decode cX2_init 51 = .ok (.if_icmp .ge 41, 3) := dk_162 0 41 (dk_at dksX2_init_2 3 rfl rfl)
theorem dX2_init_54 : decode cX2_init 54 = .ok (.aload_n 0, 1) := dk_42 (dk_at dksX2_init_2 6 rfl rfl)
theorem dX2_init_55 : decode cX2_init 55 = .ok (.getfield 20, 3) := dk_180 0 20 (dk_at dksX2_init_2 7 rfl rfl)
theorem dX2_init_58 : decode cX2_init 58 = .ok (.iload_n 1, 1) := dk_27 (dk_at dksX2_init_2 10 rfl rfl)
theorem dX2_init_59 : decode cX2_init 59 = .ok (.aaload, 1) := dk_50 (dk_at dksX2_init_2 11 rfl rfl)
theorem dX2_init_60 : decode cX2_init 60 = .ok (.iconst 0, 1) := dk_3 (dk_at dksX2_init_2 12 rfl rfl)
theorem dX2_init_61 : decode cX2_init 61 = .ok (.iconst (-1), 1) := dk_2 (dk_at dksX2_init_2 13 rfl rfl)
theorem dX2_init_62 : decode cX2_init 62 = .ok (.iastore, 1) := dk_79 (dk_at dksX2_init_2 14 rfl rfl)
theorem dX2_init_63 : decode cX2_init 63 = .ok (.aload_n 0, 1) := dk_42 (dk_at dksX2_init_2 15 rfl rfl)
theorem dX2_init_64 : decode cX2_init 64 = .ok (.getfield 20, 3) := dk_180 0 20 (dk_at dksX2_init_2 16 rfl rfl)
theorem dX2_init_67 : decode cX2_init 67 = .ok (.iload_n 1, 1) := dk_27 (dk_at dksX2_init_2 19 rfl rfl)
theorem dX2_init_68 : decode cX2_init 68 = .ok (.aaload, 1) := dk_50 (dk_at dksX2_init_2 20 rfl rfl)
theorem dX2_init_69 : decode cX2_init 69 = .ok (.iconst 1, 1) := dk_4 (dk_at dksX2_init_2 21 rfl rfl)
theorem dX2_init_70 : decode cX2_init 70 = .ok (.iconst (-1), 1) := dk_2 (dk_at dksX2_init_2 22 rfl rfl)
theorem dX2_init_71 : decode cX2_init 71 = .ok (.iastore, 1) := dk_79 (dk_at dksX2_init_2 23 rfl rfl)
theorem dX2_init_72 : decode cX2_init 72 = .ok (.aload_n 0, 1) := dk_42 (dk_at dksX2_init_3 0 rfl rfl)
theorem dX2_init_73 : decode cX2_init 73 = .ok (.getfield 20, 3) := dk_180 0 20 (dk_at dksX2_init_3 1 rfl rfl)
theorem dX2_init_76 : decode cX2_init 76 = .ok (.iload_n 1, 1) := dk_27 (dk_at dksX2_init_3 4 rfl rfl)
theorem dX2_init_77 : decode cX2_init 77 = .ok (.aaload, 1) := dk_50 (dk_at dksX2_init_3 5 rfl rfl)
theorem dX2_init_78 : decode cX2_init 78 = .ok (.iconst 2, 1) := dk_5 (dk_at dksX2_init_3 6 rfl rfl)
theorem dX2_init_79 : decode cX2_init 79 = .ok (.iconst (-1), 1) := dk_2 (dk_at dksX2_init_3 7 rfl rfl)
theorem dX2_init_80 : decode cX2_init 80 = .ok (.iastore, 1) := dk_79 (dk_at dksX2_init_3 8 rfl rfl)
theorem dX2_init_81 : decode cX2_init 81 = .ok (.aload_n 0, 1) := dk_42 (dk_at dksX2_init_3 9 rfl rfl)
theorem dX2_init_82 : decode cX2_init 82 = .ok (.iload_n 1, 1) := dk_27 (dk_at dksX2_init_3 10 rfl rfl)
theorem dX2_init_83 : decode cX2_init 83 = .ok (.invokevirtual 34, 3) := dk_182 0 34 (dk_at dksX2_init_3 11 rfl rfl)
theorem dX2_init_86 : decode cX2_init 86 = .ok (.iinc 1 1, 3) := dk_132 1 1 (dk_at dksX2_init_3 14 rfl rfl)
theorem dX2_init_89 : decode cX2_init 89 = .ok (.goto (-43), 3) := dk_167 255 213 (dk_at dksX2_init_3 17 rfl rfl)
theorem dX2_init_92 : decode cX2_init 92 = .ok (.return_, 1) := dk_177 (dk_at dksX2_init_3 20 rfl rfl)
abbrev cX2_code : ByteArray := prog_16_method_2_code
def yX2_code : MethodName := ⟨RX2, "code", "(IIIII)I"⟩
def dkwX2_code_0 : List UInt8 := [26, 27, 6, 120, 128, 28, 16, 6, 120, 128, 29, 16, 9, 120, 128, 21, 4, 16, 12, 120, 128, 172]
abbrev dktX2_code_0 : List UInt8 := dkwX2_code_0 ++ []
theorem dksX2_code_0 : cX2_code.data.toList.drop 0 = dktX2_code_0 := by decide +kernel
theorem dX2_code_0 : decode cX2_code 0 = .ok (.iload_n 0, 1) := dk_26 (dk_at dksX2_code_0 0 rfl rfl)
theorem dX2_code_1 : decode cX2_code 1 = .ok (.iload_n 1, 1) := dk_27 (dk_at dksX2_code_0 1 rfl rfl)
theorem dX2_code_2 : decode cX2_code 2 = .ok (.iconst 3, 1) := dk_6 (dk_at dksX2_code_0 2 rfl rfl)
theorem dX2_code_3 : decode cX2_code 3 = .ok (.ishl, 1) := dk_120 (dk_at dksX2_code_0 3 rfl rfl)
theorem dX2_code_4 : decode cX2_code 4 = .ok (.ior, 1) := dk_128 (dk_at dksX2_code_0 4 rfl rfl)
theorem dX2_code_5 : decode cX2_code 5 = .ok (.iload_n 2, 1) := dk_28 (dk_at dksX2_code_0 5 rfl rfl)
theorem dX2_code_6 : decode cX2_code 6 = .ok (.bipush 6, 2) := dk_16 6 (dk_at dksX2_code_0 6 rfl rfl)
theorem dX2_code_8 : decode cX2_code 8 = .ok (.ishl, 1) := dk_120 (dk_at dksX2_code_0 8 rfl rfl)
theorem dX2_code_9 : decode cX2_code 9 = .ok (.ior, 1) := dk_128 (dk_at dksX2_code_0 9 rfl rfl)
theorem dX2_code_10 : decode cX2_code 10 = .ok (.iload_n 3, 1) := dk_29 (dk_at dksX2_code_0 10 rfl rfl)
theorem dX2_code_11 : decode cX2_code 11 = .ok (.bipush 9, 2) := dk_16 9 (dk_at dksX2_code_0 11 rfl rfl)
theorem dX2_code_13 : decode cX2_code 13 = .ok (.ishl, 1) := dk_120 (dk_at dksX2_code_0 13 rfl rfl)
theorem dX2_code_14 : decode cX2_code 14 = .ok (.ior, 1) := dk_128 (dk_at dksX2_code_0 14 rfl rfl)
theorem dX2_code_15 : decode cX2_code 15 = .ok (.iload 4, 2) := dk_21 4 (dk_at dksX2_code_0 15 rfl rfl)
theorem dX2_code_17 : decode cX2_code 17 = .ok (.bipush 12, 2) := dk_16 12 (dk_at dksX2_code_0 17 rfl rfl)
theorem dX2_code_19 : decode cX2_code 19 = .ok (.ishl, 1) := dk_120 (dk_at dksX2_code_0 19 rfl rfl)
theorem dX2_code_20 : decode cX2_code 20 = .ok (.ior, 1) := dk_128 (dk_at dksX2_code_0 20 rfl rfl)
theorem dX2_code_21 : decode cX2_code 21 = .ok (.ireturn, 1) := dk_172 (dk_at dksX2_code_0 21 rfl rfl)
abbrev cX2_add : ByteArray := prog_16_method_4_code
def yX2_add : MethodName := ⟨RX2, "add", "(I)I"⟩
def dkwX2_add_2 : List UInt8 := [27, 3, 184, 0, 38, 79, 42, 89, 180, 0, 30, 4, 96, 181, 0, 30, 42, 180, 0, 30, 4, 100, 172]
abbrev dktX2_add_2 : List UInt8 := dkwX2_add_2 ++ []
def dkwX2_add_1 : List UInt8 := [132, 2, 1, 167, 255, 233, 42, 180, 0, 11, 42, 180, 0, 30, 27, 79, 42, 180, 0, 15, 42, 180, 0, 30]
abbrev dktX2_add_1 : List UInt8 := dkwX2_add_1 ++ dktX2_add_2
def dkwX2_add_0 : List UInt8 := [3, 61, 28, 42, 180, 0, 30, 162, 0, 21, 42, 180, 0, 11, 28, 46, 27, 160, 0, 5, 28, 172]
abbrev dktX2_add_0 : List UInt8 := dkwX2_add_0 ++ dktX2_add_1
theorem dksX2_add_0 : cX2_add.data.toList.drop 0 = dktX2_add_0 := by decide +kernel
theorem dksX2_add_1 : cX2_add.data.toList.drop 22 = dktX2_add_1 := dk_seg dksX2_add_0 22 rfl rfl
theorem dksX2_add_2 : cX2_add.data.toList.drop 46 = dktX2_add_2 := dk_seg dksX2_add_1 24 rfl rfl
theorem dX2_add_0 : decode cX2_add 0 = .ok (.iconst 0, 1) := dk_3 (dk_at dksX2_add_0 0 rfl rfl)
theorem dX2_add_1 : decode cX2_add 1 = .ok (.istore_n 2, 1) := dk_61 (dk_at dksX2_add_0 1 rfl rfl)
theorem dX2_add_2 : decode cX2_add 2 = .ok (.iload_n 2, 1) := dk_28 (dk_at dksX2_add_0 2 rfl rfl)
theorem dX2_add_3 : decode cX2_add 3 = .ok (.aload_n 0, 1) := dk_42 (dk_at dksX2_add_0 3 rfl rfl)
theorem dX2_add_4 : decode cX2_add 4 = .ok (.getfield 30, 3) := dk_180 0 30 (dk_at dksX2_add_0 4 rfl rfl)
theorem dX2_add_7 : decode cX2_add 7 = .ok (.if_icmp .ge 21, 3) := dk_162 0 21 (dk_at dksX2_add_0 7 rfl rfl)
theorem dX2_add_10 : decode cX2_add 10 = .ok (.aload_n 0, 1) := dk_42 (dk_at dksX2_add_0 10 rfl rfl)
theorem dX2_add_11 : decode cX2_add 11 = .ok (.getfield 11, 3) := dk_180 0 11 (dk_at dksX2_add_0 11 rfl rfl)
theorem dX2_add_14 : decode cX2_add 14 = .ok (.iload_n 2, 1) := dk_28 (dk_at dksX2_add_0 14 rfl rfl)
theorem dX2_add_15 : decode cX2_add 15 = .ok (.iaload, 1) := dk_46 (dk_at dksX2_add_0 15 rfl rfl)
theorem dX2_add_16 : decode cX2_add 16 = .ok (.iload_n 1, 1) := dk_27 (dk_at dksX2_add_0 16 rfl rfl)
theorem dX2_add_17 : decode cX2_add 17 = .ok (.if_icmp .ne 5, 3) := dk_160 0 5 (dk_at dksX2_add_0 17 rfl rfl)
theorem dX2_add_20 : decode cX2_add 20 = .ok (.iload_n 2, 1) := dk_28 (dk_at dksX2_add_0 20 rfl rfl)
theorem dX2_add_21 : decode cX2_add 21 = .ok (.ireturn, 1) := dk_172 (dk_at dksX2_add_0 21 rfl rfl)
theorem dX2_add_22 : decode cX2_add 22 = .ok (.iinc 2 1, 3) := dk_132 2 1 (dk_at dksX2_add_1 0 rfl rfl)
theorem dX2_add_25 : decode cX2_add 25 = .ok (.goto (-23), 3) := dk_167 255 233 (dk_at dksX2_add_1 3 rfl rfl)
theorem dX2_add_28 : decode cX2_add 28 = .ok (.aload_n 0, 1) := dk_42 (dk_at dksX2_add_1 6 rfl rfl)
theorem dX2_add_29 : decode cX2_add 29 = .ok (.getfield 11, 3) := dk_180 0 11 (dk_at dksX2_add_1 7 rfl rfl)
theorem dX2_add_32 : decode cX2_add 32 = .ok (.aload_n 0, 1) := dk_42 (dk_at dksX2_add_1 10 rfl rfl)
theorem dX2_add_33 : decode cX2_add 33 = .ok (.getfield 30, 3) := dk_180 0 30 (dk_at dksX2_add_1 11 rfl rfl)
theorem dX2_add_36 : decode cX2_add 36 = .ok (.iload_n 1, 1) := dk_27 (dk_at dksX2_add_1 14 rfl rfl)
theorem dX2_add_37 : decode cX2_add 37 = .ok (.iastore, 1) := dk_79 (dk_at dksX2_add_1 15 rfl rfl)
theorem dX2_add_38 : decode cX2_add 38 = .ok (.aload_n 0, 1) := dk_42 (dk_at dksX2_add_1 16 rfl rfl)
theorem dX2_add_39 : decode cX2_add 39 = .ok (.getfield 15, 3) := dk_180 0 15 (dk_at dksX2_add_1 17 rfl rfl)
theorem dX2_add_42 : decode cX2_add 42 = .ok (.aload_n 0, 1) := dk_42 (dk_at dksX2_add_1 20 rfl rfl)
theorem dX2_add_43 : decode cX2_add 43 = .ok (.getfield 30, 3) := dk_180 0 30 (dk_at dksX2_add_1 21 rfl rfl)
theorem dX2_add_46 : decode cX2_add 46 = .ok (.iload_n 1, 1) := dk_27 (dk_at dksX2_add_2 0 rfl rfl)
theorem dX2_add_47 : decode cX2_add 47 = .ok (.iconst 0, 1) := dk_3 (dk_at dksX2_add_2 1 rfl rfl)
theorem dX2_add_48 : decode cX2_add 48 = .ok (.invokestatic 38, 3) := dk_184 0 38 (dk_at dksX2_add_2 2 rfl rfl)
theorem dX2_add_51 : decode cX2_add 51 = .ok (.iastore, 1) := dk_79 (dk_at dksX2_add_2 5 rfl rfl)
theorem dX2_add_52 : decode cX2_add 52 = .ok (.aload_n 0, 1) := dk_42 (dk_at dksX2_add_2 6 rfl rfl)
theorem dX2_add_53 : decode cX2_add 53 = .ok (.dup, 1) := dk_89 (dk_at dksX2_add_2 7 rfl rfl)
theorem dX2_add_54 : decode cX2_add 54 = .ok (.getfield 30, 3) := dk_180 0 30 (dk_at dksX2_add_2 8 rfl rfl)
theorem dX2_add_57 : decode cX2_add 57 = .ok (.iconst 1, 1) := dk_4 (dk_at dksX2_add_2 11 rfl rfl)
theorem dX2_add_58 : decode cX2_add 58 = .ok (.iadd, 1) := dk_96 (dk_at dksX2_add_2 12 rfl rfl)
theorem dX2_add_59 : decode cX2_add 59 = .ok (.putfield 30, 3) := dk_181 0 30 (dk_at dksX2_add_2 13 rfl rfl)
theorem dX2_add_62 : decode cX2_add 62 = .ok (.aload_n 0, 1) := dk_42 (dk_at dksX2_add_2 16 rfl rfl)
theorem dX2_add_63 : decode cX2_add 63 = .ok (.getfield 30, 3) := dk_180 0 30 (dk_at dksX2_add_2 17 rfl rfl)
theorem dX2_add_66 : decode cX2_add 66 = .ok (.iconst 1, 1) := dk_4 (dk_at dksX2_add_2 20 rfl rfl)
theorem dX2_add_67 : decode cX2_add 67 = .ok (.isub, 1) := dk_100 (dk_at dksX2_add_2 21 rfl rfl)
theorem dX2_add_68 : decode cX2_add 68 = .ok (.ireturn, 1) := dk_172 (dk_at dksX2_add_2 22 rfl rfl)
abbrev cX2_at : ByteArray := prog_16_method_3_code
def yX2_at : MethodName := ⟨RX2, "at", "(II)I"⟩
def dkwX2_at_0 : List UInt8 := [26, 6, 27, 104, 122, 16, 7, 126, 172]
abbrev dktX2_at_0 : List UInt8 := dkwX2_at_0 ++ []
theorem dksX2_at_0 : cX2_at.data.toList.drop 0 = dktX2_at_0 := by decide +kernel
theorem dX2_at_0 : decode cX2_at 0 = .ok (.iload_n 0, 1) := dk_26 (dk_at dksX2_at_0 0 rfl rfl)
theorem dX2_at_1 : decode cX2_at 1 = .ok (.iconst 3, 1) := dk_6 (dk_at dksX2_at_0 1 rfl rfl)
theorem dX2_at_2 : decode cX2_at 2 = .ok (.iload_n 1, 1) := dk_27 (dk_at dksX2_at_0 2 rfl rfl)
theorem dX2_at_3 : decode cX2_at 3 = .ok (.imul, 1) := dk_104 (dk_at dksX2_at_0 3 rfl rfl)
theorem dX2_at_4 : decode cX2_at 4 = .ok (.ishr, 1) := dk_122 (dk_at dksX2_at_0 4 rfl rfl)
theorem dX2_at_5 : decode cX2_at 5 = .ok (.bipush 7, 2) := dk_16 7 (dk_at dksX2_at_0 5 rfl rfl)
theorem dX2_at_7 : decode cX2_at 7 = .ok (.iand, 1) := dk_126 (dk_at dksX2_at_0 7 rfl rfl)
theorem dX2_at_8 : decode cX2_at 8 = .ok (.ireturn, 1) := dk_172 (dk_at dksX2_at_0 8 rfl rfl)
abbrev cX2_lead : ByteArray := prog_16_method_5_code
def yX2_lead : MethodName := ⟨RX2, "lead", "(I)V"⟩
def dkwX2_lead_5 : List UInt8 := [167, 255, 168, 177]
abbrev dktX2_lead_5 : List UInt8 := dkwX2_lead_5 ++ []
def dkwX2_lead_4 : List UInt8 := [21, 4, 104, 120, 128, 21, 5, 6, 28, 104, 120, 128, 182, 0, 26, 79, 132, 3, 1, 132, 4, 1]
abbrev dktX2_lead_4 : List UInt8 := dkwX2_lead_4 ++ dktX2_lead_5
def dkwX2_lead_3 : List UInt8 := [27, 46, 16, 7, 6, 21, 4, 104, 120, 2, 130, 126, 16, 7, 6, 28, 104, 120, 2, 130, 126, 7, 6]
abbrev dktX2_lead_3 : List UInt8 := dkwX2_lead_3 ++ dktX2_lead_4
def dkwX2_lead_2 : List UInt8 := [180, 0, 11, 27, 46, 21, 4, 184, 0, 38, 54, 5, 42, 180, 0, 20, 27, 50, 29, 42, 42, 180, 0, 11]
abbrev dktX2_lead_2 : List UInt8 := dkwX2_lead_2 ++ dktX2_lead_3
def dkwX2_lead_1 : List UInt8 := [3, 54, 4, 21, 4, 8, 162, 0, 88, 21, 4, 28, 184, 0, 42, 154, 0, 6, 167, 0, 70, 42]
abbrev dktX2_lead_1 : List UInt8 := dkwX2_lead_1 ++ dktX2_lead_2
def dkwX2_lead_0 : List UInt8 := [3, 61, 42, 180, 0, 11, 27, 46, 28, 184, 0, 38, 7, 159, 0, 9, 132, 2, 1, 167, 255, 239, 3, 62]
abbrev dktX2_lead_0 : List UInt8 := dkwX2_lead_0 ++ dktX2_lead_1
theorem dksX2_lead_0 : cX2_lead.data.toList.drop 0 = dktX2_lead_0 := by decide +kernel
theorem dksX2_lead_1 : cX2_lead.data.toList.drop 24 = dktX2_lead_1 := dk_seg dksX2_lead_0 24 rfl rfl
theorem dksX2_lead_2 : cX2_lead.data.toList.drop 46 = dktX2_lead_2 := dk_seg dksX2_lead_1 22 rfl rfl
theorem dksX2_lead_3 : cX2_lead.data.toList.drop 70 = dktX2_lead_3 := dk_seg dksX2_lead_2 24 rfl rfl
theorem dksX2_lead_4 : cX2_lead.data.toList.drop 93 = dktX2_lead_4 := dk_seg dksX2_lead_3 23 rfl rfl
theorem dksX2_lead_5 : cX2_lead.data.toList.drop 115 = dktX2_lead_5 := dk_seg dksX2_lead_4 22 rfl rfl
theorem dX2_lead_0 : decode cX2_lead 0 = .ok (.iconst 0, 1) := dk_3 (dk_at dksX2_lead_0 0 rfl rfl)
theorem dX2_lead_1 : decode cX2_lead 1 = .ok (.istore_n 2, 1) := dk_61 (dk_at dksX2_lead_0 1 rfl rfl)
theorem dX2_lead_2 : decode cX2_lead 2 = .ok (.aload_n 0, 1) := dk_42 (dk_at dksX2_lead_0 2 rfl rfl)
theorem dX2_lead_3 : decode cX2_lead 3 = .ok (.getfield 11, 3) := dk_180 0 11 (dk_at dksX2_lead_0 3 rfl rfl)
theorem dX2_lead_6 : decode cX2_lead 6 = .ok (.iload_n 1, 1) := dk_27 (dk_at dksX2_lead_0 6 rfl rfl)
theorem dX2_lead_7 : decode cX2_lead 7 = .ok (.iaload, 1) := dk_46 (dk_at dksX2_lead_0 7 rfl rfl)
theorem dX2_lead_8 : decode cX2_lead 8 = .ok (.iload_n 2, 1) := dk_28 (dk_at dksX2_lead_0 8 rfl rfl)
theorem dX2_lead_9 : decode cX2_lead 9 = .ok (.invokestatic 38, 3) := dk_184 0 38 (dk_at dksX2_lead_0 9 rfl rfl)
theorem dX2_lead_12 : decode cX2_lead 12 = .ok (.iconst 4, 1) := dk_7 (dk_at dksX2_lead_0 12 rfl rfl)
theorem dX2_lead_13 : decode cX2_lead 13 = .ok (.if_icmp .eq 9, 3) := dk_159 0 9 (dk_at dksX2_lead_0 13 rfl rfl)
theorem dX2_lead_16 : decode cX2_lead 16 = .ok (.iinc 2 1, 3) := dk_132 2 1 (dk_at dksX2_lead_0 16 rfl rfl)
theorem dX2_lead_19 : decode cX2_lead 19 = .ok (.goto (-17), 3) := dk_167 255 239 (dk_at dksX2_lead_0 19 rfl rfl)
theorem dX2_lead_22 : decode cX2_lead 22 = .ok (.iconst 0, 1) := dk_3 (dk_at dksX2_lead_0 22 rfl rfl)
theorem dX2_lead_23 : decode cX2_lead 23 = .ok (.istore_n 3, 1) := dk_62 (dk_at dksX2_lead_0 23 rfl rfl)
theorem dX2_lead_24 : decode cX2_lead 24 = .ok (.iconst 0, 1) := dk_3 (dk_at dksX2_lead_1 0 rfl rfl)
theorem dX2_lead_25 : decode cX2_lead 25 = .ok (.istore 4, 2) := dk_54 4 (dk_at dksX2_lead_1 1 rfl rfl)
theorem dX2_lead_27 : decode cX2_lead 27 = .ok (.iload 4, 2) := dk_21 4 (dk_at dksX2_lead_1 3 rfl rfl)
theorem dX2_lead_29 : decode cX2_lead 29 = .ok (.iconst 5, 1) := dk_8 (dk_at dksX2_lead_1 5 rfl rfl)
theorem dX2_lead_30 : decode cX2_lead 30 = .ok (.if_icmp .ge 88, 3) := dk_162 0 88 (dk_at dksX2_lead_1 6 rfl rfl)
theorem dX2_lead_33 : decode cX2_lead 33 = .ok (.iload 4, 2) := dk_21 4 (dk_at dksX2_lead_1 9 rfl rfl)
theorem dX2_lead_35 : decode cX2_lead 35 = .ok (.iload_n 2, 1) := dk_28 (dk_at dksX2_lead_1 11 rfl rfl)
theorem dX2_lead_36 : decode cX2_lead 36 = .ok (.invokestatic 42, 3) := dk_184 0 42 (dk_at dksX2_lead_1 12 rfl rfl)
theorem dX2_lead_39 : decode cX2_lead 39 = .ok (.ifCond .ne 6, 3) := dk_154 0 6 (dk_at dksX2_lead_1 15 rfl rfl)
theorem dX2_lead_42 : decode cX2_lead 42 = .ok (.goto 70, 3) := dk_167 0 70 (dk_at dksX2_lead_1 18 rfl rfl)
theorem dX2_lead_45 : decode cX2_lead 45 = .ok (.aload_n 0, 1) := dk_42 (dk_at dksX2_lead_1 21 rfl rfl)
theorem dX2_lead_46 : decode cX2_lead 46 = .ok (.getfield 11, 3) := dk_180 0 11 (dk_at dksX2_lead_2 0 rfl rfl)
theorem dX2_lead_49 : decode cX2_lead 49 = .ok (.iload_n 1, 1) := dk_27 (dk_at dksX2_lead_2 3 rfl rfl)
theorem dX2_lead_50 : decode cX2_lead 50 = .ok (.iaload, 1) := dk_46 (dk_at dksX2_lead_2 4 rfl rfl)
theorem dX2_lead_51 : decode cX2_lead 51 = .ok (.iload 4, 2) := dk_21 4 (dk_at dksX2_lead_2 5 rfl rfl)
theorem dX2_lead_53 : decode cX2_lead 53 = .ok (.invokestatic 38, 3) := dk_184 0 38 (dk_at dksX2_lead_2 7 rfl rfl)
theorem dX2_lead_56 : decode cX2_lead 56 = .ok (.istore 5, 2) := dk_54 5 (dk_at dksX2_lead_2 10 rfl rfl)
theorem dX2_lead_58 : decode cX2_lead 58 = .ok (.aload_n 0, 1) := dk_42 (dk_at dksX2_lead_2 12 rfl rfl)
theorem dX2_lead_59 : decode cX2_lead 59 = .ok (.getfield 20, 3) := dk_180 0 20 (dk_at dksX2_lead_2 13 rfl rfl)
theorem dX2_lead_62 : decode cX2_lead 62 = .ok (.iload_n 1, 1) := dk_27 (dk_at dksX2_lead_2 16 rfl rfl)
theorem dX2_lead_63 : decode cX2_lead 63 = .ok (.aaload, 1) := dk_50 (dk_at dksX2_lead_2 17 rfl rfl)
theorem dX2_lead_64 : decode cX2_lead 64 = .ok (.iload_n 3, 1) := dk_29 (dk_at dksX2_lead_2 18 rfl rfl)
theorem dX2_lead_65 : decode cX2_lead 65 = .ok (.aload_n 0, 1) := dk_42 (dk_at dksX2_lead_2 19 rfl rfl)
theorem dX2_lead_66 : decode cX2_lead 66 = .ok (.aload_n 0, 1) := dk_42 (dk_at dksX2_lead_2 20 rfl rfl)
theorem dX2_lead_67 : decode cX2_lead 67 = .ok (.getfield 11, 3) := dk_180 0 11 (dk_at dksX2_lead_2 21 rfl rfl)
theorem dX2_lead_70 : decode cX2_lead 70 = .ok (.iload_n 1, 1) := dk_27 (dk_at dksX2_lead_3 0 rfl rfl)
theorem dX2_lead_71 : decode cX2_lead 71 = .ok (.iaload, 1) := dk_46 (dk_at dksX2_lead_3 1 rfl rfl)
theorem dX2_lead_72 : decode cX2_lead 72 = .ok (.bipush 7, 2) := dk_16 7 (dk_at dksX2_lead_3 2 rfl rfl)
theorem dX2_lead_74 : decode cX2_lead 74 = .ok (.iconst 3, 1) := dk_6 (dk_at dksX2_lead_3 4 rfl rfl)
theorem dX2_lead_75 : decode cX2_lead 75 = .ok (.iload 4, 2) := dk_21 4 (dk_at dksX2_lead_3 5 rfl rfl)
theorem dX2_lead_77 : decode cX2_lead 77 = .ok (.imul, 1) := dk_104 (dk_at dksX2_lead_3 7 rfl rfl)
theorem dX2_lead_78 : decode cX2_lead 78 = .ok (.ishl, 1) := dk_120 (dk_at dksX2_lead_3 8 rfl rfl)
theorem dX2_lead_79 : decode cX2_lead 79 = .ok (.iconst (-1), 1) := dk_2 (dk_at dksX2_lead_3 9 rfl rfl)
theorem dX2_lead_80 : decode cX2_lead 80 = .ok (.ixor, 1) := dk_130 (dk_at dksX2_lead_3 10 rfl rfl)
theorem dX2_lead_81 : decode cX2_lead 81 = .ok (.iand, 1) := dk_126 (dk_at dksX2_lead_3 11 rfl rfl)
theorem dX2_lead_82 : decode cX2_lead 82 = .ok (.bipush 7, 2) := dk_16 7 (dk_at dksX2_lead_3 12 rfl rfl)
theorem dX2_lead_84 : decode cX2_lead 84 = .ok (.iconst 3, 1) := dk_6 (dk_at dksX2_lead_3 14 rfl rfl)
theorem dX2_lead_85 : decode cX2_lead 85 = .ok (.iload_n 2, 1) := dk_28 (dk_at dksX2_lead_3 15 rfl rfl)
theorem dX2_lead_86 : decode cX2_lead 86 = .ok (.imul, 1) := dk_104 (dk_at dksX2_lead_3 16 rfl rfl)
theorem dX2_lead_87 : decode cX2_lead 87 = .ok (.ishl, 1) := dk_120 (dk_at dksX2_lead_3 17 rfl rfl)
theorem dX2_lead_88 : decode cX2_lead 88 = .ok (.iconst (-1), 1) := dk_2 (dk_at dksX2_lead_3 18 rfl rfl)
theorem dX2_lead_89 : decode cX2_lead 89 = .ok (.ixor, 1) := dk_130 (dk_at dksX2_lead_3 19 rfl rfl)
theorem dX2_lead_90 : decode cX2_lead 90 = .ok (.iand, 1) := dk_126 (dk_at dksX2_lead_3 20 rfl rfl)
theorem dX2_lead_91 : decode cX2_lead 91 = .ok (.iconst 4, 1) := dk_7 (dk_at dksX2_lead_3 21 rfl rfl)
theorem dX2_lead_92 : decode cX2_lead 92 = .ok (.iconst 3, 1) := dk_6 (dk_at dksX2_lead_3 22 rfl rfl)
theorem dX2_lead_93 : decode cX2_lead 93 = .ok (.iload 4, 2) := dk_21 4 (dk_at dksX2_lead_4 0 rfl rfl)
theorem dX2_lead_95 : decode cX2_lead 95 = .ok (.imul, 1) := dk_104 (dk_at dksX2_lead_4 2 rfl rfl)
theorem dX2_lead_96 : decode cX2_lead 96 = .ok (.ishl, 1) := dk_120 (dk_at dksX2_lead_4 3 rfl rfl)
theorem dX2_lead_97 : decode cX2_lead 97 = .ok (.ior, 1) := dk_128 (dk_at dksX2_lead_4 4 rfl rfl)
theorem dX2_lead_98 : decode cX2_lead 98 = .ok (.iload 5, 2) := dk_21 5 (dk_at dksX2_lead_4 5 rfl rfl)
theorem dX2_lead_100 : decode cX2_lead 100 = .ok (.iconst 3, 1) := dk_6 (dk_at dksX2_lead_4 7 rfl rfl)
theorem dX2_lead_101 : decode cX2_lead 101 = .ok (.iload_n 2, 1) := dk_28 (dk_at dksX2_lead_4 8 rfl rfl)
theorem dX2_lead_102 : decode cX2_lead 102 = .ok (.imul, 1) := dk_104 (dk_at dksX2_lead_4 9 rfl rfl)
theorem dX2_lead_103 : decode cX2_lead 103 = .ok (.ishl, 1) := dk_120 (dk_at dksX2_lead_4 10 rfl rfl)
theorem dX2_lead_104 : decode cX2_lead 104 = .ok (.ior, 1) := dk_128 (dk_at dksX2_lead_4 11 rfl rfl)
theorem dX2_lead_105 : decode cX2_lead 105 = .ok (.invokevirtual 26, 3) := dk_182 0 26 (dk_at dksX2_lead_4 12 rfl rfl)
theorem dX2_lead_108 : decode cX2_lead 108 = .ok (.iastore, 1) := dk_79 (dk_at dksX2_lead_4 15 rfl rfl)
theorem dX2_lead_109 : decode cX2_lead 109 = .ok (.iinc 3 1, 3) := dk_132 3 1 (dk_at dksX2_lead_4 16 rfl rfl)
theorem dX2_lead_112 : decode cX2_lead 112 = .ok (.iinc 4 1, 3) := dk_132 4 1 (dk_at dksX2_lead_4 19 rfl rfl)
theorem dX2_lead_115 : decode cX2_lead 115 = .ok (.goto (-88), 3) := dk_167 255 168 (dk_at dksX2_lead_5 0 rfl rfl)
theorem dX2_lead_118 : decode cX2_lead 118 = .ok (.return_, 1) := dk_177 (dk_at dksX2_lead_5 3 rfl rfl)
abbrev cX2_areNext : ByteArray := prog_16_method_6_code
def yX2_areNext : MethodName := ⟨RX2, "areNext", "(II)Z"⟩
def dkwX2_areNext_1 : List UInt8 := [154, 0, 18, 29, 7, 160, 0, 17, 28, 4, 159, 0, 8, 28, 6, 160, 0, 7, 4, 167, 0, 4, 3, 172]
abbrev dktX2_areNext_1 : List UInt8 := dkwX2_areNext_1 ++ []
def dkwX2_areNext_0 : List UInt8 := [26, 27, 184, 0, 46, 61, 26, 27, 184, 0, 51, 62, 28, 154, 0, 12, 29, 4, 6, 184, 0, 54]
abbrev dktX2_areNext_0 : List UInt8 := dkwX2_areNext_0 ++ dktX2_areNext_1
theorem dksX2_areNext_0 : cX2_areNext.data.toList.drop 0 = dktX2_areNext_0 := by decide +kernel
theorem dksX2_areNext_1 : cX2_areNext.data.toList.drop 22 = dktX2_areNext_1 := dk_seg dksX2_areNext_0 22 rfl rfl
theorem dX2_areNext_0 : decode cX2_areNext 0 = .ok (.iload_n 0, 1) := dk_26 (dk_at dksX2_areNext_0 0 rfl rfl)
theorem dX2_areNext_1 : decode cX2_areNext 1 = .ok (.iload_n 1, 1) := dk_27 (dk_at dksX2_areNext_0 1 rfl rfl)
theorem dX2_areNext_2 : decode cX2_areNext 2 = .ok (.invokestatic 46, 3) := dk_184 0 46 (dk_at dksX2_areNext_0 2 rfl rfl)
theorem dX2_areNext_5 : decode cX2_areNext 5 = .ok (.istore_n 2, 1) := dk_61 (dk_at dksX2_areNext_0 5 rfl rfl)
theorem dX2_areNext_6 : decode cX2_areNext 6 = .ok (.iload_n 0, 1) := dk_26 (dk_at dksX2_areNext_0 6 rfl rfl)
theorem dX2_areNext_7 : decode cX2_areNext 7 = .ok (.iload_n 1, 1) := dk_27 (dk_at dksX2_areNext_0 7 rfl rfl)
theorem dX2_areNext_8 : decode cX2_areNext 8 = .ok (.invokestatic 51, 3) := dk_184 0 51 (dk_at dksX2_areNext_0 8 rfl rfl)
theorem dX2_areNext_11 : decode cX2_areNext 11 = .ok (.istore_n 3, 1) := dk_62 (dk_at dksX2_areNext_0 11 rfl rfl)
theorem dX2_areNext_12 : decode cX2_areNext 12 = .ok (.iload_n 2, 1) := dk_28 (dk_at dksX2_areNext_0 12 rfl rfl)
theorem dX2_areNext_13 : decode cX2_areNext 13 = .ok (.ifCond .ne 12, 3) := dk_154 0 12 (dk_at dksX2_areNext_0 13 rfl rfl)
theorem dX2_areNext_16 : decode cX2_areNext 16 = .ok (.iload_n 3, 1) := dk_29 (dk_at dksX2_areNext_0 16 rfl rfl)
theorem dX2_areNext_17 : decode cX2_areNext 17 = .ok (.iconst 1, 1) := dk_4 (dk_at dksX2_areNext_0 17 rfl rfl)
theorem dX2_areNext_18 : decode cX2_areNext 18 = .ok (.iconst 3, 1) := dk_6 (dk_at dksX2_areNext_0 18 rfl rfl)
theorem dX2_areNext_19 : decode cX2_areNext 19 = .ok (.invokestatic 54, 3) := dk_184 0 54 (dk_at dksX2_areNext_0 19 rfl rfl)
theorem dX2_areNext_22 : decode cX2_areNext 22 = .ok (.ifCond .ne 18, 3) := dk_154 0 18 (dk_at dksX2_areNext_1 0 rfl rfl)
theorem dX2_areNext_25 : decode cX2_areNext 25 = .ok (.iload_n 3, 1) := dk_29 (dk_at dksX2_areNext_1 3 rfl rfl)
theorem dX2_areNext_26 : decode cX2_areNext 26 = .ok (.iconst 4, 1) := dk_7 (dk_at dksX2_areNext_1 4 rfl rfl)
theorem dX2_areNext_27 : decode cX2_areNext 27 = .ok (.if_icmp .ne 17, 3) := dk_160 0 17 (dk_at dksX2_areNext_1 5 rfl rfl)
theorem dX2_areNext_30 : decode cX2_areNext 30 = .ok (.iload_n 2, 1) := dk_28 (dk_at dksX2_areNext_1 8 rfl rfl)
theorem dX2_areNext_31 : decode cX2_areNext 31 = .ok (.iconst 1, 1) := dk_4 (dk_at dksX2_areNext_1 9 rfl rfl)
theorem dX2_areNext_32 : decode cX2_areNext 32 = .ok (.if_icmp .eq 8, 3) := dk_159 0 8 (dk_at dksX2_areNext_1 10 rfl rfl)
theorem dX2_areNext_35 : decode cX2_areNext 35 = .ok (.iload_n 2, 1) := dk_28 (dk_at dksX2_areNext_1 13 rfl rfl)
theorem dX2_areNext_36 : decode cX2_areNext 36 = .ok (.iconst 3, 1) := dk_6 (dk_at dksX2_areNext_1 14 rfl rfl)
theorem dX2_areNext_37 : decode cX2_areNext 37 = .ok (.if_icmp .ne 7, 3) := dk_160 0 7 (dk_at dksX2_areNext_1 15 rfl rfl)
theorem dX2_areNext_40 : decode cX2_areNext 40 = .ok (.iconst 1, 1) := dk_4 (dk_at dksX2_areNext_1 18 rfl rfl)
theorem dX2_areNext_41 : decode cX2_areNext 41 = .ok (.goto 4, 3) := dk_167 0 4 (dk_at dksX2_areNext_1 19 rfl rfl)
theorem dX2_areNext_44 : decode cX2_areNext 44 = .ok (.iconst 0, 1) := dk_3 (dk_at dksX2_areNext_1 22 rfl rfl)
theorem dX2_areNext_45 : decode cX2_areNext 45 = .ok (.ireturn, 1) := dk_172 (dk_at dksX2_areNext_1 23 rfl rfl)
abbrev cX2_spread : ByteArray := prog_16_method_7_code
def yX2_spread : MethodName := ⟨RX2, "spread", "([Z[Z)Z"⟩
def dkwX2_spread_4 : List UInt8 := [167, 255, 205, 132, 4, 1, 167, 255, 187, 29, 172]
abbrev dktX2_spread_4 : List UInt8 := dkwX2_spread_4 ++ []
def dkwX2_spread_3 : List UInt8 := [2, 159, 0, 20, 43, 21, 6, 51, 153, 0, 6, 167, 0, 10, 43, 21, 6, 4, 84, 4, 62, 132, 5, 1]
abbrev dktX2_spread_3 : List UInt8 := dkwX2_spread_3 ++ dktX2_spread_4
def dkwX2_spread_2 : List UInt8 := [162, 0, 51, 44, 21, 4, 51, 153, 0, 44, 42, 180, 0, 20, 21, 4, 50, 21, 5, 46, 54, 6, 21, 6]
abbrev dktX2_spread_2 : List UInt8 := dkwX2_spread_2 ++ dktX2_spread_3
def dkwX2_spread_1 : List UInt8 := [132, 4, 1, 167, 255, 236, 3, 54, 4, 21, 4, 42, 180, 0, 30, 162, 0, 66, 3, 54, 5, 21, 5, 6]
abbrev dktX2_spread_1 : List UInt8 := dkwX2_spread_1 ++ dktX2_spread_2
def dkwX2_spread_0 : List UInt8 := [3, 62, 3, 54, 4, 21, 4, 42, 180, 0, 30, 162, 0, 17, 44, 21, 4, 43, 21, 4, 51, 84]
abbrev dktX2_spread_0 : List UInt8 := dkwX2_spread_0 ++ dktX2_spread_1
theorem dksX2_spread_0 : cX2_spread.data.toList.drop 0 = dktX2_spread_0 := by decide +kernel
theorem dksX2_spread_1 : cX2_spread.data.toList.drop 22 = dktX2_spread_1 := dk_seg dksX2_spread_0 22 rfl rfl
theorem dksX2_spread_2 : cX2_spread.data.toList.drop 46 = dktX2_spread_2 := dk_seg dksX2_spread_1 24 rfl rfl
theorem dksX2_spread_3 : cX2_spread.data.toList.drop 70 = dktX2_spread_3 := dk_seg dksX2_spread_2 24 rfl rfl
theorem dksX2_spread_4 : cX2_spread.data.toList.drop 94 = dktX2_spread_4 := dk_seg dksX2_spread_3 24 rfl rfl
theorem dX2_spread_0 : decode cX2_spread 0 = .ok (.iconst 0, 1) := dk_3 (dk_at dksX2_spread_0 0 rfl rfl)
theorem dX2_spread_1 : decode cX2_spread 1 = .ok (.istore_n 3, 1) := dk_62 (dk_at dksX2_spread_0 1 rfl rfl)
theorem dX2_spread_2 : decode cX2_spread 2 = .ok (.iconst 0, 1) := dk_3 (dk_at dksX2_spread_0 2 rfl rfl)
theorem dX2_spread_3 : decode cX2_spread 3 = .ok (.istore 4, 2) := dk_54 4 (dk_at dksX2_spread_0 3 rfl rfl)
theorem dX2_spread_5 : decode cX2_spread 5 = .ok (.iload 4, 2) := dk_21 4 (dk_at dksX2_spread_0 5 rfl rfl)
theorem dX2_spread_7 : decode cX2_spread 7 = .ok (.aload_n 0, 1) := dk_42 (dk_at dksX2_spread_0 7 rfl rfl)
theorem dX2_spread_8 : decode cX2_spread 8 = .ok (.getfield 30, 3) := dk_180 0 30 (dk_at dksX2_spread_0 8 rfl rfl)
theorem dX2_spread_11 : decode cX2_spread 11 = .ok (.if_icmp .ge 17, 3) := dk_162 0 17 (dk_at dksX2_spread_0 11 rfl rfl)
theorem dX2_spread_14 : decode cX2_spread 14 = .ok (.aload_n 2, 1) := dk_44 (dk_at dksX2_spread_0 14 rfl rfl)
theorem dX2_spread_15 : decode cX2_spread 15 = .ok (.iload 4, 2) := dk_21 4 (dk_at dksX2_spread_0 15 rfl rfl)
theorem dX2_spread_17 : decode cX2_spread 17 = .ok (.aload_n 1, 1) := dk_43 (dk_at dksX2_spread_0 17 rfl rfl)
theorem dX2_spread_18 : decode cX2_spread 18 = .ok (.iload 4, 2) := dk_21 4 (dk_at dksX2_spread_0 18 rfl rfl)
theorem dX2_spread_20 : decode cX2_spread 20 = .ok (.baload, 1) := dk_51 (dk_at dksX2_spread_0 20 rfl rfl)
theorem dX2_spread_21 : decode cX2_spread 21 = .ok (.bastore, 1) := dk_84 (dk_at dksX2_spread_0 21 rfl rfl)
theorem dX2_spread_22 : decode cX2_spread 22 = .ok (.iinc 4 1, 3) := dk_132 4 1 (dk_at dksX2_spread_1 0 rfl rfl)
theorem dX2_spread_25 : decode cX2_spread 25 = .ok (.goto (-20), 3) := dk_167 255 236 (dk_at dksX2_spread_1 3 rfl rfl)
theorem dX2_spread_28 : decode cX2_spread 28 = .ok (.iconst 0, 1) := dk_3 (dk_at dksX2_spread_1 6 rfl rfl)
theorem dX2_spread_29 : decode cX2_spread 29 = .ok (.istore 4, 2) := dk_54 4 (dk_at dksX2_spread_1 7 rfl rfl)
theorem dX2_spread_31 : decode cX2_spread 31 = .ok (.iload 4, 2) := dk_21 4 (dk_at dksX2_spread_1 9 rfl rfl)
theorem dX2_spread_33 : decode cX2_spread 33 = .ok (.aload_n 0, 1) := dk_42 (dk_at dksX2_spread_1 11 rfl rfl)
theorem dX2_spread_34 : decode cX2_spread 34 = .ok (.getfield 30, 3) := dk_180 0 30 (dk_at dksX2_spread_1 12 rfl rfl)
theorem dX2_spread_37 : decode cX2_spread 37 = .ok (.if_icmp .ge 66, 3) := dk_162 0 66 (dk_at dksX2_spread_1 15 rfl rfl)
theorem dX2_spread_40 : decode cX2_spread 40 = .ok (.iconst 0, 1) := dk_3 (dk_at dksX2_spread_1 18 rfl rfl)
theorem dX2_spread_41 : decode cX2_spread 41 = .ok (.istore 5, 2) := dk_54 5 (dk_at dksX2_spread_1 19 rfl rfl)
theorem dX2_spread_43 : decode cX2_spread 43 = .ok (.iload 5, 2) := dk_21 5 (dk_at dksX2_spread_1 21 rfl rfl)
theorem dX2_spread_45 : decode cX2_spread 45 = .ok (.iconst 3, 1) := dk_6 (dk_at dksX2_spread_1 23 rfl rfl)
theorem dX2_spread_46 : decode cX2_spread 46 = .ok (.if_icmp .ge 51, 3) := dk_162 0 51 (dk_at dksX2_spread_2 0 rfl rfl)
theorem dX2_spread_49 : decode cX2_spread 49 = .ok (.aload_n 2, 1) := dk_44 (dk_at dksX2_spread_2 3 rfl rfl)
theorem dX2_spread_50 : decode cX2_spread 50 = .ok (.iload 4, 2) := dk_21 4 (dk_at dksX2_spread_2 4 rfl rfl)
theorem dX2_spread_52 : decode cX2_spread 52 = .ok (.baload, 1) := dk_51 (dk_at dksX2_spread_2 6 rfl rfl)
theorem dX2_spread_53 : decode cX2_spread 53 = .ok (.ifCond .eq 44, 3) := dk_153 0 44 (dk_at dksX2_spread_2 7 rfl rfl)
theorem dX2_spread_56 : decode cX2_spread 56 = .ok (.aload_n 0, 1) := dk_42 (dk_at dksX2_spread_2 10 rfl rfl)
theorem dX2_spread_57 : decode cX2_spread 57 = .ok (.getfield 20, 3) := dk_180 0 20 (dk_at dksX2_spread_2 11 rfl rfl)
theorem dX2_spread_60 : decode cX2_spread 60 = .ok (.iload 4, 2) := dk_21 4 (dk_at dksX2_spread_2 14 rfl rfl)
theorem dX2_spread_62 : decode cX2_spread 62 = .ok (.aaload, 1) := dk_50 (dk_at dksX2_spread_2 16 rfl rfl)
theorem dX2_spread_63 : decode cX2_spread 63 = .ok (.iload 5, 2) := dk_21 5 (dk_at dksX2_spread_2 17 rfl rfl)
theorem dX2_spread_65 : decode cX2_spread 65 = .ok (.iaload, 1) := dk_46 (dk_at dksX2_spread_2 19 rfl rfl)
theorem dX2_spread_66 : decode cX2_spread 66 = .ok (.istore 6, 2) := dk_54 6 (dk_at dksX2_spread_2 20 rfl rfl)
theorem dX2_spread_68 : decode cX2_spread 68 = .ok (.iload 6, 2) := dk_21 6 (dk_at dksX2_spread_2 22 rfl rfl)
theorem dX2_spread_70 : decode cX2_spread 70 = .ok (.iconst (-1), 1) := dk_2 (dk_at dksX2_spread_3 0 rfl rfl)
theorem dX2_spread_71 : decode cX2_spread 71 = .ok (.if_icmp .eq 20, 3) := dk_159 0 20 (dk_at dksX2_spread_3 1 rfl rfl)
theorem dX2_spread_74 : decode cX2_spread 74 = .ok (.aload_n 1, 1) := dk_43 (dk_at dksX2_spread_3 4 rfl rfl)
theorem dX2_spread_75 : decode cX2_spread 75 = .ok (.iload 6, 2) := dk_21 6 (dk_at dksX2_spread_3 5 rfl rfl)
theorem dX2_spread_77 : decode cX2_spread 77 = .ok (.baload, 1) := dk_51 (dk_at dksX2_spread_3 7 rfl rfl)
theorem dX2_spread_78 : decode cX2_spread 78 = .ok (.ifCond .eq 6, 3) := dk_153 0 6 (dk_at dksX2_spread_3 8 rfl rfl)
theorem dX2_spread_81 : decode cX2_spread 81 = .ok (.goto 10, 3) := dk_167 0 10 (dk_at dksX2_spread_3 11 rfl rfl)
theorem dX2_spread_84 : decode cX2_spread 84 = .ok (.aload_n 1, 1) := dk_43 (dk_at dksX2_spread_3 14 rfl rfl)
theorem dX2_spread_85 : decode cX2_spread 85 = .ok (.iload 6, 2) := dk_21 6 (dk_at dksX2_spread_3 15 rfl rfl)
theorem dX2_spread_87 : decode cX2_spread 87 = .ok (.iconst 1, 1) := dk_4 (dk_at dksX2_spread_3 17 rfl rfl)
theorem dX2_spread_88 : decode cX2_spread 88 = .ok (.bastore, 1) := dk_84 (dk_at dksX2_spread_3 18 rfl rfl)
theorem dX2_spread_89 : decode cX2_spread 89 = .ok (.iconst 1, 1) := dk_4 (dk_at dksX2_spread_3 19 rfl rfl)
theorem dX2_spread_90 : decode cX2_spread 90 = .ok (.istore_n 3, 1) := dk_62 (dk_at dksX2_spread_3 20 rfl rfl)
theorem dX2_spread_91 : decode cX2_spread 91 = .ok (.iinc 5 1, 3) := dk_132 5 1 (dk_at dksX2_spread_3 21 rfl rfl)
theorem dX2_spread_94 : decode cX2_spread 94 = .ok (.goto (-51), 3) := dk_167 255 205 (dk_at dksX2_spread_4 0 rfl rfl)
theorem dX2_spread_97 : decode cX2_spread 97 = .ok (.iinc 4 1, 3) := dk_132 4 1 (dk_at dksX2_spread_4 3 rfl rfl)
theorem dX2_spread_100 : decode cX2_spread 100 = .ok (.goto (-69), 3) := dk_167 255 187 (dk_at dksX2_spread_4 6 rfl rfl)
theorem dX2_spread_103 : decode cX2_spread 103 = .ok (.iload_n 3, 1) := dk_29 (dk_at dksX2_spread_4 9 rfl rfl)
theorem dX2_spread_104 : decode cX2_spread 104 = .ok (.ireturn, 1) := dk_172 (dk_at dksX2_spread_4 10 rfl rfl)
theorem q133 : (Jvm.Cond.initialized "OperaHouse$Wagons") ∈ lw_all := lw_g (lw_at lw_m1 5 rfl) rfl
theorem q207 : (Jvm.Cond.instantiable "OperaHouse$Wagons" (4 : Nat)) ∈ lw_all := lw_g (lw_at lw_m1 79 rfl) rfl
theorem q209 : (Jvm.Cond.instanceMethod ({ cls := "OperaHouse$Wagons", name := "<init>", desc := "()V" } : Jvm.MethodName)) ∈ lw_all := lw_g (lw_at lw_m1 81 rfl) rfl
theorem q210 : (Jvm.Cond.code ({ cls := "OperaHouse$Wagons", name := "<init>", desc := "()V" } : Jvm.MethodName) prog_16_method_1_code (2 : Nat) (Option.none : Option Jvm.ClassFile.FieldType)) ∈ lw_all := lw_g (lw_at lw_m1 82 rfl) rfl
theorem q211 : (Jvm.Cond.methodLink "OperaHouse$Wagons" (3 : Nat) ({ cls := "java/lang/Object", name := "<init>", desc := "()V" } : Jvm.MethodName)) ∈ lw_all := lw_g (lw_at lw_m1 83 rfl) rfl
theorem q212 : (Jvm.Cond.classLink "OperaHouse$Wagons" (18 : Nat) "[[I") ∈ lw_all := lw_g (lw_at lw_m1 84 rfl) rfl
theorem q214 : (Jvm.Cond.methodLink "OperaHouse$Wagons" (23 : Nat) ({ cls := "OperaHouse$Wagons", name := "code", desc := "(IIIII)I" } : Jvm.MethodName)) ∈ lw_all := lw_g (lw_at lw_m1 86 rfl) rfl
theorem q215 : (Jvm.Cond.static ({ cls := "OperaHouse$Wagons", name := "code", desc := "(IIIII)I" } : Jvm.MethodName)) ∈ lw_all := lw_g (lw_at lw_m1 87 rfl) rfl
theorem q216 : (Jvm.Cond.code ({ cls := "OperaHouse$Wagons", name := "code", desc := "(IIIII)I" } : Jvm.MethodName) prog_16_method_2_code (5 : Nat) (Option.some Jvm.ClassFile.FieldType.int)) ∈ lw_all := lw_g (lw_at lw_m1 88 rfl) rfl
theorem q217 : (Jvm.Cond.methodLink "OperaHouse$Wagons" (26 : Nat) ({ cls := "OperaHouse$Wagons", name := "add", desc := "(I)I" } : Jvm.MethodName)) ∈ lw_all := lw_g (lw_at lw_m1 89 rfl) rfl
theorem q218 : (Jvm.Cond.privateMethod ({ cls := "OperaHouse$Wagons", name := "add", desc := "(I)I" } : Jvm.MethodName)) ∈ lw_tbl := lw_at lw_m1 90 rfl
theorem q219 : (Jvm.Cond.instanceMethod ({ cls := "OperaHouse$Wagons", name := "add", desc := "(I)I" } : Jvm.MethodName)) ∈ lw_all := lw_g (lw_at lw_m1 91 rfl) rfl
theorem q220 : (Jvm.Cond.code ({ cls := "OperaHouse$Wagons", name := "add", desc := "(I)I" } : Jvm.MethodName) prog_16_method_4_code (3 : Nat) (Option.some Jvm.ClassFile.FieldType.int)) ∈ lw_all := lw_g (lw_at lw_m1 92 rfl) rfl
theorem q221 : (Jvm.Cond.methodLink "OperaHouse$Wagons" (38 : Nat) ({ cls := "OperaHouse$Wagons", name := "at", desc := "(II)I" } : Jvm.MethodName)) ∈ lw_all := lw_g (lw_at lw_m1 93 rfl) rfl
theorem q222 : (Jvm.Cond.static ({ cls := "OperaHouse$Wagons", name := "at", desc := "(II)I" } : Jvm.MethodName)) ∈ lw_all := lw_g (lw_at lw_m1 94 rfl) rfl
theorem q223 : (Jvm.Cond.code ({ cls := "OperaHouse$Wagons", name := "at", desc := "(II)I" } : Jvm.MethodName) prog_16_method_3_code (2 : Nat) (Option.some Jvm.ClassFile.FieldType.int)) ∈ lw_all := lw_g (lw_at lw_m1 95 rfl) rfl
theorem q224 : (Jvm.Cond.methodLink "OperaHouse$Wagons" (34 : Nat) ({ cls := "OperaHouse$Wagons", name := "lead", desc := "(I)V" } : Jvm.MethodName)) ∈ lw_all := lw_g (lw_at lw_m1 96 rfl) rfl
theorem q225 : (Jvm.Cond.privateMethod ({ cls := "OperaHouse$Wagons", name := "lead", desc := "(I)V" } : Jvm.MethodName)) ∈ lw_tbl := lw_at lw_m1 97 rfl
theorem q226 : (Jvm.Cond.instanceMethod ({ cls := "OperaHouse$Wagons", name := "lead", desc := "(I)V" } : Jvm.MethodName)) ∈ lw_all := lw_g (lw_at lw_m1 98 rfl) rfl
theorem q227 : (Jvm.Cond.code ({ cls := "OperaHouse$Wagons", name := "lead", desc := "(I)V" } : Jvm.MethodName) prog_16_method_5_code (6 : Nat) (Option.none : Option Jvm.ClassFile.FieldType)) ∈ lw_all := lw_g (lw_at lw_m1 99 rfl) rfl
theorem q228 : (Jvm.Cond.methodLink "OperaHouse$Wagons" (42 : Nat) ({ cls := "OperaHouse$Wagons", name := "areNext", desc := "(II)Z" } : Jvm.MethodName)) ∈ lw_all := lw_g (lw_at lw_m1 100 rfl) rfl
theorem q229 : (Jvm.Cond.static ({ cls := "OperaHouse$Wagons", name := "areNext", desc := "(II)Z" } : Jvm.MethodName)) ∈ lw_all := lw_g (lw_at lw_m1 101 rfl) rfl
theorem q230 : (Jvm.Cond.code ({ cls := "OperaHouse$Wagons", name := "areNext", desc := "(II)Z" } : Jvm.MethodName) prog_16_method_6_code (4 : Nat) (Option.some Jvm.ClassFile.FieldType.boolean)) ∈ lw_all := lw_g (lw_at lw_m1 102 rfl) rfl
theorem q231 : (Jvm.Cond.methodLink "OperaHouse$Wagons" (46 : Nat) ({ cls := "java/lang/Math", name := "min", desc := "(II)I" } : Jvm.MethodName)) ∈ lw_all := lw_g (lw_at lw_m1 103 rfl) rfl
theorem q234 : (Jvm.Cond.methodLink "OperaHouse$Wagons" (51 : Nat) ({ cls := "java/lang/Math", name := "max", desc := "(II)I" } : Jvm.MethodName)) ∈ lw_all := lw_g (lw_at lw_m1 106 rfl) rfl
theorem q237 : (Jvm.Cond.methodLinkNest "OperaHouse$Wagons" (54 : Nat) ({ cls := "OperaHouse", name := "isIn", desc := "(III)Z" } : Jvm.MethodName) "OperaHouse") ∈ lw_tbl := lw_at lw_m1 109 rfl
theorem q240 : (Jvm.Cond.fieldLink "OperaHouse$Wagons" (11 : Nat) "OperaHouse$Wagons" "code" "[I") ∈ lw_all := lw_g (lw_at lw_m1 112 rfl) rfl
theorem q241 : (Jvm.Cond.fieldLink "OperaHouse$Wagons" (15 : Nat) "OperaHouse$Wagons" "onStage" "[I") ∈ lw_all := lw_g (lw_at lw_m1 113 rfl) rfl
theorem q243 : (Jvm.Cond.fieldLink "OperaHouse$Wagons" (20 : Nat) "OperaHouse$Wagons" "next" "[[I") ∈ lw_all := lw_g (lw_at lw_m1 115 rfl) rfl
theorem q244 : (Jvm.Cond.fieldLink "OperaHouse$Wagons" (30 : Nat) "OperaHouse$Wagons" "many" "I") ∈ lw_all := lw_g (lw_at lw_m1 116 rfl) rfl
theorem q245 : (Jvm.Cond.laysFinal "OperaHouse$Wagons" "OperaHouse$Wagons" "code" "[I") ∈ lw_all := lw_g (lw_at lw_m1 117 rfl) rfl
theorem q246 : (Jvm.Cond.soleField "OperaHouse$Wagons" "code") ∈ lw_all := lw_g (lw_at lw_m1 118 rfl) rfl
theorem q247 : (Jvm.Cond.laysFinal "OperaHouse$Wagons" "OperaHouse$Wagons" "onStage" "[I") ∈ lw_all := lw_g (lw_at lw_m1 119 rfl) rfl
theorem q248 : (Jvm.Cond.soleField "OperaHouse$Wagons" "onStage") ∈ lw_all := lw_g (lw_at lw_m1 120 rfl) rfl
theorem q249 : (Jvm.Cond.laysFinal "OperaHouse$Wagons" "OperaHouse$Wagons" "next" "[[I") ∈ lw_all := lw_g (lw_at lw_m1 121 rfl) rfl
theorem q250 : (Jvm.Cond.soleField "OperaHouse$Wagons" "next") ∈ lw_all := lw_g (lw_at lw_m1 122 rfl) rfl
theorem q251 : (Jvm.Cond.lays "OperaHouse$Wagons" "OperaHouse$Wagons" "many" "I") ∈ lw_all := lw_g (lw_at lw_m1 123 rfl) rfl
theorem q252 : (Jvm.Cond.soleField "OperaHouse$Wagons" "many") ∈ lw_all := lw_g (lw_at lw_m1 124 rfl) rfl
theorem q253 : (Jvm.Cond.superclass "OperaHouse$Wagons" "java/lang/Object") ∈ lw_all := lw_g (lw_at lw_m1 125 rfl) rfl
theorem q541 : (Jvm.Cond.selects "OperaHouse$Wagons" ({ cls := "java/lang/Object", name := "getClass", desc := "()Ljava/lang/Class;" } : Jvm.MethodName) ({ cls := "java/lang/Object", name := "getClass", desc := "()Ljava/lang/Class;" } : Jvm.MethodName)) ∈ lw_all := lw_g (lw_at lw_m2 173 rfl) rfl
theorem q1451 : (Jvm.Cond.instanceMethod ({ cls := "OperaHouse$Wagons", name := "spread", desc := "([Z[Z)Z" } : Jvm.MethodName)) ∈ lw_all := lw_g (lw_at lw_m6 123 rfl) rfl
theorem q1452 : (Jvm.Cond.selects "OperaHouse$Wagons" ({ cls := "OperaHouse$Wagons", name := "spread", desc := "([Z[Z)Z" } : Jvm.MethodName) ({ cls := "OperaHouse$Wagons", name := "spread", desc := "([Z[Z)Z" } : Jvm.MethodName)) ∈ lw_all := lw_g (lw_at lw_m6 124 rfl) rfl
theorem q1453 : (Jvm.Cond.code ({ cls := "OperaHouse$Wagons", name := "spread", desc := "([Z[Z)Z" } : Jvm.MethodName) prog_16_method_7_code (7 : Nat) (Option.some Jvm.ClassFile.FieldType.boolean)) ∈ lw_all := lw_g (lw_at lw_m6 125 rfl) rfl
theorem q2463 : (Jvm.Cond.castable "OperaHouse$Wagons" "java/lang/Object") ∈ lw_tbl := lw_at lw_m10 175 rfl
theorem in_X2 : ∀ w ∈ wsX20, w ∈ lw_all := lw_in wsX20 [245, 247, 249, 251] (by decide +kernel) (by decide +kernel)

/-! OperaHouse$Asked -/
set_option maxRecDepth 100000
def RX3 : String := "OperaHouse$Asked"
def TX3 : u_T := fun k => match k with
  | 0 => ("OperaHouse$Asked", "kind", "I", false)
  | 1 => ("OperaHouse$Asked", "hours", "I", false)
  | 2 => ("OperaHouse$Asked", "nth", "I", false)
  | 3 => ("OperaHouse$Asked", "over", "I", false)
  | 4 => ("OperaHouse$Asked", "late", "Z", false)
  | 5 => ("OperaHouse$Asked", "cover", "Z", false)
  | _ => ("OperaHouse$Asked", "instead", "Z", false)
def tyX3 : Nat → FieldType := fun k => match k with
  | 0 => .int
  | 1 => .int
  | 2 => .int
  | 3 => .int
  | 4 => .boolean
  | 5 => .boolean
  | _ => .boolean
abbrev wsX30 : List Cond := u_ws RX3 TX3 7
theorem nmX3 : ∀ a, a < 7 → ∀ b, b < 7 → a ≠ b → (TX3 a).2.1 ≠ (TX3 b).2.1 := by decide +kernel
theorem tyX3_ok : ∀ k, k < 7 → parseFieldDescriptor (TX3 k).2.2.1 = some (tyX3 k) := by decide +kernel
abbrev cX3_init : ByteArray := prog_2_method_1_code
def yX3_init : MethodName := ⟨RX3, "<init>", "()V"⟩
theorem dX3_init_0 : decode cX3_init 0 = .ok (.aload_n 0, 1) := by decide +kernel
theorem dX3_init_1 : decode cX3_init 1 = .ok (.invokespecial 1, 3) := by decide +kernel
theorem dX3_init_4 : decode cX3_init 4 = .ok (.return_, 1) := by decide +kernel
theorem q135 : (Jvm.Cond.initialized "OperaHouse$Asked") ∈ lw_all := lw_g (lw_at lw_m1 7 rfl) rfl
theorem q258 : (Jvm.Cond.instantiable "OperaHouse$Asked" (7 : Nat)) ∈ lw_all := lw_g (lw_at lw_m1 130 rfl) rfl
theorem q260 : (Jvm.Cond.instanceMethod ({ cls := "OperaHouse$Asked", name := "<init>", desc := "()V" } : Jvm.MethodName)) ∈ lw_all := lw_g (lw_at lw_m1 132 rfl) rfl
theorem q261 : (Jvm.Cond.code ({ cls := "OperaHouse$Asked", name := "<init>", desc := "()V" } : Jvm.MethodName) prog_2_method_1_code (1 : Nat) (Option.none : Option Jvm.ClassFile.FieldType)) ∈ lw_all := lw_g (lw_at lw_m1 133 rfl) rfl
theorem q262 : (Jvm.Cond.methodLink "OperaHouse$Asked" (1 : Nat) ({ cls := "java/lang/Object", name := "<init>", desc := "()V" } : Jvm.MethodName)) ∈ lw_all := lw_g (lw_at lw_m1 134 rfl) rfl
theorem q277 : (Jvm.Cond.lays "OperaHouse$Asked" "OperaHouse$Asked" "kind" "I") ∈ lw_all := lw_g (lw_at lw_m1 149 rfl) rfl
theorem q278 : (Jvm.Cond.soleField "OperaHouse$Asked" "kind") ∈ lw_all := lw_g (lw_at lw_m1 150 rfl) rfl
theorem q279 : (Jvm.Cond.lays "OperaHouse$Asked" "OperaHouse$Asked" "hours" "I") ∈ lw_all := lw_g (lw_at lw_m1 151 rfl) rfl
theorem q280 : (Jvm.Cond.soleField "OperaHouse$Asked" "hours") ∈ lw_all := lw_g (lw_at lw_m1 152 rfl) rfl
theorem q281 : (Jvm.Cond.lays "OperaHouse$Asked" "OperaHouse$Asked" "nth" "I") ∈ lw_all := lw_g (lw_at lw_m1 153 rfl) rfl
theorem q282 : (Jvm.Cond.soleField "OperaHouse$Asked" "nth") ∈ lw_all := lw_g (lw_at lw_m1 154 rfl) rfl
theorem q283 : (Jvm.Cond.lays "OperaHouse$Asked" "OperaHouse$Asked" "over" "I") ∈ lw_all := lw_g (lw_at lw_m1 155 rfl) rfl
theorem q284 : (Jvm.Cond.soleField "OperaHouse$Asked" "over") ∈ lw_all := lw_g (lw_at lw_m1 156 rfl) rfl
theorem q285 : (Jvm.Cond.lays "OperaHouse$Asked" "OperaHouse$Asked" "late" "Z") ∈ lw_all := lw_g (lw_at lw_m1 157 rfl) rfl
theorem q286 : (Jvm.Cond.soleField "OperaHouse$Asked" "late") ∈ lw_all := lw_g (lw_at lw_m1 158 rfl) rfl
theorem q287 : (Jvm.Cond.lays "OperaHouse$Asked" "OperaHouse$Asked" "cover" "Z") ∈ lw_all := lw_g (lw_at lw_m1 159 rfl) rfl
theorem q288 : (Jvm.Cond.soleField "OperaHouse$Asked" "cover") ∈ lw_all := lw_g (lw_at lw_m1 160 rfl) rfl
theorem q289 : (Jvm.Cond.lays "OperaHouse$Asked" "OperaHouse$Asked" "instead" "Z") ∈ lw_all := lw_g (lw_at lw_m1 161 rfl) rfl
theorem q290 : (Jvm.Cond.soleField "OperaHouse$Asked" "instead") ∈ lw_all := lw_g (lw_at lw_m1 162 rfl) rfl
theorem q291 : (Jvm.Cond.superclass "OperaHouse$Asked" "java/lang/Object") ∈ lw_all := lw_g (lw_at lw_m1 163 rfl) rfl
theorem q527 : (Jvm.Cond.selects "OperaHouse$Asked" ({ cls := "java/lang/Object", name := "getClass", desc := "()Ljava/lang/Class;" } : Jvm.MethodName) ({ cls := "java/lang/Object", name := "getClass", desc := "()Ljava/lang/Class;" } : Jvm.MethodName)) ∈ lw_all := lw_g (lw_at lw_m2 159 rfl) rfl
theorem q2464 : (Jvm.Cond.castable "OperaHouse$Asked" "java/lang/Object") ∈ lw_tbl := lw_at lw_m10 176 rfl
theorem in_X3 : ∀ w ∈ wsX30, w ∈ lw_all := lw_in wsX30 [277, 279, 281, 283, 285, 287, 289] (by decide +kernel) (by decide +kernel)

/-! OperaHouse$Opera -/
set_option maxRecDepth 100000
def RX5 : String := "OperaHouse$Opera"
def TX5 : u_T := fun k => match k with
  | 0 => ("OperaHouse$Opera", "number", "I", true)
  | 1 => ("OperaHouse$Opera", "hours", "I", true)
  | 2 => ("OperaHouse$Opera", "set", "I", true)
  | 3 => ("OperaHouse$Opera", "need", "I", true)
  | 4 => ("OperaHouse$Opera", "chorus", "Z", true)
  | 5 => ("OperaHouse$Opera", "seats", "[I", true)
  | _ => ("OperaHouse$Opera", "roles", "Ljava/util/ArrayList;", true)
def tyX5 : Nat → FieldType := fun k => match k with
  | 0 => .int
  | 1 => .int
  | 2 => .int
  | 3 => .int
  | 4 => .boolean
  | 5 => .array .int
  | _ => .object "java/util/ArrayList"
abbrev wsX50 : List Cond := u_ws RX5 TX5 7
theorem nmX5 : ∀ a, a < 7 → ∀ b, b < 7 → a ≠ b → (TX5 a).2.1 ≠ (TX5 b).2.1 := by decide +kernel
theorem tyX5_ok : ∀ k, k < 7 → parseFieldDescriptor (TX5 k).2.2.1 = some (tyX5 k) := by decide +kernel
abbrev cX5_init : ByteArray := prog_11_method_1_code
def yX5_init : MethodName := ⟨RX5, "<init>", "(IIIZI)V"⟩
def dkwX5_init_2 : List UInt8 := [181, 0, 36, 177]
abbrev dktX5_init_2 : List UInt8 := dkwX5_init_2 ++ []
def dkwX5_init_1 : List UInt8 := [181, 0, 22, 42, 28, 181, 0, 26, 42, 29, 181, 0, 29, 42, 21, 4, 181, 0, 32, 42, 21, 5]
abbrev dktX5_init_1 : List UInt8 := dkwX5_init_1 ++ dktX5_init_2
def dkwX5_init_0 : List UInt8 := [42, 183, 0, 3, 42, 7, 188, 10, 181, 0, 9, 42, 187, 0, 15, 89, 183, 0, 17, 181, 0, 18, 42, 27]
abbrev dktX5_init_0 : List UInt8 := dkwX5_init_0 ++ dktX5_init_1
theorem dksX5_init_0 : cX5_init.data.toList.drop 0 = dktX5_init_0 := by decide +kernel
theorem dksX5_init_1 : cX5_init.data.toList.drop 24 = dktX5_init_1 := dk_seg dksX5_init_0 24 rfl rfl
theorem dksX5_init_2 : cX5_init.data.toList.drop 46 = dktX5_init_2 := dk_seg dksX5_init_1 22 rfl rfl
theorem dX5_init_0 : decode cX5_init 0 = .ok (.aload_n 0, 1) := dk_42 (dk_at dksX5_init_0 0 rfl rfl)
theorem dX5_init_1 : decode cX5_init 1 = .ok (.invokespecial 3, 3) := dk_183 0 3 (dk_at dksX5_init_0 1 rfl rfl)
theorem dX5_init_4 : decode cX5_init 4 = .ok (.aload_n 0, 1) := dk_42 (dk_at dksX5_init_0 4 rfl rfl)
theorem dX5_init_5 : decode cX5_init 5 = .ok (.iconst 4, 1) := dk_7 (dk_at dksX5_init_0 5 rfl rfl)
theorem dX5_init_6 : decode cX5_init 6 = .ok (.newarray .int, 2) := dk_188_10 (dk_at dksX5_init_0 6 rfl rfl)
theorem dX5_init_8 : decode cX5_init 8 = .ok (.putfield 9, 3) := dk_181 0 9 (dk_at dksX5_init_0 8 rfl rfl)
theorem dX5_init_11 : decode cX5_init 11 = .ok (.aload_n 0, 1) := dk_42 (dk_at dksX5_init_0 11 rfl rfl)
theorem dX5_init_12 : decode cX5_init 12 = .ok (.new 15, 3) := dk_187 0 15 (dk_at dksX5_init_0 12 rfl rfl)
theorem dX5_init_15 : decode cX5_init 15 = .ok (.dup, 1) := dk_89 (dk_at dksX5_init_0 15 rfl rfl)
theorem dX5_init_16 : decode cX5_init 16 = .ok (.invokespecial 17, 3) := dk_183 0 17 (dk_at dksX5_init_0 16 rfl rfl)
theorem dX5_init_19 : decode cX5_init 19 = .ok (.putfield 18, 3) := dk_181 0 18 (dk_at dksX5_init_0 19 rfl rfl)
theorem dX5_init_22 : decode cX5_init 22 = .ok (.aload_n 0, 1) := dk_42 (dk_at dksX5_init_0 22 rfl rfl)
theorem dX5_init_23 : decode cX5_init 23 = .ok (.iload_n 1, 1) := dk_27 (dk_at dksX5_init_0 23 rfl rfl)
theorem dX5_init_24 : decode cX5_init 24 = .ok (.putfield 22, 3) := dk_181 0 22 (dk_at dksX5_init_1 0 rfl rfl)
theorem dX5_init_27 : decode cX5_init 27 = .ok (.aload_n 0, 1) := dk_42 (dk_at dksX5_init_1 3 rfl rfl)
theorem dX5_init_28 : decode cX5_init 28 = .ok (.iload_n 2, 1) := dk_28 (dk_at dksX5_init_1 4 rfl rfl)
theorem dX5_init_29 : decode cX5_init 29 = .ok (.putfield 26, 3) := dk_181 0 26 (dk_at dksX5_init_1 5 rfl rfl)
theorem dX5_init_32 : decode cX5_init 32 = .ok (.aload_n 0, 1) := dk_42 (dk_at dksX5_init_1 8 rfl rfl)
theorem dX5_init_33 : decode cX5_init 33 = .ok (.iload_n 3, 1) := dk_29 (dk_at dksX5_init_1 9 rfl rfl)
theorem dX5_init_34 : decode cX5_init 34 = .ok (.putfield 29, 3) := dk_181 0 29 (dk_at dksX5_init_1 10 rfl rfl)
theorem dX5_init_37 : decode cX5_init 37 = .ok (.aload_n 0, 1) := dk_42 (dk_at dksX5_init_1 13 rfl rfl)
theorem dX5_init_38 : decode cX5_init 38 = .ok (.iload 4, 2) := dk_21 4 (dk_at dksX5_init_1 14 rfl rfl)
theorem dX5_init_40 : decode cX5_init 40 = .ok (.putfield 32, 3) := dk_181 0 32 (dk_at dksX5_init_1 16 rfl rfl)
theorem dX5_init_43 : decode cX5_init 43 = .ok (.aload_n 0, 1) := dk_42 (dk_at dksX5_init_1 19 rfl rfl)
theorem dX5_init_44 : decode cX5_init 44 = .ok (.iload 5, 2) := dk_21 5 (dk_at dksX5_init_1 20 rfl rfl)
theorem dX5_init_46 : decode cX5_init 46 = .ok (.putfield 36, 3) := dk_181 0 36 (dk_at dksX5_init_2 0 rfl rfl)
theorem dX5_init_49 : decode cX5_init 49 = .ok (.return_, 1) := dk_177 (dk_at dksX5_init_2 3 rfl rfl)
theorem q137 : (Jvm.Cond.initialized "OperaHouse$Opera") ∈ lw_all := lw_g (lw_at lw_m1 9 rfl) rfl
theorem q435 : (Jvm.Cond.instantiable "OperaHouse$Opera" (7 : Nat)) ∈ lw_all := lw_g (lw_at lw_m2 67 rfl) rfl
theorem q437 : (Jvm.Cond.instanceMethod ({ cls := "OperaHouse$Opera", name := "<init>", desc := "(IIIZI)V" } : Jvm.MethodName)) ∈ lw_all := lw_g (lw_at lw_m2 69 rfl) rfl
theorem q438 : (Jvm.Cond.code ({ cls := "OperaHouse$Opera", name := "<init>", desc := "(IIIZI)V" } : Jvm.MethodName) prog_11_method_1_code (6 : Nat) (Option.none : Option Jvm.ClassFile.FieldType)) ∈ lw_all := lw_g (lw_at lw_m2 70 rfl) rfl
theorem q439 : (Jvm.Cond.methodLink "OperaHouse$Opera" (3 : Nat) ({ cls := "java/lang/Object", name := "<init>", desc := "()V" } : Jvm.MethodName)) ∈ lw_all := lw_g (lw_at lw_m2 71 rfl) rfl
theorem q440 : (Jvm.Cond.classLink "OperaHouse$Opera" (15 : Nat) "java/util/ArrayList") ∈ lw_all := lw_g (lw_at lw_m2 72 rfl) rfl
theorem q441 : (Jvm.Cond.methodLink "OperaHouse$Opera" (17 : Nat) ({ cls := "java/util/ArrayList", name := "<init>", desc := "()V" } : Jvm.MethodName)) ∈ lw_all := lw_g (lw_at lw_m2 73 rfl) rfl
theorem q442 : (Jvm.Cond.fieldLink "OperaHouse$Opera" (22 : Nat) "OperaHouse$Opera" "number" "I") ∈ lw_all := lw_g (lw_at lw_m2 74 rfl) rfl
theorem q444 : (Jvm.Cond.fieldLink "OperaHouse$Opera" (26 : Nat) "OperaHouse$Opera" "hours" "I") ∈ lw_all := lw_g (lw_at lw_m2 76 rfl) rfl
theorem q446 : (Jvm.Cond.fieldLink "OperaHouse$Opera" (29 : Nat) "OperaHouse$Opera" "set" "I") ∈ lw_all := lw_g (lw_at lw_m2 78 rfl) rfl
theorem q448 : (Jvm.Cond.fieldLink "OperaHouse$Opera" (36 : Nat) "OperaHouse$Opera" "need" "I") ∈ lw_all := lw_g (lw_at lw_m2 80 rfl) rfl
theorem q450 : (Jvm.Cond.fieldLink "OperaHouse$Opera" (32 : Nat) "OperaHouse$Opera" "chorus" "Z") ∈ lw_all := lw_g (lw_at lw_m2 82 rfl) rfl
theorem q452 : (Jvm.Cond.fieldLink "OperaHouse$Opera" (9 : Nat) "OperaHouse$Opera" "seats" "[I") ∈ lw_all := lw_g (lw_at lw_m2 84 rfl) rfl
theorem q454 : (Jvm.Cond.fieldLink "OperaHouse$Opera" (18 : Nat) "OperaHouse$Opera" "roles" "Ljava/util/ArrayList;") ∈ lw_all := lw_g (lw_at lw_m2 86 rfl) rfl
theorem q457 : (Jvm.Cond.laysFinal "OperaHouse$Opera" "OperaHouse$Opera" "number" "I") ∈ lw_all := lw_g (lw_at lw_m2 89 rfl) rfl
theorem q458 : (Jvm.Cond.soleField "OperaHouse$Opera" "number") ∈ lw_all := lw_g (lw_at lw_m2 90 rfl) rfl
theorem q459 : (Jvm.Cond.laysFinal "OperaHouse$Opera" "OperaHouse$Opera" "hours" "I") ∈ lw_all := lw_g (lw_at lw_m2 91 rfl) rfl
theorem q460 : (Jvm.Cond.soleField "OperaHouse$Opera" "hours") ∈ lw_all := lw_g (lw_at lw_m2 92 rfl) rfl
theorem q461 : (Jvm.Cond.laysFinal "OperaHouse$Opera" "OperaHouse$Opera" "set" "I") ∈ lw_all := lw_g (lw_at lw_m2 93 rfl) rfl
theorem q462 : (Jvm.Cond.soleField "OperaHouse$Opera" "set") ∈ lw_all := lw_g (lw_at lw_m2 94 rfl) rfl
theorem q463 : (Jvm.Cond.laysFinal "OperaHouse$Opera" "OperaHouse$Opera" "need" "I") ∈ lw_all := lw_g (lw_at lw_m2 95 rfl) rfl
theorem q464 : (Jvm.Cond.soleField "OperaHouse$Opera" "need") ∈ lw_all := lw_g (lw_at lw_m2 96 rfl) rfl
theorem q465 : (Jvm.Cond.laysFinal "OperaHouse$Opera" "OperaHouse$Opera" "chorus" "Z") ∈ lw_all := lw_g (lw_at lw_m2 97 rfl) rfl
theorem q466 : (Jvm.Cond.soleField "OperaHouse$Opera" "chorus") ∈ lw_all := lw_g (lw_at lw_m2 98 rfl) rfl
theorem q467 : (Jvm.Cond.laysFinal "OperaHouse$Opera" "OperaHouse$Opera" "seats" "[I") ∈ lw_all := lw_g (lw_at lw_m2 99 rfl) rfl
theorem q468 : (Jvm.Cond.soleField "OperaHouse$Opera" "seats") ∈ lw_all := lw_g (lw_at lw_m2 100 rfl) rfl
theorem q469 : (Jvm.Cond.laysFinal "OperaHouse$Opera" "OperaHouse$Opera" "roles" "Ljava/util/ArrayList;") ∈ lw_all := lw_g (lw_at lw_m2 101 rfl) rfl
theorem q470 : (Jvm.Cond.soleField "OperaHouse$Opera" "roles") ∈ lw_all := lw_g (lw_at lw_m2 102 rfl) rfl
theorem q471 : (Jvm.Cond.superclass "OperaHouse$Opera" "java/lang/Object") ∈ lw_all := lw_g (lw_at lw_m2 103 rfl) rfl
theorem q536 : (Jvm.Cond.selects "OperaHouse$Opera" ({ cls := "java/lang/Object", name := "getClass", desc := "()Ljava/lang/Class;" } : Jvm.MethodName) ({ cls := "java/lang/Object", name := "getClass", desc := "()Ljava/lang/Class;" } : Jvm.MethodName)) ∈ lw_all := lw_g (lw_at lw_m2 168 rfl) rfl
theorem q2466 : (Jvm.Cond.castable "OperaHouse$Opera" "java/lang/Object") ∈ lw_tbl := lw_at lw_m10 178 rfl
theorem in_X5 : ∀ w ∈ wsX50, w ∈ lw_all := lw_in wsX50 [457, 459, 461, 463, 465, 467, 469] (by decide +kernel) (by decide +kernel)

/-! OperaHouse$Role -/
set_option maxRecDepth 100000
def RX6 : String := "OperaHouse$Role"
def TX6 : u_T := fun k => match k with
  | 0 => ("OperaHouse$Role", "voice", "I", true)
  | 1 => ("OperaHouse$Role", "strain", "I", true)
  | 2 => ("OperaHouse$Role", "tongue", "I", true)
  | _ => ("OperaHouse$Role", "size", "I", true)
def tyX6 : Nat → FieldType := fun k => match k with
  | 0 => .int
  | 1 => .int
  | 2 => .int
  | _ => .int
abbrev wsX60 : List Cond := u_ws RX6 TX6 4
theorem nmX6 : ∀ a, a < 4 → ∀ b, b < 4 → a ≠ b → (TX6 a).2.1 ≠ (TX6 b).2.1 := by decide +kernel
theorem tyX6_ok : ∀ k, k < 4 → parseFieldDescriptor (TX6 k).2.2.1 = some (tyX6 k) := by decide +kernel
abbrev cX6_init : ByteArray := prog_14_method_1_code
def yX6_init : MethodName := ⟨RX6, "<init>", "(IIII)V"⟩
def dkwX6_init_1 : List UInt8 := [181, 0, 19, 177]
abbrev dktX6_init_1 : List UInt8 := dkwX6_init_1 ++ []
def dkwX6_init_0 : List UInt8 := [42, 183, 0, 1, 42, 27, 181, 0, 7, 42, 28, 181, 0, 13, 42, 29, 181, 0, 16, 42, 21, 4]
abbrev dktX6_init_0 : List UInt8 := dkwX6_init_0 ++ dktX6_init_1
theorem dksX6_init_0 : cX6_init.data.toList.drop 0 = dktX6_init_0 := by decide +kernel
theorem dksX6_init_1 : cX6_init.data.toList.drop 22 = dktX6_init_1 := dk_seg dksX6_init_0 22 rfl rfl
theorem dX6_init_0 : decode cX6_init 0 = .ok (.aload_n 0, 1) := dk_42 (dk_at dksX6_init_0 0 rfl rfl)
theorem dX6_init_1 : decode cX6_init 1 = .ok (.invokespecial 1, 3) := dk_183 0 1 (dk_at dksX6_init_0 1 rfl rfl)
theorem dX6_init_4 : decode cX6_init 4 = .ok (.aload_n 0, 1) := dk_42 (dk_at dksX6_init_0 4 rfl rfl)
theorem dX6_init_5 : decode cX6_init 5 = .ok (.iload_n 1, 1) := dk_27 (dk_at dksX6_init_0 5 rfl rfl)
theorem dX6_init_6 : decode cX6_init 6 = .ok (.putfield 7, 3) := dk_181 0 7 (dk_at dksX6_init_0 6 rfl rfl)
theorem dX6_init_9 : decode cX6_init 9 = .ok (.aload_n 0, 1) := dk_42 (dk_at dksX6_init_0 9 rfl rfl)
theorem dX6_init_10 : decode cX6_init 10 = .ok (.iload_n 2, 1) := dk_28 (dk_at dksX6_init_0 10 rfl rfl)
theorem dX6_init_11 : decode cX6_init 11 = .ok (.putfield 13, 3) := dk_181 0 13 (dk_at dksX6_init_0 11 rfl rfl)
theorem dX6_init_14 : decode cX6_init 14 = .ok (.aload_n 0, 1) := dk_42 (dk_at dksX6_init_0 14 rfl rfl)
theorem dX6_init_15 : decode cX6_init 15 = .ok (.iload_n 3, 1) := dk_29 (dk_at dksX6_init_0 15 rfl rfl)
theorem dX6_init_16 : decode cX6_init 16 = .ok (.putfield 16, 3) := dk_181 0 16 (dk_at dksX6_init_0 16 rfl rfl)
theorem dX6_init_19 : decode cX6_init 19 = .ok (.aload_n 0, 1) := dk_42 (dk_at dksX6_init_0 19 rfl rfl)
theorem dX6_init_20 : decode cX6_init 20 = .ok (.iload 4, 2) := dk_21 4 (dk_at dksX6_init_0 20 rfl rfl)
theorem dX6_init_22 : decode cX6_init 22 = .ok (.putfield 19, 3) := dk_181 0 19 (dk_at dksX6_init_1 0 rfl rfl)
theorem dX6_init_25 : decode cX6_init 25 = .ok (.return_, 1) := dk_177 (dk_at dksX6_init_1 3 rfl rfl)
theorem q138 : (Jvm.Cond.initialized "OperaHouse$Role") ∈ lw_all := lw_g (lw_at lw_m1 10 rfl) rfl
theorem q473 : (Jvm.Cond.instantiable "OperaHouse$Role" (4 : Nat)) ∈ lw_all := lw_g (lw_at lw_m2 105 rfl) rfl
theorem q475 : (Jvm.Cond.instanceMethod ({ cls := "OperaHouse$Role", name := "<init>", desc := "(IIII)V" } : Jvm.MethodName)) ∈ lw_all := lw_g (lw_at lw_m2 107 rfl) rfl
theorem q476 : (Jvm.Cond.code ({ cls := "OperaHouse$Role", name := "<init>", desc := "(IIII)V" } : Jvm.MethodName) prog_14_method_1_code (5 : Nat) (Option.none : Option Jvm.ClassFile.FieldType)) ∈ lw_all := lw_g (lw_at lw_m2 108 rfl) rfl
theorem q477 : (Jvm.Cond.methodLink "OperaHouse$Role" (1 : Nat) ({ cls := "java/lang/Object", name := "<init>", desc := "()V" } : Jvm.MethodName)) ∈ lw_all := lw_g (lw_at lw_m2 109 rfl) rfl
theorem q478 : (Jvm.Cond.fieldLink "OperaHouse$Role" (7 : Nat) "OperaHouse$Role" "voice" "I") ∈ lw_all := lw_g (lw_at lw_m2 110 rfl) rfl
theorem q480 : (Jvm.Cond.fieldLink "OperaHouse$Role" (13 : Nat) "OperaHouse$Role" "strain" "I") ∈ lw_all := lw_g (lw_at lw_m2 112 rfl) rfl
theorem q482 : (Jvm.Cond.fieldLink "OperaHouse$Role" (16 : Nat) "OperaHouse$Role" "tongue" "I") ∈ lw_all := lw_g (lw_at lw_m2 114 rfl) rfl
theorem q484 : (Jvm.Cond.fieldLink "OperaHouse$Role" (19 : Nat) "OperaHouse$Role" "size" "I") ∈ lw_all := lw_g (lw_at lw_m2 116 rfl) rfl
theorem q487 : (Jvm.Cond.laysFinal "OperaHouse$Role" "OperaHouse$Role" "voice" "I") ∈ lw_all := lw_g (lw_at lw_m2 119 rfl) rfl
theorem q488 : (Jvm.Cond.soleField "OperaHouse$Role" "voice") ∈ lw_all := lw_g (lw_at lw_m2 120 rfl) rfl
theorem q489 : (Jvm.Cond.laysFinal "OperaHouse$Role" "OperaHouse$Role" "strain" "I") ∈ lw_all := lw_g (lw_at lw_m2 121 rfl) rfl
theorem q490 : (Jvm.Cond.soleField "OperaHouse$Role" "strain") ∈ lw_all := lw_g (lw_at lw_m2 122 rfl) rfl
theorem q491 : (Jvm.Cond.laysFinal "OperaHouse$Role" "OperaHouse$Role" "tongue" "I") ∈ lw_all := lw_g (lw_at lw_m2 123 rfl) rfl
theorem q492 : (Jvm.Cond.soleField "OperaHouse$Role" "tongue") ∈ lw_all := lw_g (lw_at lw_m2 124 rfl) rfl
theorem q493 : (Jvm.Cond.laysFinal "OperaHouse$Role" "OperaHouse$Role" "size" "I") ∈ lw_all := lw_g (lw_at lw_m2 125 rfl) rfl
theorem q494 : (Jvm.Cond.soleField "OperaHouse$Role" "size") ∈ lw_all := lw_g (lw_at lw_m2 126 rfl) rfl
theorem q495 : (Jvm.Cond.superclass "OperaHouse$Role" "java/lang/Object") ∈ lw_all := lw_g (lw_at lw_m2 127 rfl) rfl
theorem q539 : (Jvm.Cond.selects "OperaHouse$Role" ({ cls := "java/lang/Object", name := "getClass", desc := "()Ljava/lang/Class;" } : Jvm.MethodName) ({ cls := "java/lang/Object", name := "getClass", desc := "()Ljava/lang/Class;" } : Jvm.MethodName)) ∈ lw_all := lw_g (lw_at lw_m2 171 rfl) rfl
theorem q2467 : (Jvm.Cond.castable "OperaHouse$Role" "java/lang/Object") ∈ lw_tbl := lw_at lw_m10 179 rfl
theorem in_X6 : ∀ w ∈ wsX60, w ∈ lw_all := lw_in wsX60 [487, 489, 491, 493] (by decide +kernel) (by decide +kernel)

/-! OperaHouse$Singer -/
set_option maxRecDepth 100000
def RX7 : String := "OperaHouse$Singer"
def TX7 : u_T := fun k => match k with
  | 0 => ("OperaHouse$Singer", "number", "I", true)
  | 1 => ("OperaHouse$Singer", "voices", "I", true)
  | 2 => ("OperaHouse$Singer", "tongues", "I", true)
  | 3 => ("OperaHouse$Singer", "size", "I", true)
  | _ => ("OperaHouse$Singer", "contract", "LOperaHouse$Contract;", false)
def tyX7 : Nat → FieldType := fun k => match k with
  | 0 => .int
  | 1 => .int
  | 2 => .int
  | 3 => .int
  | _ => .object "OperaHouse$Contract"
abbrev wsX70 : List Cond := u_ws RX7 TX7 5
theorem nmX7 : ∀ a, a < 5 → ∀ b, b < 5 → a ≠ b → (TX7 a).2.1 ≠ (TX7 b).2.1 := by decide +kernel
theorem tyX7_ok : ∀ k, k < 5 → parseFieldDescriptor (TX7 k).2.2.1 = some (tyX7 k) := by decide +kernel
abbrev cX7_init : ByteArray := prog_15_method_1_code
def yX7_init : MethodName := ⟨RX7, "<init>", "(IIII)V"⟩
def dkwX7_init_1 : List UInt8 := [181, 0, 20, 42, 29, 181, 0, 23, 42, 21, 4, 181, 0, 26, 177]
abbrev dktX7_init_1 : List UInt8 := dkwX7_init_1 ++ []
def dkwX7_init_0 : List UInt8 := [42, 183, 0, 1, 42, 187, 0, 7, 89, 183, 0, 9, 181, 0, 10, 42, 27, 181, 0, 16, 42, 28]
abbrev dktX7_init_0 : List UInt8 := dkwX7_init_0 ++ dktX7_init_1
theorem dksX7_init_0 : cX7_init.data.toList.drop 0 = dktX7_init_0 := by decide +kernel
theorem dksX7_init_1 : cX7_init.data.toList.drop 22 = dktX7_init_1 := dk_seg dksX7_init_0 22 rfl rfl
theorem dX7_init_0 : decode cX7_init 0 = .ok (.aload_n 0, 1) := dk_42 (dk_at dksX7_init_0 0 rfl rfl)
theorem dX7_init_1 : decode cX7_init 1 = .ok (.invokespecial 1, 3) := dk_183 0 1 (dk_at dksX7_init_0 1 rfl rfl)
theorem dX7_init_4 : decode cX7_init 4 = .ok (.aload_n 0, 1) := dk_42 (dk_at dksX7_init_0 4 rfl rfl)
theorem dX7_init_5 : decode cX7_init 5 = .ok (.new 7, 3) := dk_187 0 7 (dk_at dksX7_init_0 5 rfl rfl)
theorem dX7_init_8 : decode cX7_init 8 = .ok (.dup, 1) := dk_89 (dk_at dksX7_init_0 8 rfl rfl)
theorem dX7_init_9 : decode cX7_init 9 = .ok (.invokespecial 9, 3) := dk_183 0 9 (dk_at dksX7_init_0 9 rfl rfl)
theorem dX7_init_12 : decode cX7_init 12 = .ok (.putfield 10, 3) := dk_181 0 10 (dk_at dksX7_init_0 12 rfl rfl)
theorem dX7_init_15 : decode cX7_init 15 = .ok (.aload_n 0, 1) := dk_42 (dk_at dksX7_init_0 15 rfl rfl)
theorem dX7_init_16 : decode cX7_init 16 = .ok (.iload_n 1, 1) := dk_27 (dk_at dksX7_init_0 16 rfl rfl)
theorem dX7_init_17 : decode cX7_init 17 = .ok (.putfield 16, 3) := dk_181 0 16 (dk_at dksX7_init_0 17 rfl rfl)
theorem dX7_init_20 : decode cX7_init 20 = .ok (.aload_n 0, 1) := dk_42 (dk_at dksX7_init_0 20 rfl rfl)
theorem dX7_init_21 : decode cX7_init 21 = .ok (.iload_n 2, 1) := dk_28 (dk_at dksX7_init_0 21 rfl rfl)
theorem dX7_init_22 : decode cX7_init 22 = .ok (.putfield 20, 3) := dk_181 0 20 (dk_at dksX7_init_1 0 rfl rfl)
theorem dX7_init_25 : decode cX7_init 25 = .ok (.aload_n 0, 1) := dk_42 (dk_at dksX7_init_1 3 rfl rfl)
theorem dX7_init_26 : decode cX7_init 26 = .ok (.iload_n 3, 1) := dk_29 (dk_at dksX7_init_1 4 rfl rfl)
theorem dX7_init_27 : decode cX7_init 27 = .ok (.putfield 23, 3) := dk_181 0 23 (dk_at dksX7_init_1 5 rfl rfl)
theorem dX7_init_30 : decode cX7_init 30 = .ok (.aload_n 0, 1) := dk_42 (dk_at dksX7_init_1 8 rfl rfl)
theorem dX7_init_31 : decode cX7_init 31 = .ok (.iload 4, 2) := dk_21 4 (dk_at dksX7_init_1 9 rfl rfl)
theorem dX7_init_33 : decode cX7_init 33 = .ok (.putfield 26, 3) := dk_181 0 26 (dk_at dksX7_init_1 11 rfl rfl)
theorem dX7_init_36 : decode cX7_init 36 = .ok (.return_, 1) := dk_177 (dk_at dksX7_init_1 14 rfl rfl)
abbrev cX7_suits : ByteArray := prog_15_method_2_code
def yX7_suits : MethodName := ⟨RX7, "suits", "(LOperaHouse$Role;)Z"⟩
def dkwX7_suits_2 : List UInt8 := [167, 0, 4, 3, 172]
abbrev dktX7_suits_2 : List UInt8 := dkwX7_suits_2 ++ []
def dkwX7_suits_1 : List UInt8 := [4, 126, 4, 160, 0, 23, 42, 180, 0, 26, 43, 180, 0, 37, 100, 184, 0, 38, 4, 163, 0, 7, 4]
abbrev dktX7_suits_1 : List UInt8 := dkwX7_suits_1 ++ dktX7_suits_2
def dkwX7_suits_0 : List UInt8 := [42, 180, 0, 20, 43, 180, 0, 29, 122, 4, 126, 4, 160, 0, 38, 42, 180, 0, 23, 43, 180, 0, 34, 122]
abbrev dktX7_suits_0 : List UInt8 := dkwX7_suits_0 ++ dktX7_suits_1
theorem dksX7_suits_0 : cX7_suits.data.toList.drop 0 = dktX7_suits_0 := by decide +kernel
theorem dksX7_suits_1 : cX7_suits.data.toList.drop 24 = dktX7_suits_1 := dk_seg dksX7_suits_0 24 rfl rfl
theorem dksX7_suits_2 : cX7_suits.data.toList.drop 47 = dktX7_suits_2 := dk_seg dksX7_suits_1 23 rfl rfl
theorem dX7_suits_0 : decode cX7_suits 0 = .ok (.aload_n 0, 1) := dk_42 (dk_at dksX7_suits_0 0 rfl rfl)
theorem dX7_suits_1 : decode cX7_suits 1 = .ok (.getfield 20, 3) := dk_180 0 20 (dk_at dksX7_suits_0 1 rfl rfl)
theorem dX7_suits_4 : decode cX7_suits 4 = .ok (.aload_n 1, 1) := dk_43 (dk_at dksX7_suits_0 4 rfl rfl)
theorem dX7_suits_5 : decode cX7_suits 5 = .ok (.getfield 29, 3) := dk_180 0 29 (dk_at dksX7_suits_0 5 rfl rfl)
theorem dX7_suits_8 : decode cX7_suits 8 = .ok (.ishr, 1) := dk_122 (dk_at dksX7_suits_0 8 rfl rfl)
theorem dX7_suits_9 : decode cX7_suits 9 = .ok (.iconst 1, 1) := dk_4 (dk_at dksX7_suits_0 9 rfl rfl)
theorem dX7_suits_10 : decode cX7_suits 10 = .ok (.iand, 1) := dk_126 (dk_at dksX7_suits_0 10 rfl rfl)
theorem dX7_suits_11 : decode cX7_suits 11 = .ok (.iconst 1, 1) := dk_4 (dk_at dksX7_suits_0 11 rfl rfl)
theorem dX7_suits_12 : decode cX7_suits 12 = .ok (.if_icmp .ne 38, 3) := dk_160 0 38 (dk_at dksX7_suits_0 12 rfl rfl)
theorem dX7_suits_15 : decode cX7_suits 15 = .ok (.aload_n 0, 1) := dk_42 (dk_at dksX7_suits_0 15 rfl rfl)
theorem dX7_suits_16 : decode cX7_suits 16 = .ok (.getfield 23, 3) := dk_180 0 23 (dk_at dksX7_suits_0 16 rfl rfl)
theorem dX7_suits_19 : decode cX7_suits 19 = .ok (.aload_n 1, 1) := dk_43 (dk_at dksX7_suits_0 19 rfl rfl)
theorem dX7_suits_20 : decode cX7_suits 20 = .ok (.getfield 34, 3) := dk_180 0 34 (dk_at dksX7_suits_0 20 rfl rfl)
theorem dX7_suits_23 : decode cX7_suits 23 = .ok (.ishr, 1) := dk_122 (dk_at dksX7_suits_0 23 rfl rfl)
theorem dX7_suits_24 : decode cX7_suits 24 = .ok (.iconst 1, 1) := dk_4 (dk_at dksX7_suits_1 0 rfl rfl)
theorem dX7_suits_25 : decode cX7_suits 25 = .ok (.iand, 1) := dk_126 (dk_at dksX7_suits_1 1 rfl rfl)
theorem dX7_suits_26 : decode cX7_suits 26 = .ok (.iconst 1, 1) := dk_4 (dk_at dksX7_suits_1 2 rfl rfl)
theorem dX7_suits_27 : decode cX7_suits 27 = .ok (.if_icmp .ne 23, 3) := dk_160 0 23 (dk_at dksX7_suits_1 3 rfl rfl)
theorem dX7_suits_30 : decode cX7_suits 30 = .ok (.aload_n 0, 1) := dk_42 (dk_at dksX7_suits_1 6 rfl rfl)
theorem dX7_suits_31 : decode cX7_suits 31 = .ok (.getfield 26, 3) := dk_180 0 26 (dk_at dksX7_suits_1 7 rfl rfl)
theorem dX7_suits_34 : decode cX7_suits 34 = .ok (.aload_n 1, 1) := dk_43 (dk_at dksX7_suits_1 10 rfl rfl)
theorem dX7_suits_35 : decode cX7_suits 35 = .ok (.getfield 37, 3) := dk_180 0 37 (dk_at dksX7_suits_1 11 rfl rfl)
theorem dX7_suits_38 : decode cX7_suits 38 = .ok (.isub, 1) := dk_100 (dk_at dksX7_suits_1 14 rfl rfl)
theorem dX7_suits_39 : decode cX7_suits 39 = .ok (.invokestatic 38, 3) := dk_184 0 38 (dk_at dksX7_suits_1 15 rfl rfl)
theorem dX7_suits_42 : decode cX7_suits 42 = .ok (.iconst 1, 1) := dk_4 (dk_at dksX7_suits_1 18 rfl rfl)
theorem dX7_suits_43 : decode cX7_suits 43 = .ok (.if_icmp .gt 7, 3) := dk_163 0 7 (dk_at dksX7_suits_1 19 rfl rfl)
theorem dX7_suits_46 : decode cX7_suits 46 = .ok (.iconst 1, 1) := dk_4 (dk_at dksX7_suits_1 22 rfl rfl)
theorem dX7_suits_47 : decode cX7_suits 47 = .ok (.goto 4, 3) := dk_167 0 4 (dk_at dksX7_suits_2 0 rfl rfl)
theorem dX7_suits_50 : decode cX7_suits 50 = .ok (.iconst 0, 1) := dk_3 (dk_at dksX7_suits_2 3 rfl rfl)
theorem dX7_suits_51 : decode cX7_suits 51 = .ok (.ireturn, 1) := dk_172 (dk_at dksX7_suits_2 4 rfl rfl)
theorem q142 : (Jvm.Cond.initialized "OperaHouse$Singer") ∈ lw_all := lw_g (lw_at lw_m1 14 rfl) rfl
theorem q479 : (Jvm.Cond.fieldLinkNest "OperaHouse$Singer" (29 : Nat) "OperaHouse$Role" "voice" "I" "OperaHouse") ∈ lw_tbl := lw_at lw_m2 111 rfl
theorem q483 : (Jvm.Cond.fieldLinkNest "OperaHouse$Singer" (34 : Nat) "OperaHouse$Role" "tongue" "I" "OperaHouse") ∈ lw_tbl := lw_at lw_m2 115 rfl
theorem q485 : (Jvm.Cond.fieldLinkNest "OperaHouse$Singer" (37 : Nat) "OperaHouse$Role" "size" "I" "OperaHouse") ∈ lw_tbl := lw_at lw_m2 117 rfl
theorem q540 : (Jvm.Cond.selects "OperaHouse$Singer" ({ cls := "java/lang/Object", name := "getClass", desc := "()Ljava/lang/Class;" } : Jvm.MethodName) ({ cls := "java/lang/Object", name := "getClass", desc := "()Ljava/lang/Class;" } : Jvm.MethodName)) ∈ lw_all := lw_g (lw_at lw_m2 172 rfl) rfl
theorem q566 : (Jvm.Cond.instantiable "OperaHouse$Singer" (5 : Nat)) ∈ lw_all := lw_g (lw_at lw_m2 198 rfl) rfl
theorem q568 : (Jvm.Cond.instanceMethod ({ cls := "OperaHouse$Singer", name := "<init>", desc := "(IIII)V" } : Jvm.MethodName)) ∈ lw_all := lw_g (lw_at lw_m2 200 rfl) rfl
theorem q569 : (Jvm.Cond.code ({ cls := "OperaHouse$Singer", name := "<init>", desc := "(IIII)V" } : Jvm.MethodName) prog_15_method_1_code (5 : Nat) (Option.none : Option Jvm.ClassFile.FieldType)) ∈ lw_all := lw_g (lw_at lw_m2 201 rfl) rfl
theorem q570 : (Jvm.Cond.methodLink "OperaHouse$Singer" (1 : Nat) ({ cls := "java/lang/Object", name := "<init>", desc := "()V" } : Jvm.MethodName)) ∈ lw_all := lw_g (lw_at lw_m2 202 rfl) rfl
theorem q571 : (Jvm.Cond.classLink "OperaHouse$Singer" (7 : Nat) "OperaHouse$Contract") ∈ lw_all := lw_g (lw_at lw_m2 203 rfl) rfl
theorem q573 : (Jvm.Cond.methodLinkNest "OperaHouse$Singer" (9 : Nat) ({ cls := "OperaHouse$Contract", name := "<init>", desc := "()V" } : Jvm.MethodName) "OperaHouse") ∈ lw_tbl := lw_at lw_m2 205 rfl
theorem q612 : (Jvm.Cond.fieldLink "OperaHouse$Singer" (16 : Nat) "OperaHouse$Singer" "number" "I") ∈ lw_all := lw_g (lw_at lw_m3 4 rfl) rfl
theorem q614 : (Jvm.Cond.fieldLink "OperaHouse$Singer" (20 : Nat) "OperaHouse$Singer" "voices" "I") ∈ lw_all := lw_g (lw_at lw_m3 6 rfl) rfl
theorem q615 : (Jvm.Cond.fieldLink "OperaHouse$Singer" (23 : Nat) "OperaHouse$Singer" "tongues" "I") ∈ lw_all := lw_g (lw_at lw_m3 7 rfl) rfl
theorem q616 : (Jvm.Cond.fieldLink "OperaHouse$Singer" (26 : Nat) "OperaHouse$Singer" "size" "I") ∈ lw_all := lw_g (lw_at lw_m3 8 rfl) rfl
theorem q618 : (Jvm.Cond.fieldLink "OperaHouse$Singer" (10 : Nat) "OperaHouse$Singer" "contract" "LOperaHouse$Contract;") ∈ lw_all := lw_g (lw_at lw_m3 10 rfl) rfl
theorem q620 : (Jvm.Cond.laysFinal "OperaHouse$Singer" "OperaHouse$Singer" "number" "I") ∈ lw_all := lw_g (lw_at lw_m3 12 rfl) rfl
theorem q621 : (Jvm.Cond.soleField "OperaHouse$Singer" "number") ∈ lw_all := lw_g (lw_at lw_m3 13 rfl) rfl
theorem q622 : (Jvm.Cond.laysFinal "OperaHouse$Singer" "OperaHouse$Singer" "voices" "I") ∈ lw_all := lw_g (lw_at lw_m3 14 rfl) rfl
theorem q623 : (Jvm.Cond.soleField "OperaHouse$Singer" "voices") ∈ lw_all := lw_g (lw_at lw_m3 15 rfl) rfl
theorem q624 : (Jvm.Cond.laysFinal "OperaHouse$Singer" "OperaHouse$Singer" "tongues" "I") ∈ lw_all := lw_g (lw_at lw_m3 16 rfl) rfl
theorem q625 : (Jvm.Cond.soleField "OperaHouse$Singer" "tongues") ∈ lw_all := lw_g (lw_at lw_m3 17 rfl) rfl
theorem q626 : (Jvm.Cond.laysFinal "OperaHouse$Singer" "OperaHouse$Singer" "size" "I") ∈ lw_all := lw_g (lw_at lw_m3 18 rfl) rfl
theorem q627 : (Jvm.Cond.soleField "OperaHouse$Singer" "size") ∈ lw_all := lw_g (lw_at lw_m3 19 rfl) rfl
theorem q628 : (Jvm.Cond.lays "OperaHouse$Singer" "OperaHouse$Singer" "contract" "LOperaHouse$Contract;") ∈ lw_all := lw_g (lw_at lw_m3 20 rfl) rfl
theorem q629 : (Jvm.Cond.soleField "OperaHouse$Singer" "contract") ∈ lw_all := lw_g (lw_at lw_m3 21 rfl) rfl
theorem q630 : (Jvm.Cond.superclass "OperaHouse$Singer" "java/lang/Object") ∈ lw_all := lw_g (lw_at lw_m3 22 rfl) rfl
theorem q1497 : (Jvm.Cond.instanceMethod ({ cls := "OperaHouse$Singer", name := "suits", desc := "(LOperaHouse$Role;)Z" } : Jvm.MethodName)) ∈ lw_all := lw_g (lw_at lw_m6 169 rfl) rfl
theorem q1498 : (Jvm.Cond.selects "OperaHouse$Singer" ({ cls := "OperaHouse$Singer", name := "suits", desc := "(LOperaHouse$Role;)Z" } : Jvm.MethodName) ({ cls := "OperaHouse$Singer", name := "suits", desc := "(LOperaHouse$Role;)Z" } : Jvm.MethodName)) ∈ lw_all := lw_g (lw_at lw_m6 170 rfl) rfl
theorem q1499 : (Jvm.Cond.code ({ cls := "OperaHouse$Singer", name := "suits", desc := "(LOperaHouse$Role;)Z" } : Jvm.MethodName) prog_15_method_2_code (2 : Nat) (Option.some Jvm.ClassFile.FieldType.boolean)) ∈ lw_all := lw_g (lw_at lw_m6 171 rfl) rfl
theorem q1500 : (Jvm.Cond.methodLink "OperaHouse$Singer" (38 : Nat) ({ cls := "java/lang/Math", name := "abs", desc := "(I)I" } : Jvm.MethodName)) ∈ lw_all := lw_g (lw_at lw_m6 172 rfl) rfl
theorem q2468 : (Jvm.Cond.castable "OperaHouse$Singer" "java/lang/Object") ∈ lw_tbl := lw_at lw_m10 180 rfl
theorem in_X7 : ∀ w ∈ wsX70, w ∈ lw_all := lw_in wsX70 [620, 622, 624, 626, 628] (by decide +kernel) (by decide +kernel)

/-! OperaHouse$Contract -/
set_option maxRecDepth 100000
def RX8 : String := "OperaHouse$Contract"
def TX8 : u_T := fun k => match k with
  | 0 => ("OperaHouse$Contract", "rest", "I", false)
  | 1 => ("OperaHouse$Contract", "day", "I", false)
  | 2 => ("OperaHouse$Contract", "week", "I", false)
  | 3 => ("OperaHouse$Contract", "voice", "I", false)
  | 4 => ("OperaHouse$Contract", "many", "I", false)
  | 5 => ("OperaHouse$Contract", "leaves", "Ljava/util/ArrayList;", true)
  | _ => ("OperaHouse$Contract", "fees", "Ljava/util/ArrayList;", true)
def tyX8 : Nat → FieldType := fun k => match k with
  | 0 => .int
  | 1 => .int
  | 2 => .int
  | 3 => .int
  | 4 => .int
  | 5 => .object "java/util/ArrayList"
  | _ => .object "java/util/ArrayList"
abbrev wsX80 : List Cond := u_ws RX8 TX8 7
theorem nmX8 : ∀ a, a < 7 → ∀ b, b < 7 → a ≠ b → (TX8 a).2.1 ≠ (TX8 b).2.1 := by decide +kernel
theorem tyX8_ok : ∀ k, k < 7 → parseFieldDescriptor (TX8 k).2.2.1 = some (tyX8 k) := by decide +kernel
abbrev cX8_init : ByteArray := prog_5_method_1_code
def yX8_init : MethodName := ⟨RX8, "<init>", "()V"⟩
def dkwX8_init_2 : List UInt8 := [181, 0, 29, 177]
abbrev dktX8_init_2 : List UInt8 := dkwX8_init_2 ++ []
def dkwX8_init_1 : List UInt8 := [181, 0, 19, 42, 187, 0, 22, 89, 183, 0, 24, 181, 0, 25, 42, 187, 0, 22, 89, 183, 0, 24]
abbrev dktX8_init_1 : List UInt8 := dkwX8_init_1 ++ dktX8_init_2
def dkwX8_init_0 : List UInt8 := [42, 183, 0, 1, 42, 16, 12, 181, 0, 7, 42, 16, 8, 181, 0, 13, 42, 7, 181, 0, 16, 42, 16, 100]
abbrev dktX8_init_0 : List UInt8 := dkwX8_init_0 ++ dktX8_init_1
theorem dksX8_init_0 : cX8_init.data.toList.drop 0 = dktX8_init_0 := by decide +kernel
theorem dksX8_init_1 : cX8_init.data.toList.drop 24 = dktX8_init_1 := dk_seg dksX8_init_0 24 rfl rfl
theorem dksX8_init_2 : cX8_init.data.toList.drop 46 = dktX8_init_2 := dk_seg dksX8_init_1 22 rfl rfl
theorem dX8_init_0 : decode cX8_init 0 = .ok (.aload_n 0, 1) := dk_42 (dk_at dksX8_init_0 0 rfl rfl)
theorem dX8_init_1 : decode cX8_init 1 = .ok (.invokespecial 1, 3) := dk_183 0 1 (dk_at dksX8_init_0 1 rfl rfl)
theorem dX8_init_4 : decode cX8_init 4 = .ok (.aload_n 0, 1) := dk_42 (dk_at dksX8_init_0 4 rfl rfl)
theorem dX8_init_5 : decode cX8_init 5 = .ok (.bipush 12, 2) := dk_16 12 (dk_at dksX8_init_0 5 rfl rfl)
theorem dX8_init_7 : decode cX8_init 7 = .ok (.putfield 7, 3) := dk_181 0 7 (dk_at dksX8_init_0 7 rfl rfl)
theorem dX8_init_10 : decode cX8_init 10 = .ok (.aload_n 0, 1) := dk_42 (dk_at dksX8_init_0 10 rfl rfl)
theorem dX8_init_11 : decode cX8_init 11 = .ok (.bipush 8, 2) := dk_16 8 (dk_at dksX8_init_0 11 rfl rfl)
theorem dX8_init_13 : decode cX8_init 13 = .ok (.putfield 13, 3) := dk_181 0 13 (dk_at dksX8_init_0 13 rfl rfl)
theorem dX8_init_16 : decode cX8_init 16 = .ok (.aload_n 0, 1) := dk_42 (dk_at dksX8_init_0 16 rfl rfl)
theorem dX8_init_17 : decode cX8_init 17 = .ok (.iconst 4, 1) := dk_7 (dk_at dksX8_init_0 17 rfl rfl)
theorem dX8_init_18 : decode cX8_init 18 = .ok (.putfield 16, 3) := dk_181 0 16 (dk_at dksX8_init_0 18 rfl rfl)
theorem dX8_init_21 : decode cX8_init 21 = .ok (.aload_n 0, 1) := dk_42 (dk_at dksX8_init_0 21 rfl rfl)
theorem dX8_init_22 : decode cX8_init 22 = .ok (.bipush 100, 2) := dk_16 100 (dk_at dksX8_init_0 22 rfl rfl)
theorem dX8_init_24 : decode cX8_init 24 = .ok (.putfield 19, 3) := dk_181 0 19 (dk_at dksX8_init_1 0 rfl rfl)
theorem dX8_init_27 : decode cX8_init 27 = .ok (.aload_n 0, 1) := dk_42 (dk_at dksX8_init_1 3 rfl rfl)
theorem dX8_init_28 : decode cX8_init 28 = .ok (.new 22, 3) := dk_187 0 22 (dk_at dksX8_init_1 4 rfl rfl)
theorem dX8_init_31 : decode cX8_init 31 = .ok (.dup, 1) := dk_89 (dk_at dksX8_init_1 7 rfl rfl)
theorem dX8_init_32 : decode cX8_init 32 = .ok (.invokespecial 24, 3) := dk_183 0 24 (dk_at dksX8_init_1 8 rfl rfl)
theorem dX8_init_35 : decode cX8_init 35 = .ok (.putfield 25, 3) := dk_181 0 25 (dk_at dksX8_init_1 11 rfl rfl)
theorem dX8_init_38 : decode cX8_init 38 = .ok (.aload_n 0, 1) := dk_42 (dk_at dksX8_init_1 14 rfl rfl)
theorem dX8_init_39 : decode cX8_init 39 = .ok (.new 22, 3) := dk_187 0 22 (dk_at dksX8_init_1 15 rfl rfl)
theorem dX8_init_42 : decode cX8_init 42 = .ok (.dup, 1) := dk_89 (dk_at dksX8_init_1 18 rfl rfl)
theorem dX8_init_43 : decode cX8_init 43 = .ok (.invokespecial 24, 3) := dk_183 0 24 (dk_at dksX8_init_1 19 rfl rfl)
theorem dX8_init_46 : decode cX8_init 46 = .ok (.putfield 29, 3) := dk_181 0 29 (dk_at dksX8_init_2 0 rfl rfl)
theorem dX8_init_49 : decode cX8_init 49 = .ok (.return_, 1) := dk_177 (dk_at dksX8_init_2 3 rfl rfl)
abbrev cX8_isAway : ByteArray := prog_5_method_2_code
def yX8_isAway : MethodName := ⟨RX8, "isAway", "(I)Z"⟩
def dkwX8_isAway_2 : List UInt8 := [153, 0, 5, 4, 172, 132, 2, 1, 167, 255, 205, 3, 172]
abbrev dktX8_isAway_2 : List UInt8 := dkwX8_isAway_2 ++ []
def dkwX8_isAway_1 : List UInt8 := [192, 0, 40, 180, 0, 42, 42, 180, 0, 25, 28, 182, 0, 36, 192, 0, 40, 180, 0, 45, 184, 0, 48]
abbrev dktX8_isAway_1 : List UInt8 := dkwX8_isAway_1 ++ dktX8_isAway_2
def dkwX8_isAway_0 : List UInt8 := [3, 61, 28, 42, 180, 0, 25, 182, 0, 32, 162, 0, 46, 27, 42, 180, 0, 25, 28, 182, 0, 36]
abbrev dktX8_isAway_0 : List UInt8 := dkwX8_isAway_0 ++ dktX8_isAway_1
theorem dksX8_isAway_0 : cX8_isAway.data.toList.drop 0 = dktX8_isAway_0 := by decide +kernel
theorem dksX8_isAway_1 : cX8_isAway.data.toList.drop 22 = dktX8_isAway_1 := dk_seg dksX8_isAway_0 22 rfl rfl
theorem dksX8_isAway_2 : cX8_isAway.data.toList.drop 45 = dktX8_isAway_2 := dk_seg dksX8_isAway_1 23 rfl rfl
theorem dX8_isAway_0 : decode cX8_isAway 0 = .ok (.iconst 0, 1) := dk_3 (dk_at dksX8_isAway_0 0 rfl rfl)
theorem dX8_isAway_1 : decode cX8_isAway 1 = .ok (.istore_n 2, 1) := dk_61 (dk_at dksX8_isAway_0 1 rfl rfl)
theorem dX8_isAway_2 : decode cX8_isAway 2 = .ok (.iload_n 2, 1) := dk_28 (dk_at dksX8_isAway_0 2 rfl rfl)
theorem dX8_isAway_3 : decode cX8_isAway 3 = .ok (.aload_n 0, 1) := dk_42 (dk_at dksX8_isAway_0 3 rfl rfl)
theorem dX8_isAway_4 : decode cX8_isAway 4 = .ok (.getfield 25, 3) := dk_180 0 25 (dk_at dksX8_isAway_0 4 rfl rfl)
theorem dX8_isAway_7 : decode cX8_isAway 7 = .ok (.invokevirtual 32, 3) := dk_182 0 32 (dk_at dksX8_isAway_0 7 rfl rfl)
theorem dX8_isAway_10 : decode cX8_isAway 10 = .ok (.if_icmp .ge 46, 3) := dk_162 0 46 (dk_at dksX8_isAway_0 10 rfl rfl)
theorem dX8_isAway_13 : decode cX8_isAway 13 = .ok (.iload_n 1, 1) := dk_27 (dk_at dksX8_isAway_0 13 rfl rfl)
theorem dX8_isAway_14 : decode cX8_isAway 14 = .ok (.aload_n 0, 1) := dk_42 (dk_at dksX8_isAway_0 14 rfl rfl)
theorem dX8_isAway_15 : decode cX8_isAway 15 = .ok (.getfield 25, 3) := dk_180 0 25 (dk_at dksX8_isAway_0 15 rfl rfl)
theorem dX8_isAway_18 : decode cX8_isAway 18 = .ok (.iload_n 2, 1) := dk_28 (dk_at dksX8_isAway_0 18 rfl rfl)
theorem dX8_isAway_19 : decode cX8_isAway 19 = .ok (.invokevirtual 36, 3) := dk_182 0 36 (dk_at dksX8_isAway_0 19 rfl rfl)
theorem dX8_isAway_22 : decode cX8_isAway 22 = .ok (.checkcast 40, 3) := dk_192 0 40 (dk_at dksX8_isAway_1 0 rfl rfl)
theorem dX8_isAway_25 : decode cX8_isAway 25 = .ok (.getfield 42, 3) := dk_180 0 42 (dk_at dksX8_isAway_1 3 rfl rfl)
theorem dX8_isAway_28 : decode cX8_isAway 28 = .ok (.aload_n 0, 1) := dk_42 (dk_at dksX8_isAway_1 6 rfl rfl)
theorem dX8_isAway_29 : decode cX8_isAway 29 = .ok (.getfield 25, 3) := dk_180 0 25 (dk_at dksX8_isAway_1 7 rfl rfl)
theorem dX8_isAway_32 : decode cX8_isAway 32 = .ok (.iload_n 2, 1) := dk_28 (dk_at dksX8_isAway_1 10 rfl rfl)
theorem dX8_isAway_33 : decode cX8_isAway 33 = .ok (.invokevirtual 36, 3) := dk_182 0 36 (dk_at dksX8_isAway_1 11 rfl rfl)
theorem dX8_isAway_36 : decode cX8_isAway 36 = .ok (.checkcast 40, 3) := dk_192 0 40 (dk_at dksX8_isAway_1 14 rfl rfl)
theorem dX8_isAway_39 : decode cX8_isAway 39 = .ok (.getfield 45, 3) := dk_180 0 45 (dk_at dksX8_isAway_1 17 rfl rfl)
theorem dX8_isAway_42 : decode cX8_isAway 42 = .ok (.invokestatic 48, 3) := dk_184 0 48 (dk_at dksX8_isAway_1 20 rfl rfl)
theorem dX8_isAway_45 : decode cX8_isAway 45 = .ok (.ifCond .eq 5, 3) := dk_153 0 5 (dk_at dksX8_isAway_2 0 rfl rfl)
theorem dX8_isAway_48 : decode cX8_isAway 48 = .ok (.iconst 1, 1) := dk_4 (dk_at dksX8_isAway_2 3 rfl rfl)
theorem dX8_isAway_49 : decode cX8_isAway 49 = .ok (.ireturn, 1) := dk_172 (dk_at dksX8_isAway_2 4 rfl rfl)
theorem dX8_isAway_50 : decode cX8_isAway 50 = .ok (.iinc 2 1, 3) := dk_132 2 1 (dk_at dksX8_isAway_2 5 rfl rfl)
theorem dX8_isAway_53 : decode cX8_isAway 53 = .ok (.goto (-51), 3) := dk_167 255 205 (dk_at dksX8_isAway_2 8 rfl rfl)
theorem dX8_isAway_56 : decode cX8_isAway 56 = .ok (.iconst 0, 1) := dk_3 (dk_at dksX8_isAway_2 11 rfl rfl)
theorem dX8_isAway_57 : decode cX8_isAway 57 = .ok (.ireturn, 1) := dk_172 (dk_at dksX8_isAway_2 12 rfl rfl)
abbrev cX8_earns : ByteArray := prog_5_method_3_code
def yX8_earns : MethodName := ⟨RX8, "earns", "(LOperaHouse$Asked;)I"⟩
def dkwX8_earns_3 : List UInt8 := [132, 3, 1, 167, 255, 187, 28, 172]
abbrev dktX8_earns_3 : List UInt8 := dkwX8_earns_3 ++ []
def dkwX8_earns_2 : List UInt8 := [182, 0, 60, 153, 0, 20, 28, 42, 180, 0, 29, 29, 182, 0, 36, 192, 0, 54, 180, 0, 66, 96, 61]
abbrev dktX8_earns_2 : List UInt8 := dkwX8_earns_2 ++ dktX8_earns_3
def dkwX8_earns_1 : List UInt8 := [192, 0, 54, 180, 0, 56, 198, 0, 24, 42, 180, 0, 29, 29, 182, 0, 36, 192, 0, 54, 180, 0, 56, 43]
abbrev dktX8_earns_1 : List UInt8 := dkwX8_earns_1 ++ dktX8_earns_2
def dkwX8_earns_0 : List UInt8 := [3, 61, 3, 62, 29, 42, 180, 0, 29, 182, 0, 32, 162, 0, 64, 42, 180, 0, 29, 29, 182, 0, 36]
abbrev dktX8_earns_0 : List UInt8 := dkwX8_earns_0 ++ dktX8_earns_1
theorem dksX8_earns_0 : cX8_earns.data.toList.drop 0 = dktX8_earns_0 := by decide +kernel
theorem dksX8_earns_1 : cX8_earns.data.toList.drop 23 = dktX8_earns_1 := dk_seg dksX8_earns_0 23 rfl rfl
theorem dksX8_earns_2 : cX8_earns.data.toList.drop 47 = dktX8_earns_2 := dk_seg dksX8_earns_1 24 rfl rfl
theorem dksX8_earns_3 : cX8_earns.data.toList.drop 70 = dktX8_earns_3 := dk_seg dksX8_earns_2 23 rfl rfl
theorem dX8_earns_0 : decode cX8_earns 0 = .ok (.iconst 0, 1) := dk_3 (dk_at dksX8_earns_0 0 rfl rfl)
theorem dX8_earns_1 : decode cX8_earns 1 = .ok (.istore_n 2, 1) := dk_61 (dk_at dksX8_earns_0 1 rfl rfl)
theorem dX8_earns_2 : decode cX8_earns 2 = .ok (.iconst 0, 1) := dk_3 (dk_at dksX8_earns_0 2 rfl rfl)
theorem dX8_earns_3 : decode cX8_earns 3 = .ok (.istore_n 3, 1) := dk_62 (dk_at dksX8_earns_0 3 rfl rfl)
theorem dX8_earns_4 : decode cX8_earns 4 = .ok (.iload_n 3, 1) := dk_29 (dk_at dksX8_earns_0 4 rfl rfl)
theorem dX8_earns_5 : decode cX8_earns 5 = .ok (.aload_n 0, 1) := dk_42 (dk_at dksX8_earns_0 5 rfl rfl)
theorem dX8_earns_6 : decode cX8_earns 6 = .ok (.getfield 29, 3) := dk_180 0 29 (dk_at dksX8_earns_0 6 rfl rfl)
theorem dX8_earns_9 : decode cX8_earns 9 = .ok (.invokevirtual 32, 3) := dk_182 0 32 (dk_at dksX8_earns_0 9 rfl rfl)
theorem dX8_earns_12 : decode cX8_earns 12 = .ok (.if_icmp .ge 64, 3) := dk_162 0 64 (dk_at dksX8_earns_0 12 rfl rfl)
theorem dX8_earns_15 : decode cX8_earns 15 = .ok (.aload_n 0, 1) := dk_42 (dk_at dksX8_earns_0 15 rfl rfl)
theorem dX8_earns_16 : decode cX8_earns 16 = .ok (.getfield 29, 3) := dk_180 0 29 (dk_at dksX8_earns_0 16 rfl rfl)
theorem dX8_earns_19 : decode cX8_earns 19 = .ok (.iload_n 3, 1) := dk_29 (dk_at dksX8_earns_0 19 rfl rfl)
theorem dX8_earns_20 : decode cX8_earns 20 = .ok (.invokevirtual 36, 3) := dk_182 0 36 (dk_at dksX8_earns_0 20 rfl rfl)
theorem dX8_earns_23 : decode cX8_earns 23 = .ok (.checkcast 54, 3) := dk_192 0 54 (dk_at dksX8_earns_1 0 rfl rfl)
theorem dX8_earns_26 : decode cX8_earns 26 = .ok (.getfield 56, 3) := dk_180 0 56 (dk_at dksX8_earns_1 3 rfl rfl)
theorem dX8_earns_29 : decode cX8_earns 29 = .ok (.ifnull 24, 3) := dk_198 0 24 (dk_at dksX8_earns_1 6 rfl rfl)
theorem dX8_earns_32 : decode cX8_earns 32 = .ok (.aload_n 0, 1) := dk_42 (dk_at dksX8_earns_1 9 rfl rfl)
theorem dX8_earns_33 : decode cX8_earns 33 = .ok (.getfield 29, 3) := dk_180 0 29 (dk_at dksX8_earns_1 10 rfl rfl)
theorem dX8_earns_36 : decode cX8_earns 36 = .ok (.iload_n 3, 1) := dk_29 (dk_at dksX8_earns_1 13 rfl rfl)
theorem dX8_earns_37 : decode cX8_earns 37 = .ok (.invokevirtual 36, 3) := dk_182 0 36 (dk_at dksX8_earns_1 14 rfl rfl)
theorem dX8_earns_40 : decode cX8_earns 40 = .ok (.checkcast 54, 3) := dk_192 0 54 (dk_at dksX8_earns_1 17 rfl rfl)
theorem dX8_earns_43 : decode cX8_earns 43 = .ok (.getfield 56, 3) := dk_180 0 56 (dk_at dksX8_earns_1 20 rfl rfl)
theorem dX8_earns_46 : decode cX8_earns 46 = .ok (.aload_n 1, 1) := dk_43 (dk_at dksX8_earns_1 23 rfl rfl)
theorem dX8_earns_47 : decode cX8_earns 47 = .ok (.invokevirtual 60, 3) := dk_182 0 60 (dk_at dksX8_earns_2 0 rfl rfl)
theorem dX8_earns_50 : decode cX8_earns 50 = .ok (.ifCond .eq 20, 3) := dk_153 0 20 (dk_at dksX8_earns_2 3 rfl rfl)
theorem dX8_earns_53 : decode cX8_earns 53 = .ok (.iload_n 2, 1) := dk_28 (dk_at dksX8_earns_2 6 rfl rfl)
theorem dX8_earns_54 : decode cX8_earns 54 = .ok (.aload_n 0, 1) := dk_42 (dk_at dksX8_earns_2 7 rfl rfl)
theorem dX8_earns_55 : decode cX8_earns 55 = .ok (.getfield 29, 3) := dk_180 0 29 (dk_at dksX8_earns_2 8 rfl rfl)
theorem dX8_earns_58 : decode cX8_earns 58 = .ok (.iload_n 3, 1) := dk_29 (dk_at dksX8_earns_2 11 rfl rfl)
theorem dX8_earns_59 : decode cX8_earns 59 = .ok (.invokevirtual 36, 3) := dk_182 0 36 (dk_at dksX8_earns_2 12 rfl rfl)
theorem dX8_earns_62 : decode cX8_earns 62 = .ok (.checkcast 54, 3) := dk_192 0 54 (dk_at dksX8_earns_2 15 rfl rfl)
theorem dX8_earns_65 : decode cX8_earns 65 = .ok (.getfield 66, 3) := dk_180 0 66 (dk_at dksX8_earns_2 18 rfl rfl)
theorem dX8_earns_68 : decode cX8_earns 68 = .ok (.iadd, 1) := dk_96 (dk_at dksX8_earns_2 21 rfl rfl)
theorem dX8_earns_69 : decode cX8_earns 69 = .ok (.istore_n 2, 1) := dk_61 (dk_at dksX8_earns_2 22 rfl rfl)
theorem dX8_earns_70 : decode cX8_earns 70 = .ok (.iinc 3 1, 3) := dk_132 3 1 (dk_at dksX8_earns_3 0 rfl rfl)
theorem dX8_earns_73 : decode cX8_earns 73 = .ok (.goto (-69), 3) := dk_167 255 187 (dk_at dksX8_earns_3 3 rfl rfl)
theorem dX8_earns_76 : decode cX8_earns 76 = .ok (.iload_n 2, 1) := dk_28 (dk_at dksX8_earns_3 6 rfl rfl)
theorem dX8_earns_77 : decode cX8_earns 77 = .ok (.ireturn, 1) := dk_172 (dk_at dksX8_earns_3 7 rfl rfl)
theorem q143 : (Jvm.Cond.initialized "OperaHouse$Contract") ∈ lw_all := lw_g (lw_at lw_m1 15 rfl) rfl
theorem q530 : (Jvm.Cond.selects "OperaHouse$Contract" ({ cls := "java/lang/Object", name := "getClass", desc := "()Ljava/lang/Class;" } : Jvm.MethodName) ({ cls := "java/lang/Object", name := "getClass", desc := "()Ljava/lang/Class;" } : Jvm.MethodName)) ∈ lw_all := lw_g (lw_at lw_m2 162 rfl) rfl
theorem q572 : (Jvm.Cond.instantiable "OperaHouse$Contract" (7 : Nat)) ∈ lw_all := lw_g (lw_at lw_m2 204 rfl) rfl
theorem q574 : (Jvm.Cond.instanceMethod ({ cls := "OperaHouse$Contract", name := "<init>", desc := "()V" } : Jvm.MethodName)) ∈ lw_all := lw_g (lw_at lw_m2 206 rfl) rfl
theorem q575 : (Jvm.Cond.code ({ cls := "OperaHouse$Contract", name := "<init>", desc := "()V" } : Jvm.MethodName) prog_5_method_1_code (1 : Nat) (Option.none : Option Jvm.ClassFile.FieldType)) ∈ lw_all := lw_g (lw_at lw_m2 207 rfl) rfl
theorem q576 : (Jvm.Cond.methodLink "OperaHouse$Contract" (1 : Nat) ({ cls := "java/lang/Object", name := "<init>", desc := "()V" } : Jvm.MethodName)) ∈ lw_all := lw_g (lw_at lw_m2 208 rfl) rfl
theorem q577 : (Jvm.Cond.classLink "OperaHouse$Contract" (22 : Nat) "java/util/ArrayList") ∈ lw_all := lw_g (lw_at lw_m2 209 rfl) rfl
theorem q578 : (Jvm.Cond.methodLink "OperaHouse$Contract" (24 : Nat) ({ cls := "java/util/ArrayList", name := "<init>", desc := "()V" } : Jvm.MethodName)) ∈ lw_all := lw_g (lw_at lw_m2 210 rfl) rfl
theorem q579 : (Jvm.Cond.fieldLink "OperaHouse$Contract" (7 : Nat) "OperaHouse$Contract" "rest" "I") ∈ lw_all := lw_g (lw_at lw_m2 211 rfl) rfl
theorem q582 : (Jvm.Cond.fieldLink "OperaHouse$Contract" (13 : Nat) "OperaHouse$Contract" "day" "I") ∈ lw_all := lw_g (lw_at lw_m2 214 rfl) rfl
theorem q585 : (Jvm.Cond.fieldLink "OperaHouse$Contract" (16 : Nat) "OperaHouse$Contract" "week" "I") ∈ lw_all := lw_g (lw_at lw_m2 217 rfl) rfl
theorem q588 : (Jvm.Cond.fieldLink "OperaHouse$Contract" (19 : Nat) "OperaHouse$Contract" "voice" "I") ∈ lw_all := lw_g (lw_at lw_m2 220 rfl) rfl
theorem q593 : (Jvm.Cond.fieldLink "OperaHouse$Contract" (25 : Nat) "OperaHouse$Contract" "leaves" "Ljava/util/ArrayList;") ∈ lw_all := lw_g (lw_at lw_m2 225 rfl) rfl
theorem q595 : (Jvm.Cond.fieldLink "OperaHouse$Contract" (29 : Nat) "OperaHouse$Contract" "fees" "Ljava/util/ArrayList;") ∈ lw_all := lw_g (lw_at lw_m2 227 rfl) rfl
theorem q597 : (Jvm.Cond.lays "OperaHouse$Contract" "OperaHouse$Contract" "rest" "I") ∈ lw_all := lw_g (lw_at lw_m2 229 rfl) rfl
theorem q598 : (Jvm.Cond.soleField "OperaHouse$Contract" "rest") ∈ lw_all := lw_g (lw_at lw_m2 230 rfl) rfl
theorem q599 : (Jvm.Cond.lays "OperaHouse$Contract" "OperaHouse$Contract" "day" "I") ∈ lw_all := lw_g (lw_at lw_m2 231 rfl) rfl
theorem q600 : (Jvm.Cond.soleField "OperaHouse$Contract" "day") ∈ lw_all := lw_g (lw_at lw_m2 232 rfl) rfl
theorem q601 : (Jvm.Cond.lays "OperaHouse$Contract" "OperaHouse$Contract" "week" "I") ∈ lw_all := lw_g (lw_at lw_m2 233 rfl) rfl
theorem q602 : (Jvm.Cond.soleField "OperaHouse$Contract" "week") ∈ lw_all := lw_g (lw_at lw_m2 234 rfl) rfl
theorem q603 : (Jvm.Cond.lays "OperaHouse$Contract" "OperaHouse$Contract" "voice" "I") ∈ lw_all := lw_g (lw_at lw_m2 235 rfl) rfl
theorem q604 : (Jvm.Cond.soleField "OperaHouse$Contract" "voice") ∈ lw_all := lw_g (lw_at lw_m2 236 rfl) rfl
theorem q605 : (Jvm.Cond.lays "OperaHouse$Contract" "OperaHouse$Contract" "many" "I") ∈ lw_all := lw_g (lw_at lw_m2 237 rfl) rfl
theorem q606 : (Jvm.Cond.soleField "OperaHouse$Contract" "many") ∈ lw_all := lw_g (lw_at lw_m2 238 rfl) rfl
theorem q607 : (Jvm.Cond.laysFinal "OperaHouse$Contract" "OperaHouse$Contract" "leaves" "Ljava/util/ArrayList;") ∈ lw_all := lw_g (lw_at lw_m2 239 rfl) rfl
theorem q608 : (Jvm.Cond.soleField "OperaHouse$Contract" "leaves") ∈ lw_all := lw_g (lw_at lw_m3 0 rfl) rfl
theorem q609 : (Jvm.Cond.laysFinal "OperaHouse$Contract" "OperaHouse$Contract" "fees" "Ljava/util/ArrayList;") ∈ lw_all := lw_g (lw_at lw_m3 1 rfl) rfl
theorem q610 : (Jvm.Cond.soleField "OperaHouse$Contract" "fees") ∈ lw_all := lw_g (lw_at lw_m3 2 rfl) rfl
theorem q611 : (Jvm.Cond.superclass "OperaHouse$Contract" "java/lang/Object") ∈ lw_all := lw_g (lw_at lw_m3 3 rfl) rfl
theorem q1071 : (Jvm.Cond.fieldLinkNest "OperaHouse$Contract" (42 : Nat) "OperaHouse$Leave" "from" "I" "OperaHouse") ∈ lw_tbl := lw_at lw_m4 223 rfl
theorem q1073 : (Jvm.Cond.fieldLinkNest "OperaHouse$Contract" (45 : Nat) "OperaHouse$Leave" "to" "I" "OperaHouse") ∈ lw_tbl := lw_at lw_m4 225 rfl
theorem q1255 : (Jvm.Cond.fieldLinkNest "OperaHouse$Contract" (66 : Nat) "OperaHouse$Fee" "much" "I" "OperaHouse") ∈ lw_tbl := lw_at lw_m5 167 rfl
theorem q1257 : (Jvm.Cond.fieldLinkNest "OperaHouse$Contract" (56 : Nat) "OperaHouse$Fee" "cond" "LOperaHouse$Cond;" "OperaHouse") ∈ lw_tbl := lw_at lw_m5 169 rfl
theorem q1508 : (Jvm.Cond.instanceMethod ({ cls := "OperaHouse$Contract", name := "isAway", desc := "(I)Z" } : Jvm.MethodName)) ∈ lw_all := lw_g (lw_at lw_m6 180 rfl) rfl
theorem q1509 : (Jvm.Cond.selects "OperaHouse$Contract" ({ cls := "OperaHouse$Contract", name := "isAway", desc := "(I)Z" } : Jvm.MethodName) ({ cls := "OperaHouse$Contract", name := "isAway", desc := "(I)Z" } : Jvm.MethodName)) ∈ lw_all := lw_g (lw_at lw_m6 181 rfl) rfl
theorem q1510 : (Jvm.Cond.code ({ cls := "OperaHouse$Contract", name := "isAway", desc := "(I)Z" } : Jvm.MethodName) prog_5_method_2_code (3 : Nat) (Option.some Jvm.ClassFile.FieldType.boolean)) ∈ lw_all := lw_g (lw_at lw_m6 182 rfl) rfl
theorem q1511 : (Jvm.Cond.methodLink "OperaHouse$Contract" (32 : Nat) ({ cls := "java/util/ArrayList", name := "size", desc := "()I" } : Jvm.MethodName)) ∈ lw_all := lw_g (lw_at lw_m6 183 rfl) rfl
theorem q1512 : (Jvm.Cond.methodLink "OperaHouse$Contract" (36 : Nat) ({ cls := "java/util/ArrayList", name := "get", desc := "(I)Ljava/lang/Object;" } : Jvm.MethodName)) ∈ lw_all := lw_g (lw_at lw_m6 184 rfl) rfl
theorem q1513 : (Jvm.Cond.classLink "OperaHouse$Contract" (40 : Nat) "OperaHouse$Leave") ∈ lw_all := lw_g (lw_at lw_m6 185 rfl) rfl
theorem q1514 : (Jvm.Cond.methodLinkNest "OperaHouse$Contract" (48 : Nat) ({ cls := "OperaHouse", name := "isIn", desc := "(III)Z" } : Jvm.MethodName) "OperaHouse") ∈ lw_tbl := lw_at lw_m6 186 rfl
theorem q1575 : (Jvm.Cond.instanceMethod ({ cls := "OperaHouse$Contract", name := "earns", desc := "(LOperaHouse$Asked;)I" } : Jvm.MethodName)) ∈ lw_all := lw_g (lw_at lw_m7 7 rfl) rfl
theorem q1576 : (Jvm.Cond.selects "OperaHouse$Contract" ({ cls := "OperaHouse$Contract", name := "earns", desc := "(LOperaHouse$Asked;)I" } : Jvm.MethodName) ({ cls := "OperaHouse$Contract", name := "earns", desc := "(LOperaHouse$Asked;)I" } : Jvm.MethodName)) ∈ lw_all := lw_g (lw_at lw_m7 8 rfl) rfl
theorem q1577 : (Jvm.Cond.code ({ cls := "OperaHouse$Contract", name := "earns", desc := "(LOperaHouse$Asked;)I" } : Jvm.MethodName) prog_5_method_3_code (4 : Nat) (Option.some Jvm.ClassFile.FieldType.int)) ∈ lw_all := lw_g (lw_at lw_m7 9 rfl) rfl
theorem q1578 : (Jvm.Cond.classLink "OperaHouse$Contract" (54 : Nat) "OperaHouse$Fee") ∈ lw_all := lw_g (lw_at lw_m7 10 rfl) rfl
theorem q1579 : (Jvm.Cond.methodLink "OperaHouse$Contract" (60 : Nat) ({ cls := "OperaHouse$Cond", name := "holds", desc := "(LOperaHouse$Asked;)Z" } : Jvm.MethodName)) ∈ lw_all := lw_g (lw_at lw_m7 11 rfl) rfl
theorem q2469 : (Jvm.Cond.castable "OperaHouse$Contract" "java/lang/Object") ∈ lw_tbl := lw_at lw_m10 181 rfl
theorem in_X8 : ∀ w ∈ wsX80, w ∈ lw_all := lw_in wsX80 [597, 599, 601, 603, 605, 607, 609] (by decide +kernel) (by decide +kernel)

/-! OperaHouse$Reader -/
set_option maxRecDepth 100000
def RX9 : String := "OperaHouse$Reader"
def TX9 : u_T := fun k => match k with
  | 0 => ("OperaHouse$Reader", "tape", "[B", true)
  | 1 => ("OperaHouse$Reader", "size", "I", true)
  | 2 => ("OperaHouse$Reader", "to", "I", false)
  | 3 => ("OperaHouse$Reader", "kind", "I", false)
  | 4 => ("OperaHouse$Reader", "from", "I", false)
  | 5 => ("OperaHouse$Reader", "number", "I", false)
  | 6 => ("OperaHouse$Reader", "sign", "I", false)
  | 7 => ("OperaHouse$Reader", "told", "I", false)
  | 8 => ("OperaHouse$Reader", "ones", "I", false)
  | 9 => ("OperaHouse$Reader", "within", "I", false)
  | 10 => ("OperaHouse$Reader", "word", "Ljava/lang/String;", false)
  | _ => ("OperaHouse$Reader", "contract", "LOperaHouse$Contract;", true)
def tyX9 : Nat → FieldType := fun k => match k with
  | 0 => .array .byte
  | 1 => .int
  | 2 => .int
  | 3 => .int
  | 4 => .int
  | 5 => .int
  | 6 => .int
  | 7 => .int
  | 8 => .int
  | 9 => .int
  | 10 => .object "java/lang/String"
  | _ => .object "OperaHouse$Contract"
abbrev wsX90 : List Cond := u_ws RX9 TX9 12
theorem nmX9 : ∀ a, a < 12 → ∀ b, b < 12 → a ≠ b → (TX9 a).2.1 ≠ (TX9 b).2.1 := by decide +kernel
theorem tyX9_ok : ∀ k, k < 12 → parseFieldDescriptor (TX9 k).2.2.1 = some (tyX9 k) := by decide +kernel
abbrev cX9_init : ByteArray := prog_13_method_1_code
def yX9_init : MethodName := ⟨RX9, "<init>", "([BI)V"⟩
def dkwX9_init_1 : List UInt8 := [181, 0, 24, 42, 28, 181, 0, 28, 177]
abbrev dktX9_init_1 : List UInt8 := dkwX9_init_1 ++ []
def dkwX9_init_0 : List UInt8 := [42, 183, 0, 3, 42, 18, 9, 181, 0, 11, 42, 187, 0, 17, 89, 183, 0, 19, 181, 0, 20, 42, 43]
abbrev dktX9_init_0 : List UInt8 := dkwX9_init_0 ++ dktX9_init_1
theorem dksX9_init_0 : cX9_init.data.toList.drop 0 = dktX9_init_0 := by decide +kernel
theorem dksX9_init_1 : cX9_init.data.toList.drop 23 = dktX9_init_1 := dk_seg dksX9_init_0 23 rfl rfl
theorem dX9_init_0 : decode cX9_init 0 = .ok (.aload_n 0, 1) := dk_42 (dk_at dksX9_init_0 0 rfl rfl)
theorem dX9_init_1 : decode cX9_init 1 = .ok (.invokespecial 3, 3) := dk_183 0 3 (dk_at dksX9_init_0 1 rfl rfl)
theorem dX9_init_4 : decode cX9_init 4 = .ok (.aload_n 0, 1) := dk_42 (dk_at dksX9_init_0 4 rfl rfl)
theorem dX9_init_5 : decode cX9_init 5 = .ok (.ldc 9, 2) := dk_18 9 (dk_at dksX9_init_0 5 rfl rfl)
theorem dX9_init_7 : decode cX9_init 7 = .ok (.putfield 11, 3) := dk_181 0 11 (dk_at dksX9_init_0 7 rfl rfl)
theorem dX9_init_10 : decode cX9_init 10 = .ok (.aload_n 0, 1) := dk_42 (dk_at dksX9_init_0 10 rfl rfl)
theorem dX9_init_11 : decode cX9_init 11 = .ok (.new 17, 3) := dk_187 0 17 (dk_at dksX9_init_0 11 rfl rfl)
theorem dX9_init_14 : decode cX9_init 14 = .ok (.dup, 1) := dk_89 (dk_at dksX9_init_0 14 rfl rfl)
theorem dX9_init_15 : decode cX9_init 15 = .ok (.invokespecial 19, 3) := dk_183 0 19 (dk_at dksX9_init_0 15 rfl rfl)
theorem dX9_init_18 : decode cX9_init 18 = .ok (.putfield 20, 3) := dk_181 0 20 (dk_at dksX9_init_0 18 rfl rfl)
theorem dX9_init_21 : decode cX9_init 21 = .ok (.aload_n 0, 1) := dk_42 (dk_at dksX9_init_0 21 rfl rfl)
theorem dX9_init_22 : decode cX9_init 22 = .ok (.aload_n 1, 1) := dk_43 (dk_at dksX9_init_0 22 rfl rfl)
theorem dX9_init_23 : decode cX9_init 23 = .ok (.putfield 24, 3) := dk_181 0 24 (dk_at dksX9_init_1 0 rfl rfl)
theorem dX9_init_26 : decode cX9_init 26 = .ok (.aload_n 0, 1) := dk_42 (dk_at dksX9_init_1 3 rfl rfl)
theorem dX9_init_27 : decode cX9_init 27 = .ok (.iload_n 2, 1) := dk_28 (dk_at dksX9_init_1 4 rfl rfl)
theorem dX9_init_28 : decode cX9_init 28 = .ok (.putfield 28, 3) := dk_181 0 28 (dk_at dksX9_init_1 5 rfl rfl)
theorem dX9_init_31 : decode cX9_init 31 = .ok (.return_, 1) := dk_177 (dk_at dksX9_init_1 8 rfl rfl)
abbrev cX9_read : ByteArray := prog_13_method_10_code
def yX9_read : MethodName := ⟨RX9, "read", "()LOperaHouse$Contract;"⟩
def dkwX9_read_2 : List UInt8 := [180, 0, 20, 176]
abbrev dktX9_read_2 : List UInt8 := dkwX9_read_2 ++ []
def dkwX9_read_1 : List UInt8 := [182, 0, 85, 42, 182, 0, 93, 42, 180, 0, 20, 89, 180, 0, 102, 4, 96, 181, 0, 102, 167, 255, 217, 42]
abbrev dktX9_read_1 : List UInt8 := dkwX9_read_1 ++ dktX9_read_2
def dkwX9_read_0 : List UInt8 := [42, 182, 0, 93, 42, 180, 0, 42, 153, 0, 38, 42, 182, 0, 96, 42, 42, 16, 59, 182, 0, 99, 4]
abbrev dktX9_read_0 : List UInt8 := dkwX9_read_0 ++ dktX9_read_1
theorem dksX9_read_0 : cX9_read.data.toList.drop 0 = dktX9_read_0 := by decide +kernel
theorem dksX9_read_1 : cX9_read.data.toList.drop 23 = dktX9_read_1 := dk_seg dksX9_read_0 23 rfl rfl
theorem dksX9_read_2 : cX9_read.data.toList.drop 47 = dktX9_read_2 := dk_seg dksX9_read_1 24 rfl rfl
theorem dX9_read_0 : decode cX9_read 0 = .ok (.aload_n 0, 1) := dk_42 (dk_at dksX9_read_0 0 rfl rfl)
theorem dX9_read_1 : decode cX9_read 1 = .ok (.invokevirtual 93, 3) := dk_182 0 93 (dk_at dksX9_read_0 1 rfl rfl)
theorem dX9_read_4 : decode cX9_read 4 = .ok (.aload_n 0, 1) := dk_42 (dk_at dksX9_read_0 4 rfl rfl)
theorem dX9_read_5 : decode cX9_read 5 = .ok (.getfield 42, 3) := dk_180 0 42 (dk_at dksX9_read_0 5 rfl rfl)
theorem dX9_read_8 : decode cX9_read 8 = .ok (.ifCond .eq 38, 3) := dk_153 0 38 (dk_at dksX9_read_0 8 rfl rfl)
theorem dX9_read_11 : decode cX9_read 11 = .ok (.aload_n 0, 1) := dk_42 (dk_at dksX9_read_0 11 rfl rfl)
theorem dX9_read_12 : decode cX9_read 12 = .ok (.invokevirtual 96, 3) := dk_182 0 96 (dk_at dksX9_read_0 12 rfl rfl)
theorem dX9_read_15 : decode cX9_read 15 = .ok (.aload_n 0, 1) := dk_42 (dk_at dksX9_read_0 15 rfl rfl)
theorem dX9_read_16 : decode cX9_read 16 = .ok (.aload_n 0, 1) := dk_42 (dk_at dksX9_read_0 16 rfl rfl)
theorem dX9_read_17 : decode cX9_read 17 = .ok (.bipush 59, 2) := dk_16 59 (dk_at dksX9_read_0 17 rfl rfl)
theorem dX9_read_19 : decode cX9_read 19 = .ok (.invokevirtual 99, 3) := dk_182 0 99 (dk_at dksX9_read_0 19 rfl rfl)
theorem dX9_read_22 : decode cX9_read 22 = .ok (.iconst 1, 1) := dk_4 (dk_at dksX9_read_0 22 rfl rfl)
theorem dX9_read_23 : decode cX9_read 23 = .ok (.invokevirtual 85, 3) := dk_182 0 85 (dk_at dksX9_read_1 0 rfl rfl)
theorem dX9_read_26 : decode cX9_read 26 = .ok (.aload_n 0, 1) := dk_42 (dk_at dksX9_read_1 3 rfl rfl)
theorem dX9_read_27 : decode cX9_read 27 = .ok (.invokevirtual 93, 3) := dk_182 0 93 (dk_at dksX9_read_1 4 rfl rfl)
theorem dX9_read_30 : decode cX9_read 30 = .ok (.aload_n 0, 1) := dk_42 (dk_at dksX9_read_1 7 rfl rfl)
theorem dX9_read_31 : decode cX9_read 31 = .ok (.getfield 20, 3) := dk_180 0 20 (dk_at dksX9_read_1 8 rfl rfl)
theorem dX9_read_34 : decode cX9_read 34 = .ok (.dup, 1) := dk_89 (dk_at dksX9_read_1 11 rfl rfl)
theorem dX9_read_35 : decode cX9_read 35 = .ok (.getfield 102, 3) := dk_180 0 102 (dk_at dksX9_read_1 12 rfl rfl)
theorem dX9_read_38 : decode cX9_read 38 = .ok (.iconst 1, 1) := dk_4 (dk_at dksX9_read_1 15 rfl rfl)
theorem dX9_read_39 : decode cX9_read 39 = .ok (.iadd, 1) := dk_96 (dk_at dksX9_read_1 16 rfl rfl)
theorem dX9_read_40 : decode cX9_read 40 = .ok (.putfield 102, 3) := dk_181 0 102 (dk_at dksX9_read_1 17 rfl rfl)
theorem dX9_read_43 : decode cX9_read 43 = .ok (.goto (-39), 3) := dk_167 255 217 (dk_at dksX9_read_1 20 rfl rfl)
theorem dX9_read_46 : decode cX9_read 46 = .ok (.aload_n 0, 1) := dk_42 (dk_at dksX9_read_1 23 rfl rfl)
theorem dX9_read_47 : decode cX9_read 47 = .ok (.getfield 20, 3) := dk_180 0 20 (dk_at dksX9_read_2 0 rfl rfl)
theorem dX9_read_50 : decode cX9_read 50 = .ok (.areturn, 1) := dk_176 (dk_at dksX9_read_2 3 rfl rfl)
abbrev cX9_go : ByteArray := prog_13_method_5_code
def yX9_go : MethodName := ⟨RX9, "go", "()V"⟩
def dkwX9_go_15 : List UInt8 := [167, 0, 4, 8, 164, 0, 7, 4, 167, 0, 12, 28, 153, 0, 7, 5, 167, 0, 4, 6, 181, 0, 42, 177]
abbrev dktX9_go_15 : List UInt8 := dkwX9_go_15 ++ []
def dkwX9_go_14 : List UInt8 := [181, 0, 11, 42, 29, 153, 0, 25, 42, 180, 0, 32, 42, 180, 0, 39, 100, 28, 153, 0, 8, 16, 8]
abbrev dktX9_go_14 : List UInt8 := dkwX9_go_14 ++ dktX9_go_15
def dkwX9_go_13 : List UInt8 := [181, 0, 62, 42, 89, 180, 0, 32, 4, 96, 181, 0, 32, 167, 255, 128, 42, 25, 4, 182, 0, 72]
abbrev dktX9_go_13 : List UInt8 := dkwX9_go_13 ++ dktX9_go_14
def dkwX9_go_12 : List UInt8 := [8, 162, 0, 26, 42, 16, 10, 42, 180, 0, 62, 104, 42, 42, 180, 0, 32, 182, 0, 35, 96, 16, 48, 100]
abbrev dktX9_go_12 : List UInt8 := dkwX9_go_12 ++ dktX9_go_13
def dkwX9_go_11 : List UInt8 := [25, 4, 42, 42, 180, 0, 32, 182, 0, 35, 146, 182, 0, 68, 87, 42, 180, 0, 32, 42, 180, 0, 39, 100]
abbrev dktX9_go_11 : List UInt8 := dkwX9_go_11 ++ dktX9_go_12
def dkwX9_go_10 : List UInt8 := [160, 0, 7, 4, 167, 0, 4, 3, 62, 42, 180, 0, 32, 42, 180, 0, 39, 100, 16, 8, 162, 0, 18]
abbrev dktX9_go_10 : List UInt8 := dkwX9_go_10 ++ dktX9_go_11
def dkwX9_go_9 : List UInt8 := [184, 0, 49, 153, 0, 106, 29, 153, 0, 22, 42, 42, 180, 0, 32, 182, 0, 35, 184, 0, 45, 28]
abbrev dktX9_go_9 : List UInt8 := dkwX9_go_9 ++ dktX9_go_10
def dkwX9_go_8 : List UInt8 := [58, 4, 42, 42, 180, 0, 32, 182, 0, 35, 184, 0, 45, 154, 0, 17, 42, 42, 180, 0, 32, 182, 0, 35]
abbrev dktX9_go_8 : List UInt8 := dkwX9_go_8 ++ dktX9_go_9
def dkwX9_go_7 : List UInt8 := [181, 0, 32, 177, 27, 184, 0, 45, 61, 4, 62, 42, 3, 181, 0, 62, 187, 0, 65, 89, 183, 0, 67]
abbrev dktX9_go_7 : List UInt8 := dkwX9_go_7 ++ dktX9_go_8
def dkwX9_go_6 : List UInt8 := [155, 0, 7, 7, 167, 0, 4, 4, 181, 0, 42, 42, 27, 181, 0, 59, 42, 89, 180, 0, 32, 4, 96]
abbrev dktX9_go_6 : List UInt8 := dkwX9_go_6 ++ dktX9_go_7
def dkwX9_go_5 : List UInt8 := [60, 27, 184, 0, 45, 154, 0, 44, 27, 184, 0, 49, 154, 0, 37, 42, 18, 52, 27, 182, 0, 54]
abbrev dktX9_go_5 : List UInt8 := dkwX9_go_5 ++ dktX9_go_6
def dkwX9_go_4 : List UInt8 := [180, 0, 32, 42, 180, 0, 28, 161, 0, 9, 42, 3, 181, 0, 42, 177, 42, 42, 180, 0, 32, 182, 0, 35]
abbrev dktX9_go_4 : List UInt8 := dkwX9_go_4 ++ dktX9_go_5
def dkwX9_go_3 : List UInt8 := [180, 0, 39, 17, 1, 44, 161, 0, 16, 42, 17, 1, 44, 181, 0, 39, 42, 8, 181, 0, 42, 177, 42]
abbrev dktX9_go_3 : List UInt8 := dkwX9_go_3 ++ dktX9_go_4
def dkwX9_go_2 : List UInt8 := [167, 255, 209, 42, 42, 180, 0, 32, 181, 0, 39, 42, 180, 0, 28, 17, 1, 44, 164, 0, 26, 42]
abbrev dktX9_go_2 : List UInt8 := dkwX9_go_2 ++ dktX9_go_3
def dkwX9_go_1 : List UInt8 := [42, 42, 180, 0, 32, 182, 0, 35, 16, 10, 160, 0, 16, 42, 89, 180, 0, 32, 4, 96, 181, 0, 32]
abbrev dktX9_go_1 : List UInt8 := dkwX9_go_1 ++ dktX9_go_2
def dkwX9_go_0 : List UInt8 := [42, 180, 0, 32, 42, 180, 0, 28, 162, 0, 42, 42, 42, 180, 0, 32, 182, 0, 35, 16, 32, 159, 0, 16]
abbrev dktX9_go_0 : List UInt8 := dkwX9_go_0 ++ dktX9_go_1
theorem dksX9_go_0 : cX9_go.data.toList.drop 0 = dktX9_go_0 := by decide +kernel
theorem dksX9_go_1 : cX9_go.data.toList.drop 24 = dktX9_go_1 := dk_seg dksX9_go_0 24 rfl rfl
theorem dksX9_go_2 : cX9_go.data.toList.drop 47 = dktX9_go_2 := dk_seg dksX9_go_1 23 rfl rfl
theorem dksX9_go_3 : cX9_go.data.toList.drop 69 = dktX9_go_3 := dk_seg dksX9_go_2 22 rfl rfl
theorem dksX9_go_4 : cX9_go.data.toList.drop 92 = dktX9_go_4 := dk_seg dksX9_go_3 23 rfl rfl
theorem dksX9_go_5 : cX9_go.data.toList.drop 116 = dktX9_go_5 := dk_seg dksX9_go_4 24 rfl rfl
theorem dksX9_go_6 : cX9_go.data.toList.drop 138 = dktX9_go_6 := dk_seg dksX9_go_5 22 rfl rfl
theorem dksX9_go_7 : cX9_go.data.toList.drop 161 = dktX9_go_7 := dk_seg dksX9_go_6 23 rfl rfl
theorem dksX9_go_8 : cX9_go.data.toList.drop 184 = dktX9_go_8 := dk_seg dksX9_go_7 23 rfl rfl
theorem dksX9_go_9 : cX9_go.data.toList.drop 208 = dktX9_go_9 := dk_seg dksX9_go_8 24 rfl rfl
theorem dksX9_go_10 : cX9_go.data.toList.drop 230 = dktX9_go_10 := dk_seg dksX9_go_9 22 rfl rfl
theorem dksX9_go_11 : cX9_go.data.toList.drop 253 = dktX9_go_11 := dk_seg dksX9_go_10 23 rfl rfl
theorem dksX9_go_12 : cX9_go.data.toList.drop 277 = dktX9_go_12 := dk_seg dksX9_go_11 24 rfl rfl
theorem dksX9_go_13 : cX9_go.data.toList.drop 301 = dktX9_go_13 := dk_seg dksX9_go_12 24 rfl rfl
theorem dksX9_go_14 : cX9_go.data.toList.drop 323 = dktX9_go_14 := dk_seg dksX9_go_13 22 rfl rfl
theorem dksX9_go_15 : cX9_go.data.toList.drop 346 = dktX9_go_15 := dk_seg dksX9_go_14 23 rfl rfl
theorem dX9_go_0 : decode cX9_go 0 = .ok (.aload_n 0, 1) := dk_42 (dk_at dksX9_go_0 0 rfl rfl)
theorem dX9_go_1 : decode cX9_go 1 = .ok (.getfield 32, 3) := dk_180 0 32 (dk_at dksX9_go_0 1 rfl rfl)
theorem dX9_go_4 : decode cX9_go 4 = .ok (.aload_n 0, 1) := dk_42 (dk_at dksX9_go_0 4 rfl rfl)
theorem dX9_go_5 : decode cX9_go 5 = .ok (.getfield 28, 3) := dk_180 0 28 (dk_at dksX9_go_0 5 rfl rfl)
theorem dX9_go_8 : decode cX9_go 8 = .ok (.if_icmp .ge 42, 3) := dk_162 0 42 (dk_at dksX9_go_0 8 rfl rfl)
theorem dX9_go_11 : decode cX9_go 11 = .ok (.aload_n 0, 1) := dk_42 (dk_at dksX9_go_0 11 rfl rfl)
theorem dX9_go_12 : decode cX9_go 12 = .ok (.aload_n 0, 1) := dk_42 (dk_at dksX9_go_0 12 rfl rfl)
theorem dX9_go_13 : decode cX9_go 13 = .ok (.getfield 32, 3) := dk_180 0 32 (dk_at dksX9_go_0 13 rfl rfl)
theorem dX9_go_16 : decode cX9_go 16 = .ok (.invokevirtual 35, 3) := dk_182 0 35 (dk_at dksX9_go_0 16 rfl rfl)
theorem dX9_go_19 : decode cX9_go 19 = .ok (.bipush 32, 2) := dk_16 32 (dk_at dksX9_go_0 19 rfl rfl)
theorem dX9_go_21 : decode cX9_go 21 = .ok (.if_icmp .eq 16, 3) := dk_159 0 16 (dk_at dksX9_go_0 21 rfl rfl)
theorem dX9_go_24 : decode cX9_go 24 = .ok (.aload_n 0, 1) := dk_42 (dk_at dksX9_go_1 0 rfl rfl)
theorem dX9_go_25 : decode cX9_go 25 = .ok (.aload_n 0, 1) := dk_42 (dk_at dksX9_go_1 1 rfl rfl)
theorem dX9_go_26 : decode cX9_go 26 = .ok (.getfield 32, 3) := dk_180 0 32 (dk_at dksX9_go_1 2 rfl rfl)
theorem dX9_go_29 : decode cX9_go 29 = .ok (.invokevirtual 35, 3) := dk_182 0 35 (dk_at dksX9_go_1 5 rfl rfl)
theorem dX9_go_32 : decode cX9_go 32 = .ok (.bipush 10, 2) := dk_16 10 (dk_at dksX9_go_1 8 rfl rfl)
theorem dX9_go_34 : decode cX9_go 34 = .ok (.if_icmp .ne 16, 3) := dk_160 0 16 (dk_at dksX9_go_1 10 rfl rfl)
theorem dX9_go_37 : decode cX9_go 37 = .ok (.aload_n 0, 1) := dk_42 (dk_at dksX9_go_1 13 rfl rfl)
theorem dX9_go_38 : decode cX9_go 38 = .ok (.dup, 1) := dk_89 (dk_at dksX9_go_1 14 rfl rfl)
theorem dX9_go_39 : decode cX9_go 39 = .ok (.getfield 32, 3) := dk_180 0 32 (dk_at dksX9_go_1 15 rfl rfl)
theorem dX9_go_42 : decode cX9_go 42 = .ok (.iconst 1, 1) := dk_4 (dk_at dksX9_go_1 18 rfl rfl)
theorem dX9_go_43 : decode cX9_go 43 = .ok (.iadd, 1) := dk_96 (dk_at dksX9_go_1 19 rfl rfl)
theorem dX9_go_44 : decode cX9_go 44 = .ok (.putfield 32, 3) := dk_181 0 32 (dk_at dksX9_go_1 20 rfl rfl)
theorem dX9_go_47 : decode cX9_go 47 = .ok (.goto (-47), 3) := dk_167 255 209 (dk_at dksX9_go_2 0 rfl rfl)
theorem dX9_go_50 : decode cX9_go 50 = .ok (.aload_n 0, 1) := dk_42 (dk_at dksX9_go_2 3 rfl rfl)
theorem dX9_go_51 : decode cX9_go 51 = .ok (.aload_n 0, 1) := dk_42 (dk_at dksX9_go_2 4 rfl rfl)
theorem dX9_go_52 : decode cX9_go 52 = .ok (.getfield 32, 3) := dk_180 0 32 (dk_at dksX9_go_2 5 rfl rfl)
theorem dX9_go_55 : decode cX9_go 55 = .ok (.putfield 39, 3) := dk_181 0 39 (dk_at dksX9_go_2 8 rfl rfl)
theorem dX9_go_58 : decode cX9_go 58 = .ok (.aload_n 0, 1) := dk_42 (dk_at dksX9_go_2 11 rfl rfl)
theorem dX9_go_59 : decode cX9_go 59 = .ok (.getfield 28, 3) := dk_180 0 28 (dk_at dksX9_go_2 12 rfl rfl)
theorem dX9_go_62 : decode cX9_go 62 = .ok (.sipush 300, 3) := dk_17 1 44 (dk_at dksX9_go_2 15 rfl rfl)
theorem dX9_go_65 : decode cX9_go 65 = .ok (.if_icmp .le 26, 3) := dk_164 0 26 (dk_at dksX9_go_2 18 rfl rfl)
theorem dX9_go_68 : decode cX9_go 68 = .ok (.aload_n 0, 1) := dk_42 (dk_at dksX9_go_2 21 rfl rfl)
theorem dX9_go_69 : decode cX9_go 69 = .ok (.getfield 39, 3) := dk_180 0 39 (dk_at dksX9_go_3 0 rfl rfl)
theorem dX9_go_72 : decode cX9_go 72 = .ok (.sipush 300, 3) := dk_17 1 44 (dk_at dksX9_go_3 3 rfl rfl)
theorem dX9_go_75 : decode cX9_go 75 = .ok (.if_icmp .lt 16, 3) := dk_161 0 16 (dk_at dksX9_go_3 6 rfl rfl)
theorem dX9_go_78 : decode cX9_go 78 = .ok (.aload_n 0, 1) := dk_42 (dk_at dksX9_go_3 9 rfl rfl)
theorem dX9_go_79 : decode cX9_go 79 = .ok (.sipush 300, 3) := dk_17 1 44 (dk_at dksX9_go_3 10 rfl rfl)
theorem dX9_go_82 : decode cX9_go 82 = .ok (.putfield 39, 3) := dk_181 0 39 (dk_at dksX9_go_3 13 rfl rfl)
theorem dX9_go_85 : decode cX9_go 85 = .ok (.aload_n 0, 1) := dk_42 (dk_at dksX9_go_3 16 rfl rfl)
theorem dX9_go_86 : decode cX9_go 86 = .ok (.iconst 5, 1) := dk_8 (dk_at dksX9_go_3 17 rfl rfl)
theorem dX9_go_87 : decode cX9_go 87 = .ok (.putfield 42, 3) := dk_181 0 42 (dk_at dksX9_go_3 18 rfl rfl)
theorem dX9_go_90 : decode cX9_go 90 = .ok (.return_, 1) := dk_177 (dk_at dksX9_go_3 21 rfl rfl)
theorem dX9_go_91 : decode cX9_go 91 = .ok (.aload_n 0, 1) := dk_42 (dk_at dksX9_go_3 22 rfl rfl)
theorem dX9_go_92 : decode cX9_go 92 = .ok (.getfield 32, 3) := dk_180 0 32 (dk_at dksX9_go_4 0 rfl rfl)
theorem dX9_go_95 : decode cX9_go 95 = .ok (.aload_n 0, 1) := dk_42 (dk_at dksX9_go_4 3 rfl rfl)
theorem dX9_go_96 : decode cX9_go 96 = .ok (.getfield 28, 3) := dk_180 0 28 (dk_at dksX9_go_4 4 rfl rfl)
theorem dX9_go_99 : decode cX9_go 99 = .ok (.if_icmp .lt 9, 3) := dk_161 0 9 (dk_at dksX9_go_4 7 rfl rfl)
theorem dX9_go_102 : decode cX9_go 102 = .ok (.aload_n 0, 1) := dk_42 (dk_at dksX9_go_4 10 rfl rfl)
theorem dX9_go_103 : decode cX9_go 103 = .ok (.iconst 0, 1) := dk_3 (dk_at dksX9_go_4 11 rfl rfl)
theorem dX9_go_104 : decode cX9_go 104 = .ok (.putfield 42, 3) := dk_181 0 42 (dk_at dksX9_go_4 12 rfl rfl)
theorem dX9_go_107 : decode cX9_go 107 = .ok (.return_, 1) := dk_177 (dk_at dksX9_go_4 15 rfl rfl)
theorem dX9_go_108 : decode cX9_go 108 = .ok (.aload_n 0, 1) := dk_42 (dk_at dksX9_go_4 16 rfl rfl)
theorem dX9_go_109 : decode cX9_go 109 = .ok (.aload_n 0, 1) := dk_42 (dk_at dksX9_go_4 17 rfl rfl)
theorem dX9_go_110 : decode cX9_go 110 = .ok (.getfield 32, 3) := dk_180 0 32 (dk_at dksX9_go_4 18 rfl rfl)
theorem dX9_go_113 : decode cX9_go 113 = .ok (.invokevirtual 35, 3) := dk_182 0 35 (dk_at dksX9_go_4 21 rfl rfl)
theorem dX9_go_116 : decode cX9_go 116 = .ok (.istore_n 1, 1) := dk_60 (dk_at dksX9_go_5 0 rfl rfl)
theorem dX9_go_117 : decode cX9_go 117 = .ok (.iload_n 1, 1) := dk_27 (dk_at dksX9_go_5 1 rfl rfl)
theorem dX9_go_118 : decode cX9_go 118 = .ok (.invokestatic 45, 3) := dk_184 0 45 (dk_at dksX9_go_5 2 rfl rfl)
theorem dX9_go_121 : decode cX9_go 121 = .ok (.ifCond .ne 44, 3) := dk_154 0 44 (dk_at dksX9_go_5 5 rfl rfl)
theorem dX9_go_124 : decode cX9_go 124 = .ok (.iload_n 1, 1) := dk_27 (dk_at dksX9_go_5 8 rfl rfl)
theorem dX9_go_125 : decode cX9_go 125 = .ok (.invokestatic 49, 3) := dk_184 0 49 (dk_at dksX9_go_5 9 rfl rfl)
theorem dX9_go_128 : decode cX9_go 128 = .ok (.ifCond .ne 37, 3) := dk_154 0 37 (dk_at dksX9_go_5 12 rfl rfl)
theorem dX9_go_131 : decode cX9_go 131 = .ok (.aload_n 0, 1) := dk_42 (dk_at dksX9_go_5 15 rfl rfl)
theorem dX9_go_132 : decode cX9_go 132 = .ok (.ldc 52, 2) := dk_18 52 (dk_at dksX9_go_5 16 rfl rfl)
theorem dX9_go_134 : decode cX9_go 134 = .ok (.iload_n 1, 1) := dk_27 (dk_at dksX9_go_5 18 rfl rfl)
theorem dX9_go_135 : decode cX9_go 135 = .ok (.invokevirtual 54, 3) := dk_182 0 54 (dk_at dksX9_go_5 19 rfl rfl)
theorem dX9_go_138 : decode cX9_go 138 = .ok (.ifCond .lt 7, 3) := dk_155 0 7 (dk_at dksX9_go_6 0 rfl rfl)
theorem dX9_go_141 : decode cX9_go 141 = .ok (.iconst 4, 1) := dk_7 (dk_at dksX9_go_6 3 rfl rfl)
theorem dX9_go_142 : decode cX9_go 142 = .ok (.goto 4, 3) := dk_167 0 4 (dk_at dksX9_go_6 4 rfl rfl)
theorem dX9_go_145 : decode cX9_go 145 = .ok (.iconst 1, 1) := dk_4 (dk_at dksX9_go_6 7 rfl rfl)
theorem dX9_go_146 : decode cX9_go 146 = .ok (.putfield 42, 3) := dk_181 0 42 (dk_at dksX9_go_6 8 rfl rfl)
theorem dX9_go_149 : decode cX9_go 149 = .ok (.aload_n 0, 1) := dk_42 (dk_at dksX9_go_6 11 rfl rfl)
theorem dX9_go_150 : decode cX9_go 150 = .ok (.iload_n 1, 1) := dk_27 (dk_at dksX9_go_6 12 rfl rfl)
theorem dX9_go_151 : decode cX9_go 151 = .ok (.putfield 59, 3) := dk_181 0 59 (dk_at dksX9_go_6 13 rfl rfl)
theorem dX9_go_154 : decode cX9_go 154 = .ok (.aload_n 0, 1) := dk_42 (dk_at dksX9_go_6 16 rfl rfl)
theorem dX9_go_155 : decode cX9_go 155 = .ok (.dup, 1) := dk_89 (dk_at dksX9_go_6 17 rfl rfl)
theorem dX9_go_156 : decode cX9_go 156 = .ok (.getfield 32, 3) := dk_180 0 32 (dk_at dksX9_go_6 18 rfl rfl)
theorem dX9_go_159 : decode cX9_go 159 = .ok (.iconst 1, 1) := dk_4 (dk_at dksX9_go_6 21 rfl rfl)
theorem dX9_go_160 : decode cX9_go 160 = .ok (.iadd, 1) := dk_96 (dk_at dksX9_go_6 22 rfl rfl)
theorem dX9_go_161 : decode cX9_go 161 = .ok (.putfield 32, 3) := dk_181 0 32 (dk_at dksX9_go_7 0 rfl rfl)
theorem dX9_go_164 : decode cX9_go 164 = .ok (.return_, 1) := dk_177 (dk_at dksX9_go_7 3 rfl rfl)
theorem dX9_go_165 : decode cX9_go 165 = .ok (.iload_n 1, 1) := dk_27 (dk_at dksX9_go_7 4 rfl rfl)
theorem dX9_go_166 : decode cX9_go 166 = .ok (.invokestatic 45, 3) := dk_184 0 45 (dk_at dksX9_go_7 5 rfl rfl)
theorem dX9_go_169 : decode cX9_go 169 = .ok (.istore_n 2, 1) := dk_61 (dk_at dksX9_go_7 8 rfl rfl)
theorem dX9_go_170 : decode cX9_go 170 = .ok (.iconst 1, 1) := dk_4 (dk_at dksX9_go_7 9 rfl rfl)
theorem dX9_go_171 : decode cX9_go 171 = .ok (.istore_n 3, 1) := dk_62 (dk_at dksX9_go_7 10 rfl rfl)
theorem dX9_go_172 : decode cX9_go 172 = .ok (.aload_n 0, 1) := dk_42 (dk_at dksX9_go_7 11 rfl rfl)
theorem dX9_go_173 : decode cX9_go 173 = .ok (.iconst 0, 1) := dk_3 (dk_at dksX9_go_7 12 rfl rfl)
theorem dX9_go_174 : decode cX9_go 174 = .ok (.putfield 62, 3) := dk_181 0 62 (dk_at dksX9_go_7 13 rfl rfl)
theorem dX9_go_177 : decode cX9_go 177 = .ok (.new 65, 3) := dk_187 0 65 (dk_at dksX9_go_7 16 rfl rfl)
theorem dX9_go_180 : decode cX9_go 180 = .ok (.dup, 1) := dk_89 (dk_at dksX9_go_7 19 rfl rfl)
theorem dX9_go_181 : decode cX9_go 181 = .ok (.invokespecial 67, 3) := dk_183 0 67 (dk_at dksX9_go_7 20 rfl rfl)
theorem dX9_go_184 : decode cX9_go 184 = .ok (.astore 4, 2) := dk_58 4 (dk_at dksX9_go_8 0 rfl rfl)
theorem dX9_go_186 : decode cX9_go 186 = .ok (.aload_n 0, 1) := dk_42 (dk_at dksX9_go_8 2 rfl rfl)
theorem dX9_go_187 : decode cX9_go 187 = .ok (.aload_n 0, 1) := dk_42 (dk_at dksX9_go_8 3 rfl rfl)
theorem dX9_go_188 : decode cX9_go 188 = .ok (.getfield 32, 3) := dk_180 0 32 (dk_at dksX9_go_8 4 rfl rfl)
theorem dX9_go_191 : decode cX9_go 191 = .ok (.invokevirtual 35, 3) := dk_182 0 35 (dk_at dksX9_go_8 7 rfl rfl)
theorem dX9_go_194 : decode cX9_go 194 = .ok (.invokestatic 45, 3) := dk_184 0 45 (dk_at dksX9_go_8 10 rfl rfl)
theorem dX9_go_197 : decode cX9_go 197 = .ok (.ifCond .ne 17, 3) := dk_154 0 17 (dk_at dksX9_go_8 13 rfl rfl)
theorem dX9_go_200 : decode cX9_go 200 = .ok (.aload_n 0, 1) := dk_42 (dk_at dksX9_go_8 16 rfl rfl)
theorem dX9_go_201 : decode cX9_go 201 = .ok (.aload_n 0, 1) := dk_42 (dk_at dksX9_go_8 17 rfl rfl)
theorem dX9_go_202 : decode cX9_go 202 = .ok (.getfield 32, 3) := dk_180 0 32 (dk_at dksX9_go_8 18 rfl rfl)
theorem dX9_go_205 : decode cX9_go 205 = .ok (.invokevirtual 35, 3) := dk_182 0 35 (dk_at dksX9_go_8 21 rfl rfl)
theorem dX9_go_208 : decode cX9_go 208 = .ok (.invokestatic 49, 3) := dk_184 0 49 (dk_at dksX9_go_9 0 rfl rfl)
theorem dX9_go_211 : decode cX9_go 211 = .ok (.ifCond .eq 106, 3) := dk_153 0 106 (dk_at dksX9_go_9 3 rfl rfl)
theorem dX9_go_214 : decode cX9_go 214 = .ok (.iload_n 3, 1) := dk_29 (dk_at dksX9_go_9 6 rfl rfl)
theorem dX9_go_215 : decode cX9_go 215 = .ok (.ifCond .eq 22, 3) := dk_153 0 22 (dk_at dksX9_go_9 7 rfl rfl)
theorem dX9_go_218 : decode cX9_go 218 = .ok (.aload_n 0, 1) := dk_42 (dk_at dksX9_go_9 10 rfl rfl)
theorem dX9_go_219 : decode cX9_go 219 = .ok (.aload_n 0, 1) := dk_42 (dk_at dksX9_go_9 11 rfl rfl)
theorem dX9_go_220 : decode cX9_go 220 = .ok (.getfield 32, 3) := dk_180 0 32 (dk_at dksX9_go_9 12 rfl rfl)
theorem dX9_go_223 : decode cX9_go 223 = .ok (.invokevirtual 35, 3) := dk_182 0 35 (dk_at dksX9_go_9 15 rfl rfl)
theorem dX9_go_226 : decode cX9_go 226 = .ok (.invokestatic 45, 3) := dk_184 0 45 (dk_at dksX9_go_9 18 rfl rfl)
theorem dX9_go_229 : decode cX9_go 229 = .ok (.iload_n 2, 1) := dk_28 (dk_at dksX9_go_9 21 rfl rfl)
theorem dX9_go_230 : decode cX9_go 230 = .ok (.if_icmp .ne 7, 3) := dk_160 0 7 (dk_at dksX9_go_10 0 rfl rfl)
theorem dX9_go_233 : decode cX9_go 233 = .ok (.iconst 1, 1) := dk_4 (dk_at dksX9_go_10 3 rfl rfl)
theorem dX9_go_234 : decode cX9_go 234 = .ok (.goto 4, 3) := dk_167 0 4 (dk_at dksX9_go_10 4 rfl rfl)
theorem dX9_go_237 : decode cX9_go 237 = .ok (.iconst 0, 1) := dk_3 (dk_at dksX9_go_10 7 rfl rfl)
theorem dX9_go_238 : decode cX9_go 238 = .ok (.istore_n 3, 1) := dk_62 (dk_at dksX9_go_10 8 rfl rfl)
theorem dX9_go_239 : decode cX9_go 239 = .ok (.aload_n 0, 1) := dk_42 (dk_at dksX9_go_10 9 rfl rfl)
theorem dX9_go_240 : decode cX9_go 240 = .ok (.getfield 32, 3) := dk_180 0 32 (dk_at dksX9_go_10 10 rfl rfl)
theorem dX9_go_243 : decode cX9_go 243 = .ok (.aload_n 0, 1) := dk_42 (dk_at dksX9_go_10 13 rfl rfl)
theorem dX9_go_244 : decode cX9_go 244 = .ok (.getfield 39, 3) := dk_180 0 39 (dk_at dksX9_go_10 14 rfl rfl)
theorem dX9_go_247 : decode cX9_go 247 = .ok (.isub, 1) := dk_100 (dk_at dksX9_go_10 17 rfl rfl)
theorem dX9_go_248 : decode cX9_go 248 = .ok (.bipush 8, 2) := dk_16 8 (dk_at dksX9_go_10 18 rfl rfl)
theorem dX9_go_250 : decode cX9_go 250 = .ok (.if_icmp .ge 18, 3) := dk_162 0 18 (dk_at dksX9_go_10 20 rfl rfl)
theorem dX9_go_253 : decode cX9_go 253 = .ok (.aload 4, 2) := dk_25 4 (dk_at dksX9_go_11 0 rfl rfl)
theorem dX9_go_255 : decode cX9_go 255 = .ok (.aload_n 0, 1) := dk_42 (dk_at dksX9_go_11 2 rfl rfl)
theorem dX9_go_256 : decode cX9_go 256 = .ok (.aload_n 0, 1) := dk_42 (dk_at dksX9_go_11 3 rfl rfl)
theorem dX9_go_257 : decode cX9_go 257 = .ok (.getfield 32, 3) := dk_180 0 32 (dk_at dksX9_go_11 4 rfl rfl)
theorem dX9_go_260 : decode cX9_go 260 = .ok (.invokevirtual 35, 3) := dk_182 0 35 (dk_at dksX9_go_11 7 rfl rfl)
theorem dX9_go_263 : decode cX9_go 263 = .ok (.i2c, 1) := dk_146 (dk_at dksX9_go_11 10 rfl rfl)
theorem dX9_go_264 : decode cX9_go 264 = .ok (.invokevirtual 68, 3) := dk_182 0 68 (dk_at dksX9_go_11 11 rfl rfl)
theorem dX9_go_267 : decode cX9_go 267 = .ok (.pop, 1) := dk_87 (dk_at dksX9_go_11 14 rfl rfl)
theorem dX9_go_268 : decode cX9_go 268 = .ok (.aload_n 0, 1) := dk_42 (dk_at dksX9_go_11 15 rfl rfl)
theorem dX9_go_269 : decode cX9_go 269 = .ok (.getfield 32, 3) := dk_180 0 32 (dk_at dksX9_go_11 16 rfl rfl)
theorem dX9_go_272 : decode cX9_go 272 = .ok (.aload_n 0, 1) := dk_42 (dk_at dksX9_go_11 19 rfl rfl)
theorem dX9_go_273 : decode cX9_go 273 = .ok (.getfield 39, 3) := dk_180 0 39 (dk_at dksX9_go_11 20 rfl rfl)
theorem dX9_go_276 : decode cX9_go 276 = .ok (.isub, 1) := dk_100 (dk_at dksX9_go_11 23 rfl rfl)
theorem dX9_go_277 : decode cX9_go 277 = .ok (.iconst 5, 1) := dk_8 (dk_at dksX9_go_12 0 rfl rfl)
theorem dX9_go_278 : decode cX9_go 278 = .ok (.if_icmp .ge 26, 3) := dk_162 0 26 (dk_at dksX9_go_12 1 rfl rfl)
theorem dX9_go_281 : decode cX9_go 281 = .ok (.aload_n 0, 1) := dk_42 (dk_at dksX9_go_12 4 rfl rfl)
theorem dX9_go_282 : decode cX9_go 282 = .ok (.bipush 10, 2) := dk_16 10 (dk_at dksX9_go_12 5 rfl rfl)
theorem dX9_go_284 : decode cX9_go 284 = .ok (.aload_n 0, 1) := dk_42 (dk_at dksX9_go_12 7 rfl rfl)
theorem dX9_go_285 : decode cX9_go 285 = .ok (.getfield 62, 3) := dk_180 0 62 (dk_at dksX9_go_12 8 rfl rfl)
theorem dX9_go_288 : decode cX9_go 288 = .ok (.imul, 1) := dk_104 (dk_at dksX9_go_12 11 rfl rfl)
theorem dX9_go_289 : decode cX9_go 289 = .ok (.aload_n 0, 1) := dk_42 (dk_at dksX9_go_12 12 rfl rfl)
theorem dX9_go_290 : decode cX9_go 290 = .ok (.aload_n 0, 1) := dk_42 (dk_at dksX9_go_12 13 rfl rfl)
theorem dX9_go_291 : decode cX9_go 291 = .ok (.getfield 32, 3) := dk_180 0 32 (dk_at dksX9_go_12 14 rfl rfl)
theorem dX9_go_294 : decode cX9_go 294 = .ok (.invokevirtual 35, 3) := dk_182 0 35 (dk_at dksX9_go_12 17 rfl rfl)
theorem dX9_go_297 : decode cX9_go 297 = .ok (.iadd, 1) := dk_96 (dk_at dksX9_go_12 20 rfl rfl)
theorem dX9_go_298 : decode cX9_go 298 = .ok (.bipush 48, 2) := dk_16 48 (dk_at dksX9_go_12 21 rfl rfl)
theorem dX9_go_300 : decode cX9_go 300 = .ok (.isub, 1) := dk_100 (dk_at dksX9_go_12 23 rfl rfl)
theorem dX9_go_301 : decode cX9_go 301 = .ok (.putfield 62, 3) := dk_181 0 62 (dk_at dksX9_go_13 0 rfl rfl)
theorem dX9_go_304 : decode cX9_go 304 = .ok (.aload_n 0, 1) := dk_42 (dk_at dksX9_go_13 3 rfl rfl)
theorem dX9_go_305 : decode cX9_go 305 = .ok (.dup, 1) := dk_89 (dk_at dksX9_go_13 4 rfl rfl)
theorem dX9_go_306 : decode cX9_go 306 = .ok (.getfield 32, 3) := dk_180 0 32 (dk_at dksX9_go_13 5 rfl rfl)
theorem dX9_go_309 : decode cX9_go 309 = .ok (.iconst 1, 1) := dk_4 (dk_at dksX9_go_13 8 rfl rfl)
theorem dX9_go_310 : decode cX9_go 310 = .ok (.iadd, 1) := dk_96 (dk_at dksX9_go_13 9 rfl rfl)
theorem dX9_go_311 : decode cX9_go 311 = .ok (.putfield 32, 3) := dk_181 0 32 (dk_at dksX9_go_13 10 rfl rfl)
theorem dX9_go_314 : decode cX9_go 314 = .ok (.goto (-128), 3) := dk_167 255 128 (dk_at dksX9_go_13 13 rfl rfl)
theorem dX9_go_317 : decode cX9_go 317 = .ok (.aload_n 0, 1) := dk_42 (dk_at dksX9_go_13 16 rfl rfl)
theorem dX9_go_318 : decode cX9_go 318 = .ok (.aload 4, 2) := dk_25 4 (dk_at dksX9_go_13 17 rfl rfl)
theorem dX9_go_320 : decode cX9_go 320 = .ok (.invokevirtual 72, 3) := dk_182 0 72 (dk_at dksX9_go_13 19 rfl rfl)
theorem dX9_go_323 : decode cX9_go 323 = .ok (.putfield 11, 3) := dk_181 0 11 (dk_at dksX9_go_14 0 rfl rfl)
theorem dX9_go_326 : decode cX9_go 326 = .ok (.aload_n 0, 1) := dk_42 (dk_at dksX9_go_14 3 rfl rfl)
theorem dX9_go_327 : decode cX9_go 327 = .ok (.iload_n 3, 1) := dk_29 (dk_at dksX9_go_14 4 rfl rfl)
theorem dX9_go_328 : decode cX9_go 328 = .ok (.ifCond .eq 25, 3) := dk_153 0 25 (dk_at dksX9_go_14 5 rfl rfl)
theorem dX9_go_331 : decode cX9_go 331 = .ok (.aload_n 0, 1) := dk_42 (dk_at dksX9_go_14 8 rfl rfl)
theorem dX9_go_332 : decode cX9_go 332 = .ok (.getfield 32, 3) := dk_180 0 32 (dk_at dksX9_go_14 9 rfl rfl)
theorem dX9_go_335 : decode cX9_go 335 = .ok (.aload_n 0, 1) := dk_42 (dk_at dksX9_go_14 12 rfl rfl)
theorem dX9_go_336 : decode cX9_go 336 = .ok (.getfield 39, 3) := dk_180 0 39 (dk_at dksX9_go_14 13 rfl rfl)
theorem dX9_go_339 : decode cX9_go 339 = .ok (.isub, 1) := dk_100 (dk_at dksX9_go_14 16 rfl rfl)
theorem dX9_go_340 : decode cX9_go 340 = .ok (.iload_n 2, 1) := dk_28 (dk_at dksX9_go_14 17 rfl rfl)
theorem dX9_go_341 : decode cX9_go 341 = .ok (.ifCond .eq 8, 3) := dk_153 0 8 (dk_at dksX9_go_14 18 rfl rfl)
theorem dX9_go_344 : decode cX9_go 344 = .ok (.bipush 8, 2) := dk_16 8 (dk_at dksX9_go_14 21 rfl rfl)
theorem dX9_go_346 : decode cX9_go 346 = .ok (.goto 4, 3) := dk_167 0 4 (dk_at dksX9_go_15 0 rfl rfl)
theorem dX9_go_349 : decode cX9_go 349 = .ok (.iconst 5, 1) := dk_8 (dk_at dksX9_go_15 3 rfl rfl)
theorem dX9_go_350 : decode cX9_go 350 = .ok (.if_icmp .le 7, 3) := dk_164 0 7 (dk_at dksX9_go_15 4 rfl rfl)
theorem dX9_go_353 : decode cX9_go 353 = .ok (.iconst 1, 1) := dk_4 (dk_at dksX9_go_15 7 rfl rfl)
theorem dX9_go_354 : decode cX9_go 354 = .ok (.goto 12, 3) := dk_167 0 12 (dk_at dksX9_go_15 8 rfl rfl)
theorem dX9_go_357 : decode cX9_go 357 = .ok (.iload_n 2, 1) := dk_28 (dk_at dksX9_go_15 11 rfl rfl)
theorem dX9_go_358 : decode cX9_go 358 = .ok (.ifCond .eq 7, 3) := dk_153 0 7 (dk_at dksX9_go_15 12 rfl rfl)
theorem dX9_go_361 : decode cX9_go 361 = .ok (.iconst 2, 1) := dk_5 (dk_at dksX9_go_15 15 rfl rfl)
theorem dX9_go_362 : decode cX9_go 362 = .ok (.goto 4, 3) := dk_167 0 4 (dk_at dksX9_go_15 16 rfl rfl)
theorem dX9_go_365 : decode cX9_go 365 = .ok (.iconst 3, 1) := dk_6 (dk_at dksX9_go_15 19 rfl rfl)
theorem dX9_go_366 : decode cX9_go 366 = .ok (.putfield 42, 3) := dk_181 0 42 (dk_at dksX9_go_15 20 rfl rfl)
theorem dX9_go_369 : decode cX9_go 369 = .ok (.return_, 1) := dk_177 (dk_at dksX9_go_15 23 rfl rfl)
abbrev cX9_at : ByteArray := prog_13_method_2_code
def yX9_at : MethodName := ⟨RX9, "at", "(I)I"⟩
def dkwX9_at_0 : List UInt8 := [27, 42, 180, 0, 28, 162, 0, 16, 42, 180, 0, 24, 27, 51, 17, 0, 255, 126, 167, 0, 4, 3, 172]
abbrev dktX9_at_0 : List UInt8 := dkwX9_at_0 ++ []
theorem dksX9_at_0 : cX9_at.data.toList.drop 0 = dktX9_at_0 := by decide +kernel
theorem dX9_at_0 : decode cX9_at 0 = .ok (.iload_n 1, 1) := dk_27 (dk_at dksX9_at_0 0 rfl rfl)
theorem dX9_at_1 : decode cX9_at 1 = .ok (.aload_n 0, 1) := dk_42 (dk_at dksX9_at_0 1 rfl rfl)
theorem dX9_at_2 : decode cX9_at 2 = .ok (.getfield 28, 3) := dk_180 0 28 (dk_at dksX9_at_0 2 rfl rfl)
theorem dX9_at_5 : decode cX9_at 5 = .ok (.if_icmp .ge 16, 3) := dk_162 0 16 (dk_at dksX9_at_0 5 rfl rfl)
theorem dX9_at_8 : decode cX9_at 8 = .ok (.aload_n 0, 1) := dk_42 (dk_at dksX9_at_0 8 rfl rfl)
theorem dX9_at_9 : decode cX9_at 9 = .ok (.getfield 24, 3) := dk_180 0 24 (dk_at dksX9_at_0 9 rfl rfl)
theorem dX9_at_12 : decode cX9_at 12 = .ok (.iload_n 1, 1) := dk_27 (dk_at dksX9_at_0 12 rfl rfl)
theorem dX9_at_13 : decode cX9_at 13 = .ok (.baload, 1) := dk_51 (dk_at dksX9_at_0 13 rfl rfl)
theorem dX9_at_14 : decode cX9_at 14 = .ok (.sipush 255, 3) := dk_17 0 255 (dk_at dksX9_at_0 14 rfl rfl)
theorem dX9_at_17 : decode cX9_at 17 = .ok (.iand, 1) := dk_126 (dk_at dksX9_at_0 17 rfl rfl)
theorem dX9_at_18 : decode cX9_at 18 = .ok (.goto 4, 3) := dk_167 0 4 (dk_at dksX9_at_0 18 rfl rfl)
theorem dX9_at_21 : decode cX9_at 21 = .ok (.iconst 0, 1) := dk_3 (dk_at dksX9_at_0 21 rfl rfl)
theorem dX9_at_22 : decode cX9_at 22 = .ok (.ireturn, 1) := dk_172 (dk_at dksX9_at_0 22 rfl rfl)
abbrev cX9_isLetter : ByteArray := prog_13_method_4_code
def yX9_isLetter : MethodName := ⟨RX9, "isLetter", "(I)Z"⟩
def dkwX9_isLetter_0 : List UInt8 := [26, 16, 97, 161, 0, 13, 26, 16, 122, 163, 0, 7, 4, 167, 0, 4, 3, 172]
abbrev dktX9_isLetter_0 : List UInt8 := dkwX9_isLetter_0 ++ []
theorem dksX9_isLetter_0 : cX9_isLetter.data.toList.drop 0 = dktX9_isLetter_0 := by decide +kernel
theorem dX9_isLetter_0 : decode cX9_isLetter 0 = .ok (.iload_n 0, 1) := dk_26 (dk_at dksX9_isLetter_0 0 rfl rfl)
theorem dX9_isLetter_1 : decode cX9_isLetter 1 = .ok (.bipush 97, 2) := dk_16 97 (dk_at dksX9_isLetter_0 1 rfl rfl)
theorem dX9_isLetter_3 : decode cX9_isLetter 3 = .ok (.if_icmp .lt 13, 3) := dk_161 0 13 (dk_at dksX9_isLetter_0 3 rfl rfl)
theorem dX9_isLetter_6 : decode cX9_isLetter 6 = .ok (.iload_n 0, 1) := dk_26 (dk_at dksX9_isLetter_0 6 rfl rfl)
theorem dX9_isLetter_7 : decode cX9_isLetter 7 = .ok (.bipush 122, 2) := dk_16 122 (dk_at dksX9_isLetter_0 7 rfl rfl)
theorem dX9_isLetter_9 : decode cX9_isLetter 9 = .ok (.if_icmp .gt 7, 3) := dk_163 0 7 (dk_at dksX9_isLetter_0 9 rfl rfl)
theorem dX9_isLetter_12 : decode cX9_isLetter 12 = .ok (.iconst 1, 1) := dk_4 (dk_at dksX9_isLetter_0 12 rfl rfl)
theorem dX9_isLetter_13 : decode cX9_isLetter 13 = .ok (.goto 4, 3) := dk_167 0 4 (dk_at dksX9_isLetter_0 13 rfl rfl)
theorem dX9_isLetter_16 : decode cX9_isLetter 16 = .ok (.iconst 0, 1) := dk_3 (dk_at dksX9_isLetter_0 16 rfl rfl)
theorem dX9_isLetter_17 : decode cX9_isLetter 17 = .ok (.ireturn, 1) := dk_172 (dk_at dksX9_isLetter_0 17 rfl rfl)
abbrev cX9_isDigit : ByteArray := prog_13_method_3_code
def yX9_isDigit : MethodName := ⟨RX9, "isDigit", "(I)Z"⟩
def dkwX9_isDigit_0 : List UInt8 := [26, 16, 48, 161, 0, 13, 26, 16, 57, 163, 0, 7, 4, 167, 0, 4, 3, 172]
abbrev dktX9_isDigit_0 : List UInt8 := dkwX9_isDigit_0 ++ []
theorem dksX9_isDigit_0 : cX9_isDigit.data.toList.drop 0 = dktX9_isDigit_0 := by decide +kernel
theorem dX9_isDigit_0 : decode cX9_isDigit 0 = .ok (.iload_n 0, 1) := dk_26 (dk_at dksX9_isDigit_0 0 rfl rfl)
theorem dX9_isDigit_1 : decode cX9_isDigit 1 = .ok (.bipush 48, 2) := dk_16 48 (dk_at dksX9_isDigit_0 1 rfl rfl)
theorem dX9_isDigit_3 : decode cX9_isDigit 3 = .ok (.if_icmp .lt 13, 3) := dk_161 0 13 (dk_at dksX9_isDigit_0 3 rfl rfl)
theorem dX9_isDigit_6 : decode cX9_isDigit 6 = .ok (.iload_n 0, 1) := dk_26 (dk_at dksX9_isDigit_0 6 rfl rfl)
theorem dX9_isDigit_7 : decode cX9_isDigit 7 = .ok (.bipush 57, 2) := dk_16 57 (dk_at dksX9_isDigit_0 7 rfl rfl)
theorem dX9_isDigit_9 : decode cX9_isDigit 9 = .ok (.if_icmp .gt 7, 3) := dk_163 0 7 (dk_at dksX9_isDigit_0 9 rfl rfl)
theorem dX9_isDigit_12 : decode cX9_isDigit 12 = .ok (.iconst 1, 1) := dk_4 (dk_at dksX9_isDigit_0 12 rfl rfl)
theorem dX9_isDigit_13 : decode cX9_isDigit 13 = .ok (.goto 4, 3) := dk_167 0 4 (dk_at dksX9_isDigit_0 13 rfl rfl)
theorem dX9_isDigit_16 : decode cX9_isDigit 16 = .ok (.iconst 0, 1) := dk_3 (dk_at dksX9_isDigit_0 16 rfl rfl)
theorem dX9_isDigit_17 : decode cX9_isDigit 17 = .ok (.ireturn, 1) := dk_172 (dk_at dksX9_isDigit_0 17 rfl rfl)
abbrev cX9_rule : ByteArray := prog_13_method_12_code
def yX9_rule : MethodName := ⟨RX9, "rule", "()V"⟩
def dkwX9_rule_12 : List UInt8 := [18, 161, 182, 0, 110, 153, 0, 10, 42, 182, 0, 163, 167, 0, 4, 1, 183, 0, 167, 182, 0, 150, 87, 177]
abbrev dktX9_rule_12 : List UInt8 := dkwX9_rule_12 ++ []
def dkwX9_rule_11 : List UInt8 := [182, 0, 93, 42, 3, 18, 158, 182, 0, 118, 60, 42, 180, 0, 20, 180, 0, 155, 187, 0, 159, 89, 27, 42]
abbrev dktX9_rule_11 : List UInt8 := dkwX9_rule_11 ++ dktX9_rule_12
def dkwX9_rule_10 : List UInt8 := [180, 0, 20, 180, 0, 155, 182, 0, 141, 16, 8, 162, 0, 7, 4, 167, 0, 4, 3, 6, 182, 0, 85, 42]
abbrev dktX9_rule_10 : List UInt8 := dkwX9_rule_10 ++ dktX9_rule_11
def dkwX9_rule_9 : List UInt8 := [183, 0, 149, 182, 0, 150, 87, 167, 0, 87, 42, 42, 18, 153, 182, 0, 110, 4, 182, 0, 85, 42, 42]
abbrev dktX9_rule_9 : List UInt8 := dkwX9_rule_9 ++ dktX9_rule_10
def dkwX9_rule_8 : List UInt8 := [182, 0, 93, 42, 180, 0, 20, 180, 0, 137, 187, 0, 147, 89, 27, 42, 27, 16, 29, 182, 0, 118]
abbrev dktX9_rule_8 : List UInt8 := dkwX9_rule_8 ++ dktX9_rule_9
def dkwX9_rule_7 : List UInt8 := [182, 0, 93, 42, 3, 16, 29, 182, 0, 118, 60, 42, 42, 18, 146, 182, 0, 110, 4, 182, 0, 85, 42]
abbrev dktX9_rule_7 : List UInt8 := dkwX9_rule_7 ++ dktX9_rule_8
def dkwX9_rule_6 : List UInt8 := [180, 0, 20, 180, 0, 137, 182, 0, 141, 16, 6, 162, 0, 7, 4, 167, 0, 4, 3, 6, 182, 0, 85, 42]
abbrev dktX9_rule_6 : List UInt8 := dkwX9_rule_6 ++ dktX9_rule_7
def dkwX9_rule_5 : List UInt8 := [17, 3, 231, 182, 0, 118, 181, 0, 133, 167, 0, 177, 42, 18, 135, 182, 0, 110, 153, 0, 84, 42, 42]
abbrev dktX9_rule_5 : List UInt8 := dkwX9_rule_5 ++ dktX9_rule_6
def dkwX9_rule_4 : List UInt8 := [167, 0, 209, 42, 18, 131, 182, 0, 110, 153, 0, 26, 42, 6, 182, 0, 114, 42, 180, 0, 20, 42, 4]
abbrev dktX9_rule_4 : List UInt8 := dkwX9_rule_4 ++ dktX9_rule_5
def dkwX9_rule_3 : List UInt8 := [153, 0, 25, 42, 5, 182, 0, 114, 42, 180, 0, 20, 42, 3, 16, 7, 182, 0, 118, 181, 0, 129]
abbrev dktX9_rule_3 : List UInt8 := dkwX9_rule_3 ++ dktX9_rule_4
def dkwX9_rule_2 : List UInt8 := [180, 0, 20, 42, 4, 16, 24, 182, 0, 118, 181, 0, 125, 167, 0, 240, 42, 18, 127, 182, 0, 110]
abbrev dktX9_rule_2 : List UInt8 := dkwX9_rule_2 ++ dktX9_rule_3
def dkwX9_rule_1 : List UInt8 := [182, 0, 118, 181, 0, 121, 167, 1, 15, 42, 18, 123, 182, 0, 110, 153, 0, 25, 42, 4, 182, 0, 114, 42]
abbrev dktX9_rule_1 : List UInt8 := dkwX9_rule_1 ++ dktX9_rule_2
def dkwX9_rule_0 : List UInt8 := [42, 18, 108, 182, 0, 110, 153, 0, 25, 42, 3, 182, 0, 114, 42, 180, 0, 20, 42, 3, 16, 72]
abbrev dktX9_rule_0 : List UInt8 := dkwX9_rule_0 ++ dktX9_rule_1
theorem dksX9_rule_0 : cX9_rule.data.toList.drop 0 = dktX9_rule_0 := by decide +kernel
theorem dksX9_rule_1 : cX9_rule.data.toList.drop 22 = dktX9_rule_1 := dk_seg dksX9_rule_0 22 rfl rfl
theorem dksX9_rule_2 : cX9_rule.data.toList.drop 46 = dktX9_rule_2 := dk_seg dksX9_rule_1 24 rfl rfl
theorem dksX9_rule_3 : cX9_rule.data.toList.drop 68 = dktX9_rule_3 := dk_seg dksX9_rule_2 22 rfl rfl
theorem dksX9_rule_4 : cX9_rule.data.toList.drop 90 = dktX9_rule_4 := dk_seg dksX9_rule_3 22 rfl rfl
theorem dksX9_rule_5 : cX9_rule.data.toList.drop 113 = dktX9_rule_5 := dk_seg dksX9_rule_4 23 rfl rfl
theorem dksX9_rule_6 : cX9_rule.data.toList.drop 136 = dktX9_rule_6 := dk_seg dksX9_rule_5 23 rfl rfl
theorem dksX9_rule_7 : cX9_rule.data.toList.drop 160 = dktX9_rule_7 := dk_seg dksX9_rule_6 24 rfl rfl
theorem dksX9_rule_8 : cX9_rule.data.toList.drop 183 = dktX9_rule_8 := dk_seg dksX9_rule_7 23 rfl rfl
theorem dksX9_rule_9 : cX9_rule.data.toList.drop 205 = dktX9_rule_9 := dk_seg dksX9_rule_8 22 rfl rfl
theorem dksX9_rule_10 : cX9_rule.data.toList.drop 228 = dktX9_rule_10 := dk_seg dksX9_rule_9 23 rfl rfl
theorem dksX9_rule_11 : cX9_rule.data.toList.drop 252 = dktX9_rule_11 := dk_seg dksX9_rule_10 24 rfl rfl
theorem dksX9_rule_12 : cX9_rule.data.toList.drop 276 = dktX9_rule_12 := dk_seg dksX9_rule_11 24 rfl rfl
theorem dX9_rule_0 : decode cX9_rule 0 = .ok (.aload_n 0, 1) := dk_42 (dk_at dksX9_rule_0 0 rfl rfl)
theorem dX9_rule_1 : decode cX9_rule 1 = .ok (.ldc 108, 2) := dk_18 108 (dk_at dksX9_rule_0 1 rfl rfl)
theorem dX9_rule_3 : decode cX9_rule 3 = .ok (.invokevirtual 110, 3) := dk_182 0 110 (dk_at dksX9_rule_0 3 rfl rfl)
theorem dX9_rule_6 : decode cX9_rule 6 = .ok (.ifCond .eq 25, 3) := dk_153 0 25 (dk_at dksX9_rule_0 6 rfl rfl)
theorem dX9_rule_9 : decode cX9_rule 9 = .ok (.aload_n 0, 1) := dk_42 (dk_at dksX9_rule_0 9 rfl rfl)
theorem dX9_rule_10 : decode cX9_rule 10 = .ok (.iconst 0, 1) := dk_3 (dk_at dksX9_rule_0 10 rfl rfl)
theorem dX9_rule_11 : decode cX9_rule 11 = .ok (.invokevirtual 114, 3) := dk_182 0 114 (dk_at dksX9_rule_0 11 rfl rfl)
theorem dX9_rule_14 : decode cX9_rule 14 = .ok (.aload_n 0, 1) := dk_42 (dk_at dksX9_rule_0 14 rfl rfl)
theorem dX9_rule_15 : decode cX9_rule 15 = .ok (.getfield 20, 3) := dk_180 0 20 (dk_at dksX9_rule_0 15 rfl rfl)
theorem dX9_rule_18 : decode cX9_rule 18 = .ok (.aload_n 0, 1) := dk_42 (dk_at dksX9_rule_0 18 rfl rfl)
theorem dX9_rule_19 : decode cX9_rule 19 = .ok (.iconst 0, 1) := dk_3 (dk_at dksX9_rule_0 19 rfl rfl)
theorem dX9_rule_20 : decode cX9_rule 20 = .ok (.bipush 72, 2) := dk_16 72 (dk_at dksX9_rule_0 20 rfl rfl)
theorem dX9_rule_22 : decode cX9_rule 22 = .ok (.invokevirtual 118, 3) := dk_182 0 118 (dk_at dksX9_rule_1 0 rfl rfl)
theorem dX9_rule_25 : decode cX9_rule 25 = .ok (.putfield 121, 3) := dk_181 0 121 (dk_at dksX9_rule_1 3 rfl rfl)
theorem dX9_rule_28 : decode cX9_rule 28 = .ok (.goto 271, 3) := dk_167 1 15 (dk_at dksX9_rule_1 6 rfl rfl)
theorem dX9_rule_31 : decode cX9_rule 31 = .ok (.aload_n 0, 1) := dk_42 (dk_at dksX9_rule_1 9 rfl rfl)
theorem dX9_rule_32 : decode cX9_rule 32 = .ok (.ldc 123, 2) := dk_18 123 (dk_at dksX9_rule_1 10 rfl rfl)
theorem dX9_rule_34 : decode cX9_rule 34 = .ok (.invokevirtual 110, 3) := dk_182 0 110 (dk_at dksX9_rule_1 12 rfl rfl)
theorem dX9_rule_37 : decode cX9_rule 37 = .ok (.ifCond .eq 25, 3) := dk_153 0 25 (dk_at dksX9_rule_1 15 rfl rfl)
theorem dX9_rule_40 : decode cX9_rule 40 = .ok (.aload_n 0, 1) := dk_42 (dk_at dksX9_rule_1 18 rfl rfl)
theorem dX9_rule_41 : decode cX9_rule 41 = .ok (.iconst 1, 1) := dk_4 (dk_at dksX9_rule_1 19 rfl rfl)
theorem dX9_rule_42 : decode cX9_rule 42 = .ok (.invokevirtual 114, 3) := dk_182 0 114 (dk_at dksX9_rule_1 20 rfl rfl)
theorem dX9_rule_45 : decode cX9_rule 45 = .ok (.aload_n 0, 1) := dk_42 (dk_at dksX9_rule_1 23 rfl rfl)
theorem dX9_rule_46 : decode cX9_rule 46 = .ok (.getfield 20, 3) := dk_180 0 20 (dk_at dksX9_rule_2 0 rfl rfl)
theorem dX9_rule_49 : decode cX9_rule 49 = .ok (.aload_n 0, 1) := dk_42 (dk_at dksX9_rule_2 3 rfl rfl)
theorem dX9_rule_50 : decode cX9_rule 50 = .ok (.iconst 1, 1) := dk_4 (dk_at dksX9_rule_2 4 rfl rfl)
theorem dX9_rule_51 : decode cX9_rule 51 = .ok (.bipush 24, 2) := dk_16 24 (dk_at dksX9_rule_2 5 rfl rfl)
theorem dX9_rule_53 : decode cX9_rule 53 = .ok (.invokevirtual 118, 3) := dk_182 0 118 (dk_at dksX9_rule_2 7 rfl rfl)
theorem dX9_rule_56 : decode cX9_rule 56 = .ok (.putfield 125, 3) := dk_181 0 125 (dk_at dksX9_rule_2 10 rfl rfl)
theorem dX9_rule_59 : decode cX9_rule 59 = .ok (.goto 240, 3) := dk_167 0 240 (dk_at dksX9_rule_2 13 rfl rfl)
theorem dX9_rule_62 : decode cX9_rule 62 = .ok (.aload_n 0, 1) := dk_42 (dk_at dksX9_rule_2 16 rfl rfl)
theorem dX9_rule_63 : decode cX9_rule 63 = .ok (.ldc 127, 2) := dk_18 127 (dk_at dksX9_rule_2 17 rfl rfl)
theorem dX9_rule_65 : decode cX9_rule 65 = .ok (.invokevirtual 110, 3) := dk_182 0 110 (dk_at dksX9_rule_2 19 rfl rfl)
theorem dX9_rule_68 : decode cX9_rule 68 = .ok (.ifCond .eq 25, 3) := dk_153 0 25 (dk_at dksX9_rule_3 0 rfl rfl)
theorem dX9_rule_71 : decode cX9_rule 71 = .ok (.aload_n 0, 1) := dk_42 (dk_at dksX9_rule_3 3 rfl rfl)
theorem dX9_rule_72 : decode cX9_rule 72 = .ok (.iconst 2, 1) := dk_5 (dk_at dksX9_rule_3 4 rfl rfl)
theorem dX9_rule_73 : decode cX9_rule 73 = .ok (.invokevirtual 114, 3) := dk_182 0 114 (dk_at dksX9_rule_3 5 rfl rfl)
theorem dX9_rule_76 : decode cX9_rule 76 = .ok (.aload_n 0, 1) := dk_42 (dk_at dksX9_rule_3 8 rfl rfl)
theorem dX9_rule_77 : decode cX9_rule 77 = .ok (.getfield 20, 3) := dk_180 0 20 (dk_at dksX9_rule_3 9 rfl rfl)
theorem dX9_rule_80 : decode cX9_rule 80 = .ok (.aload_n 0, 1) := dk_42 (dk_at dksX9_rule_3 12 rfl rfl)
theorem dX9_rule_81 : decode cX9_rule 81 = .ok (.iconst 0, 1) := dk_3 (dk_at dksX9_rule_3 13 rfl rfl)
theorem dX9_rule_82 : decode cX9_rule 82 = .ok (.bipush 7, 2) := dk_16 7 (dk_at dksX9_rule_3 14 rfl rfl)
theorem dX9_rule_84 : decode cX9_rule 84 = .ok (.invokevirtual 118, 3) := dk_182 0 118 (dk_at dksX9_rule_3 16 rfl rfl)
theorem dX9_rule_87 : decode cX9_rule 87 = .ok (.putfield 129, 3) := dk_181 0 129 (dk_at dksX9_rule_3 19 rfl rfl)
theorem dX9_rule_90 : decode cX9_rule 90 = .ok (.goto 209, 3) := dk_167 0 209 (dk_at dksX9_rule_4 0 rfl rfl)
theorem dX9_rule_93 : decode cX9_rule 93 = .ok (.aload_n 0, 1) := dk_42 (dk_at dksX9_rule_4 3 rfl rfl)
theorem dX9_rule_94 : decode cX9_rule 94 = .ok (.ldc 131, 2) := dk_18 131 (dk_at dksX9_rule_4 4 rfl rfl)
theorem dX9_rule_96 : decode cX9_rule 96 = .ok (.invokevirtual 110, 3) := dk_182 0 110 (dk_at dksX9_rule_4 6 rfl rfl)
theorem dX9_rule_99 : decode cX9_rule 99 = .ok (.ifCond .eq 26, 3) := dk_153 0 26 (dk_at dksX9_rule_4 9 rfl rfl)
theorem dX9_rule_102 : decode cX9_rule 102 = .ok (.aload_n 0, 1) := dk_42 (dk_at dksX9_rule_4 12 rfl rfl)
theorem dX9_rule_103 : decode cX9_rule 103 = .ok (.iconst 3, 1) := dk_6 (dk_at dksX9_rule_4 13 rfl rfl)
theorem dX9_rule_104 : decode cX9_rule 104 = .ok (.invokevirtual 114, 3) := dk_182 0 114 (dk_at dksX9_rule_4 14 rfl rfl)
theorem dX9_rule_107 : decode cX9_rule 107 = .ok (.aload_n 0, 1) := dk_42 (dk_at dksX9_rule_4 17 rfl rfl)
theorem dX9_rule_108 : decode cX9_rule 108 = .ok (.getfield 20, 3) := dk_180 0 20 (dk_at dksX9_rule_4 18 rfl rfl)
theorem dX9_rule_111 : decode cX9_rule 111 = .ok (.aload_n 0, 1) := dk_42 (dk_at dksX9_rule_4 21 rfl rfl)
theorem dX9_rule_112 : decode cX9_rule 112 = .ok (.iconst 1, 1) := dk_4 (dk_at dksX9_rule_4 22 rfl rfl)
theorem dX9_rule_113 : decode cX9_rule 113 = .ok (.sipush 999, 3) := dk_17 3 231 (dk_at dksX9_rule_5 0 rfl rfl)
theorem dX9_rule_116 : decode cX9_rule 116 = .ok (.invokevirtual 118, 3) := dk_182 0 118 (dk_at dksX9_rule_5 3 rfl rfl)
theorem dX9_rule_119 : decode cX9_rule 119 = .ok (.putfield 133, 3) := dk_181 0 133 (dk_at dksX9_rule_5 6 rfl rfl)
theorem dX9_rule_122 : decode cX9_rule 122 = .ok (.goto 177, 3) := dk_167 0 177 (dk_at dksX9_rule_5 9 rfl rfl)
theorem dX9_rule_125 : decode cX9_rule 125 = .ok (.aload_n 0, 1) := dk_42 (dk_at dksX9_rule_5 12 rfl rfl)
theorem dX9_rule_126 : decode cX9_rule 126 = .ok (.ldc 135, 2) := dk_18 135 (dk_at dksX9_rule_5 13 rfl rfl)
theorem dX9_rule_128 : decode cX9_rule 128 = .ok (.invokevirtual 110, 3) := dk_182 0 110 (dk_at dksX9_rule_5 15 rfl rfl)
theorem dX9_rule_131 : decode cX9_rule 131 = .ok (.ifCond .eq 84, 3) := dk_153 0 84 (dk_at dksX9_rule_5 18 rfl rfl)
theorem dX9_rule_134 : decode cX9_rule 134 = .ok (.aload_n 0, 1) := dk_42 (dk_at dksX9_rule_5 21 rfl rfl)
theorem dX9_rule_135 : decode cX9_rule 135 = .ok (.aload_n 0, 1) := dk_42 (dk_at dksX9_rule_5 22 rfl rfl)
theorem dX9_rule_136 : decode cX9_rule 136 = .ok (.getfield 20, 3) := dk_180 0 20 (dk_at dksX9_rule_6 0 rfl rfl)
theorem dX9_rule_139 : decode cX9_rule 139 = .ok (.getfield 137, 3) := dk_180 0 137 (dk_at dksX9_rule_6 3 rfl rfl)
theorem dX9_rule_142 : decode cX9_rule 142 = .ok (.invokevirtual 141, 3) := dk_182 0 141 (dk_at dksX9_rule_6 6 rfl rfl)
theorem dX9_rule_145 : decode cX9_rule 145 = .ok (.bipush 6, 2) := dk_16 6 (dk_at dksX9_rule_6 9 rfl rfl)
theorem dX9_rule_147 : decode cX9_rule 147 = .ok (.if_icmp .ge 7, 3) := dk_162 0 7 (dk_at dksX9_rule_6 11 rfl rfl)
theorem dX9_rule_150 : decode cX9_rule 150 = .ok (.iconst 1, 1) := dk_4 (dk_at dksX9_rule_6 14 rfl rfl)
theorem dX9_rule_151 : decode cX9_rule 151 = .ok (.goto 4, 3) := dk_167 0 4 (dk_at dksX9_rule_6 15 rfl rfl)
theorem dX9_rule_154 : decode cX9_rule 154 = .ok (.iconst 0, 1) := dk_3 (dk_at dksX9_rule_6 18 rfl rfl)
theorem dX9_rule_155 : decode cX9_rule 155 = .ok (.iconst 3, 1) := dk_6 (dk_at dksX9_rule_6 19 rfl rfl)
theorem dX9_rule_156 : decode cX9_rule 156 = .ok (.invokevirtual 85, 3) := dk_182 0 85 (dk_at dksX9_rule_6 20 rfl rfl)
theorem dX9_rule_159 : decode cX9_rule 159 = .ok (.aload_n 0, 1) := dk_42 (dk_at dksX9_rule_6 23 rfl rfl)
theorem dX9_rule_160 : decode cX9_rule 160 = .ok (.invokevirtual 93, 3) := dk_182 0 93 (dk_at dksX9_rule_7 0 rfl rfl)
theorem dX9_rule_163 : decode cX9_rule 163 = .ok (.aload_n 0, 1) := dk_42 (dk_at dksX9_rule_7 3 rfl rfl)
theorem dX9_rule_164 : decode cX9_rule 164 = .ok (.iconst 0, 1) := dk_3 (dk_at dksX9_rule_7 4 rfl rfl)
theorem dX9_rule_165 : decode cX9_rule 165 = .ok (.bipush 29, 2) := dk_16 29 (dk_at dksX9_rule_7 5 rfl rfl)
theorem dX9_rule_167 : decode cX9_rule 167 = .ok (.invokevirtual 118, 3) := dk_182 0 118 (dk_at dksX9_rule_7 7 rfl rfl)
theorem dX9_rule_170 : decode cX9_rule 170 = .ok (.istore_n 1, 1) := dk_60 (dk_at dksX9_rule_7 10 rfl rfl)
theorem dX9_rule_171 : decode cX9_rule 171 = .ok (.aload_n 0, 1) := dk_42 (dk_at dksX9_rule_7 11 rfl rfl)
theorem dX9_rule_172 : decode cX9_rule 172 = .ok (.aload_n 0, 1) := dk_42 (dk_at dksX9_rule_7 12 rfl rfl)
theorem dX9_rule_173 : decode cX9_rule 173 = .ok (.ldc 146, 2) := dk_18 146 (dk_at dksX9_rule_7 13 rfl rfl)
theorem dX9_rule_175 : decode cX9_rule 175 = .ok (.invokevirtual 110, 3) := dk_182 0 110 (dk_at dksX9_rule_7 15 rfl rfl)
theorem dX9_rule_178 : decode cX9_rule 178 = .ok (.iconst 1, 1) := dk_4 (dk_at dksX9_rule_7 18 rfl rfl)
theorem dX9_rule_179 : decode cX9_rule 179 = .ok (.invokevirtual 85, 3) := dk_182 0 85 (dk_at dksX9_rule_7 19 rfl rfl)
theorem dX9_rule_182 : decode cX9_rule 182 = .ok (.aload_n 0, 1) := dk_42 (dk_at dksX9_rule_7 22 rfl rfl)
theorem dX9_rule_183 : decode cX9_rule 183 = .ok (.invokevirtual 93, 3) := dk_182 0 93 (dk_at dksX9_rule_8 0 rfl rfl)
theorem dX9_rule_186 : decode cX9_rule 186 = .ok (.aload_n 0, 1) := dk_42 (dk_at dksX9_rule_8 3 rfl rfl)
theorem dX9_rule_187 : decode cX9_rule 187 = .ok (.getfield 20, 3) := dk_180 0 20 (dk_at dksX9_rule_8 4 rfl rfl)
theorem dX9_rule_190 : decode cX9_rule 190 = .ok (.getfield 137, 3) := dk_180 0 137 (dk_at dksX9_rule_8 7 rfl rfl)
theorem dX9_rule_193 : decode cX9_rule 193 = .ok (.new 147, 3) := dk_187 0 147 (dk_at dksX9_rule_8 10 rfl rfl)
theorem dX9_rule_196 : decode cX9_rule 196 = .ok (.dup, 1) := dk_89 (dk_at dksX9_rule_8 13 rfl rfl)
theorem dX9_rule_197 : decode cX9_rule 197 = .ok (.iload_n 1, 1) := dk_27 (dk_at dksX9_rule_8 14 rfl rfl)
theorem dX9_rule_198 : decode cX9_rule 198 = .ok (.aload_n 0, 1) := dk_42 (dk_at dksX9_rule_8 15 rfl rfl)
theorem dX9_rule_199 : decode cX9_rule 199 = .ok (.iload_n 1, 1) := dk_27 (dk_at dksX9_rule_8 16 rfl rfl)
theorem dX9_rule_200 : decode cX9_rule 200 = .ok (.bipush 29, 2) := dk_16 29 (dk_at dksX9_rule_8 17 rfl rfl)
theorem dX9_rule_202 : decode cX9_rule 202 = .ok (.invokevirtual 118, 3) := dk_182 0 118 (dk_at dksX9_rule_8 19 rfl rfl)
theorem dX9_rule_205 : decode cX9_rule 205 = .ok (.invokespecial 149, 3) := dk_183 0 149 (dk_at dksX9_rule_9 0 rfl rfl)
theorem dX9_rule_208 : decode cX9_rule 208 = .ok (.invokevirtual 150, 3) := dk_182 0 150 (dk_at dksX9_rule_9 3 rfl rfl)
theorem dX9_rule_211 : decode cX9_rule 211 = .ok (.pop, 1) := dk_87 (dk_at dksX9_rule_9 6 rfl rfl)
theorem dX9_rule_212 : decode cX9_rule 212 = .ok (.goto 87, 3) := dk_167 0 87 (dk_at dksX9_rule_9 7 rfl rfl)
theorem dX9_rule_215 : decode cX9_rule 215 = .ok (.aload_n 0, 1) := dk_42 (dk_at dksX9_rule_9 10 rfl rfl)
theorem dX9_rule_216 : decode cX9_rule 216 = .ok (.aload_n 0, 1) := dk_42 (dk_at dksX9_rule_9 11 rfl rfl)
theorem dX9_rule_217 : decode cX9_rule 217 = .ok (.ldc 153, 2) := dk_18 153 (dk_at dksX9_rule_9 12 rfl rfl)
theorem dX9_rule_219 : decode cX9_rule 219 = .ok (.invokevirtual 110, 3) := dk_182 0 110 (dk_at dksX9_rule_9 14 rfl rfl)
theorem dX9_rule_222 : decode cX9_rule 222 = .ok (.iconst 1, 1) := dk_4 (dk_at dksX9_rule_9 17 rfl rfl)
theorem dX9_rule_223 : decode cX9_rule 223 = .ok (.invokevirtual 85, 3) := dk_182 0 85 (dk_at dksX9_rule_9 18 rfl rfl)
theorem dX9_rule_226 : decode cX9_rule 226 = .ok (.aload_n 0, 1) := dk_42 (dk_at dksX9_rule_9 21 rfl rfl)
theorem dX9_rule_227 : decode cX9_rule 227 = .ok (.aload_n 0, 1) := dk_42 (dk_at dksX9_rule_9 22 rfl rfl)
theorem dX9_rule_228 : decode cX9_rule 228 = .ok (.getfield 20, 3) := dk_180 0 20 (dk_at dksX9_rule_10 0 rfl rfl)
theorem dX9_rule_231 : decode cX9_rule 231 = .ok (.getfield 155, 3) := dk_180 0 155 (dk_at dksX9_rule_10 3 rfl rfl)
theorem dX9_rule_234 : decode cX9_rule 234 = .ok (.invokevirtual 141, 3) := dk_182 0 141 (dk_at dksX9_rule_10 6 rfl rfl)
theorem dX9_rule_237 : decode cX9_rule 237 = .ok (.bipush 8, 2) := dk_16 8 (dk_at dksX9_rule_10 9 rfl rfl)
theorem dX9_rule_239 : decode cX9_rule 239 = .ok (.if_icmp .ge 7, 3) := dk_162 0 7 (dk_at dksX9_rule_10 11 rfl rfl)
theorem dX9_rule_242 : decode cX9_rule 242 = .ok (.iconst 1, 1) := dk_4 (dk_at dksX9_rule_10 14 rfl rfl)
theorem dX9_rule_243 : decode cX9_rule 243 = .ok (.goto 4, 3) := dk_167 0 4 (dk_at dksX9_rule_10 15 rfl rfl)
theorem dX9_rule_246 : decode cX9_rule 246 = .ok (.iconst 0, 1) := dk_3 (dk_at dksX9_rule_10 18 rfl rfl)
theorem dX9_rule_247 : decode cX9_rule 247 = .ok (.iconst 3, 1) := dk_6 (dk_at dksX9_rule_10 19 rfl rfl)
theorem dX9_rule_248 : decode cX9_rule 248 = .ok (.invokevirtual 85, 3) := dk_182 0 85 (dk_at dksX9_rule_10 20 rfl rfl)
theorem dX9_rule_251 : decode cX9_rule 251 = .ok (.aload_n 0, 1) := dk_42 (dk_at dksX9_rule_10 23 rfl rfl)
theorem dX9_rule_252 : decode cX9_rule 252 = .ok (.invokevirtual 93, 3) := dk_182 0 93 (dk_at dksX9_rule_11 0 rfl rfl)
theorem dX9_rule_255 : decode cX9_rule 255 = .ok (.aload_n 0, 1) := dk_42 (dk_at dksX9_rule_11 3 rfl rfl)
theorem dX9_rule_256 : decode cX9_rule 256 = .ok (.iconst 0, 1) := dk_3 (dk_at dksX9_rule_11 4 rfl rfl)
theorem dX9_rule_257 : decode cX9_rule 257 = .ok (.ldc 158, 2) := dk_18 158 (dk_at dksX9_rule_11 5 rfl rfl)
theorem dX9_rule_259 : decode cX9_rule 259 = .ok (.invokevirtual 118, 3) := dk_182 0 118 (dk_at dksX9_rule_11 7 rfl rfl)
theorem dX9_rule_262 : decode cX9_rule 262 = .ok (.istore_n 1, 1) := dk_60 (dk_at dksX9_rule_11 10 rfl rfl)
theorem dX9_rule_263 : decode cX9_rule 263 = .ok (.aload_n 0, 1) := dk_42 (dk_at dksX9_rule_11 11 rfl rfl)
theorem dX9_rule_264 : decode cX9_rule 264 = .ok (.getfield 20, 3) := dk_180 0 20 (dk_at dksX9_rule_11 12 rfl rfl)
theorem dX9_rule_267 : decode cX9_rule 267 = .ok (.getfield 155, 3) := dk_180 0 155 (dk_at dksX9_rule_11 15 rfl rfl)
theorem dX9_rule_270 : decode cX9_rule 270 = .ok (.new 159, 3) := dk_187 0 159 (dk_at dksX9_rule_11 18 rfl rfl)
theorem dX9_rule_273 : decode cX9_rule 273 = .ok (.dup, 1) := dk_89 (dk_at dksX9_rule_11 21 rfl rfl)
theorem dX9_rule_274 : decode cX9_rule 274 = .ok (.iload_n 1, 1) := dk_27 (dk_at dksX9_rule_11 22 rfl rfl)
theorem dX9_rule_275 : decode cX9_rule 275 = .ok (.aload_n 0, 1) := dk_42 (dk_at dksX9_rule_11 23 rfl rfl)
theorem dX9_rule_276 : decode cX9_rule 276 = .ok (.ldc 161, 2) := dk_18 161 (dk_at dksX9_rule_12 0 rfl rfl)
theorem dX9_rule_278 : decode cX9_rule 278 = .ok (.invokevirtual 110, 3) := dk_182 0 110 (dk_at dksX9_rule_12 2 rfl rfl)
theorem dX9_rule_281 : decode cX9_rule 281 = .ok (.ifCond .eq 10, 3) := dk_153 0 10 (dk_at dksX9_rule_12 5 rfl rfl)
theorem dX9_rule_284 : decode cX9_rule 284 = .ok (.aload_n 0, 1) := dk_42 (dk_at dksX9_rule_12 8 rfl rfl)
theorem dX9_rule_285 : decode cX9_rule 285 = .ok (.invokevirtual 163, 3) := dk_182 0 163 (dk_at dksX9_rule_12 9 rfl rfl)
theorem dX9_rule_288 : decode cX9_rule 288 = .ok (.goto 4, 3) := dk_167 0 4 (dk_at dksX9_rule_12 12 rfl rfl)
theorem dX9_rule_291 : decode cX9_rule 291 = .ok (.aconst_null, 1) := dk_1 (dk_at dksX9_rule_12 15 rfl rfl)
theorem dX9_rule_292 : decode cX9_rule 292 = .ok (.invokespecial 167, 3) := dk_183 0 167 (dk_at dksX9_rule_12 16 rfl rfl)
theorem dX9_rule_295 : decode cX9_rule 295 = .ok (.invokevirtual 150, 3) := dk_182 0 150 (dk_at dksX9_rule_12 19 rfl rfl)
theorem dX9_rule_298 : decode cX9_rule 298 = .ok (.pop, 1) := dk_87 (dk_at dksX9_rule_12 22 rfl rfl)
theorem dX9_rule_299 : decode cX9_rule 299 = .ok (.return_, 1) := dk_177 (dk_at dksX9_rule_12 23 rfl rfl)
abbrev cX9_is : ByteArray := prog_13_method_7_code
def yX9_is : MethodName := ⟨RX9, "is", "(Ljava/lang/String;)Z"⟩
def dkwX9_is_1 : List UInt8 := [172]
abbrev dktX9_is_1 : List UInt8 := dkwX9_is_1 ++ []
def dkwX9_is_0 : List UInt8 := [42, 180, 0, 42, 5, 160, 0, 18, 42, 180, 0, 11, 43, 182, 0, 81, 153, 0, 7, 4, 167, 0, 4, 3]
abbrev dktX9_is_0 : List UInt8 := dkwX9_is_0 ++ dktX9_is_1
theorem dksX9_is_0 : cX9_is.data.toList.drop 0 = dktX9_is_0 := by decide +kernel
theorem dksX9_is_1 : cX9_is.data.toList.drop 24 = dktX9_is_1 := dk_seg dksX9_is_0 24 rfl rfl
theorem dX9_is_0 : decode cX9_is 0 = .ok (.aload_n 0, 1) := dk_42 (dk_at dksX9_is_0 0 rfl rfl)
theorem dX9_is_1 : decode cX9_is 1 = .ok (.getfield 42, 3) := dk_180 0 42 (dk_at dksX9_is_0 1 rfl rfl)
theorem dX9_is_4 : decode cX9_is 4 = .ok (.iconst 2, 1) := dk_5 (dk_at dksX9_is_0 4 rfl rfl)
theorem dX9_is_5 : decode cX9_is 5 = .ok (.if_icmp .ne 18, 3) := dk_160 0 18 (dk_at dksX9_is_0 5 rfl rfl)
theorem dX9_is_8 : decode cX9_is 8 = .ok (.aload_n 0, 1) := dk_42 (dk_at dksX9_is_0 8 rfl rfl)
theorem dX9_is_9 : decode cX9_is 9 = .ok (.getfield 11, 3) := dk_180 0 11 (dk_at dksX9_is_0 9 rfl rfl)
theorem dX9_is_12 : decode cX9_is 12 = .ok (.aload_n 1, 1) := dk_43 (dk_at dksX9_is_0 12 rfl rfl)
theorem dX9_is_13 : decode cX9_is 13 = .ok (.invokevirtual 81, 3) := dk_182 0 81 (dk_at dksX9_is_0 13 rfl rfl)
theorem dX9_is_16 : decode cX9_is 16 = .ok (.ifCond .eq 7, 3) := dk_153 0 7 (dk_at dksX9_is_0 16 rfl rfl)
theorem dX9_is_19 : decode cX9_is 19 = .ok (.iconst 1, 1) := dk_4 (dk_at dksX9_is_0 19 rfl rfl)
theorem dX9_is_20 : decode cX9_is 20 = .ok (.goto 4, 3) := dk_167 0 4 (dk_at dksX9_is_0 20 rfl rfl)
theorem dX9_is_23 : decode cX9_is 23 = .ok (.iconst 0, 1) := dk_3 (dk_at dksX9_is_0 23 rfl rfl)
theorem dX9_is_24 : decode cX9_is 24 = .ok (.ireturn, 1) := dk_172 (dk_at dksX9_is_1 0 rfl rfl)
abbrev cX9_once : ByteArray := prog_13_method_11_code
def yX9_once : MethodName := ⟨RX9, "once", "(I)V"⟩
def dkwX9_once_1 : List UInt8 := [180, 0, 105, 4, 27, 120, 128, 181, 0, 105, 42, 182, 0, 93, 177]
abbrev dktX9_once_1 : List UInt8 := dkwX9_once_1 ++ []
def dkwX9_once_0 : List UInt8 := [42, 42, 180, 0, 105, 27, 122, 4, 126, 154, 0, 7, 4, 167, 0, 4, 3, 6, 182, 0, 85, 42, 89]
abbrev dktX9_once_0 : List UInt8 := dkwX9_once_0 ++ dktX9_once_1
theorem dksX9_once_0 : cX9_once.data.toList.drop 0 = dktX9_once_0 := by decide +kernel
theorem dksX9_once_1 : cX9_once.data.toList.drop 23 = dktX9_once_1 := dk_seg dksX9_once_0 23 rfl rfl
theorem dX9_once_0 : decode cX9_once 0 = .ok (.aload_n 0, 1) := dk_42 (dk_at dksX9_once_0 0 rfl rfl)
theorem dX9_once_1 : decode cX9_once 1 = .ok (.aload_n 0, 1) := dk_42 (dk_at dksX9_once_0 1 rfl rfl)
theorem dX9_once_2 : decode cX9_once 2 = .ok (.getfield 105, 3) := dk_180 0 105 (dk_at dksX9_once_0 2 rfl rfl)
theorem dX9_once_5 : decode cX9_once 5 = .ok (.iload_n 1, 1) := dk_27 (dk_at dksX9_once_0 5 rfl rfl)
theorem dX9_once_6 : decode cX9_once 6 = .ok (.ishr, 1) := dk_122 (dk_at dksX9_once_0 6 rfl rfl)
theorem dX9_once_7 : decode cX9_once 7 = .ok (.iconst 1, 1) := dk_4 (dk_at dksX9_once_0 7 rfl rfl)
theorem dX9_once_8 : decode cX9_once 8 = .ok (.iand, 1) := dk_126 (dk_at dksX9_once_0 8 rfl rfl)
theorem dX9_once_9 : decode cX9_once 9 = .ok (.ifCond .ne 7, 3) := dk_154 0 7 (dk_at dksX9_once_0 9 rfl rfl)
theorem dX9_once_12 : decode cX9_once 12 = .ok (.iconst 1, 1) := dk_4 (dk_at dksX9_once_0 12 rfl rfl)
theorem dX9_once_13 : decode cX9_once 13 = .ok (.goto 4, 3) := dk_167 0 4 (dk_at dksX9_once_0 13 rfl rfl)
theorem dX9_once_16 : decode cX9_once 16 = .ok (.iconst 0, 1) := dk_3 (dk_at dksX9_once_0 16 rfl rfl)
theorem dX9_once_17 : decode cX9_once 17 = .ok (.iconst 3, 1) := dk_6 (dk_at dksX9_once_0 17 rfl rfl)
theorem dX9_once_18 : decode cX9_once 18 = .ok (.invokevirtual 85, 3) := dk_182 0 85 (dk_at dksX9_once_0 18 rfl rfl)
theorem dX9_once_21 : decode cX9_once 21 = .ok (.aload_n 0, 1) := dk_42 (dk_at dksX9_once_0 21 rfl rfl)
theorem dX9_once_22 : decode cX9_once 22 = .ok (.dup, 1) := dk_89 (dk_at dksX9_once_0 22 rfl rfl)
theorem dX9_once_23 : decode cX9_once 23 = .ok (.getfield 105, 3) := dk_180 0 105 (dk_at dksX9_once_1 0 rfl rfl)
theorem dX9_once_26 : decode cX9_once 26 = .ok (.iconst 1, 1) := dk_4 (dk_at dksX9_once_1 3 rfl rfl)
theorem dX9_once_27 : decode cX9_once 27 = .ok (.iload_n 1, 1) := dk_27 (dk_at dksX9_once_1 4 rfl rfl)
theorem dX9_once_28 : decode cX9_once 28 = .ok (.ishl, 1) := dk_120 (dk_at dksX9_once_1 5 rfl rfl)
theorem dX9_once_29 : decode cX9_once 29 = .ok (.ior, 1) := dk_128 (dk_at dksX9_once_1 6 rfl rfl)
theorem dX9_once_30 : decode cX9_once 30 = .ok (.putfield 105, 3) := dk_181 0 105 (dk_at dksX9_once_1 7 rfl rfl)
theorem dX9_once_33 : decode cX9_once 33 = .ok (.aload_n 0, 1) := dk_42 (dk_at dksX9_once_1 10 rfl rfl)
theorem dX9_once_34 : decode cX9_once 34 = .ok (.invokevirtual 93, 3) := dk_182 0 93 (dk_at dksX9_once_1 11 rfl rfl)
theorem dX9_once_37 : decode cX9_once 37 = .ok (.return_, 1) := dk_177 (dk_at dksX9_once_1 14 rfl rfl)
abbrev cX9_need : ByteArray := prog_13_method_6_code
def yX9_need : MethodName := ⟨RX9, "need", "(ZI)V"⟩
def dkwX9_need_1 : List UInt8 := [4, 167, 0, 4, 28, 42, 180, 0, 39, 183, 0, 78, 191, 177]
abbrev dktX9_need_1 : List UInt8 := dkwX9_need_1 ++ []
def dkwX9_need_0 : List UInt8 := [27, 154, 0, 36, 187, 0, 76, 89, 42, 180, 0, 42, 4, 159, 0, 11, 42, 180, 0, 42, 8, 160, 0, 7]
abbrev dktX9_need_0 : List UInt8 := dkwX9_need_0 ++ dktX9_need_1
theorem dksX9_need_0 : cX9_need.data.toList.drop 0 = dktX9_need_0 := by decide +kernel
theorem dksX9_need_1 : cX9_need.data.toList.drop 24 = dktX9_need_1 := dk_seg dksX9_need_0 24 rfl rfl
theorem dX9_need_0 : decode cX9_need 0 = .ok (.iload_n 1, 1) := dk_27 (dk_at dksX9_need_0 0 rfl rfl)
theorem dX9_need_1 : decode cX9_need 1 = .ok (.ifCond .ne 36, 3) := dk_154 0 36 (dk_at dksX9_need_0 1 rfl rfl)
theorem dX9_need_4 : decode cX9_need 4 = .ok (.new 76, 3) := dk_187 0 76 (dk_at dksX9_need_0 4 rfl rfl)
theorem dX9_need_7 : decode cX9_need 7 = .ok (.dup, 1) := dk_89 (dk_at dksX9_need_0 7 rfl rfl)
theorem dX9_need_8 : decode cX9_need 8 = .ok (.aload_n 0, 1) := dk_42 (dk_at dksX9_need_0 8 rfl rfl)
theorem dX9_need_9 : decode cX9_need 9 = .ok (.getfield 42, 3) := dk_180 0 42 (dk_at dksX9_need_0 9 rfl rfl)
theorem dX9_need_12 : decode cX9_need 12 = .ok (.iconst 1, 1) := dk_4 (dk_at dksX9_need_0 12 rfl rfl)
theorem dX9_need_13 : decode cX9_need 13 = .ok (.if_icmp .eq 11, 3) := dk_159 0 11 (dk_at dksX9_need_0 13 rfl rfl)
theorem dX9_need_16 : decode cX9_need 16 = .ok (.aload_n 0, 1) := dk_42 (dk_at dksX9_need_0 16 rfl rfl)
theorem dX9_need_17 : decode cX9_need 17 = .ok (.getfield 42, 3) := dk_180 0 42 (dk_at dksX9_need_0 17 rfl rfl)
theorem dX9_need_20 : decode cX9_need 20 = .ok (.iconst 5, 1) := dk_8 (dk_at dksX9_need_0 20 rfl rfl)
theorem dX9_need_21 : decode cX9_need 21 = .ok (.if_icmp .ne 7, 3) := dk_160 0 7 (dk_at dksX9_need_0 21 rfl rfl)
theorem dX9_need_24 : decode cX9_need 24 = .ok (.iconst 1, 1) := dk_4 (dk_at dksX9_need_1 0 rfl rfl)
theorem dX9_need_25 : decode cX9_need 25 = .ok (.goto 4, 3) := dk_167 0 4 (dk_at dksX9_need_1 1 rfl rfl)
theorem dX9_need_28 : decode cX9_need 28 = .ok (.iload_n 2, 1) := dk_28 (dk_at dksX9_need_1 4 rfl rfl)
theorem dX9_need_29 : decode cX9_need 29 = .ok (.aload_n 0, 1) := dk_42 (dk_at dksX9_need_1 5 rfl rfl)
theorem dX9_need_30 : decode cX9_need 30 = .ok (.getfield 39, 3) := dk_180 0 39 (dk_at dksX9_need_1 6 rfl rfl)
theorem dX9_need_33 : decode cX9_need 33 = .ok (.invokespecial 78, 3) := dk_183 0 78 (dk_at dksX9_need_1 9 rfl rfl)
theorem dX9_need_36 : decode cX9_need 36 = .ok (.athrow, 1) := dk_191 (dk_at dksX9_need_1 12 rfl rfl)
theorem dX9_need_37 : decode cX9_need 37 = .ok (.return_, 1) := dk_177 (dk_at dksX9_need_1 13 rfl rfl)
abbrev cX9_number : ByteArray := prog_13_method_9_code
def yX9_number : MethodName := ⟨RX9, "number", "(II)I"⟩
def dkwX9_number_1 : List UInt8 := [28, 184, 0, 89, 5, 182, 0, 85, 42, 180, 0, 62, 62, 42, 182, 0, 93, 29, 172]
abbrev dktX9_number_1 : List UInt8 := dkwX9_number_1 ++ []
def dkwX9_number_0 : List UInt8 := [42, 42, 180, 0, 42, 6, 160, 0, 7, 4, 167, 0, 4, 3, 4, 182, 0, 85, 42, 42, 180, 0, 62, 27]
abbrev dktX9_number_0 : List UInt8 := dkwX9_number_0 ++ dktX9_number_1
theorem dksX9_number_0 : cX9_number.data.toList.drop 0 = dktX9_number_0 := by decide +kernel
theorem dksX9_number_1 : cX9_number.data.toList.drop 24 = dktX9_number_1 := dk_seg dksX9_number_0 24 rfl rfl
theorem dX9_number_0 : decode cX9_number 0 = .ok (.aload_n 0, 1) := dk_42 (dk_at dksX9_number_0 0 rfl rfl)
theorem dX9_number_1 : decode cX9_number 1 = .ok (.aload_n 0, 1) := dk_42 (dk_at dksX9_number_0 1 rfl rfl)
theorem dX9_number_2 : decode cX9_number 2 = .ok (.getfield 42, 3) := dk_180 0 42 (dk_at dksX9_number_0 2 rfl rfl)
theorem dX9_number_5 : decode cX9_number 5 = .ok (.iconst 3, 1) := dk_6 (dk_at dksX9_number_0 5 rfl rfl)
theorem dX9_number_6 : decode cX9_number 6 = .ok (.if_icmp .ne 7, 3) := dk_160 0 7 (dk_at dksX9_number_0 6 rfl rfl)
theorem dX9_number_9 : decode cX9_number 9 = .ok (.iconst 1, 1) := dk_4 (dk_at dksX9_number_0 9 rfl rfl)
theorem dX9_number_10 : decode cX9_number 10 = .ok (.goto 4, 3) := dk_167 0 4 (dk_at dksX9_number_0 10 rfl rfl)
theorem dX9_number_13 : decode cX9_number 13 = .ok (.iconst 0, 1) := dk_3 (dk_at dksX9_number_0 13 rfl rfl)
theorem dX9_number_14 : decode cX9_number 14 = .ok (.iconst 1, 1) := dk_4 (dk_at dksX9_number_0 14 rfl rfl)
theorem dX9_number_15 : decode cX9_number 15 = .ok (.invokevirtual 85, 3) := dk_182 0 85 (dk_at dksX9_number_0 15 rfl rfl)
theorem dX9_number_18 : decode cX9_number 18 = .ok (.aload_n 0, 1) := dk_42 (dk_at dksX9_number_0 18 rfl rfl)
theorem dX9_number_19 : decode cX9_number 19 = .ok (.aload_n 0, 1) := dk_42 (dk_at dksX9_number_0 19 rfl rfl)
theorem dX9_number_20 : decode cX9_number 20 = .ok (.getfield 62, 3) := dk_180 0 62 (dk_at dksX9_number_0 20 rfl rfl)
theorem dX9_number_23 : decode cX9_number 23 = .ok (.iload_n 1, 1) := dk_27 (dk_at dksX9_number_0 23 rfl rfl)
theorem dX9_number_24 : decode cX9_number 24 = .ok (.iload_n 2, 1) := dk_28 (dk_at dksX9_number_1 0 rfl rfl)
theorem dX9_number_25 : decode cX9_number 25 = .ok (.invokestatic 89, 3) := dk_184 0 89 (dk_at dksX9_number_1 1 rfl rfl)
theorem dX9_number_28 : decode cX9_number 28 = .ok (.iconst 2, 1) := dk_5 (dk_at dksX9_number_1 4 rfl rfl)
theorem dX9_number_29 : decode cX9_number 29 = .ok (.invokevirtual 85, 3) := dk_182 0 85 (dk_at dksX9_number_1 5 rfl rfl)
theorem dX9_number_32 : decode cX9_number 32 = .ok (.aload_n 0, 1) := dk_42 (dk_at dksX9_number_1 8 rfl rfl)
theorem dX9_number_33 : decode cX9_number 33 = .ok (.getfield 62, 3) := dk_180 0 62 (dk_at dksX9_number_1 9 rfl rfl)
theorem dX9_number_36 : decode cX9_number 36 = .ok (.istore_n 3, 1) := dk_62 (dk_at dksX9_number_1 12 rfl rfl)
theorem dX9_number_37 : decode cX9_number 37 = .ok (.aload_n 0, 1) := dk_42 (dk_at dksX9_number_1 13 rfl rfl)
theorem dX9_number_38 : decode cX9_number 38 = .ok (.invokevirtual 93, 3) := dk_182 0 93 (dk_at dksX9_number_1 14 rfl rfl)
theorem dX9_number_41 : decode cX9_number 41 = .ok (.iload_n 3, 1) := dk_29 (dk_at dksX9_number_1 17 rfl rfl)
theorem dX9_number_42 : decode cX9_number 42 = .ok (.ireturn, 1) := dk_172 (dk_at dksX9_number_1 18 rfl rfl)
abbrev cX9_conditions : ByteArray := prog_13_method_13_code
def yX9_conditions : MethodName := ⟨RX9, "conditions", "()LOperaHouse$Cond;"⟩
def dkwX9_conditions_0 : List UInt8 := [42, 182, 0, 93, 42, 182, 0, 170, 176]
abbrev dktX9_conditions_0 : List UInt8 := dkwX9_conditions_0 ++ []
theorem dksX9_conditions_0 : cX9_conditions.data.toList.drop 0 = dktX9_conditions_0 := by decide +kernel
theorem dX9_conditions_0 : decode cX9_conditions 0 = .ok (.aload_n 0, 1) := dk_42 (dk_at dksX9_conditions_0 0 rfl rfl)
theorem dX9_conditions_1 : decode cX9_conditions 1 = .ok (.invokevirtual 93, 3) := dk_182 0 93 (dk_at dksX9_conditions_0 1 rfl rfl)
theorem dX9_conditions_4 : decode cX9_conditions 4 = .ok (.aload_n 0, 1) := dk_42 (dk_at dksX9_conditions_0 4 rfl rfl)
theorem dX9_conditions_5 : decode cX9_conditions 5 = .ok (.invokevirtual 170, 3) := dk_182 0 170 (dk_at dksX9_conditions_0 5 rfl rfl)
theorem dX9_conditions_8 : decode cX9_conditions 8 = .ok (.areturn, 1) := dk_176 (dk_at dksX9_conditions_0 8 rfl rfl)
abbrev cX9_cond : ByteArray := prog_13_method_14_code
def yX9_cond : MethodName := ⟨RX9, "cond", "()LOperaHouse$Cond;"⟩
def dkwX9_cond_1 : List UInt8 := [3, 43, 42, 182, 0, 173, 183, 0, 180, 76, 167, 255, 227, 43, 176]
abbrev dktX9_cond_1 : List UInt8 := dkwX9_cond_1 ++ []
def dkwX9_cond_0 : List UInt8 := [42, 182, 0, 173, 76, 42, 18, 176, 182, 0, 110, 153, 0, 26, 42, 182, 0, 93, 187, 0, 178, 89, 5, 3]
abbrev dktX9_cond_0 : List UInt8 := dkwX9_cond_0 ++ dktX9_cond_1
theorem dksX9_cond_0 : cX9_cond.data.toList.drop 0 = dktX9_cond_0 := by decide +kernel
theorem dksX9_cond_1 : cX9_cond.data.toList.drop 24 = dktX9_cond_1 := dk_seg dksX9_cond_0 24 rfl rfl
theorem dX9_cond_0 : decode cX9_cond 0 = .ok (.aload_n 0, 1) := dk_42 (dk_at dksX9_cond_0 0 rfl rfl)
theorem dX9_cond_1 : decode cX9_cond 1 = .ok (.invokevirtual 173, 3) := dk_182 0 173 (dk_at dksX9_cond_0 1 rfl rfl)
theorem dX9_cond_4 : decode cX9_cond 4 = .ok (.astore_n 1, 1) := dk_76 (dk_at dksX9_cond_0 4 rfl rfl)
theorem dX9_cond_5 : decode cX9_cond 5 = .ok (.aload_n 0, 1) := dk_42 (dk_at dksX9_cond_0 5 rfl rfl)
theorem dX9_cond_6 : decode cX9_cond 6 = .ok (.ldc 176, 2) := dk_18 176 (dk_at dksX9_cond_0 6 rfl rfl)
theorem dX9_cond_8 : decode cX9_cond 8 = .ok (.invokevirtual 110, 3) := dk_182 0 110 (dk_at dksX9_cond_0 8 rfl rfl)
theorem dX9_cond_11 : decode cX9_cond 11 = .ok (.ifCond .eq 26, 3) := dk_153 0 26 (dk_at dksX9_cond_0 11 rfl rfl)
theorem dX9_cond_14 : decode cX9_cond 14 = .ok (.aload_n 0, 1) := dk_42 (dk_at dksX9_cond_0 14 rfl rfl)
theorem dX9_cond_15 : decode cX9_cond 15 = .ok (.invokevirtual 93, 3) := dk_182 0 93 (dk_at dksX9_cond_0 15 rfl rfl)
theorem dX9_cond_18 : decode cX9_cond 18 = .ok (.new 178, 3) := dk_187 0 178 (dk_at dksX9_cond_0 18 rfl rfl)
theorem dX9_cond_21 : decode cX9_cond 21 = .ok (.dup, 1) := dk_89 (dk_at dksX9_cond_0 21 rfl rfl)
theorem dX9_cond_22 : decode cX9_cond 22 = .ok (.iconst 2, 1) := dk_5 (dk_at dksX9_cond_0 22 rfl rfl)
theorem dX9_cond_23 : decode cX9_cond 23 = .ok (.iconst 0, 1) := dk_3 (dk_at dksX9_cond_0 23 rfl rfl)
theorem dX9_cond_24 : decode cX9_cond 24 = .ok (.iconst 0, 1) := dk_3 (dk_at dksX9_cond_1 0 rfl rfl)
theorem dX9_cond_25 : decode cX9_cond 25 = .ok (.aload_n 1, 1) := dk_43 (dk_at dksX9_cond_1 1 rfl rfl)
theorem dX9_cond_26 : decode cX9_cond 26 = .ok (.aload_n 0, 1) := dk_42 (dk_at dksX9_cond_1 2 rfl rfl)
theorem dX9_cond_27 : decode cX9_cond 27 = .ok (.invokevirtual 173, 3) := dk_182 0 173 (dk_at dksX9_cond_1 3 rfl rfl)
theorem dX9_cond_30 : decode cX9_cond 30 = .ok (.invokespecial 180, 3) := dk_183 0 180 (dk_at dksX9_cond_1 6 rfl rfl)
theorem dX9_cond_33 : decode cX9_cond 33 = .ok (.astore_n 1, 1) := dk_76 (dk_at dksX9_cond_1 9 rfl rfl)
theorem dX9_cond_34 : decode cX9_cond 34 = .ok (.goto (-29), 3) := dk_167 255 227 (dk_at dksX9_cond_1 10 rfl rfl)
theorem dX9_cond_37 : decode cX9_cond 37 = .ok (.aload_n 1, 1) := dk_43 (dk_at dksX9_cond_1 13 rfl rfl)
theorem dX9_cond_38 : decode cX9_cond 38 = .ok (.areturn, 1) := dk_176 (dk_at dksX9_cond_1 14 rfl rfl)
abbrev cX9_all : ByteArray := prog_13_method_15_code
def yX9_all : MethodName := ⟨RX9, "all", "()LOperaHouse$Cond;"⟩
def dkwX9_all_1 : List UInt8 := [3, 43, 42, 182, 0, 183, 183, 0, 180, 76, 167, 255, 227, 43, 176]
abbrev dktX9_all_1 : List UInt8 := dkwX9_all_1 ++ []
def dkwX9_all_0 : List UInt8 := [42, 182, 0, 183, 76, 42, 18, 186, 182, 0, 110, 153, 0, 26, 42, 182, 0, 93, 187, 0, 178, 89, 4, 3]
abbrev dktX9_all_0 : List UInt8 := dkwX9_all_0 ++ dktX9_all_1
theorem dksX9_all_0 : cX9_all.data.toList.drop 0 = dktX9_all_0 := by decide +kernel
theorem dksX9_all_1 : cX9_all.data.toList.drop 24 = dktX9_all_1 := dk_seg dksX9_all_0 24 rfl rfl
theorem dX9_all_0 : decode cX9_all 0 = .ok (.aload_n 0, 1) := dk_42 (dk_at dksX9_all_0 0 rfl rfl)
theorem dX9_all_1 : decode cX9_all 1 = .ok (.invokevirtual 183, 3) := dk_182 0 183 (dk_at dksX9_all_0 1 rfl rfl)
theorem dX9_all_4 : decode cX9_all 4 = .ok (.astore_n 1, 1) := dk_76 (dk_at dksX9_all_0 4 rfl rfl)
theorem dX9_all_5 : decode cX9_all 5 = .ok (.aload_n 0, 1) := dk_42 (dk_at dksX9_all_0 5 rfl rfl)
theorem dX9_all_6 : decode cX9_all 6 = .ok (.ldc 186, 2) := dk_18 186 (dk_at dksX9_all_0 6 rfl rfl)
theorem dX9_all_8 : decode cX9_all 8 = .ok (.invokevirtual 110, 3) := dk_182 0 110 (dk_at dksX9_all_0 8 rfl rfl)
theorem dX9_all_11 : decode cX9_all 11 = .ok (.ifCond .eq 26, 3) := dk_153 0 26 (dk_at dksX9_all_0 11 rfl rfl)
theorem dX9_all_14 : decode cX9_all 14 = .ok (.aload_n 0, 1) := dk_42 (dk_at dksX9_all_0 14 rfl rfl)
theorem dX9_all_15 : decode cX9_all 15 = .ok (.invokevirtual 93, 3) := dk_182 0 93 (dk_at dksX9_all_0 15 rfl rfl)
theorem dX9_all_18 : decode cX9_all 18 = .ok (.new 178, 3) := dk_187 0 178 (dk_at dksX9_all_0 18 rfl rfl)
theorem dX9_all_21 : decode cX9_all 21 = .ok (.dup, 1) := dk_89 (dk_at dksX9_all_0 21 rfl rfl)
theorem dX9_all_22 : decode cX9_all 22 = .ok (.iconst 1, 1) := dk_4 (dk_at dksX9_all_0 22 rfl rfl)
theorem dX9_all_23 : decode cX9_all 23 = .ok (.iconst 0, 1) := dk_3 (dk_at dksX9_all_0 23 rfl rfl)
theorem dX9_all_24 : decode cX9_all 24 = .ok (.iconst 0, 1) := dk_3 (dk_at dksX9_all_1 0 rfl rfl)
theorem dX9_all_25 : decode cX9_all 25 = .ok (.aload_n 1, 1) := dk_43 (dk_at dksX9_all_1 1 rfl rfl)
theorem dX9_all_26 : decode cX9_all 26 = .ok (.aload_n 0, 1) := dk_42 (dk_at dksX9_all_1 2 rfl rfl)
theorem dX9_all_27 : decode cX9_all 27 = .ok (.invokevirtual 183, 3) := dk_182 0 183 (dk_at dksX9_all_1 3 rfl rfl)
theorem dX9_all_30 : decode cX9_all 30 = .ok (.invokespecial 180, 3) := dk_183 0 180 (dk_at dksX9_all_1 6 rfl rfl)
theorem dX9_all_33 : decode cX9_all 33 = .ok (.astore_n 1, 1) := dk_76 (dk_at dksX9_all_1 9 rfl rfl)
theorem dX9_all_34 : decode cX9_all 34 = .ok (.goto (-29), 3) := dk_167 255 227 (dk_at dksX9_all_1 10 rfl rfl)
theorem dX9_all_37 : decode cX9_all 37 = .ok (.aload_n 1, 1) := dk_43 (dk_at dksX9_all_1 13 rfl rfl)
theorem dX9_all_38 : decode cX9_all 38 = .ok (.areturn, 1) := dk_176 (dk_at dksX9_all_1 14 rfl rfl)
abbrev cX9_one : ByteArray := prog_13_method_17_code
def yX9_one : MethodName := ⟨RX9, "one", "()LOperaHouse$Cond;"⟩
def dkwX9_one_8 : List UInt8 := [42, 89, 180, 0, 207, 4, 100, 181, 0, 207, 44, 176]
abbrev dktX9_one_8 : List UInt8 := dkwX9_one_8 ++ []
def dkwX9_one_7 : List UInt8 := [162, 0, 18, 187, 0, 178, 89, 27, 3, 3, 1, 1, 183, 0, 180, 167, 0, 8, 42, 27, 182, 0, 210, 77]
abbrev dktX9_one_7 : List UInt8 := dkwX9_one_7 ++ dktX9_one_8
def dkwX9_one_6 : List UInt8 := [16, 41, 182, 0, 99, 4, 182, 0, 85, 42, 182, 0, 93, 167, 0, 34, 42, 182, 0, 93, 27, 16, 10]
abbrev dktX9_one_6 : List UInt8 := dkwX9_one_6 ++ dktX9_one_7
def dkwX9_one_5 : List UInt8 := [183, 0, 180, 77, 167, 0, 66, 27, 2, 160, 0, 30, 42, 182, 0, 93, 42, 182, 0, 170, 77, 42, 42]
abbrev dktX9_one_5 : List UInt8 := dkwX9_one_5 ++ dktX9_one_6
def dkwX9_one_4 : List UInt8 := [180, 0, 42, 5, 160, 0, 26, 42, 182, 0, 93, 187, 0, 178, 89, 3, 3, 3, 42, 182, 0, 183, 1]
abbrev dktX9_one_4 : List UInt8 := dkwX9_one_4 ++ dktX9_one_5
def dkwX9_one_3 : List UInt8 := [180, 0, 204, 4, 96, 181, 0, 204, 42, 89, 180, 0, 207, 4, 96, 181, 0, 207, 27, 2, 160, 0, 34, 42]
abbrev dktX9_one_3 : List UInt8 := dkwX9_one_3 ++ dktX9_one_4
def dkwX9_one_2 : List UInt8 := [162, 0, 16, 42, 180, 0, 207, 16, 12, 162, 0, 7, 4, 167, 0, 4, 3, 7, 182, 0, 85, 42, 89]
abbrev dktX9_one_2 : List UInt8 := dkwX9_one_2 ++ dktX9_one_3
def dkwX9_one_1 : List UInt8 := [182, 0, 99, 153, 0, 7, 4, 167, 0, 4, 3, 4, 182, 0, 85, 42, 42, 180, 0, 204, 16, 40]
abbrev dktX9_one_1 : List UInt8 := dkwX9_one_1 ++ dktX9_one_2
def dkwX9_one_0 : List UInt8 := [42, 182, 0, 199, 60, 42, 27, 2, 160, 0, 21, 42, 18, 202, 182, 0, 110, 154, 0, 12, 42, 16, 40]
abbrev dktX9_one_0 : List UInt8 := dkwX9_one_0 ++ dktX9_one_1
theorem dksX9_one_0 : cX9_one.data.toList.drop 0 = dktX9_one_0 := by decide +kernel
theorem dksX9_one_1 : cX9_one.data.toList.drop 23 = dktX9_one_1 := dk_seg dksX9_one_0 23 rfl rfl
theorem dksX9_one_2 : cX9_one.data.toList.drop 45 = dktX9_one_2 := dk_seg dksX9_one_1 22 rfl rfl
theorem dksX9_one_3 : cX9_one.data.toList.drop 68 = dktX9_one_3 := dk_seg dksX9_one_2 23 rfl rfl
theorem dksX9_one_4 : cX9_one.data.toList.drop 92 = dktX9_one_4 := dk_seg dksX9_one_3 24 rfl rfl
theorem dksX9_one_5 : cX9_one.data.toList.drop 115 = dktX9_one_5 := dk_seg dksX9_one_4 23 rfl rfl
theorem dksX9_one_6 : cX9_one.data.toList.drop 138 = dktX9_one_6 := dk_seg dksX9_one_5 23 rfl rfl
theorem dksX9_one_7 : cX9_one.data.toList.drop 161 = dktX9_one_7 := dk_seg dksX9_one_6 23 rfl rfl
theorem dksX9_one_8 : cX9_one.data.toList.drop 185 = dktX9_one_8 := dk_seg dksX9_one_7 24 rfl rfl
theorem dX9_one_0 : decode cX9_one 0 = .ok (.aload_n 0, 1) := dk_42 (dk_at dksX9_one_0 0 rfl rfl)
theorem dX9_one_1 : decode cX9_one 1 = .ok (.invokevirtual 199, 3) := dk_182 0 199 (dk_at dksX9_one_0 1 rfl rfl)
theorem dX9_one_4 : decode cX9_one 4 = .ok (.istore_n 1, 1) := dk_60 (dk_at dksX9_one_0 4 rfl rfl)
theorem dX9_one_5 : decode cX9_one 5 = .ok (.aload_n 0, 1) := dk_42 (dk_at dksX9_one_0 5 rfl rfl)
theorem dX9_one_6 : decode cX9_one 6 = .ok (.iload_n 1, 1) := dk_27 (dk_at dksX9_one_0 6 rfl rfl)
theorem dX9_one_7 : decode cX9_one 7 = .ok (.iconst (-1), 1) := dk_2 (dk_at dksX9_one_0 7 rfl rfl)
theorem dX9_one_8 : decode cX9_one 8 = .ok (.if_icmp .ne 21, 3) := dk_160 0 21 (dk_at dksX9_one_0 8 rfl rfl)
theorem dX9_one_11 : decode cX9_one 11 = .ok (.aload_n 0, 1) := dk_42 (dk_at dksX9_one_0 11 rfl rfl)
theorem dX9_one_12 : decode cX9_one 12 = .ok (.ldc 202, 2) := dk_18 202 (dk_at dksX9_one_0 12 rfl rfl)
theorem dX9_one_14 : decode cX9_one 14 = .ok (.invokevirtual 110, 3) := dk_182 0 110 (dk_at dksX9_one_0 14 rfl rfl)
theorem dX9_one_17 : decode cX9_one 17 = .ok (.ifCond .ne 12, 3) := dk_154 0 12 (dk_at dksX9_one_0 17 rfl rfl)
theorem dX9_one_20 : decode cX9_one 20 = .ok (.aload_n 0, 1) := dk_42 (dk_at dksX9_one_0 20 rfl rfl)
theorem dX9_one_21 : decode cX9_one 21 = .ok (.bipush 40, 2) := dk_16 40 (dk_at dksX9_one_0 21 rfl rfl)
theorem dX9_one_23 : decode cX9_one 23 = .ok (.invokevirtual 99, 3) := dk_182 0 99 (dk_at dksX9_one_1 0 rfl rfl)
theorem dX9_one_26 : decode cX9_one 26 = .ok (.ifCond .eq 7, 3) := dk_153 0 7 (dk_at dksX9_one_1 3 rfl rfl)
theorem dX9_one_29 : decode cX9_one 29 = .ok (.iconst 1, 1) := dk_4 (dk_at dksX9_one_1 6 rfl rfl)
theorem dX9_one_30 : decode cX9_one 30 = .ok (.goto 4, 3) := dk_167 0 4 (dk_at dksX9_one_1 7 rfl rfl)
theorem dX9_one_33 : decode cX9_one 33 = .ok (.iconst 0, 1) := dk_3 (dk_at dksX9_one_1 10 rfl rfl)
theorem dX9_one_34 : decode cX9_one 34 = .ok (.iconst 1, 1) := dk_4 (dk_at dksX9_one_1 11 rfl rfl)
theorem dX9_one_35 : decode cX9_one 35 = .ok (.invokevirtual 85, 3) := dk_182 0 85 (dk_at dksX9_one_1 12 rfl rfl)
theorem dX9_one_38 : decode cX9_one 38 = .ok (.aload_n 0, 1) := dk_42 (dk_at dksX9_one_1 15 rfl rfl)
theorem dX9_one_39 : decode cX9_one 39 = .ok (.aload_n 0, 1) := dk_42 (dk_at dksX9_one_1 16 rfl rfl)
theorem dX9_one_40 : decode cX9_one 40 = .ok (.getfield 204, 3) := dk_180 0 204 (dk_at dksX9_one_1 17 rfl rfl)
theorem dX9_one_43 : decode cX9_one 43 = .ok (.bipush 40, 2) := dk_16 40 (dk_at dksX9_one_1 20 rfl rfl)
theorem dX9_one_45 : decode cX9_one 45 = .ok (.if_icmp .ge 16, 3) := dk_162 0 16 (dk_at dksX9_one_2 0 rfl rfl)
theorem dX9_one_48 : decode cX9_one 48 = .ok (.aload_n 0, 1) := dk_42 (dk_at dksX9_one_2 3 rfl rfl)
theorem dX9_one_49 : decode cX9_one 49 = .ok (.getfield 207, 3) := dk_180 0 207 (dk_at dksX9_one_2 4 rfl rfl)
theorem dX9_one_52 : decode cX9_one 52 = .ok (.bipush 12, 2) := dk_16 12 (dk_at dksX9_one_2 7 rfl rfl)
theorem dX9_one_54 : decode cX9_one 54 = .ok (.if_icmp .ge 7, 3) := dk_162 0 7 (dk_at dksX9_one_2 9 rfl rfl)
theorem dX9_one_57 : decode cX9_one 57 = .ok (.iconst 1, 1) := dk_4 (dk_at dksX9_one_2 12 rfl rfl)
theorem dX9_one_58 : decode cX9_one 58 = .ok (.goto 4, 3) := dk_167 0 4 (dk_at dksX9_one_2 13 rfl rfl)
theorem dX9_one_61 : decode cX9_one 61 = .ok (.iconst 0, 1) := dk_3 (dk_at dksX9_one_2 16 rfl rfl)
theorem dX9_one_62 : decode cX9_one 62 = .ok (.iconst 4, 1) := dk_7 (dk_at dksX9_one_2 17 rfl rfl)
theorem dX9_one_63 : decode cX9_one 63 = .ok (.invokevirtual 85, 3) := dk_182 0 85 (dk_at dksX9_one_2 18 rfl rfl)
theorem dX9_one_66 : decode cX9_one 66 = .ok (.aload_n 0, 1) := dk_42 (dk_at dksX9_one_2 21 rfl rfl)
theorem dX9_one_67 : decode cX9_one 67 = .ok (.dup, 1) := dk_89 (dk_at dksX9_one_2 22 rfl rfl)
theorem dX9_one_68 : decode cX9_one 68 = .ok (.getfield 204, 3) := dk_180 0 204 (dk_at dksX9_one_3 0 rfl rfl)
theorem dX9_one_71 : decode cX9_one 71 = .ok (.iconst 1, 1) := dk_4 (dk_at dksX9_one_3 3 rfl rfl)
theorem dX9_one_72 : decode cX9_one 72 = .ok (.iadd, 1) := dk_96 (dk_at dksX9_one_3 4 rfl rfl)
theorem dX9_one_73 : decode cX9_one 73 = .ok (.putfield 204, 3) := dk_181 0 204 (dk_at dksX9_one_3 5 rfl rfl)
theorem dX9_one_76 : decode cX9_one 76 = .ok (.aload_n 0, 1) := dk_42 (dk_at dksX9_one_3 8 rfl rfl)
theorem dX9_one_77 : decode cX9_one 77 = .ok (.dup, 1) := dk_89 (dk_at dksX9_one_3 9 rfl rfl)
theorem dX9_one_78 : decode cX9_one 78 = .ok (.getfield 207, 3) := dk_180 0 207 (dk_at dksX9_one_3 10 rfl rfl)
theorem dX9_one_81 : decode cX9_one 81 = .ok (.iconst 1, 1) := dk_4 (dk_at dksX9_one_3 13 rfl rfl)
theorem dX9_one_82 : decode cX9_one 82 = .ok (.iadd, 1) := dk_96 (dk_at dksX9_one_3 14 rfl rfl)
theorem dX9_one_83 : decode cX9_one 83 = .ok (.putfield 207, 3) := dk_181 0 207 (dk_at dksX9_one_3 15 rfl rfl)
theorem dX9_one_86 : decode cX9_one 86 = .ok (.iload_n 1, 1) := dk_27 (dk_at dksX9_one_3 18 rfl rfl)
theorem dX9_one_87 : decode cX9_one 87 = .ok (.iconst (-1), 1) := dk_2 (dk_at dksX9_one_3 19 rfl rfl)
theorem dX9_one_88 : decode cX9_one 88 = .ok (.if_icmp .ne 34, 3) := dk_160 0 34 (dk_at dksX9_one_3 20 rfl rfl)
theorem dX9_one_91 : decode cX9_one 91 = .ok (.aload_n 0, 1) := dk_42 (dk_at dksX9_one_3 23 rfl rfl)
theorem dX9_one_92 : decode cX9_one 92 = .ok (.getfield 42, 3) := dk_180 0 42 (dk_at dksX9_one_4 0 rfl rfl)
theorem dX9_one_95 : decode cX9_one 95 = .ok (.iconst 2, 1) := dk_5 (dk_at dksX9_one_4 3 rfl rfl)
theorem dX9_one_96 : decode cX9_one 96 = .ok (.if_icmp .ne 26, 3) := dk_160 0 26 (dk_at dksX9_one_4 4 rfl rfl)
theorem dX9_one_99 : decode cX9_one 99 = .ok (.aload_n 0, 1) := dk_42 (dk_at dksX9_one_4 7 rfl rfl)
theorem dX9_one_100 : decode cX9_one 100 = .ok (.invokevirtual 93, 3) := dk_182 0 93 (dk_at dksX9_one_4 8 rfl rfl)
theorem dX9_one_103 : decode cX9_one 103 = .ok (.new 178, 3) := dk_187 0 178 (dk_at dksX9_one_4 11 rfl rfl)
theorem dX9_one_106 : decode cX9_one 106 = .ok (.dup, 1) := dk_89 (dk_at dksX9_one_4 14 rfl rfl)
theorem dX9_one_107 : decode cX9_one 107 = .ok (.iconst 0, 1) := dk_3 (dk_at dksX9_one_4 15 rfl rfl)
theorem dX9_one_108 : decode cX9_one 108 = .ok (.iconst 0, 1) := dk_3 (dk_at dksX9_one_4 16 rfl rfl)
theorem dX9_one_109 : decode cX9_one 109 = .ok (.iconst 0, 1) := dk_3 (dk_at dksX9_one_4 17 rfl rfl)
theorem dX9_one_110 : decode cX9_one 110 = .ok (.aload_n 0, 1) := dk_42 (dk_at dksX9_one_4 18 rfl rfl)
theorem dX9_one_111 : decode cX9_one 111 = .ok (.invokevirtual 183, 3) := dk_182 0 183 (dk_at dksX9_one_4 19 rfl rfl)
theorem dX9_one_114 : decode cX9_one 114 = .ok (.aconst_null, 1) := dk_1 (dk_at dksX9_one_4 22 rfl rfl)
theorem dX9_one_115 : decode cX9_one 115 = .ok (.invokespecial 180, 3) := dk_183 0 180 (dk_at dksX9_one_5 0 rfl rfl)
theorem dX9_one_118 : decode cX9_one 118 = .ok (.astore_n 2, 1) := dk_77 (dk_at dksX9_one_5 3 rfl rfl)
theorem dX9_one_119 : decode cX9_one 119 = .ok (.goto 66, 3) := dk_167 0 66 (dk_at dksX9_one_5 4 rfl rfl)
theorem dX9_one_122 : decode cX9_one 122 = .ok (.iload_n 1, 1) := dk_27 (dk_at dksX9_one_5 7 rfl rfl)
theorem dX9_one_123 : decode cX9_one 123 = .ok (.iconst (-1), 1) := dk_2 (dk_at dksX9_one_5 8 rfl rfl)
theorem dX9_one_124 : decode cX9_one 124 = .ok (.if_icmp .ne 30, 3) := dk_160 0 30 (dk_at dksX9_one_5 9 rfl rfl)
theorem dX9_one_127 : decode cX9_one 127 = .ok (.aload_n 0, 1) := dk_42 (dk_at dksX9_one_5 12 rfl rfl)
theorem dX9_one_128 : decode cX9_one 128 = .ok (.invokevirtual 93, 3) := dk_182 0 93 (dk_at dksX9_one_5 13 rfl rfl)
theorem dX9_one_131 : decode cX9_one 131 = .ok (.aload_n 0, 1) := dk_42 (dk_at dksX9_one_5 16 rfl rfl)
theorem dX9_one_132 : decode cX9_one 132 = .ok (.invokevirtual 170, 3) := dk_182 0 170 (dk_at dksX9_one_5 17 rfl rfl)
theorem dX9_one_135 : decode cX9_one 135 = .ok (.astore_n 2, 1) := dk_77 (dk_at dksX9_one_5 20 rfl rfl)
theorem dX9_one_136 : decode cX9_one 136 = .ok (.aload_n 0, 1) := dk_42 (dk_at dksX9_one_5 21 rfl rfl)
theorem dX9_one_137 : decode cX9_one 137 = .ok (.aload_n 0, 1) := dk_42 (dk_at dksX9_one_5 22 rfl rfl)
theorem dX9_one_138 : decode cX9_one 138 = .ok (.bipush 41, 2) := dk_16 41 (dk_at dksX9_one_6 0 rfl rfl)
theorem dX9_one_140 : decode cX9_one 140 = .ok (.invokevirtual 99, 3) := dk_182 0 99 (dk_at dksX9_one_6 2 rfl rfl)
theorem dX9_one_143 : decode cX9_one 143 = .ok (.iconst 1, 1) := dk_4 (dk_at dksX9_one_6 5 rfl rfl)
theorem dX9_one_144 : decode cX9_one 144 = .ok (.invokevirtual 85, 3) := dk_182 0 85 (dk_at dksX9_one_6 6 rfl rfl)
theorem dX9_one_147 : decode cX9_one 147 = .ok (.aload_n 0, 1) := dk_42 (dk_at dksX9_one_6 9 rfl rfl)
theorem dX9_one_148 : decode cX9_one 148 = .ok (.invokevirtual 93, 3) := dk_182 0 93 (dk_at dksX9_one_6 10 rfl rfl)
theorem dX9_one_151 : decode cX9_one 151 = .ok (.goto 34, 3) := dk_167 0 34 (dk_at dksX9_one_6 13 rfl rfl)
theorem dX9_one_154 : decode cX9_one 154 = .ok (.aload_n 0, 1) := dk_42 (dk_at dksX9_one_6 16 rfl rfl)
theorem dX9_one_155 : decode cX9_one 155 = .ok (.invokevirtual 93, 3) := dk_182 0 93 (dk_at dksX9_one_6 17 rfl rfl)
theorem dX9_one_158 : decode cX9_one 158 = .ok (.iload_n 1, 1) := dk_27 (dk_at dksX9_one_6 20 rfl rfl)
theorem dX9_one_159 : decode cX9_one 159 = .ok (.bipush 10, 2) := dk_16 10 (dk_at dksX9_one_6 21 rfl rfl)
theorem dX9_one_161 : decode cX9_one 161 = .ok (.if_icmp .ge 18, 3) := dk_162 0 18 (dk_at dksX9_one_7 0 rfl rfl)
theorem dX9_one_164 : decode cX9_one 164 = .ok (.new 178, 3) := dk_187 0 178 (dk_at dksX9_one_7 3 rfl rfl)
theorem dX9_one_167 : decode cX9_one 167 = .ok (.dup, 1) := dk_89 (dk_at dksX9_one_7 6 rfl rfl)
theorem dX9_one_168 : decode cX9_one 168 = .ok (.iload_n 1, 1) := dk_27 (dk_at dksX9_one_7 7 rfl rfl)
theorem dX9_one_169 : decode cX9_one 169 = .ok (.iconst 0, 1) := dk_3 (dk_at dksX9_one_7 8 rfl rfl)
theorem dX9_one_170 : decode cX9_one 170 = .ok (.iconst 0, 1) := dk_3 (dk_at dksX9_one_7 9 rfl rfl)
theorem dX9_one_171 : decode cX9_one 171 = .ok (.aconst_null, 1) := dk_1 (dk_at dksX9_one_7 10 rfl rfl)
theorem dX9_one_172 : decode cX9_one 172 = .ok (.aconst_null, 1) := dk_1 (dk_at dksX9_one_7 11 rfl rfl)
theorem dX9_one_173 : decode cX9_one 173 = .ok (.invokespecial 180, 3) := dk_183 0 180 (dk_at dksX9_one_7 12 rfl rfl)
theorem dX9_one_176 : decode cX9_one 176 = .ok (.goto 8, 3) := dk_167 0 8 (dk_at dksX9_one_7 15 rfl rfl)
theorem dX9_one_179 : decode cX9_one 179 = .ok (.aload_n 0, 1) := dk_42 (dk_at dksX9_one_7 18 rfl rfl)
theorem dX9_one_180 : decode cX9_one 180 = .ok (.iload_n 1, 1) := dk_27 (dk_at dksX9_one_7 19 rfl rfl)
theorem dX9_one_181 : decode cX9_one 181 = .ok (.invokevirtual 210, 3) := dk_182 0 210 (dk_at dksX9_one_7 20 rfl rfl)
theorem dX9_one_184 : decode cX9_one 184 = .ok (.astore_n 2, 1) := dk_77 (dk_at dksX9_one_7 23 rfl rfl)
theorem dX9_one_185 : decode cX9_one 185 = .ok (.aload_n 0, 1) := dk_42 (dk_at dksX9_one_8 0 rfl rfl)
theorem dX9_one_186 : decode cX9_one 186 = .ok (.dup, 1) := dk_89 (dk_at dksX9_one_8 1 rfl rfl)
theorem dX9_one_187 : decode cX9_one 187 = .ok (.getfield 207, 3) := dk_180 0 207 (dk_at dksX9_one_8 2 rfl rfl)
theorem dX9_one_190 : decode cX9_one 190 = .ok (.iconst 1, 1) := dk_4 (dk_at dksX9_one_8 5 rfl rfl)
theorem dX9_one_191 : decode cX9_one 191 = .ok (.isub, 1) := dk_100 (dk_at dksX9_one_8 6 rfl rfl)
theorem dX9_one_192 : decode cX9_one 192 = .ok (.putfield 207, 3) := dk_181 0 207 (dk_at dksX9_one_8 7 rfl rfl)
theorem dX9_one_195 : decode cX9_one 195 = .ok (.aload_n 2, 1) := dk_44 (dk_at dksX9_one_8 10 rfl rfl)
theorem dX9_one_196 : decode cX9_one 196 = .ok (.areturn, 1) := dk_176 (dk_at dksX9_one_8 11 rfl rfl)
abbrev cX9_atom : ByteArray := prog_13_method_16_code
def yX9_atom : MethodName := ⟨RX9, "atom", "()I"⟩
def dkwX9_atom_2 : List UInt8 := [27, 182, 0, 195, 153, 0, 7, 6, 28, 96, 172, 29, 4, 96, 60, 132, 2, 1, 167, 255, 204, 2, 172]
abbrev dktX9_atom_2 : List UInt8 := dkwX9_atom_2 ++ []
def dkwX9_atom_1 : List UInt8 := [27, 182, 0, 190, 62, 42, 180, 0, 11, 182, 0, 192, 29, 27, 100, 160, 0, 20, 18, 188, 42, 180, 0, 11]
abbrev dktX9_atom_1 : List UInt8 := dkwX9_atom_1 ++ dktX9_atom_2
def dkwX9_atom_0 : List UInt8 := [42, 180, 0, 42, 5, 159, 0, 5, 2, 172, 3, 60, 3, 61, 28, 16, 10, 162, 0, 52, 18, 188, 16, 32]
abbrev dktX9_atom_0 : List UInt8 := dkwX9_atom_0 ++ dktX9_atom_1
theorem dksX9_atom_0 : cX9_atom.data.toList.drop 0 = dktX9_atom_0 := by decide +kernel
theorem dksX9_atom_1 : cX9_atom.data.toList.drop 24 = dktX9_atom_1 := dk_seg dksX9_atom_0 24 rfl rfl
theorem dksX9_atom_2 : cX9_atom.data.toList.drop 48 = dktX9_atom_2 := dk_seg dksX9_atom_1 24 rfl rfl
theorem dX9_atom_0 : decode cX9_atom 0 = .ok (.aload_n 0, 1) := dk_42 (dk_at dksX9_atom_0 0 rfl rfl)
theorem dX9_atom_1 : decode cX9_atom 1 = .ok (.getfield 42, 3) := dk_180 0 42 (dk_at dksX9_atom_0 1 rfl rfl)
theorem dX9_atom_4 : decode cX9_atom 4 = .ok (.iconst 2, 1) := dk_5 (dk_at dksX9_atom_0 4 rfl rfl)
theorem dX9_atom_5 : decode cX9_atom 5 = .ok (.if_icmp .eq 5, 3) := dk_159 0 5 (dk_at dksX9_atom_0 5 rfl rfl)
theorem dX9_atom_8 : decode cX9_atom 8 = .ok (.iconst (-1), 1) := dk_2 (dk_at dksX9_atom_0 8 rfl rfl)
theorem dX9_atom_9 : decode cX9_atom 9 = .ok (.ireturn, 1) := dk_172 (dk_at dksX9_atom_0 9 rfl rfl)
theorem dX9_atom_10 : decode cX9_atom 10 = .ok (.iconst 0, 1) := dk_3 (dk_at dksX9_atom_0 10 rfl rfl)
theorem dX9_atom_11 : decode cX9_atom 11 = .ok (.istore_n 1, 1) := dk_60 (dk_at dksX9_atom_0 11 rfl rfl)
theorem dX9_atom_12 : decode cX9_atom 12 = .ok (.iconst 0, 1) := dk_3 (dk_at dksX9_atom_0 12 rfl rfl)
theorem dX9_atom_13 : decode cX9_atom 13 = .ok (.istore_n 2, 1) := dk_61 (dk_at dksX9_atom_0 13 rfl rfl)
theorem dX9_atom_14 : decode cX9_atom 14 = .ok (.iload_n 2, 1) := dk_28 (dk_at dksX9_atom_0 14 rfl rfl)
theorem dX9_atom_15 : decode cX9_atom 15 = .ok (.bipush 10, 2) := dk_16 10 (dk_at dksX9_atom_0 15 rfl rfl)
theorem dX9_atom_17 : decode cX9_atom 17 = .ok (.if_icmp .ge 52, 3) := dk_162 0 52 (dk_at dksX9_atom_0 17 rfl rfl)
theorem dX9_atom_20 : decode cX9_atom 20 = .ok (.ldc 188, 2) := dk_18 188 (dk_at dksX9_atom_0 20 rfl rfl)
theorem dX9_atom_22 : decode cX9_atom 22 = .ok (.bipush 32, 2) := dk_16 32 (dk_at dksX9_atom_0 22 rfl rfl)
theorem dX9_atom_24 : decode cX9_atom 24 = .ok (.iload_n 1, 1) := dk_27 (dk_at dksX9_atom_1 0 rfl rfl)
theorem dX9_atom_25 : decode cX9_atom 25 = .ok (.invokevirtual 190, 3) := dk_182 0 190 (dk_at dksX9_atom_1 1 rfl rfl)
theorem dX9_atom_28 : decode cX9_atom 28 = .ok (.istore_n 3, 1) := dk_62 (dk_at dksX9_atom_1 4 rfl rfl)
theorem dX9_atom_29 : decode cX9_atom 29 = .ok (.aload_n 0, 1) := dk_42 (dk_at dksX9_atom_1 5 rfl rfl)
theorem dX9_atom_30 : decode cX9_atom 30 = .ok (.getfield 11, 3) := dk_180 0 11 (dk_at dksX9_atom_1 6 rfl rfl)
theorem dX9_atom_33 : decode cX9_atom 33 = .ok (.invokevirtual 192, 3) := dk_182 0 192 (dk_at dksX9_atom_1 9 rfl rfl)
theorem dX9_atom_36 : decode cX9_atom 36 = .ok (.iload_n 3, 1) := dk_29 (dk_at dksX9_atom_1 12 rfl rfl)
theorem dX9_atom_37 : decode cX9_atom 37 = .ok (.iload_n 1, 1) := dk_27 (dk_at dksX9_atom_1 13 rfl rfl)
theorem dX9_atom_38 : decode cX9_atom 38 = .ok (.isub, 1) := dk_100 (dk_at dksX9_atom_1 14 rfl rfl)
theorem dX9_atom_39 : decode cX9_atom 39 = .ok (.if_icmp .ne 20, 3) := dk_160 0 20 (dk_at dksX9_atom_1 15 rfl rfl)
theorem dX9_atom_42 : decode cX9_atom 42 = .ok (.ldc 188, 2) := dk_18 188 (dk_at dksX9_atom_1 18 rfl rfl)
theorem dX9_atom_44 : decode cX9_atom 44 = .ok (.aload_n 0, 1) := dk_42 (dk_at dksX9_atom_1 20 rfl rfl)
theorem dX9_atom_45 : decode cX9_atom 45 = .ok (.getfield 11, 3) := dk_180 0 11 (dk_at dksX9_atom_1 21 rfl rfl)
theorem dX9_atom_48 : decode cX9_atom 48 = .ok (.iload_n 1, 1) := dk_27 (dk_at dksX9_atom_2 0 rfl rfl)
theorem dX9_atom_49 : decode cX9_atom 49 = .ok (.invokevirtual 195, 3) := dk_182 0 195 (dk_at dksX9_atom_2 1 rfl rfl)
theorem dX9_atom_52 : decode cX9_atom 52 = .ok (.ifCond .eq 7, 3) := dk_153 0 7 (dk_at dksX9_atom_2 4 rfl rfl)
theorem dX9_atom_55 : decode cX9_atom 55 = .ok (.iconst 3, 1) := dk_6 (dk_at dksX9_atom_2 7 rfl rfl)
theorem dX9_atom_56 : decode cX9_atom 56 = .ok (.iload_n 2, 1) := dk_28 (dk_at dksX9_atom_2 8 rfl rfl)
theorem dX9_atom_57 : decode cX9_atom 57 = .ok (.iadd, 1) := dk_96 (dk_at dksX9_atom_2 9 rfl rfl)
theorem dX9_atom_58 : decode cX9_atom 58 = .ok (.ireturn, 1) := dk_172 (dk_at dksX9_atom_2 10 rfl rfl)
theorem dX9_atom_59 : decode cX9_atom 59 = .ok (.iload_n 3, 1) := dk_29 (dk_at dksX9_atom_2 11 rfl rfl)
theorem dX9_atom_60 : decode cX9_atom 60 = .ok (.iconst 1, 1) := dk_4 (dk_at dksX9_atom_2 12 rfl rfl)
theorem dX9_atom_61 : decode cX9_atom 61 = .ok (.iadd, 1) := dk_96 (dk_at dksX9_atom_2 13 rfl rfl)
theorem dX9_atom_62 : decode cX9_atom 62 = .ok (.istore_n 1, 1) := dk_60 (dk_at dksX9_atom_2 14 rfl rfl)
theorem dX9_atom_63 : decode cX9_atom 63 = .ok (.iinc 2 1, 3) := dk_132 2 1 (dk_at dksX9_atom_2 15 rfl rfl)
theorem dX9_atom_66 : decode cX9_atom 66 = .ok (.goto (-52), 3) := dk_167 255 204 (dk_at dksX9_atom_2 18 rfl rfl)
theorem dX9_atom_69 : decode cX9_atom 69 = .ok (.iconst (-1), 1) := dk_2 (dk_at dksX9_atom_2 21 rfl rfl)
theorem dX9_atom_70 : decode cX9_atom 70 = .ok (.ireturn, 1) := dk_172 (dk_at dksX9_atom_2 22 rfl rfl)
abbrev cX9_isSign : ByteArray := prog_13_method_8_code
def yX9_isSign : MethodName := ⟨RX9, "isSign", "(I)Z"⟩
def dkwX9_isSign_0 : List UInt8 := [42, 180, 0, 42, 7, 160, 0, 15, 42, 180, 0, 59, 27, 160, 0, 7, 4, 167, 0, 4, 3, 172]
abbrev dktX9_isSign_0 : List UInt8 := dkwX9_isSign_0 ++ []
theorem dksX9_isSign_0 : cX9_isSign.data.toList.drop 0 = dktX9_isSign_0 := by decide +kernel
theorem dX9_isSign_0 : decode cX9_isSign 0 = .ok (.aload_n 0, 1) := dk_42 (dk_at dksX9_isSign_0 0 rfl rfl)
theorem dX9_isSign_1 : decode cX9_isSign 1 = .ok (.getfield 42, 3) := dk_180 0 42 (dk_at dksX9_isSign_0 1 rfl rfl)
theorem dX9_isSign_4 : decode cX9_isSign 4 = .ok (.iconst 4, 1) := dk_7 (dk_at dksX9_isSign_0 4 rfl rfl)
theorem dX9_isSign_5 : decode cX9_isSign 5 = .ok (.if_icmp .ne 15, 3) := dk_160 0 15 (dk_at dksX9_isSign_0 5 rfl rfl)
theorem dX9_isSign_8 : decode cX9_isSign 8 = .ok (.aload_n 0, 1) := dk_42 (dk_at dksX9_isSign_0 8 rfl rfl)
theorem dX9_isSign_9 : decode cX9_isSign 9 = .ok (.getfield 59, 3) := dk_180 0 59 (dk_at dksX9_isSign_0 9 rfl rfl)
theorem dX9_isSign_12 : decode cX9_isSign 12 = .ok (.iload_n 1, 1) := dk_27 (dk_at dksX9_isSign_0 12 rfl rfl)
theorem dX9_isSign_13 : decode cX9_isSign 13 = .ok (.if_icmp .ne 7, 3) := dk_160 0 7 (dk_at dksX9_isSign_0 13 rfl rfl)
theorem dX9_isSign_16 : decode cX9_isSign 16 = .ok (.iconst 1, 1) := dk_4 (dk_at dksX9_isSign_0 16 rfl rfl)
theorem dX9_isSign_17 : decode cX9_isSign 17 = .ok (.goto 4, 3) := dk_167 0 4 (dk_at dksX9_isSign_0 17 rfl rfl)
theorem dX9_isSign_20 : decode cX9_isSign 20 = .ok (.iconst 0, 1) := dk_3 (dk_at dksX9_isSign_0 20 rfl rfl)
theorem dX9_isSign_21 : decode cX9_isSign 21 = .ok (.ireturn, 1) := dk_172 (dk_at dksX9_isSign_0 21 rfl rfl)
abbrev cX9_measure : ByteArray := prog_13_method_18_code
def yX9_measure : MethodName := ⟨RX9, "measure", "(I)LOperaHouse$Cond;"⟩
def dkwX9_measure_2 : List UInt8 := [187, 0, 178, 89, 27, 28, 42, 3, 18, 158, 182, 0, 118, 1, 1, 183, 0, 180, 176]
abbrev dktX9_measure_2 : List UInt8 := dkwX9_measure_2 ++ []
def dkwX9_measure_1 : List UInt8 := [182, 0, 99, 153, 0, 7, 4, 167, 0, 4, 3, 4, 182, 0, 85, 42, 180, 0, 59, 61, 42, 182, 0, 93]
abbrev dktX9_measure_1 : List UInt8 := dkwX9_measure_1 ++ dktX9_measure_2
def dkwX9_measure_0 : List UInt8 := [42, 42, 16, 60, 182, 0, 99, 154, 0, 21, 42, 16, 61, 182, 0, 99, 154, 0, 12, 42, 16, 62]
abbrev dktX9_measure_0 : List UInt8 := dkwX9_measure_0 ++ dktX9_measure_1
theorem dksX9_measure_0 : cX9_measure.data.toList.drop 0 = dktX9_measure_0 := by decide +kernel
theorem dksX9_measure_1 : cX9_measure.data.toList.drop 22 = dktX9_measure_1 := dk_seg dksX9_measure_0 22 rfl rfl
theorem dksX9_measure_2 : cX9_measure.data.toList.drop 46 = dktX9_measure_2 := dk_seg dksX9_measure_1 24 rfl rfl
theorem dX9_measure_0 : decode cX9_measure 0 = .ok (.aload_n 0, 1) := dk_42 (dk_at dksX9_measure_0 0 rfl rfl)
theorem dX9_measure_1 : decode cX9_measure 1 = .ok (.aload_n 0, 1) := dk_42 (dk_at dksX9_measure_0 1 rfl rfl)
theorem dX9_measure_2 : decode cX9_measure 2 = .ok (.bipush 60, 2) := dk_16 60 (dk_at dksX9_measure_0 2 rfl rfl)
theorem dX9_measure_4 : decode cX9_measure 4 = .ok (.invokevirtual 99, 3) := dk_182 0 99 (dk_at dksX9_measure_0 4 rfl rfl)
theorem dX9_measure_7 : decode cX9_measure 7 = .ok (.ifCond .ne 21, 3) := dk_154 0 21 (dk_at dksX9_measure_0 7 rfl rfl)
theorem dX9_measure_10 : decode cX9_measure 10 = .ok (.aload_n 0, 1) := dk_42 (dk_at dksX9_measure_0 10 rfl rfl)
theorem dX9_measure_11 : decode cX9_measure 11 = .ok (.bipush 61, 2) := dk_16 61 (dk_at dksX9_measure_0 11 rfl rfl)
theorem dX9_measure_13 : decode cX9_measure 13 = .ok (.invokevirtual 99, 3) := dk_182 0 99 (dk_at dksX9_measure_0 13 rfl rfl)
theorem dX9_measure_16 : decode cX9_measure 16 = .ok (.ifCond .ne 12, 3) := dk_154 0 12 (dk_at dksX9_measure_0 16 rfl rfl)
theorem dX9_measure_19 : decode cX9_measure 19 = .ok (.aload_n 0, 1) := dk_42 (dk_at dksX9_measure_0 19 rfl rfl)
theorem dX9_measure_20 : decode cX9_measure 20 = .ok (.bipush 62, 2) := dk_16 62 (dk_at dksX9_measure_0 20 rfl rfl)
theorem dX9_measure_22 : decode cX9_measure 22 = .ok (.invokevirtual 99, 3) := dk_182 0 99 (dk_at dksX9_measure_1 0 rfl rfl)
theorem dX9_measure_25 : decode cX9_measure 25 = .ok (.ifCond .eq 7, 3) := dk_153 0 7 (dk_at dksX9_measure_1 3 rfl rfl)
theorem dX9_measure_28 : decode cX9_measure 28 = .ok (.iconst 1, 1) := dk_4 (dk_at dksX9_measure_1 6 rfl rfl)
theorem dX9_measure_29 : decode cX9_measure 29 = .ok (.goto 4, 3) := dk_167 0 4 (dk_at dksX9_measure_1 7 rfl rfl)
theorem dX9_measure_32 : decode cX9_measure 32 = .ok (.iconst 0, 1) := dk_3 (dk_at dksX9_measure_1 10 rfl rfl)
theorem dX9_measure_33 : decode cX9_measure 33 = .ok (.iconst 1, 1) := dk_4 (dk_at dksX9_measure_1 11 rfl rfl)
theorem dX9_measure_34 : decode cX9_measure 34 = .ok (.invokevirtual 85, 3) := dk_182 0 85 (dk_at dksX9_measure_1 12 rfl rfl)
theorem dX9_measure_37 : decode cX9_measure 37 = .ok (.aload_n 0, 1) := dk_42 (dk_at dksX9_measure_1 15 rfl rfl)
theorem dX9_measure_38 : decode cX9_measure 38 = .ok (.getfield 59, 3) := dk_180 0 59 (dk_at dksX9_measure_1 16 rfl rfl)
theorem dX9_measure_41 : decode cX9_measure 41 = .ok (.istore_n 2, 1) := dk_61 (dk_at dksX9_measure_1 19 rfl rfl)
theorem dX9_measure_42 : decode cX9_measure 42 = .ok (.aload_n 0, 1) := dk_42 (dk_at dksX9_measure_1 20 rfl rfl)
theorem dX9_measure_43 : decode cX9_measure 43 = .ok (.invokevirtual 93, 3) := dk_182 0 93 (dk_at dksX9_measure_1 21 rfl rfl)
theorem dX9_measure_46 : decode cX9_measure 46 = .ok (.new 178, 3) := dk_187 0 178 (dk_at dksX9_measure_2 0 rfl rfl)
theorem dX9_measure_49 : decode cX9_measure 49 = .ok (.dup, 1) := dk_89 (dk_at dksX9_measure_2 3 rfl rfl)
theorem dX9_measure_50 : decode cX9_measure 50 = .ok (.iload_n 1, 1) := dk_27 (dk_at dksX9_measure_2 4 rfl rfl)
theorem dX9_measure_51 : decode cX9_measure 51 = .ok (.iload_n 2, 1) := dk_28 (dk_at dksX9_measure_2 5 rfl rfl)
theorem dX9_measure_52 : decode cX9_measure 52 = .ok (.aload_n 0, 1) := dk_42 (dk_at dksX9_measure_2 6 rfl rfl)
theorem dX9_measure_53 : decode cX9_measure 53 = .ok (.iconst 0, 1) := dk_3 (dk_at dksX9_measure_2 7 rfl rfl)
theorem dX9_measure_54 : decode cX9_measure 54 = .ok (.ldc 158, 2) := dk_18 158 (dk_at dksX9_measure_2 8 rfl rfl)
theorem dX9_measure_56 : decode cX9_measure 56 = .ok (.invokevirtual 118, 3) := dk_182 0 118 (dk_at dksX9_measure_2 10 rfl rfl)
theorem dX9_measure_59 : decode cX9_measure 59 = .ok (.aconst_null, 1) := dk_1 (dk_at dksX9_measure_2 13 rfl rfl)
theorem dX9_measure_60 : decode cX9_measure 60 = .ok (.aconst_null, 1) := dk_1 (dk_at dksX9_measure_2 14 rfl rfl)
theorem dX9_measure_61 : decode cX9_measure 61 = .ok (.invokespecial 180, 3) := dk_183 0 180 (dk_at dksX9_measure_2 15 rfl rfl)
theorem dX9_measure_64 : decode cX9_measure 64 = .ok (.areturn, 1) := dk_176 (dk_at dksX9_measure_2 18 rfl rfl)
theorem q146 : (Jvm.Cond.initialized "OperaHouse$Reader") ∈ lw_all := lw_g (lw_at lw_m1 18 rfl) rfl
theorem q538 : (Jvm.Cond.selects "OperaHouse$Reader" ({ cls := "java/lang/Object", name := "getClass", desc := "()Ljava/lang/Class;" } : Jvm.MethodName) ({ cls := "java/lang/Object", name := "getClass", desc := "()Ljava/lang/Class;" } : Jvm.MethodName)) ∈ lw_all := lw_g (lw_at lw_m2 170 rfl) rfl
theorem q580 : (Jvm.Cond.fieldLinkNest "OperaHouse$Reader" (121 : Nat) "OperaHouse$Contract" "rest" "I" "OperaHouse") ∈ lw_tbl := lw_at lw_m2 212 rfl
theorem q583 : (Jvm.Cond.fieldLinkNest "OperaHouse$Reader" (125 : Nat) "OperaHouse$Contract" "day" "I" "OperaHouse") ∈ lw_tbl := lw_at lw_m2 215 rfl
theorem q586 : (Jvm.Cond.fieldLinkNest "OperaHouse$Reader" (129 : Nat) "OperaHouse$Contract" "week" "I" "OperaHouse") ∈ lw_tbl := lw_at lw_m2 218 rfl
theorem q589 : (Jvm.Cond.fieldLinkNest "OperaHouse$Reader" (133 : Nat) "OperaHouse$Contract" "voice" "I" "OperaHouse") ∈ lw_tbl := lw_at lw_m2 221 rfl
theorem q591 : (Jvm.Cond.fieldLinkNest "OperaHouse$Reader" (102 : Nat) "OperaHouse$Contract" "many" "I" "OperaHouse") ∈ lw_tbl := lw_at lw_m2 223 rfl
theorem q594 : (Jvm.Cond.fieldLinkNest "OperaHouse$Reader" (137 : Nat) "OperaHouse$Contract" "leaves" "Ljava/util/ArrayList;" "OperaHouse") ∈ lw_tbl := lw_at lw_m2 226 rfl
theorem q596 : (Jvm.Cond.fieldLinkNest "OperaHouse$Reader" (155 : Nat) "OperaHouse$Contract" "fees" "Ljava/util/ArrayList;" "OperaHouse") ∈ lw_tbl := lw_at lw_m2 228 rfl
theorem q663 : (Jvm.Cond.instantiable "OperaHouse$Reader" (12 : Nat)) ∈ lw_all := lw_g (lw_at lw_m3 55 rfl) rfl
theorem q665 : (Jvm.Cond.instanceMethod ({ cls := "OperaHouse$Reader", name := "<init>", desc := "([BI)V" } : Jvm.MethodName)) ∈ lw_all := lw_g (lw_at lw_m3 57 rfl) rfl
theorem q666 : (Jvm.Cond.code ({ cls := "OperaHouse$Reader", name := "<init>", desc := "([BI)V" } : Jvm.MethodName) prog_13_method_1_code (3 : Nat) (Option.none : Option Jvm.ClassFile.FieldType)) ∈ lw_all := lw_g (lw_at lw_m3 58 rfl) rfl
theorem q667 : (Jvm.Cond.methodLink "OperaHouse$Reader" (3 : Nat) ({ cls := "java/lang/Object", name := "<init>", desc := "()V" } : Jvm.MethodName)) ∈ lw_all := lw_g (lw_at lw_m3 59 rfl) rfl
theorem q668 : (Jvm.Cond.stringRef "OperaHouse$Reader" (9 : Nat) "") ∈ lw_tbl := lw_at lw_m3 60 rfl
theorem q669 : (Jvm.Cond.classLink "OperaHouse$Reader" (17 : Nat) "OperaHouse$Contract") ∈ lw_all := lw_g (lw_at lw_m3 61 rfl) rfl
theorem q670 : (Jvm.Cond.methodLinkNest "OperaHouse$Reader" (19 : Nat) ({ cls := "OperaHouse$Contract", name := "<init>", desc := "()V" } : Jvm.MethodName) "OperaHouse") ∈ lw_tbl := lw_at lw_m3 62 rfl
theorem q671 : (Jvm.Cond.fieldLink "OperaHouse$Reader" (24 : Nat) "OperaHouse$Reader" "tape" "[B") ∈ lw_all := lw_g (lw_at lw_m3 63 rfl) rfl
theorem q672 : (Jvm.Cond.fieldLink "OperaHouse$Reader" (28 : Nat) "OperaHouse$Reader" "size" "I") ∈ lw_all := lw_g (lw_at lw_m3 64 rfl) rfl
theorem q673 : (Jvm.Cond.fieldLink "OperaHouse$Reader" (32 : Nat) "OperaHouse$Reader" "to" "I") ∈ lw_all := lw_g (lw_at lw_m3 65 rfl) rfl
theorem q674 : (Jvm.Cond.fieldLink "OperaHouse$Reader" (42 : Nat) "OperaHouse$Reader" "kind" "I") ∈ lw_all := lw_g (lw_at lw_m3 66 rfl) rfl
theorem q675 : (Jvm.Cond.fieldLink "OperaHouse$Reader" (39 : Nat) "OperaHouse$Reader" "from" "I") ∈ lw_all := lw_g (lw_at lw_m3 67 rfl) rfl
theorem q676 : (Jvm.Cond.fieldLink "OperaHouse$Reader" (62 : Nat) "OperaHouse$Reader" "number" "I") ∈ lw_all := lw_g (lw_at lw_m3 68 rfl) rfl
theorem q677 : (Jvm.Cond.fieldLink "OperaHouse$Reader" (59 : Nat) "OperaHouse$Reader" "sign" "I") ∈ lw_all := lw_g (lw_at lw_m3 69 rfl) rfl
theorem q678 : (Jvm.Cond.fieldLink "OperaHouse$Reader" (105 : Nat) "OperaHouse$Reader" "told" "I") ∈ lw_all := lw_g (lw_at lw_m3 70 rfl) rfl
theorem q679 : (Jvm.Cond.fieldLink "OperaHouse$Reader" (204 : Nat) "OperaHouse$Reader" "ones" "I") ∈ lw_all := lw_g (lw_at lw_m3 71 rfl) rfl
theorem q680 : (Jvm.Cond.fieldLink "OperaHouse$Reader" (207 : Nat) "OperaHouse$Reader" "within" "I") ∈ lw_all := lw_g (lw_at lw_m3 72 rfl) rfl
theorem q681 : (Jvm.Cond.fieldLink "OperaHouse$Reader" (11 : Nat) "OperaHouse$Reader" "word" "Ljava/lang/String;") ∈ lw_all := lw_g (lw_at lw_m3 73 rfl) rfl
theorem q682 : (Jvm.Cond.fieldLink "OperaHouse$Reader" (20 : Nat) "OperaHouse$Reader" "contract" "LOperaHouse$Contract;") ∈ lw_all := lw_g (lw_at lw_m3 74 rfl) rfl
theorem q683 : (Jvm.Cond.laysFinal "OperaHouse$Reader" "OperaHouse$Reader" "tape" "[B") ∈ lw_all := lw_g (lw_at lw_m3 75 rfl) rfl
theorem q684 : (Jvm.Cond.soleField "OperaHouse$Reader" "tape") ∈ lw_all := lw_g (lw_at lw_m3 76 rfl) rfl
theorem q685 : (Jvm.Cond.laysFinal "OperaHouse$Reader" "OperaHouse$Reader" "size" "I") ∈ lw_all := lw_g (lw_at lw_m3 77 rfl) rfl
theorem q686 : (Jvm.Cond.soleField "OperaHouse$Reader" "size") ∈ lw_all := lw_g (lw_at lw_m3 78 rfl) rfl
theorem q687 : (Jvm.Cond.lays "OperaHouse$Reader" "OperaHouse$Reader" "to" "I") ∈ lw_all := lw_g (lw_at lw_m3 79 rfl) rfl
theorem q688 : (Jvm.Cond.soleField "OperaHouse$Reader" "to") ∈ lw_all := lw_g (lw_at lw_m3 80 rfl) rfl
theorem q689 : (Jvm.Cond.lays "OperaHouse$Reader" "OperaHouse$Reader" "kind" "I") ∈ lw_all := lw_g (lw_at lw_m3 81 rfl) rfl
theorem q690 : (Jvm.Cond.soleField "OperaHouse$Reader" "kind") ∈ lw_all := lw_g (lw_at lw_m3 82 rfl) rfl
theorem q691 : (Jvm.Cond.lays "OperaHouse$Reader" "OperaHouse$Reader" "from" "I") ∈ lw_all := lw_g (lw_at lw_m3 83 rfl) rfl
theorem q692 : (Jvm.Cond.soleField "OperaHouse$Reader" "from") ∈ lw_all := lw_g (lw_at lw_m3 84 rfl) rfl
theorem q693 : (Jvm.Cond.lays "OperaHouse$Reader" "OperaHouse$Reader" "number" "I") ∈ lw_all := lw_g (lw_at lw_m3 85 rfl) rfl
theorem q694 : (Jvm.Cond.soleField "OperaHouse$Reader" "number") ∈ lw_all := lw_g (lw_at lw_m3 86 rfl) rfl
theorem q695 : (Jvm.Cond.lays "OperaHouse$Reader" "OperaHouse$Reader" "sign" "I") ∈ lw_all := lw_g (lw_at lw_m3 87 rfl) rfl
theorem q696 : (Jvm.Cond.soleField "OperaHouse$Reader" "sign") ∈ lw_all := lw_g (lw_at lw_m3 88 rfl) rfl
theorem q697 : (Jvm.Cond.lays "OperaHouse$Reader" "OperaHouse$Reader" "told" "I") ∈ lw_all := lw_g (lw_at lw_m3 89 rfl) rfl
theorem q698 : (Jvm.Cond.soleField "OperaHouse$Reader" "told") ∈ lw_all := lw_g (lw_at lw_m3 90 rfl) rfl
theorem q699 : (Jvm.Cond.lays "OperaHouse$Reader" "OperaHouse$Reader" "ones" "I") ∈ lw_all := lw_g (lw_at lw_m3 91 rfl) rfl
theorem q700 : (Jvm.Cond.soleField "OperaHouse$Reader" "ones") ∈ lw_all := lw_g (lw_at lw_m3 92 rfl) rfl
theorem q701 : (Jvm.Cond.lays "OperaHouse$Reader" "OperaHouse$Reader" "within" "I") ∈ lw_all := lw_g (lw_at lw_m3 93 rfl) rfl
theorem q702 : (Jvm.Cond.soleField "OperaHouse$Reader" "within") ∈ lw_all := lw_g (lw_at lw_m3 94 rfl) rfl
theorem q703 : (Jvm.Cond.lays "OperaHouse$Reader" "OperaHouse$Reader" "word" "Ljava/lang/String;") ∈ lw_all := lw_g (lw_at lw_m3 95 rfl) rfl
theorem q704 : (Jvm.Cond.soleField "OperaHouse$Reader" "word") ∈ lw_all := lw_g (lw_at lw_m3 96 rfl) rfl
theorem q705 : (Jvm.Cond.laysFinal "OperaHouse$Reader" "OperaHouse$Reader" "contract" "LOperaHouse$Contract;") ∈ lw_all := lw_g (lw_at lw_m3 97 rfl) rfl
theorem q706 : (Jvm.Cond.soleField "OperaHouse$Reader" "contract") ∈ lw_all := lw_g (lw_at lw_m3 98 rfl) rfl
theorem q707 : (Jvm.Cond.superclass "OperaHouse$Reader" "java/lang/Object") ∈ lw_all := lw_g (lw_at lw_m3 99 rfl) rfl
theorem q709 : (Jvm.Cond.instanceMethod ({ cls := "OperaHouse$Reader", name := "read", desc := "()LOperaHouse$Contract;" } : Jvm.MethodName)) ∈ lw_all := lw_g (lw_at lw_m3 101 rfl) rfl
theorem q710 : (Jvm.Cond.selects "OperaHouse$Reader" ({ cls := "OperaHouse$Reader", name := "read", desc := "()LOperaHouse$Contract;" } : Jvm.MethodName) ({ cls := "OperaHouse$Reader", name := "read", desc := "()LOperaHouse$Contract;" } : Jvm.MethodName)) ∈ lw_all := lw_g (lw_at lw_m3 102 rfl) rfl
theorem q711 : (Jvm.Cond.code ({ cls := "OperaHouse$Reader", name := "read", desc := "()LOperaHouse$Contract;" } : Jvm.MethodName) prog_13_method_10_code (1 : Nat) (Option.some (Jvm.ClassFile.FieldType.object "OperaHouse$Contract"))) ∈ lw_all := lw_g (lw_at lw_m3 103 rfl) rfl
theorem q712 : (Jvm.Cond.methodLink "OperaHouse$Reader" (93 : Nat) ({ cls := "OperaHouse$Reader", name := "go", desc := "()V" } : Jvm.MethodName)) ∈ lw_all := lw_g (lw_at lw_m3 104 rfl) rfl
theorem q713 : (Jvm.Cond.privateMethod ({ cls := "OperaHouse$Reader", name := "go", desc := "()V" } : Jvm.MethodName)) ∈ lw_tbl := lw_at lw_m3 105 rfl
theorem q714 : (Jvm.Cond.instanceMethod ({ cls := "OperaHouse$Reader", name := "go", desc := "()V" } : Jvm.MethodName)) ∈ lw_all := lw_g (lw_at lw_m3 106 rfl) rfl
theorem q715 : (Jvm.Cond.code ({ cls := "OperaHouse$Reader", name := "go", desc := "()V" } : Jvm.MethodName) prog_13_method_5_code (5 : Nat) (Option.none : Option Jvm.ClassFile.FieldType)) ∈ lw_all := lw_g (lw_at lw_m3 107 rfl) rfl
theorem q716 : (Jvm.Cond.methodLink "OperaHouse$Reader" (35 : Nat) ({ cls := "OperaHouse$Reader", name := "at", desc := "(I)I" } : Jvm.MethodName)) ∈ lw_all := lw_g (lw_at lw_m3 108 rfl) rfl
theorem q717 : (Jvm.Cond.privateMethod ({ cls := "OperaHouse$Reader", name := "at", desc := "(I)I" } : Jvm.MethodName)) ∈ lw_tbl := lw_at lw_m3 109 rfl
theorem q718 : (Jvm.Cond.instanceMethod ({ cls := "OperaHouse$Reader", name := "at", desc := "(I)I" } : Jvm.MethodName)) ∈ lw_all := lw_g (lw_at lw_m3 110 rfl) rfl
theorem q719 : (Jvm.Cond.code ({ cls := "OperaHouse$Reader", name := "at", desc := "(I)I" } : Jvm.MethodName) prog_13_method_2_code (2 : Nat) (Option.some Jvm.ClassFile.FieldType.int)) ∈ lw_all := lw_g (lw_at lw_m3 111 rfl) rfl
theorem q720 : (Jvm.Cond.methodLink "OperaHouse$Reader" (45 : Nat) ({ cls := "OperaHouse$Reader", name := "isLetter", desc := "(I)Z" } : Jvm.MethodName)) ∈ lw_all := lw_g (lw_at lw_m3 112 rfl) rfl
theorem q721 : (Jvm.Cond.static ({ cls := "OperaHouse$Reader", name := "isLetter", desc := "(I)Z" } : Jvm.MethodName)) ∈ lw_all := lw_g (lw_at lw_m3 113 rfl) rfl
theorem q722 : (Jvm.Cond.code ({ cls := "OperaHouse$Reader", name := "isLetter", desc := "(I)Z" } : Jvm.MethodName) prog_13_method_4_code (1 : Nat) (Option.some Jvm.ClassFile.FieldType.boolean)) ∈ lw_all := lw_g (lw_at lw_m3 114 rfl) rfl
theorem q723 : (Jvm.Cond.methodLink "OperaHouse$Reader" (49 : Nat) ({ cls := "OperaHouse$Reader", name := "isDigit", desc := "(I)Z" } : Jvm.MethodName)) ∈ lw_all := lw_g (lw_at lw_m3 115 rfl) rfl
theorem q724 : (Jvm.Cond.static ({ cls := "OperaHouse$Reader", name := "isDigit", desc := "(I)Z" } : Jvm.MethodName)) ∈ lw_all := lw_g (lw_at lw_m3 116 rfl) rfl
theorem q725 : (Jvm.Cond.code ({ cls := "OperaHouse$Reader", name := "isDigit", desc := "(I)Z" } : Jvm.MethodName) prog_13_method_3_code (1 : Nat) (Option.some Jvm.ClassFile.FieldType.boolean)) ∈ lw_all := lw_g (lw_at lw_m3 117 rfl) rfl
theorem q726 : (Jvm.Cond.stringRef "OperaHouse$Reader" (52 : Nat) ";()<=>") ∈ lw_tbl := lw_at lw_m3 118 rfl
theorem q727 : (Jvm.Cond.methodLink "OperaHouse$Reader" (54 : Nat) ({ cls := "java/lang/String", name := "indexOf", desc := "(I)I" } : Jvm.MethodName)) ∈ lw_all := lw_g (lw_at lw_m3 119 rfl) rfl
theorem q809 : (Jvm.Cond.classLink "OperaHouse$Reader" (65 : Nat) "java/lang/StringBuilder") ∈ lw_all := lw_g (lw_at lw_m3 201 rfl) rfl
theorem q811 : (Jvm.Cond.methodLink "OperaHouse$Reader" (67 : Nat) ({ cls := "java/lang/StringBuilder", name := "<init>", desc := "()V" } : Jvm.MethodName)) ∈ lw_all := lw_g (lw_at lw_m3 203 rfl) rfl
theorem q839 : (Jvm.Cond.methodLink "OperaHouse$Reader" (68 : Nat) ({ cls := "java/lang/StringBuilder", name := "append", desc := "(C)Ljava/lang/StringBuilder;" } : Jvm.MethodName)) ∈ lw_all := lw_g (lw_at lw_m3 231 rfl) rfl
theorem q906 : (Jvm.Cond.methodLink "OperaHouse$Reader" (72 : Nat) ({ cls := "java/lang/StringBuilder", name := "toString", desc := "()Ljava/lang/String;" } : Jvm.MethodName)) ∈ lw_all := lw_g (lw_at lw_m4 58 rfl) rfl
theorem q963 : (Jvm.Cond.methodLink "OperaHouse$Reader" (96 : Nat) ({ cls := "OperaHouse$Reader", name := "rule", desc := "()V" } : Jvm.MethodName)) ∈ lw_all := lw_g (lw_at lw_m4 115 rfl) rfl
theorem q964 : (Jvm.Cond.privateMethod ({ cls := "OperaHouse$Reader", name := "rule", desc := "()V" } : Jvm.MethodName)) ∈ lw_tbl := lw_at lw_m4 116 rfl
theorem q965 : (Jvm.Cond.instanceMethod ({ cls := "OperaHouse$Reader", name := "rule", desc := "()V" } : Jvm.MethodName)) ∈ lw_all := lw_g (lw_at lw_m4 117 rfl) rfl
theorem q966 : (Jvm.Cond.code ({ cls := "OperaHouse$Reader", name := "rule", desc := "()V" } : Jvm.MethodName) prog_13_method_12_code (2 : Nat) (Option.none : Option Jvm.ClassFile.FieldType)) ∈ lw_all := lw_g (lw_at lw_m4 118 rfl) rfl
theorem q967 : (Jvm.Cond.stringRef "OperaHouse$Reader" (108 : Nat) "rest") ∈ lw_tbl := lw_at lw_m4 119 rfl
theorem q968 : (Jvm.Cond.methodLink "OperaHouse$Reader" (110 : Nat) ({ cls := "OperaHouse$Reader", name := "is", desc := "(Ljava/lang/String;)Z" } : Jvm.MethodName)) ∈ lw_all := lw_g (lw_at lw_m4 120 rfl) rfl
theorem q969 : (Jvm.Cond.privateMethod ({ cls := "OperaHouse$Reader", name := "is", desc := "(Ljava/lang/String;)Z" } : Jvm.MethodName)) ∈ lw_tbl := lw_at lw_m4 121 rfl
theorem q970 : (Jvm.Cond.instanceMethod ({ cls := "OperaHouse$Reader", name := "is", desc := "(Ljava/lang/String;)Z" } : Jvm.MethodName)) ∈ lw_all := lw_g (lw_at lw_m4 122 rfl) rfl
theorem q971 : (Jvm.Cond.code ({ cls := "OperaHouse$Reader", name := "is", desc := "(Ljava/lang/String;)Z" } : Jvm.MethodName) prog_13_method_7_code (2 : Nat) (Option.some Jvm.ClassFile.FieldType.boolean)) ∈ lw_all := lw_g (lw_at lw_m4 123 rfl) rfl
theorem q972 : (Jvm.Cond.methodLink "OperaHouse$Reader" (81 : Nat) ({ cls := "java/lang/String", name := "equals", desc := "(Ljava/lang/Object;)Z" } : Jvm.MethodName)) ∈ lw_all := lw_g (lw_at lw_m4 124 rfl) rfl
theorem q980 : (Jvm.Cond.methodLink "OperaHouse$Reader" (114 : Nat) ({ cls := "OperaHouse$Reader", name := "once", desc := "(I)V" } : Jvm.MethodName)) ∈ lw_all := lw_g (lw_at lw_m4 132 rfl) rfl
theorem q981 : (Jvm.Cond.privateMethod ({ cls := "OperaHouse$Reader", name := "once", desc := "(I)V" } : Jvm.MethodName)) ∈ lw_tbl := lw_at lw_m4 133 rfl
theorem q982 : (Jvm.Cond.instanceMethod ({ cls := "OperaHouse$Reader", name := "once", desc := "(I)V" } : Jvm.MethodName)) ∈ lw_all := lw_g (lw_at lw_m4 134 rfl) rfl
theorem q983 : (Jvm.Cond.code ({ cls := "OperaHouse$Reader", name := "once", desc := "(I)V" } : Jvm.MethodName) prog_13_method_11_code (2 : Nat) (Option.none : Option Jvm.ClassFile.FieldType)) ∈ lw_all := lw_g (lw_at lw_m4 135 rfl) rfl
theorem q984 : (Jvm.Cond.methodLink "OperaHouse$Reader" (85 : Nat) ({ cls := "OperaHouse$Reader", name := "need", desc := "(ZI)V" } : Jvm.MethodName)) ∈ lw_all := lw_g (lw_at lw_m4 136 rfl) rfl
theorem q985 : (Jvm.Cond.privateMethod ({ cls := "OperaHouse$Reader", name := "need", desc := "(ZI)V" } : Jvm.MethodName)) ∈ lw_tbl := lw_at lw_m4 137 rfl
theorem q986 : (Jvm.Cond.instanceMethod ({ cls := "OperaHouse$Reader", name := "need", desc := "(ZI)V" } : Jvm.MethodName)) ∈ lw_all := lw_g (lw_at lw_m4 138 rfl) rfl
theorem q987 : (Jvm.Cond.code ({ cls := "OperaHouse$Reader", name := "need", desc := "(ZI)V" } : Jvm.MethodName) prog_13_method_6_code (3 : Nat) (Option.none : Option Jvm.ClassFile.FieldType)) ∈ lw_all := lw_g (lw_at lw_m4 139 rfl) rfl
theorem q988 : (Jvm.Cond.classLink "OperaHouse$Reader" (76 : Nat) "OperaHouse$Fault") ∈ lw_all := lw_g (lw_at lw_m4 140 rfl) rfl
theorem q1026 : (Jvm.Cond.methodLink "OperaHouse$Reader" (78 : Nat) ({ cls := "OperaHouse$Fault", name := "<init>", desc := "(II)V" } : Jvm.MethodName)) ∈ lw_all := lw_g (lw_at lw_m4 178 rfl) rfl
theorem q1053 : (Jvm.Cond.methodLink "OperaHouse$Reader" (118 : Nat) ({ cls := "OperaHouse$Reader", name := "number", desc := "(II)I" } : Jvm.MethodName)) ∈ lw_all := lw_g (lw_at lw_m4 205 rfl) rfl
theorem q1054 : (Jvm.Cond.privateMethod ({ cls := "OperaHouse$Reader", name := "number", desc := "(II)I" } : Jvm.MethodName)) ∈ lw_tbl := lw_at lw_m4 206 rfl
theorem q1055 : (Jvm.Cond.instanceMethod ({ cls := "OperaHouse$Reader", name := "number", desc := "(II)I" } : Jvm.MethodName)) ∈ lw_all := lw_g (lw_at lw_m4 207 rfl) rfl
theorem q1056 : (Jvm.Cond.code ({ cls := "OperaHouse$Reader", name := "number", desc := "(II)I" } : Jvm.MethodName) prog_13_method_9_code (4 : Nat) (Option.some Jvm.ClassFile.FieldType.int)) ∈ lw_all := lw_g (lw_at lw_m4 208 rfl) rfl
theorem q1057 : (Jvm.Cond.methodLinkNest "OperaHouse$Reader" (89 : Nat) ({ cls := "OperaHouse", name := "isIn", desc := "(III)Z" } : Jvm.MethodName) "OperaHouse") ∈ lw_tbl := lw_at lw_m4 209 rfl
theorem q1058 : (Jvm.Cond.stringRef "OperaHouse$Reader" (123 : Nat) "day") ∈ lw_tbl := lw_at lw_m4 210 rfl
theorem q1059 : (Jvm.Cond.stringRef "OperaHouse$Reader" (127 : Nat) "week") ∈ lw_tbl := lw_at lw_m4 211 rfl
theorem q1060 : (Jvm.Cond.stringRef "OperaHouse$Reader" (131 : Nat) "voice") ∈ lw_tbl := lw_at lw_m4 212 rfl
theorem q1061 : (Jvm.Cond.stringRef "OperaHouse$Reader" (135 : Nat) "leave") ∈ lw_tbl := lw_at lw_m4 213 rfl
theorem q1062 : (Jvm.Cond.methodLink "OperaHouse$Reader" (141 : Nat) ({ cls := "java/util/ArrayList", name := "size", desc := "()I" } : Jvm.MethodName)) ∈ lw_all := lw_g (lw_at lw_m4 214 rfl) rfl
theorem q1063 : (Jvm.Cond.stringRef "OperaHouse$Reader" (146 : Nat) "to") ∈ lw_tbl := lw_at lw_m4 215 rfl
theorem q1064 : (Jvm.Cond.classLink "OperaHouse$Reader" (147 : Nat) "OperaHouse$Leave") ∈ lw_all := lw_g (lw_at lw_m4 216 rfl) rfl
theorem q1066 : (Jvm.Cond.methodLink "OperaHouse$Reader" (149 : Nat) ({ cls := "OperaHouse$Leave", name := "<init>", desc := "(II)V" } : Jvm.MethodName)) ∈ lw_all := lw_g (lw_at lw_m4 218 rfl) rfl
theorem q1079 : (Jvm.Cond.methodLink "OperaHouse$Reader" (150 : Nat) ({ cls := "java/util/ArrayList", name := "add", desc := "(Ljava/lang/Object;)Z" } : Jvm.MethodName)) ∈ lw_all := lw_g (lw_at lw_m4 231 rfl) rfl
theorem q1080 : (Jvm.Cond.stringRef "OperaHouse$Reader" (153 : Nat) "fee") ∈ lw_tbl := lw_at lw_m4 232 rfl
theorem q1081 : (Jvm.Cond.constant "OperaHouse$Reader" (158 : Nat) (99999 : Int32)) ∈ lw_all := lw_g (lw_at lw_m4 233 rfl) rfl
theorem q1082 : (Jvm.Cond.classLink "OperaHouse$Reader" (159 : Nat) "OperaHouse$Fee") ∈ lw_all := lw_g (lw_at lw_m4 234 rfl) rfl
theorem q1084 : (Jvm.Cond.stringRef "OperaHouse$Reader" (161 : Nat) "if") ∈ lw_tbl := lw_at lw_m4 236 rfl
theorem q1085 : (Jvm.Cond.methodLink "OperaHouse$Reader" (163 : Nat) ({ cls := "OperaHouse$Reader", name := "conditions", desc := "()LOperaHouse$Cond;" } : Jvm.MethodName)) ∈ lw_all := lw_g (lw_at lw_m4 237 rfl) rfl
theorem q1086 : (Jvm.Cond.privateMethod ({ cls := "OperaHouse$Reader", name := "conditions", desc := "()LOperaHouse$Cond;" } : Jvm.MethodName)) ∈ lw_tbl := lw_at lw_m4 238 rfl
theorem q1087 : (Jvm.Cond.instanceMethod ({ cls := "OperaHouse$Reader", name := "conditions", desc := "()LOperaHouse$Cond;" } : Jvm.MethodName)) ∈ lw_all := lw_g (lw_at lw_m4 239 rfl) rfl
theorem q1088 : (Jvm.Cond.code ({ cls := "OperaHouse$Reader", name := "conditions", desc := "()LOperaHouse$Cond;" } : Jvm.MethodName) prog_13_method_13_code (1 : Nat) (Option.some (Jvm.ClassFile.FieldType.object "OperaHouse$Cond"))) ∈ lw_all := lw_g (lw_at lw_m5 0 rfl) rfl
theorem q1089 : (Jvm.Cond.methodLink "OperaHouse$Reader" (170 : Nat) ({ cls := "OperaHouse$Reader", name := "cond", desc := "()LOperaHouse$Cond;" } : Jvm.MethodName)) ∈ lw_all := lw_g (lw_at lw_m5 1 rfl) rfl
theorem q1090 : (Jvm.Cond.privateMethod ({ cls := "OperaHouse$Reader", name := "cond", desc := "()LOperaHouse$Cond;" } : Jvm.MethodName)) ∈ lw_tbl := lw_at lw_m5 2 rfl
theorem q1091 : (Jvm.Cond.instanceMethod ({ cls := "OperaHouse$Reader", name := "cond", desc := "()LOperaHouse$Cond;" } : Jvm.MethodName)) ∈ lw_all := lw_g (lw_at lw_m5 3 rfl) rfl
theorem q1092 : (Jvm.Cond.code ({ cls := "OperaHouse$Reader", name := "cond", desc := "()LOperaHouse$Cond;" } : Jvm.MethodName) prog_13_method_14_code (2 : Nat) (Option.some (Jvm.ClassFile.FieldType.object "OperaHouse$Cond"))) ∈ lw_all := lw_g (lw_at lw_m5 4 rfl) rfl
theorem q1093 : (Jvm.Cond.methodLink "OperaHouse$Reader" (173 : Nat) ({ cls := "OperaHouse$Reader", name := "all", desc := "()LOperaHouse$Cond;" } : Jvm.MethodName)) ∈ lw_all := lw_g (lw_at lw_m5 5 rfl) rfl
theorem q1094 : (Jvm.Cond.privateMethod ({ cls := "OperaHouse$Reader", name := "all", desc := "()LOperaHouse$Cond;" } : Jvm.MethodName)) ∈ lw_tbl := lw_at lw_m5 6 rfl
theorem q1095 : (Jvm.Cond.instanceMethod ({ cls := "OperaHouse$Reader", name := "all", desc := "()LOperaHouse$Cond;" } : Jvm.MethodName)) ∈ lw_all := lw_g (lw_at lw_m5 7 rfl) rfl
theorem q1096 : (Jvm.Cond.code ({ cls := "OperaHouse$Reader", name := "all", desc := "()LOperaHouse$Cond;" } : Jvm.MethodName) prog_13_method_15_code (2 : Nat) (Option.some (Jvm.ClassFile.FieldType.object "OperaHouse$Cond"))) ∈ lw_all := lw_g (lw_at lw_m5 8 rfl) rfl
theorem q1097 : (Jvm.Cond.methodLink "OperaHouse$Reader" (183 : Nat) ({ cls := "OperaHouse$Reader", name := "one", desc := "()LOperaHouse$Cond;" } : Jvm.MethodName)) ∈ lw_all := lw_g (lw_at lw_m5 9 rfl) rfl
theorem q1098 : (Jvm.Cond.privateMethod ({ cls := "OperaHouse$Reader", name := "one", desc := "()LOperaHouse$Cond;" } : Jvm.MethodName)) ∈ lw_tbl := lw_at lw_m5 10 rfl
theorem q1099 : (Jvm.Cond.instanceMethod ({ cls := "OperaHouse$Reader", name := "one", desc := "()LOperaHouse$Cond;" } : Jvm.MethodName)) ∈ lw_all := lw_g (lw_at lw_m5 11 rfl) rfl
theorem q1100 : (Jvm.Cond.code ({ cls := "OperaHouse$Reader", name := "one", desc := "()LOperaHouse$Cond;" } : Jvm.MethodName) prog_13_method_17_code (3 : Nat) (Option.some (Jvm.ClassFile.FieldType.object "OperaHouse$Cond"))) ∈ lw_all := lw_g (lw_at lw_m5 12 rfl) rfl
theorem q1101 : (Jvm.Cond.methodLink "OperaHouse$Reader" (199 : Nat) ({ cls := "OperaHouse$Reader", name := "atom", desc := "()I" } : Jvm.MethodName)) ∈ lw_all := lw_g (lw_at lw_m5 13 rfl) rfl
theorem q1102 : (Jvm.Cond.privateMethod ({ cls := "OperaHouse$Reader", name := "atom", desc := "()I" } : Jvm.MethodName)) ∈ lw_tbl := lw_at lw_m5 14 rfl
theorem q1103 : (Jvm.Cond.instanceMethod ({ cls := "OperaHouse$Reader", name := "atom", desc := "()I" } : Jvm.MethodName)) ∈ lw_all := lw_g (lw_at lw_m5 15 rfl) rfl
theorem q1104 : (Jvm.Cond.code ({ cls := "OperaHouse$Reader", name := "atom", desc := "()I" } : Jvm.MethodName) prog_13_method_16_code (4 : Nat) (Option.some Jvm.ClassFile.FieldType.int)) ∈ lw_all := lw_g (lw_at lw_m5 16 rfl) rfl
theorem q1105 : (Jvm.Cond.stringRef "OperaHouse$Reader" (188 : Nat) "room marks full night late cover instead hours nth over ") ∈ lw_tbl := lw_at lw_m5 17 rfl
theorem q1106 : (Jvm.Cond.methodLink "OperaHouse$Reader" (190 : Nat) ({ cls := "java/lang/String", name := "indexOf", desc := "(II)I" } : Jvm.MethodName)) ∈ lw_all := lw_g (lw_at lw_m5 18 rfl) rfl
theorem q1107 : (Jvm.Cond.methodLink "OperaHouse$Reader" (192 : Nat) ({ cls := "java/lang/String", name := "length", desc := "()I" } : Jvm.MethodName)) ∈ lw_all := lw_g (lw_at lw_m5 19 rfl) rfl
theorem q1108 : (Jvm.Cond.methodLink "OperaHouse$Reader" (195 : Nat) ({ cls := "java/lang/String", name := "startsWith", desc := "(Ljava/lang/String;I)Z" } : Jvm.MethodName)) ∈ lw_all := lw_g (lw_at lw_m5 20 rfl) rfl
theorem q1217 : (Jvm.Cond.stringRef "OperaHouse$Reader" (202 : Nat) "not") ∈ lw_tbl := lw_at lw_m5 129 rfl
theorem q1218 : (Jvm.Cond.methodLink "OperaHouse$Reader" (99 : Nat) ({ cls := "OperaHouse$Reader", name := "isSign", desc := "(I)Z" } : Jvm.MethodName)) ∈ lw_all := lw_g (lw_at lw_m5 130 rfl) rfl
theorem q1219 : (Jvm.Cond.privateMethod ({ cls := "OperaHouse$Reader", name := "isSign", desc := "(I)Z" } : Jvm.MethodName)) ∈ lw_tbl := lw_at lw_m5 131 rfl
theorem q1220 : (Jvm.Cond.instanceMethod ({ cls := "OperaHouse$Reader", name := "isSign", desc := "(I)Z" } : Jvm.MethodName)) ∈ lw_all := lw_g (lw_at lw_m5 132 rfl) rfl
theorem q1221 : (Jvm.Cond.code ({ cls := "OperaHouse$Reader", name := "isSign", desc := "(I)Z" } : Jvm.MethodName) prog_13_method_8_code (2 : Nat) (Option.some Jvm.ClassFile.FieldType.boolean)) ∈ lw_all := lw_g (lw_at lw_m5 133 rfl) rfl
theorem q1222 : (Jvm.Cond.classLink "OperaHouse$Reader" (178 : Nat) "OperaHouse$Cond") ∈ lw_all := lw_g (lw_at lw_m5 134 rfl) rfl
theorem q1224 : (Jvm.Cond.methodLink "OperaHouse$Reader" (180 : Nat) ({ cls := "OperaHouse$Cond", name := "<init>", desc := "(IIILOperaHouse$Cond;LOperaHouse$Cond;)V" } : Jvm.MethodName)) ∈ lw_all := lw_g (lw_at lw_m5 136 rfl) rfl
theorem q1244 : (Jvm.Cond.methodLink "OperaHouse$Reader" (210 : Nat) ({ cls := "OperaHouse$Reader", name := "measure", desc := "(I)LOperaHouse$Cond;" } : Jvm.MethodName)) ∈ lw_all := lw_g (lw_at lw_m5 156 rfl) rfl
theorem q1245 : (Jvm.Cond.privateMethod ({ cls := "OperaHouse$Reader", name := "measure", desc := "(I)LOperaHouse$Cond;" } : Jvm.MethodName)) ∈ lw_tbl := lw_at lw_m5 157 rfl
theorem q1246 : (Jvm.Cond.instanceMethod ({ cls := "OperaHouse$Reader", name := "measure", desc := "(I)LOperaHouse$Cond;" } : Jvm.MethodName)) ∈ lw_all := lw_g (lw_at lw_m5 158 rfl) rfl
theorem q1247 : (Jvm.Cond.code ({ cls := "OperaHouse$Reader", name := "measure", desc := "(I)LOperaHouse$Cond;" } : Jvm.MethodName) prog_13_method_18_code (3 : Nat) (Option.some (Jvm.ClassFile.FieldType.object "OperaHouse$Cond"))) ∈ lw_all := lw_g (lw_at lw_m5 159 rfl) rfl
theorem q1248 : (Jvm.Cond.stringRef "OperaHouse$Reader" (186 : Nat) "and") ∈ lw_tbl := lw_at lw_m5 160 rfl
theorem q1249 : (Jvm.Cond.stringRef "OperaHouse$Reader" (176 : Nat) "or") ∈ lw_tbl := lw_at lw_m5 161 rfl
theorem q1250 : (Jvm.Cond.methodLink "OperaHouse$Reader" (167 : Nat) ({ cls := "OperaHouse$Fee", name := "<init>", desc := "(ILOperaHouse$Cond;)V" } : Jvm.MethodName)) ∈ lw_all := lw_g (lw_at lw_m5 162 rfl) rfl
theorem q2470 : (Jvm.Cond.castable "OperaHouse$Reader" "java/lang/Object") ∈ lw_tbl := lw_at lw_m10 182 rfl
theorem in_X9 : ∀ w ∈ wsX90, w ∈ lw_all := lw_in wsX90 [683, 685, 687, 689, 691, 693, 695, 697, 699, 701, 703, 705] (by decide +kernel) (by decide +kernel)

/-! OperaHouse$Fault -/
set_option maxRecDepth 100000
def RX10 : String := "OperaHouse$Fault"
def TX10 : u_T := fun k => match k with
  | 0 => ("java/lang/Throwable", "cause", "Ljava/lang/Throwable;", false)
  | 1 => ("java/lang/Throwable", "stackTrace", "[Ljava/lang/StackTraceElement;", false)
  | 2 => ("java/lang/Throwable", "suppressedExceptions", "Ljava/util/List;", false)
  | 3 => ("java/lang/Throwable", "detailMessage", "Ljava/lang/String;", false)
  | 4 => ("java/lang/Throwable", "backtrace", "Ljava/lang/Object;", false)
  | 5 => ("java/lang/Throwable", "depth", "I", false)
  | 6 => ("OperaHouse$Fault", "kind", "I", true)
  | _ => ("OperaHouse$Fault", "place", "I", true)
def tyX10 : Nat → FieldType := fun k => match k with
  | 0 => .object "java/lang/Throwable"
  | 1 => .array (.object "java/lang/StackTraceElement")
  | 2 => .object "java/util/List"
  | 3 => .object "java/lang/String"
  | 4 => .object "java/lang/Object"
  | 5 => .int
  | 6 => .int
  | _ => .int
abbrev wsX100 : List Cond := u_ws RX10 TX10 8
theorem nmX10 : ∀ a, a < 8 → ∀ b, b < 8 → a ≠ b → (TX10 a).2.1 ≠ (TX10 b).2.1 := by decide +kernel
theorem tyX10_ok : ∀ k, k < 8 → parseFieldDescriptor (TX10 k).2.2.1 = some (tyX10 k) := by decide +kernel
abbrev cX10_init : ByteArray := prog_6_method_1_code
def yX10_init : MethodName := ⟨RX10, "<init>", "(II)V"⟩
def dkwX10_init_0 : List UInt8 := [42, 183, 0, 1, 42, 27, 181, 0, 7, 42, 28, 181, 0, 13, 177]
abbrev dktX10_init_0 : List UInt8 := dkwX10_init_0 ++ []
theorem dksX10_init_0 : cX10_init.data.toList.drop 0 = dktX10_init_0 := by decide +kernel
theorem dX10_init_0 : decode cX10_init 0 = .ok (.aload_n 0, 1) := dk_42 (dk_at dksX10_init_0 0 rfl rfl)
theorem dX10_init_1 : decode cX10_init 1 = .ok (.invokespecial 1, 3) := dk_183 0 1 (dk_at dksX10_init_0 1 rfl rfl)
theorem dX10_init_4 : decode cX10_init 4 = .ok (.aload_n 0, 1) := dk_42 (dk_at dksX10_init_0 4 rfl rfl)
theorem dX10_init_5 : decode cX10_init 5 = .ok (.iload_n 1, 1) := dk_27 (dk_at dksX10_init_0 5 rfl rfl)
theorem dX10_init_6 : decode cX10_init 6 = .ok (.putfield 7, 3) := dk_181 0 7 (dk_at dksX10_init_0 6 rfl rfl)
theorem dX10_init_9 : decode cX10_init 9 = .ok (.aload_n 0, 1) := dk_42 (dk_at dksX10_init_0 9 rfl rfl)
theorem dX10_init_10 : decode cX10_init 10 = .ok (.iload_n 2, 1) := dk_28 (dk_at dksX10_init_0 10 rfl rfl)
theorem dX10_init_11 : decode cX10_init 11 = .ok (.putfield 13, 3) := dk_181 0 13 (dk_at dksX10_init_0 11 rfl rfl)
theorem dX10_init_14 : decode cX10_init 14 = .ok (.return_, 1) := dk_177 (dk_at dksX10_init_0 14 rfl rfl)
theorem q155 : (Jvm.Cond.initialized "OperaHouse$Fault") ∈ lw_all := lw_g (lw_at lw_m1 27 rfl) rfl
theorem q531 : (Jvm.Cond.selects "OperaHouse$Fault" ({ cls := "java/lang/Object", name := "getClass", desc := "()Ljava/lang/Class;" } : Jvm.MethodName) ({ cls := "java/lang/Object", name := "getClass", desc := "()Ljava/lang/Class;" } : Jvm.MethodName)) ∈ lw_all := lw_g (lw_at lw_m2 163 rfl) rfl
theorem q989 : (Jvm.Cond.instantiable "OperaHouse$Fault" (8 : Nat)) ∈ lw_all := lw_g (lw_at lw_m4 141 rfl) rfl
theorem q990 : (Jvm.Cond.castable "OperaHouse$Fault" "OperaHouse$Fault") ∈ lw_tbl := lw_at lw_m4 142 rfl
theorem q995 : (Jvm.Cond.selects "OperaHouse$Fault" ({ cls := "java/lang/Throwable", name := "fillInStackTrace", desc := "(I)Ljava/lang/Throwable;" } : Jvm.MethodName) ({ cls := "java/lang/Throwable", name := "fillInStackTrace", desc := "(I)Ljava/lang/Throwable;" } : Jvm.MethodName)) ∈ lw_all := lw_g (lw_at lw_m4 147 rfl) rfl
theorem q996 : (Jvm.Cond.selects "OperaHouse$Fault" ({ cls := "java/lang/Throwable", name := "fillInStackTrace", desc := "()Ljava/lang/Throwable;" } : Jvm.MethodName) ({ cls := "java/lang/Throwable", name := "fillInStackTrace", desc := "()Ljava/lang/Throwable;" } : Jvm.MethodName)) ∈ lw_all := lw_g (lw_at lw_m4 148 rfl) rfl
theorem q997 : (Jvm.Cond.lays "OperaHouse$Fault" "java/lang/Throwable" "cause" "Ljava/lang/Throwable;") ∈ lw_all := lw_g (lw_at lw_m4 149 rfl) rfl
theorem q999 : (Jvm.Cond.lays "OperaHouse$Fault" "java/lang/Throwable" "stackTrace" "[Ljava/lang/StackTraceElement;") ∈ lw_all := lw_g (lw_at lw_m4 151 rfl) rfl
theorem q1001 : (Jvm.Cond.lays "OperaHouse$Fault" "java/lang/Throwable" "suppressedExceptions" "Ljava/util/List;") ∈ lw_all := lw_g (lw_at lw_m4 153 rfl) rfl
theorem q1003 : (Jvm.Cond.lays "OperaHouse$Fault" "java/lang/Throwable" "detailMessage" "Ljava/lang/String;") ∈ lw_all := lw_g (lw_at lw_m4 155 rfl) rfl
theorem q1005 : (Jvm.Cond.lays "OperaHouse$Fault" "java/lang/Throwable" "backtrace" "Ljava/lang/Object;") ∈ lw_all := lw_g (lw_at lw_m4 157 rfl) rfl
theorem q1027 : (Jvm.Cond.instanceMethod ({ cls := "OperaHouse$Fault", name := "<init>", desc := "(II)V" } : Jvm.MethodName)) ∈ lw_all := lw_g (lw_at lw_m4 179 rfl) rfl
theorem q1028 : (Jvm.Cond.code ({ cls := "OperaHouse$Fault", name := "<init>", desc := "(II)V" } : Jvm.MethodName) prog_6_method_1_code (3 : Nat) (Option.none : Option Jvm.ClassFile.FieldType)) ∈ lw_all := lw_g (lw_at lw_m4 180 rfl) rfl
theorem q1029 : (Jvm.Cond.methodLink "OperaHouse$Fault" (1 : Nat) ({ cls := "java/lang/Exception", name := "<init>", desc := "()V" } : Jvm.MethodName)) ∈ lw_all := lw_g (lw_at lw_m4 181 rfl) rfl
theorem q1033 : (Jvm.Cond.fieldLink "OperaHouse$Fault" (7 : Nat) "OperaHouse$Fault" "kind" "I") ∈ lw_all := lw_g (lw_at lw_m4 185 rfl) rfl
theorem q1035 : (Jvm.Cond.fieldLink "OperaHouse$Fault" (13 : Nat) "OperaHouse$Fault" "place" "I") ∈ lw_all := lw_g (lw_at lw_m4 187 rfl) rfl
theorem q1041 : (Jvm.Cond.laysFinal "OperaHouse$Fault" "OperaHouse$Fault" "kind" "I") ∈ lw_all := lw_g (lw_at lw_m4 193 rfl) rfl
theorem q1042 : (Jvm.Cond.soleField "OperaHouse$Fault" "kind") ∈ lw_all := lw_g (lw_at lw_m4 194 rfl) rfl
theorem q1043 : (Jvm.Cond.laysFinal "OperaHouse$Fault" "OperaHouse$Fault" "place" "I") ∈ lw_all := lw_g (lw_at lw_m4 195 rfl) rfl
theorem q1044 : (Jvm.Cond.soleField "OperaHouse$Fault" "place") ∈ lw_all := lw_g (lw_at lw_m4 196 rfl) rfl
theorem q1049 : (Jvm.Cond.lays "OperaHouse$Fault" "java/lang/Throwable" "depth" "I") ∈ lw_all := lw_g (lw_at lw_m4 201 rfl) rfl
theorem q1052 : (Jvm.Cond.superclass "OperaHouse$Fault" "java/lang/Exception") ∈ lw_all := lw_g (lw_at lw_m4 204 rfl) rfl
theorem q2473 : (Jvm.Cond.castable "OperaHouse$Fault" "java/lang/Object") ∈ lw_tbl := lw_at lw_m10 185 rfl
theorem in_X10 : ∀ w ∈ wsX100, w ∈ lw_all := lw_in wsX100 [997, 999, 1001, 1003, 1005, 1049, 1041, 1043] (by decide +kernel) (by decide +kernel)

/-! OperaHouse$Leave -/
set_option maxRecDepth 100000
def RX11 : String := "OperaHouse$Leave"
def TX11 : u_T := fun k => match k with
  | 0 => ("OperaHouse$Leave", "from", "I", true)
  | _ => ("OperaHouse$Leave", "to", "I", true)
def tyX11 : Nat → FieldType := fun k => match k with
  | 0 => .int
  | _ => .int
abbrev wsX110 : List Cond := u_ws RX11 TX11 2
theorem nmX11 : ∀ a, a < 2 → ∀ b, b < 2 → a ≠ b → (TX11 a).2.1 ≠ (TX11 b).2.1 := by decide +kernel
theorem tyX11_ok : ∀ k, k < 2 → parseFieldDescriptor (TX11 k).2.2.1 = some (tyX11 k) := by decide +kernel
abbrev cX11_init : ByteArray := prog_9_method_1_code
def yX11_init : MethodName := ⟨RX11, "<init>", "(II)V"⟩
def dkwX11_init_0 : List UInt8 := [42, 183, 0, 1, 42, 27, 181, 0, 7, 42, 28, 181, 0, 13, 177]
abbrev dktX11_init_0 : List UInt8 := dkwX11_init_0 ++ []
theorem dksX11_init_0 : cX11_init.data.toList.drop 0 = dktX11_init_0 := by decide +kernel
theorem dX11_init_0 : decode cX11_init 0 = .ok (.aload_n 0, 1) := dk_42 (dk_at dksX11_init_0 0 rfl rfl)
theorem dX11_init_1 : decode cX11_init 1 = .ok (.invokespecial 1, 3) := dk_183 0 1 (dk_at dksX11_init_0 1 rfl rfl)
theorem dX11_init_4 : decode cX11_init 4 = .ok (.aload_n 0, 1) := dk_42 (dk_at dksX11_init_0 4 rfl rfl)
theorem dX11_init_5 : decode cX11_init 5 = .ok (.iload_n 1, 1) := dk_27 (dk_at dksX11_init_0 5 rfl rfl)
theorem dX11_init_6 : decode cX11_init 6 = .ok (.putfield 7, 3) := dk_181 0 7 (dk_at dksX11_init_0 6 rfl rfl)
theorem dX11_init_9 : decode cX11_init 9 = .ok (.aload_n 0, 1) := dk_42 (dk_at dksX11_init_0 9 rfl rfl)
theorem dX11_init_10 : decode cX11_init 10 = .ok (.iload_n 2, 1) := dk_28 (dk_at dksX11_init_0 10 rfl rfl)
theorem dX11_init_11 : decode cX11_init 11 = .ok (.putfield 13, 3) := dk_181 0 13 (dk_at dksX11_init_0 11 rfl rfl)
theorem dX11_init_14 : decode cX11_init 14 = .ok (.return_, 1) := dk_177 (dk_at dksX11_init_0 14 rfl rfl)
theorem q156 : (Jvm.Cond.initialized "OperaHouse$Leave") ∈ lw_all := lw_g (lw_at lw_m1 28 rfl) rfl
theorem q534 : (Jvm.Cond.selects "OperaHouse$Leave" ({ cls := "java/lang/Object", name := "getClass", desc := "()Ljava/lang/Class;" } : Jvm.MethodName) ({ cls := "java/lang/Object", name := "getClass", desc := "()Ljava/lang/Class;" } : Jvm.MethodName)) ∈ lw_all := lw_g (lw_at lw_m2 166 rfl) rfl
theorem q1065 : (Jvm.Cond.instantiable "OperaHouse$Leave" (2 : Nat)) ∈ lw_all := lw_g (lw_at lw_m4 217 rfl) rfl
theorem q1067 : (Jvm.Cond.instanceMethod ({ cls := "OperaHouse$Leave", name := "<init>", desc := "(II)V" } : Jvm.MethodName)) ∈ lw_all := lw_g (lw_at lw_m4 219 rfl) rfl
theorem q1068 : (Jvm.Cond.code ({ cls := "OperaHouse$Leave", name := "<init>", desc := "(II)V" } : Jvm.MethodName) prog_9_method_1_code (3 : Nat) (Option.none : Option Jvm.ClassFile.FieldType)) ∈ lw_all := lw_g (lw_at lw_m4 220 rfl) rfl
theorem q1069 : (Jvm.Cond.methodLink "OperaHouse$Leave" (1 : Nat) ({ cls := "java/lang/Object", name := "<init>", desc := "()V" } : Jvm.MethodName)) ∈ lw_all := lw_g (lw_at lw_m4 221 rfl) rfl
theorem q1070 : (Jvm.Cond.fieldLink "OperaHouse$Leave" (7 : Nat) "OperaHouse$Leave" "from" "I") ∈ lw_all := lw_g (lw_at lw_m4 222 rfl) rfl
theorem q1072 : (Jvm.Cond.fieldLink "OperaHouse$Leave" (13 : Nat) "OperaHouse$Leave" "to" "I") ∈ lw_all := lw_g (lw_at lw_m4 224 rfl) rfl
theorem q1074 : (Jvm.Cond.laysFinal "OperaHouse$Leave" "OperaHouse$Leave" "from" "I") ∈ lw_all := lw_g (lw_at lw_m4 226 rfl) rfl
theorem q1075 : (Jvm.Cond.soleField "OperaHouse$Leave" "from") ∈ lw_all := lw_g (lw_at lw_m4 227 rfl) rfl
theorem q1076 : (Jvm.Cond.laysFinal "OperaHouse$Leave" "OperaHouse$Leave" "to" "I") ∈ lw_all := lw_g (lw_at lw_m4 228 rfl) rfl
theorem q1077 : (Jvm.Cond.soleField "OperaHouse$Leave" "to") ∈ lw_all := lw_g (lw_at lw_m4 229 rfl) rfl
theorem q1078 : (Jvm.Cond.superclass "OperaHouse$Leave" "java/lang/Object") ∈ lw_all := lw_g (lw_at lw_m4 230 rfl) rfl
theorem q2474 : (Jvm.Cond.castable "OperaHouse$Leave" "java/lang/Object") ∈ lw_tbl := lw_at lw_m10 186 rfl
theorem in_X11 : ∀ w ∈ wsX110, w ∈ lw_all := lw_in wsX110 [1074, 1076] (by decide +kernel) (by decide +kernel)

/-! OperaHouse$Fee -/
set_option maxRecDepth 100000
def RX12 : String := "OperaHouse$Fee"
def TX12 : u_T := fun k => match k with
  | 0 => ("OperaHouse$Fee", "much", "I", true)
  | _ => ("OperaHouse$Fee", "cond", "LOperaHouse$Cond;", true)
def tyX12 : Nat → FieldType := fun k => match k with
  | 0 => .int
  | _ => .object "OperaHouse$Cond"
abbrev wsX120 : List Cond := u_ws RX12 TX12 2
theorem nmX12 : ∀ a, a < 2 → ∀ b, b < 2 → a ≠ b → (TX12 a).2.1 ≠ (TX12 b).2.1 := by decide +kernel
theorem tyX12_ok : ∀ k, k < 2 → parseFieldDescriptor (TX12 k).2.2.1 = some (tyX12 k) := by decide +kernel
abbrev cX12_init : ByteArray := prog_7_method_1_code
def yX12_init : MethodName := ⟨RX12, "<init>", "(ILOperaHouse$Cond;)V"⟩
def dkwX12_init_0 : List UInt8 := [42, 183, 0, 1, 42, 27, 181, 0, 7, 42, 44, 181, 0, 13, 177]
abbrev dktX12_init_0 : List UInt8 := dkwX12_init_0 ++ []
theorem dksX12_init_0 : cX12_init.data.toList.drop 0 = dktX12_init_0 := by decide +kernel
theorem dX12_init_0 : decode cX12_init 0 = .ok (.aload_n 0, 1) := dk_42 (dk_at dksX12_init_0 0 rfl rfl)
theorem dX12_init_1 : decode cX12_init 1 = .ok (.invokespecial 1, 3) := dk_183 0 1 (dk_at dksX12_init_0 1 rfl rfl)
theorem dX12_init_4 : decode cX12_init 4 = .ok (.aload_n 0, 1) := dk_42 (dk_at dksX12_init_0 4 rfl rfl)
theorem dX12_init_5 : decode cX12_init 5 = .ok (.iload_n 1, 1) := dk_27 (dk_at dksX12_init_0 5 rfl rfl)
theorem dX12_init_6 : decode cX12_init 6 = .ok (.putfield 7, 3) := dk_181 0 7 (dk_at dksX12_init_0 6 rfl rfl)
theorem dX12_init_9 : decode cX12_init 9 = .ok (.aload_n 0, 1) := dk_42 (dk_at dksX12_init_0 9 rfl rfl)
theorem dX12_init_10 : decode cX12_init 10 = .ok (.aload_n 2, 1) := dk_44 (dk_at dksX12_init_0 10 rfl rfl)
theorem dX12_init_11 : decode cX12_init 11 = .ok (.putfield 13, 3) := dk_181 0 13 (dk_at dksX12_init_0 11 rfl rfl)
theorem dX12_init_14 : decode cX12_init 14 = .ok (.return_, 1) := dk_177 (dk_at dksX12_init_0 14 rfl rfl)
theorem q157 : (Jvm.Cond.initialized "OperaHouse$Fee") ∈ lw_all := lw_g (lw_at lw_m1 29 rfl) rfl
theorem q532 : (Jvm.Cond.selects "OperaHouse$Fee" ({ cls := "java/lang/Object", name := "getClass", desc := "()Ljava/lang/Class;" } : Jvm.MethodName) ({ cls := "java/lang/Object", name := "getClass", desc := "()Ljava/lang/Class;" } : Jvm.MethodName)) ∈ lw_all := lw_g (lw_at lw_m2 164 rfl) rfl
theorem q1083 : (Jvm.Cond.instantiable "OperaHouse$Fee" (2 : Nat)) ∈ lw_all := lw_g (lw_at lw_m4 235 rfl) rfl
theorem q1251 : (Jvm.Cond.instanceMethod ({ cls := "OperaHouse$Fee", name := "<init>", desc := "(ILOperaHouse$Cond;)V" } : Jvm.MethodName)) ∈ lw_all := lw_g (lw_at lw_m5 163 rfl) rfl
theorem q1252 : (Jvm.Cond.code ({ cls := "OperaHouse$Fee", name := "<init>", desc := "(ILOperaHouse$Cond;)V" } : Jvm.MethodName) prog_7_method_1_code (3 : Nat) (Option.none : Option Jvm.ClassFile.FieldType)) ∈ lw_all := lw_g (lw_at lw_m5 164 rfl) rfl
theorem q1253 : (Jvm.Cond.methodLink "OperaHouse$Fee" (1 : Nat) ({ cls := "java/lang/Object", name := "<init>", desc := "()V" } : Jvm.MethodName)) ∈ lw_all := lw_g (lw_at lw_m5 165 rfl) rfl
theorem q1254 : (Jvm.Cond.fieldLink "OperaHouse$Fee" (7 : Nat) "OperaHouse$Fee" "much" "I") ∈ lw_all := lw_g (lw_at lw_m5 166 rfl) rfl
theorem q1256 : (Jvm.Cond.fieldLink "OperaHouse$Fee" (13 : Nat) "OperaHouse$Fee" "cond" "LOperaHouse$Cond;") ∈ lw_all := lw_g (lw_at lw_m5 168 rfl) rfl
theorem q1258 : (Jvm.Cond.laysFinal "OperaHouse$Fee" "OperaHouse$Fee" "much" "I") ∈ lw_all := lw_g (lw_at lw_m5 170 rfl) rfl
theorem q1259 : (Jvm.Cond.soleField "OperaHouse$Fee" "much") ∈ lw_all := lw_g (lw_at lw_m5 171 rfl) rfl
theorem q1260 : (Jvm.Cond.laysFinal "OperaHouse$Fee" "OperaHouse$Fee" "cond" "LOperaHouse$Cond;") ∈ lw_all := lw_g (lw_at lw_m5 172 rfl) rfl
theorem q1261 : (Jvm.Cond.soleField "OperaHouse$Fee" "cond") ∈ lw_all := lw_g (lw_at lw_m5 173 rfl) rfl
theorem q1262 : (Jvm.Cond.superclass "OperaHouse$Fee" "java/lang/Object") ∈ lw_all := lw_g (lw_at lw_m5 174 rfl) rfl
theorem q2475 : (Jvm.Cond.castable "OperaHouse$Fee" "java/lang/Object") ∈ lw_tbl := lw_at lw_m10 187 rfl
theorem in_X12 : ∀ w ∈ wsX120, w ∈ lw_all := lw_in wsX120 [1258, 1260] (by decide +kernel) (by decide +kernel)

/-! OperaHouse$Cond -/
set_option maxRecDepth 100000
def RX13 : String := "OperaHouse$Cond"
def TX13 : u_T := fun k => match k with
  | 0 => ("OperaHouse$Cond", "what", "I", true)
  | 1 => ("OperaHouse$Cond", "sign", "I", true)
  | 2 => ("OperaHouse$Cond", "number", "I", true)
  | 3 => ("OperaHouse$Cond", "left", "LOperaHouse$Cond;", true)
  | _ => ("OperaHouse$Cond", "right", "LOperaHouse$Cond;", true)
def tyX13 : Nat → FieldType := fun k => match k with
  | 0 => .int
  | 1 => .int
  | 2 => .int
  | 3 => .object "OperaHouse$Cond"
  | _ => .object "OperaHouse$Cond"
abbrev wsX130 : List Cond := u_ws RX13 TX13 5
theorem nmX13 : ∀ a, a < 5 → ∀ b, b < 5 → a ≠ b → (TX13 a).2.1 ≠ (TX13 b).2.1 := by decide +kernel
theorem tyX13_ok : ∀ k, k < 5 → parseFieldDescriptor (TX13 k).2.2.1 = some (tyX13 k) := by decide +kernel
abbrev cX13_init : ByteArray := prog_4_method_1_code
def yX13_init : MethodName := ⟨RX13, "<init>", "(IIILOperaHouse$Cond;LOperaHouse$Cond;)V"⟩
def dkwX13_init_1 : List UInt8 := [181, 0, 21, 42, 25, 5, 181, 0, 25, 177]
abbrev dktX13_init_1 : List UInt8 := dkwX13_init_1 ++ []
def dkwX13_init_0 : List UInt8 := [42, 183, 0, 3, 42, 27, 181, 0, 9, 42, 28, 181, 0, 15, 42, 29, 181, 0, 18, 42, 25, 4]
abbrev dktX13_init_0 : List UInt8 := dkwX13_init_0 ++ dktX13_init_1
theorem dksX13_init_0 : cX13_init.data.toList.drop 0 = dktX13_init_0 := by decide +kernel
theorem dksX13_init_1 : cX13_init.data.toList.drop 22 = dktX13_init_1 := dk_seg dksX13_init_0 22 rfl rfl
theorem dX13_init_0 : decode cX13_init 0 = .ok (.aload_n 0, 1) := dk_42 (dk_at dksX13_init_0 0 rfl rfl)
theorem dX13_init_1 : decode cX13_init 1 = .ok (.invokespecial 3, 3) := dk_183 0 3 (dk_at dksX13_init_0 1 rfl rfl)
theorem dX13_init_4 : decode cX13_init 4 = .ok (.aload_n 0, 1) := dk_42 (dk_at dksX13_init_0 4 rfl rfl)
theorem dX13_init_5 : decode cX13_init 5 = .ok (.iload_n 1, 1) := dk_27 (dk_at dksX13_init_0 5 rfl rfl)
theorem dX13_init_6 : decode cX13_init 6 = .ok (.putfield 9, 3) := dk_181 0 9 (dk_at dksX13_init_0 6 rfl rfl)
theorem dX13_init_9 : decode cX13_init 9 = .ok (.aload_n 0, 1) := dk_42 (dk_at dksX13_init_0 9 rfl rfl)
theorem dX13_init_10 : decode cX13_init 10 = .ok (.iload_n 2, 1) := dk_28 (dk_at dksX13_init_0 10 rfl rfl)
theorem dX13_init_11 : decode cX13_init 11 = .ok (.putfield 15, 3) := dk_181 0 15 (dk_at dksX13_init_0 11 rfl rfl)
theorem dX13_init_14 : decode cX13_init 14 = .ok (.aload_n 0, 1) := dk_42 (dk_at dksX13_init_0 14 rfl rfl)
theorem dX13_init_15 : decode cX13_init 15 = .ok (.iload_n 3, 1) := dk_29 (dk_at dksX13_init_0 15 rfl rfl)
theorem dX13_init_16 : decode cX13_init 16 = .ok (.putfield 18, 3) := dk_181 0 18 (dk_at dksX13_init_0 16 rfl rfl)
theorem dX13_init_19 : decode cX13_init 19 = .ok (.aload_n 0, 1) := dk_42 (dk_at dksX13_init_0 19 rfl rfl)
theorem dX13_init_20 : decode cX13_init 20 = .ok (.aload 4, 2) := dk_25 4 (dk_at dksX13_init_0 20 rfl rfl)
theorem dX13_init_22 : decode cX13_init 22 = .ok (.putfield 21, 3) := dk_181 0 21 (dk_at dksX13_init_1 0 rfl rfl)
theorem dX13_init_25 : decode cX13_init 25 = .ok (.aload_n 0, 1) := dk_42 (dk_at dksX13_init_1 3 rfl rfl)
theorem dX13_init_26 : decode cX13_init 26 = .ok (.aload 5, 2) := dk_25 5 (dk_at dksX13_init_1 4 rfl rfl)
theorem dX13_init_28 : decode cX13_init 28 = .ok (.putfield 25, 3) := dk_181 0 25 (dk_at dksX13_init_1 6 rfl rfl)
theorem dX13_init_31 : decode cX13_init 31 = .ok (.return_, 1) := dk_177 (dk_at dksX13_init_1 9 rfl rfl)
abbrev cX13_holds : ByteArray := prog_4_method_3_code
def yX13_holds : MethodName := ⟨RX13, "holds", "(LOperaHouse$Asked;)Z"⟩
def dkwX13_holds_7 : List UInt8 := [172, 43, 180, 0, 57, 42, 180, 0, 9, 6, 100, 160, 0, 7, 4, 167, 0, 4, 3, 172]
abbrev dktX13_holds_7 : List UInt8 := dkwX13_holds_7 ++ []
def dkwX13_holds_6 : List UInt8 := [180, 0, 44, 182, 0, 47, 172, 42, 43, 180, 0, 51, 182, 0, 47, 172, 42, 43, 180, 0, 54, 182, 0, 47]
abbrev dktX13_holds_6 : List UInt8 := dkwX13_holds_6 ++ dktX13_holds_7
def dkwX13_holds_5 : List UInt8 := [167, 0, 4, 3, 172, 43, 180, 0, 32, 172, 43, 180, 0, 38, 172, 43, 180, 0, 41, 172, 42, 43]
abbrev dktX13_holds_5 : List UInt8 := dkwX13_holds_5 ++ dktX13_holds_6
def dkwX13_holds_4 : List UInt8 := [180, 0, 21, 43, 182, 0, 28, 154, 0, 14, 42, 180, 0, 25, 43, 182, 0, 28, 153, 0, 7, 4]
abbrev dktX13_holds_4 : List UInt8 := dkwX13_holds_4 ++ dktX13_holds_5
def dkwX13_holds_3 : List UInt8 := [182, 0, 28, 153, 0, 18, 42, 180, 0, 25, 43, 182, 0, 28, 153, 0, 7, 4, 167, 0, 4, 3, 172, 42]
abbrev dktX13_holds_3 : List UInt8 := dkwX13_holds_3 ++ dktX13_holds_4
def dkwX13_holds_2 : List UInt8 := [42, 180, 0, 21, 43, 182, 0, 28, 154, 0, 7, 4, 167, 0, 4, 3, 172, 42, 180, 0, 21, 43]
abbrev dktX13_holds_2 : List UInt8 := dkwX13_holds_2 ++ dktX13_holds_3
def dkwX13_holds_1 : List UInt8 := [170, 0, 0, 0, 0, 0, 0, 183, 0, 0, 0, 0, 0, 0, 0, 12, 0, 0, 0, 68, 0, 0, 0, 85, 0, 0, 0, 113, 0, 0, 0, 183, 0, 0, 0, 183, 0, 0, 0, 183, 0, 0, 0, 183, 0, 0, 0, 141, 0, 0, 0, 146, 0, 0, 0, 151, 0, 0, 0, 156, 0, 0, 0, 165, 0, 0, 0, 174]
abbrev dktX13_holds_1 : List UInt8 := dkwX13_holds_1 ++ dktX13_holds_2
def dkwX13_holds_0 : List UInt8 := [42, 180, 0, 9]
abbrev dktX13_holds_0 : List UInt8 := dkwX13_holds_0 ++ dktX13_holds_1
theorem dksX13_holds_0 : cX13_holds.data.toList.drop 0 = dktX13_holds_0 := by decide +kernel
theorem dksX13_holds_1 : cX13_holds.data.toList.drop 4 = dktX13_holds_1 := dk_seg dksX13_holds_0 4 rfl rfl
theorem dksX13_holds_2 : cX13_holds.data.toList.drop 72 = dktX13_holds_2 := dk_seg dksX13_holds_1 68 rfl rfl
theorem dksX13_holds_3 : cX13_holds.data.toList.drop 94 = dktX13_holds_3 := dk_seg dksX13_holds_2 22 rfl rfl
theorem dksX13_holds_4 : cX13_holds.data.toList.drop 118 = dktX13_holds_4 := dk_seg dksX13_holds_3 24 rfl rfl
theorem dksX13_holds_5 : cX13_holds.data.toList.drop 140 = dktX13_holds_5 := dk_seg dksX13_holds_4 22 rfl rfl
theorem dksX13_holds_6 : cX13_holds.data.toList.drop 162 = dktX13_holds_6 := dk_seg dksX13_holds_5 22 rfl rfl
theorem dksX13_holds_7 : cX13_holds.data.toList.drop 186 = dktX13_holds_7 := dk_seg dksX13_holds_6 24 rfl rfl
theorem dX13_holds_0 : decode cX13_holds 0 = .ok (.aload_n 0, 1) := dk_42 (dk_at dksX13_holds_0 0 rfl rfl)
theorem dX13_holds_1 : decode cX13_holds 1 = .ok (.getfield 9, 3) := dk_180 0 9 (dk_at dksX13_holds_0 1 rfl rfl)
theorem dX13_holds_4 : decode cX13_holds 4 = .ok (.tableswitch 183 0 12 #[68, 85, 113, 183, 183, 183, 183, 141, 146, 151, 156, 165, 174], 68) := by decide +kernel
theorem dX13_holds_72 : decode cX13_holds 72 = .ok (.aload_n 0, 1) := dk_42 (dk_at dksX13_holds_2 0 rfl rfl)
theorem dX13_holds_73 : decode cX13_holds 73 = .ok (.getfield 21, 3) := dk_180 0 21 (dk_at dksX13_holds_2 1 rfl rfl)
theorem dX13_holds_76 : decode cX13_holds 76 = .ok (.aload_n 1, 1) := dk_43 (dk_at dksX13_holds_2 4 rfl rfl)
theorem dX13_holds_77 : decode cX13_holds 77 = .ok (.invokevirtual 28, 3) := dk_182 0 28 (dk_at dksX13_holds_2 5 rfl rfl)
theorem dX13_holds_80 : decode cX13_holds 80 = .ok (.ifCond .ne 7, 3) := dk_154 0 7 (dk_at dksX13_holds_2 8 rfl rfl)
theorem dX13_holds_83 : decode cX13_holds 83 = .ok (.iconst 1, 1) := dk_4 (dk_at dksX13_holds_2 11 rfl rfl)
theorem dX13_holds_84 : decode cX13_holds 84 = .ok (.goto 4, 3) := dk_167 0 4 (dk_at dksX13_holds_2 12 rfl rfl)
theorem dX13_holds_87 : decode cX13_holds 87 = .ok (.iconst 0, 1) := dk_3 (dk_at dksX13_holds_2 15 rfl rfl)
theorem dX13_holds_88 : decode cX13_holds 88 = .ok (.ireturn, 1) := dk_172 (dk_at dksX13_holds_2 16 rfl rfl)
theorem dX13_holds_89 : decode cX13_holds 89 = .ok (.aload_n 0, 1) := dk_42 (dk_at dksX13_holds_2 17 rfl rfl)
theorem dX13_holds_90 : decode cX13_holds 90 = .ok (.getfield 21, 3) := dk_180 0 21 (dk_at dksX13_holds_2 18 rfl rfl)
theorem dX13_holds_93 : decode cX13_holds 93 = .ok (.aload_n 1, 1) := dk_43 (dk_at dksX13_holds_2 21 rfl rfl)
theorem dX13_holds_94 : decode cX13_holds 94 = .ok (.invokevirtual 28, 3) := dk_182 0 28 (dk_at dksX13_holds_3 0 rfl rfl)
theorem dX13_holds_97 : decode cX13_holds 97 = .ok (.ifCond .eq 18, 3) := dk_153 0 18 (dk_at dksX13_holds_3 3 rfl rfl)
theorem dX13_holds_100 : decode cX13_holds 100 = .ok (.aload_n 0, 1) := dk_42 (dk_at dksX13_holds_3 6 rfl rfl)
theorem dX13_holds_101 : decode cX13_holds 101 = .ok (.getfield 25, 3) := dk_180 0 25 (dk_at dksX13_holds_3 7 rfl rfl)
theorem dX13_holds_104 : decode cX13_holds 104 = .ok (.aload_n 1, 1) := dk_43 (dk_at dksX13_holds_3 10 rfl rfl)
theorem dX13_holds_105 : decode cX13_holds 105 = .ok (.invokevirtual 28, 3) := dk_182 0 28 (dk_at dksX13_holds_3 11 rfl rfl)
theorem dX13_holds_108 : decode cX13_holds 108 = .ok (.ifCond .eq 7, 3) := dk_153 0 7 (dk_at dksX13_holds_3 14 rfl rfl)
theorem dX13_holds_111 : decode cX13_holds 111 = .ok (.iconst 1, 1) := dk_4 (dk_at dksX13_holds_3 17 rfl rfl)
theorem dX13_holds_112 : decode cX13_holds 112 = .ok (.goto 4, 3) := dk_167 0 4 (dk_at dksX13_holds_3 18 rfl rfl)
theorem dX13_holds_115 : decode cX13_holds 115 = .ok (.iconst 0, 1) := dk_3 (dk_at dksX13_holds_3 21 rfl rfl)
theorem dX13_holds_116 : decode cX13_holds 116 = .ok (.ireturn, 1) := dk_172 (dk_at dksX13_holds_3 22 rfl rfl)
theorem dX13_holds_117 : decode cX13_holds 117 = .ok (.aload_n 0, 1) := dk_42 (dk_at dksX13_holds_3 23 rfl rfl)
theorem dX13_holds_118 : decode cX13_holds 118 = .ok (.getfield 21, 3) := dk_180 0 21 (dk_at dksX13_holds_4 0 rfl rfl)
theorem dX13_holds_121 : decode cX13_holds 121 = .ok (.aload_n 1, 1) := dk_43 (dk_at dksX13_holds_4 3 rfl rfl)
theorem dX13_holds_122 : decode cX13_holds 122 = .ok (.invokevirtual 28, 3) := dk_182 0 28 (dk_at dksX13_holds_4 4 rfl rfl)
theorem dX13_holds_125 : decode cX13_holds 125 = .ok (.ifCond .ne 14, 3) := dk_154 0 14 (dk_at dksX13_holds_4 7 rfl rfl)
theorem dX13_holds_128 : decode cX13_holds 128 = .ok (.aload_n 0, 1) := dk_42 (dk_at dksX13_holds_4 10 rfl rfl)
theorem dX13_holds_129 : decode cX13_holds 129 = .ok (.getfield 25, 3) := dk_180 0 25 (dk_at dksX13_holds_4 11 rfl rfl)
theorem dX13_holds_132 : decode cX13_holds 132 = .ok (.aload_n 1, 1) := dk_43 (dk_at dksX13_holds_4 14 rfl rfl)
theorem dX13_holds_133 : decode cX13_holds 133 = .ok (.invokevirtual 28, 3) := dk_182 0 28 (dk_at dksX13_holds_4 15 rfl rfl)
theorem dX13_holds_136 : decode cX13_holds 136 = .ok (.ifCond .eq 7, 3) := dk_153 0 7 (dk_at dksX13_holds_4 18 rfl rfl)
theorem dX13_holds_139 : decode cX13_holds 139 = .ok (.iconst 1, 1) := dk_4 (dk_at dksX13_holds_4 21 rfl rfl)
theorem dX13_holds_140 : decode cX13_holds 140 = .ok (.goto 4, 3) := dk_167 0 4 (dk_at dksX13_holds_5 0 rfl rfl)
theorem dX13_holds_143 : decode cX13_holds 143 = .ok (.iconst 0, 1) := dk_3 (dk_at dksX13_holds_5 3 rfl rfl)
theorem dX13_holds_144 : decode cX13_holds 144 = .ok (.ireturn, 1) := dk_172 (dk_at dksX13_holds_5 4 rfl rfl)
theorem dX13_holds_145 : decode cX13_holds 145 = .ok (.aload_n 1, 1) := dk_43 (dk_at dksX13_holds_5 5 rfl rfl)
theorem dX13_holds_146 : decode cX13_holds 146 = .ok (.getfield 32, 3) := dk_180 0 32 (dk_at dksX13_holds_5 6 rfl rfl)
theorem dX13_holds_149 : decode cX13_holds 149 = .ok (.ireturn, 1) := dk_172 (dk_at dksX13_holds_5 9 rfl rfl)
theorem dX13_holds_150 : decode cX13_holds 150 = .ok (.aload_n 1, 1) := dk_43 (dk_at dksX13_holds_5 10 rfl rfl)
theorem dX13_holds_151 : decode cX13_holds 151 = .ok (.getfield 38, 3) := dk_180 0 38 (dk_at dksX13_holds_5 11 rfl rfl)
theorem dX13_holds_154 : decode cX13_holds 154 = .ok (.ireturn, 1) := dk_172 (dk_at dksX13_holds_5 14 rfl rfl)
theorem dX13_holds_155 : decode cX13_holds 155 = .ok (.aload_n 1, 1) := dk_43 (dk_at dksX13_holds_5 15 rfl rfl)
theorem dX13_holds_156 : decode cX13_holds 156 = .ok (.getfield 41, 3) := dk_180 0 41 (dk_at dksX13_holds_5 16 rfl rfl)
theorem dX13_holds_159 : decode cX13_holds 159 = .ok (.ireturn, 1) := dk_172 (dk_at dksX13_holds_5 19 rfl rfl)
theorem dX13_holds_160 : decode cX13_holds 160 = .ok (.aload_n 0, 1) := dk_42 (dk_at dksX13_holds_5 20 rfl rfl)
theorem dX13_holds_161 : decode cX13_holds 161 = .ok (.aload_n 1, 1) := dk_43 (dk_at dksX13_holds_5 21 rfl rfl)
theorem dX13_holds_162 : decode cX13_holds 162 = .ok (.getfield 44, 3) := dk_180 0 44 (dk_at dksX13_holds_6 0 rfl rfl)
theorem dX13_holds_165 : decode cX13_holds 165 = .ok (.invokevirtual 47, 3) := dk_182 0 47 (dk_at dksX13_holds_6 3 rfl rfl)
theorem dX13_holds_168 : decode cX13_holds 168 = .ok (.ireturn, 1) := dk_172 (dk_at dksX13_holds_6 6 rfl rfl)
theorem dX13_holds_169 : decode cX13_holds 169 = .ok (.aload_n 0, 1) := dk_42 (dk_at dksX13_holds_6 7 rfl rfl)
theorem dX13_holds_170 : decode cX13_holds 170 = .ok (.aload_n 1, 1) := dk_43 (dk_at dksX13_holds_6 8 rfl rfl)
theorem dX13_holds_171 : decode cX13_holds 171 = .ok (.getfield 51, 3) := dk_180 0 51 (dk_at dksX13_holds_6 9 rfl rfl)
theorem dX13_holds_174 : decode cX13_holds 174 = .ok (.invokevirtual 47, 3) := dk_182 0 47 (dk_at dksX13_holds_6 12 rfl rfl)
theorem dX13_holds_177 : decode cX13_holds 177 = .ok (.ireturn, 1) := dk_172 (dk_at dksX13_holds_6 15 rfl rfl)
theorem dX13_holds_178 : decode cX13_holds 178 = .ok (.aload_n 0, 1) := dk_42 (dk_at dksX13_holds_6 16 rfl rfl)
theorem dX13_holds_179 : decode cX13_holds 179 = .ok (.aload_n 1, 1) := dk_43 (dk_at dksX13_holds_6 17 rfl rfl)
theorem dX13_holds_180 : decode cX13_holds 180 = .ok (.getfield 54, 3) := dk_180 0 54 (dk_at dksX13_holds_6 18 rfl rfl)
theorem dX13_holds_183 : decode cX13_holds 183 = .ok (.invokevirtual 47, 3) := dk_182 0 47 (dk_at dksX13_holds_6 21 rfl rfl)
theorem dX13_holds_186 : decode cX13_holds 186 = .ok (.ireturn, 1) := dk_172 (dk_at dksX13_holds_7 0 rfl rfl)
theorem dX13_holds_187 : decode cX13_holds 187 = .ok (.aload_n 1, 1) := dk_43 (dk_at dksX13_holds_7 1 rfl rfl)
theorem dX13_holds_188 : decode cX13_holds 188 = .ok (.getfield 57, 3) := dk_180 0 57 (dk_at dksX13_holds_7 2 rfl rfl)
theorem dX13_holds_191 : decode cX13_holds 191 = .ok (.aload_n 0, 1) := dk_42 (dk_at dksX13_holds_7 5 rfl rfl)
theorem dX13_holds_192 : decode cX13_holds 192 = .ok (.getfield 9, 3) := dk_180 0 9 (dk_at dksX13_holds_7 6 rfl rfl)
theorem dX13_holds_195 : decode cX13_holds 195 = .ok (.iconst 3, 1) := dk_6 (dk_at dksX13_holds_7 9 rfl rfl)
theorem dX13_holds_196 : decode cX13_holds 196 = .ok (.isub, 1) := dk_100 (dk_at dksX13_holds_7 10 rfl rfl)
theorem dX13_holds_197 : decode cX13_holds 197 = .ok (.if_icmp .ne 7, 3) := dk_160 0 7 (dk_at dksX13_holds_7 11 rfl rfl)
theorem dX13_holds_200 : decode cX13_holds 200 = .ok (.iconst 1, 1) := dk_4 (dk_at dksX13_holds_7 14 rfl rfl)
theorem dX13_holds_201 : decode cX13_holds 201 = .ok (.goto 4, 3) := dk_167 0 4 (dk_at dksX13_holds_7 15 rfl rfl)
theorem dX13_holds_204 : decode cX13_holds 204 = .ok (.iconst 0, 1) := dk_3 (dk_at dksX13_holds_7 18 rfl rfl)
theorem dX13_holds_205 : decode cX13_holds 205 = .ok (.ireturn, 1) := dk_172 (dk_at dksX13_holds_7 19 rfl rfl)
abbrev cX13_measures : ByteArray := prog_4_method_2_code
def yX13_measures : MethodName := ⟨RX13, "measures", "(I)Z"⟩
def dkwX13_measures_2 : List UInt8 := [3, 167, 0, 16, 27, 42, 180, 0, 18, 164, 0, 7, 4, 167, 0, 4, 3, 172]
abbrev dktX13_measures_2 : List UInt8 := dkwX13_measures_2 ++ []
def dkwX13_measures_1 : List UInt8 := [167, 0, 41, 42, 180, 0, 15, 16, 61, 160, 0, 19, 27, 42, 180, 0, 18, 160, 0, 7, 4, 167, 0, 20]
abbrev dktX13_measures_1 : List UInt8 := dkwX13_measures_1 ++ dktX13_measures_2
def dkwX13_measures_0 : List UInt8 := [42, 180, 0, 15, 16, 60, 160, 0, 19, 27, 42, 180, 0, 18, 162, 0, 7, 4, 167, 0, 45, 3]
abbrev dktX13_measures_0 : List UInt8 := dkwX13_measures_0 ++ dktX13_measures_1
theorem dksX13_measures_0 : cX13_measures.data.toList.drop 0 = dktX13_measures_0 := by decide +kernel
theorem dksX13_measures_1 : cX13_measures.data.toList.drop 22 = dktX13_measures_1 := dk_seg dksX13_measures_0 22 rfl rfl
theorem dksX13_measures_2 : cX13_measures.data.toList.drop 46 = dktX13_measures_2 := dk_seg dksX13_measures_1 24 rfl rfl
theorem dX13_measures_0 : decode cX13_measures 0 = .ok (.aload_n 0, 1) := dk_42 (dk_at dksX13_measures_0 0 rfl rfl)
theorem dX13_measures_1 : decode cX13_measures 1 = .ok (.getfield 15, 3) := dk_180 0 15 (dk_at dksX13_measures_0 1 rfl rfl)
theorem dX13_measures_4 : decode cX13_measures 4 = .ok (.bipush 60, 2) := dk_16 60 (dk_at dksX13_measures_0 4 rfl rfl)
theorem dX13_measures_6 : decode cX13_measures 6 = .ok (.if_icmp .ne 19, 3) := dk_160 0 19 (dk_at dksX13_measures_0 6 rfl rfl)
theorem dX13_measures_9 : decode cX13_measures 9 = .ok (.iload_n 1, 1) := dk_27 (dk_at dksX13_measures_0 9 rfl rfl)
theorem dX13_measures_10 : decode cX13_measures 10 = .ok (.aload_n 0, 1) := dk_42 (dk_at dksX13_measures_0 10 rfl rfl)
theorem dX13_measures_11 : decode cX13_measures 11 = .ok (.getfield 18, 3) := dk_180 0 18 (dk_at dksX13_measures_0 11 rfl rfl)
theorem dX13_measures_14 : decode cX13_measures 14 = .ok (.if_icmp .ge 7, 3) := dk_162 0 7 (dk_at dksX13_measures_0 14 rfl rfl)
theorem dX13_measures_17 : decode cX13_measures 17 = .ok (.iconst 1, 1) := dk_4 (dk_at dksX13_measures_0 17 rfl rfl)
theorem dX13_measures_18 : decode cX13_measures 18 = .ok (.goto 45, 3) := dk_167 0 45 (dk_at dksX13_measures_0 18 rfl rfl)
theorem dX13_measures_21 : decode cX13_measures 21 = .ok (.iconst 0, 1) := dk_3 (dk_at dksX13_measures_0 21 rfl rfl)
theorem dX13_measures_22 : decode cX13_measures 22 = .ok (.goto 41, 3) := dk_167 0 41 (dk_at dksX13_measures_1 0 rfl rfl)
theorem dX13_measures_25 : decode cX13_measures 25 = .ok (.aload_n 0, 1) := dk_42 (dk_at dksX13_measures_1 3 rfl rfl)
theorem dX13_measures_26 : decode cX13_measures 26 = .ok (.getfield 15, 3) := dk_180 0 15 (dk_at dksX13_measures_1 4 rfl rfl)
theorem dX13_measures_29 : decode cX13_measures 29 = .ok (.bipush 61, 2) := dk_16 61 (dk_at dksX13_measures_1 7 rfl rfl)
theorem dX13_measures_31 : decode cX13_measures 31 = .ok (.if_icmp .ne 19, 3) := dk_160 0 19 (dk_at dksX13_measures_1 9 rfl rfl)
theorem dX13_measures_34 : decode cX13_measures 34 = .ok (.iload_n 1, 1) := dk_27 (dk_at dksX13_measures_1 12 rfl rfl)
theorem dX13_measures_35 : decode cX13_measures 35 = .ok (.aload_n 0, 1) := dk_42 (dk_at dksX13_measures_1 13 rfl rfl)
theorem dX13_measures_36 : decode cX13_measures 36 = .ok (.getfield 18, 3) := dk_180 0 18 (dk_at dksX13_measures_1 14 rfl rfl)
theorem dX13_measures_39 : decode cX13_measures 39 = .ok (.if_icmp .ne 7, 3) := dk_160 0 7 (dk_at dksX13_measures_1 17 rfl rfl)
theorem dX13_measures_42 : decode cX13_measures 42 = .ok (.iconst 1, 1) := dk_4 (dk_at dksX13_measures_1 20 rfl rfl)
theorem dX13_measures_43 : decode cX13_measures 43 = .ok (.goto 20, 3) := dk_167 0 20 (dk_at dksX13_measures_1 21 rfl rfl)
theorem dX13_measures_46 : decode cX13_measures 46 = .ok (.iconst 0, 1) := dk_3 (dk_at dksX13_measures_2 0 rfl rfl)
theorem dX13_measures_47 : decode cX13_measures 47 = .ok (.goto 16, 3) := dk_167 0 16 (dk_at dksX13_measures_2 1 rfl rfl)
theorem dX13_measures_50 : decode cX13_measures 50 = .ok (.iload_n 1, 1) := dk_27 (dk_at dksX13_measures_2 4 rfl rfl)
theorem dX13_measures_51 : decode cX13_measures 51 = .ok (.aload_n 0, 1) := dk_42 (dk_at dksX13_measures_2 5 rfl rfl)
theorem dX13_measures_52 : decode cX13_measures 52 = .ok (.getfield 18, 3) := dk_180 0 18 (dk_at dksX13_measures_2 6 rfl rfl)
theorem dX13_measures_55 : decode cX13_measures 55 = .ok (.if_icmp .le 7, 3) := dk_164 0 7 (dk_at dksX13_measures_2 9 rfl rfl)
theorem dX13_measures_58 : decode cX13_measures 58 = .ok (.iconst 1, 1) := dk_4 (dk_at dksX13_measures_2 12 rfl rfl)
theorem dX13_measures_59 : decode cX13_measures 59 = .ok (.goto 4, 3) := dk_167 0 4 (dk_at dksX13_measures_2 13 rfl rfl)
theorem dX13_measures_62 : decode cX13_measures 62 = .ok (.iconst 0, 1) := dk_3 (dk_at dksX13_measures_2 16 rfl rfl)
theorem dX13_measures_63 : decode cX13_measures 63 = .ok (.ireturn, 1) := dk_172 (dk_at dksX13_measures_2 17 rfl rfl)
theorem q163 : (Jvm.Cond.initialized "OperaHouse$Cond") ∈ lw_all := lw_g (lw_at lw_m1 35 rfl) rfl
theorem q263 : (Jvm.Cond.fieldLinkNest "OperaHouse$Cond" (57 : Nat) "OperaHouse$Asked" "kind" "I" "OperaHouse") ∈ lw_tbl := lw_at lw_m1 135 rfl
theorem q265 : (Jvm.Cond.fieldLinkNest "OperaHouse$Cond" (44 : Nat) "OperaHouse$Asked" "hours" "I" "OperaHouse") ∈ lw_tbl := lw_at lw_m1 137 rfl
theorem q267 : (Jvm.Cond.fieldLinkNest "OperaHouse$Cond" (51 : Nat) "OperaHouse$Asked" "nth" "I" "OperaHouse") ∈ lw_tbl := lw_at lw_m1 139 rfl
theorem q269 : (Jvm.Cond.fieldLinkNest "OperaHouse$Cond" (54 : Nat) "OperaHouse$Asked" "over" "I" "OperaHouse") ∈ lw_tbl := lw_at lw_m1 141 rfl
theorem q271 : (Jvm.Cond.fieldLinkNest "OperaHouse$Cond" (32 : Nat) "OperaHouse$Asked" "late" "Z" "OperaHouse") ∈ lw_tbl := lw_at lw_m1 143 rfl
theorem q273 : (Jvm.Cond.fieldLinkNest "OperaHouse$Cond" (38 : Nat) "OperaHouse$Asked" "cover" "Z" "OperaHouse") ∈ lw_tbl := lw_at lw_m1 145 rfl
theorem q275 : (Jvm.Cond.fieldLinkNest "OperaHouse$Cond" (41 : Nat) "OperaHouse$Asked" "instead" "Z" "OperaHouse") ∈ lw_tbl := lw_at lw_m1 147 rfl
theorem q529 : (Jvm.Cond.selects "OperaHouse$Cond" ({ cls := "java/lang/Object", name := "getClass", desc := "()Ljava/lang/Class;" } : Jvm.MethodName) ({ cls := "java/lang/Object", name := "getClass", desc := "()Ljava/lang/Class;" } : Jvm.MethodName)) ∈ lw_all := lw_g (lw_at lw_m2 161 rfl) rfl
theorem q1223 : (Jvm.Cond.instantiable "OperaHouse$Cond" (5 : Nat)) ∈ lw_all := lw_g (lw_at lw_m5 135 rfl) rfl
theorem q1225 : (Jvm.Cond.instanceMethod ({ cls := "OperaHouse$Cond", name := "<init>", desc := "(IIILOperaHouse$Cond;LOperaHouse$Cond;)V" } : Jvm.MethodName)) ∈ lw_all := lw_g (lw_at lw_m5 137 rfl) rfl
theorem q1226 : (Jvm.Cond.code ({ cls := "OperaHouse$Cond", name := "<init>", desc := "(IIILOperaHouse$Cond;LOperaHouse$Cond;)V" } : Jvm.MethodName) prog_4_method_1_code (6 : Nat) (Option.none : Option Jvm.ClassFile.FieldType)) ∈ lw_all := lw_g (lw_at lw_m5 138 rfl) rfl
theorem q1227 : (Jvm.Cond.methodLink "OperaHouse$Cond" (3 : Nat) ({ cls := "java/lang/Object", name := "<init>", desc := "()V" } : Jvm.MethodName)) ∈ lw_all := lw_g (lw_at lw_m5 139 rfl) rfl
theorem q1228 : (Jvm.Cond.fieldLink "OperaHouse$Cond" (9 : Nat) "OperaHouse$Cond" "what" "I") ∈ lw_all := lw_g (lw_at lw_m5 140 rfl) rfl
theorem q1229 : (Jvm.Cond.fieldLink "OperaHouse$Cond" (15 : Nat) "OperaHouse$Cond" "sign" "I") ∈ lw_all := lw_g (lw_at lw_m5 141 rfl) rfl
theorem q1230 : (Jvm.Cond.fieldLink "OperaHouse$Cond" (18 : Nat) "OperaHouse$Cond" "number" "I") ∈ lw_all := lw_g (lw_at lw_m5 142 rfl) rfl
theorem q1231 : (Jvm.Cond.fieldLink "OperaHouse$Cond" (21 : Nat) "OperaHouse$Cond" "left" "LOperaHouse$Cond;") ∈ lw_all := lw_g (lw_at lw_m5 143 rfl) rfl
theorem q1232 : (Jvm.Cond.fieldLink "OperaHouse$Cond" (25 : Nat) "OperaHouse$Cond" "right" "LOperaHouse$Cond;") ∈ lw_all := lw_g (lw_at lw_m5 144 rfl) rfl
theorem q1233 : (Jvm.Cond.laysFinal "OperaHouse$Cond" "OperaHouse$Cond" "what" "I") ∈ lw_all := lw_g (lw_at lw_m5 145 rfl) rfl
theorem q1234 : (Jvm.Cond.soleField "OperaHouse$Cond" "what") ∈ lw_all := lw_g (lw_at lw_m5 146 rfl) rfl
theorem q1235 : (Jvm.Cond.laysFinal "OperaHouse$Cond" "OperaHouse$Cond" "sign" "I") ∈ lw_all := lw_g (lw_at lw_m5 147 rfl) rfl
theorem q1236 : (Jvm.Cond.soleField "OperaHouse$Cond" "sign") ∈ lw_all := lw_g (lw_at lw_m5 148 rfl) rfl
theorem q1237 : (Jvm.Cond.laysFinal "OperaHouse$Cond" "OperaHouse$Cond" "number" "I") ∈ lw_all := lw_g (lw_at lw_m5 149 rfl) rfl
theorem q1238 : (Jvm.Cond.soleField "OperaHouse$Cond" "number") ∈ lw_all := lw_g (lw_at lw_m5 150 rfl) rfl
theorem q1239 : (Jvm.Cond.laysFinal "OperaHouse$Cond" "OperaHouse$Cond" "left" "LOperaHouse$Cond;") ∈ lw_all := lw_g (lw_at lw_m5 151 rfl) rfl
theorem q1240 : (Jvm.Cond.soleField "OperaHouse$Cond" "left") ∈ lw_all := lw_g (lw_at lw_m5 152 rfl) rfl
theorem q1241 : (Jvm.Cond.laysFinal "OperaHouse$Cond" "OperaHouse$Cond" "right" "LOperaHouse$Cond;") ∈ lw_all := lw_g (lw_at lw_m5 153 rfl) rfl
theorem q1242 : (Jvm.Cond.soleField "OperaHouse$Cond" "right") ∈ lw_all := lw_g (lw_at lw_m5 154 rfl) rfl
theorem q1243 : (Jvm.Cond.superclass "OperaHouse$Cond" "java/lang/Object") ∈ lw_all := lw_g (lw_at lw_m5 155 rfl) rfl
theorem q1580 : (Jvm.Cond.instanceMethod ({ cls := "OperaHouse$Cond", name := "holds", desc := "(LOperaHouse$Asked;)Z" } : Jvm.MethodName)) ∈ lw_all := lw_g (lw_at lw_m7 12 rfl) rfl
theorem q1581 : (Jvm.Cond.selects "OperaHouse$Cond" ({ cls := "OperaHouse$Cond", name := "holds", desc := "(LOperaHouse$Asked;)Z" } : Jvm.MethodName) ({ cls := "OperaHouse$Cond", name := "holds", desc := "(LOperaHouse$Asked;)Z" } : Jvm.MethodName)) ∈ lw_all := lw_g (lw_at lw_m7 13 rfl) rfl
theorem q1582 : (Jvm.Cond.code ({ cls := "OperaHouse$Cond", name := "holds", desc := "(LOperaHouse$Asked;)Z" } : Jvm.MethodName) prog_4_method_3_code (2 : Nat) (Option.some Jvm.ClassFile.FieldType.boolean)) ∈ lw_all := lw_g (lw_at lw_m7 14 rfl) rfl
theorem q1583 : (Jvm.Cond.methodLink "OperaHouse$Cond" (28 : Nat) ({ cls := "OperaHouse$Cond", name := "holds", desc := "(LOperaHouse$Asked;)Z" } : Jvm.MethodName)) ∈ lw_all := lw_g (lw_at lw_m7 15 rfl) rfl
theorem q1584 : (Jvm.Cond.methodLink "OperaHouse$Cond" (47 : Nat) ({ cls := "OperaHouse$Cond", name := "measures", desc := "(I)Z" } : Jvm.MethodName)) ∈ lw_all := lw_g (lw_at lw_m7 16 rfl) rfl
theorem q1585 : (Jvm.Cond.privateMethod ({ cls := "OperaHouse$Cond", name := "measures", desc := "(I)Z" } : Jvm.MethodName)) ∈ lw_tbl := lw_at lw_m7 17 rfl
theorem q1586 : (Jvm.Cond.instanceMethod ({ cls := "OperaHouse$Cond", name := "measures", desc := "(I)Z" } : Jvm.MethodName)) ∈ lw_all := lw_g (lw_at lw_m7 18 rfl) rfl
theorem q1587 : (Jvm.Cond.code ({ cls := "OperaHouse$Cond", name := "measures", desc := "(I)Z" } : Jvm.MethodName) prog_4_method_2_code (2 : Nat) (Option.some Jvm.ClassFile.FieldType.boolean)) ∈ lw_all := lw_g (lw_at lw_m7 19 rfl) rfl
theorem q2477 : (Jvm.Cond.castable "OperaHouse$Cond" "java/lang/Object") ∈ lw_tbl := lw_at lw_m10 189 rfl
theorem in_X13 : ∀ w ∈ wsX130, w ∈ lw_all := lw_in wsX130 [1233, 1235, 1237, 1239, 1241] (by decide +kernel) (by decide +kernel)

/-! OperaHouse$Lesson -/
set_option maxRecDepth 100000
def RX14 : String := "OperaHouse$Lesson"
def TX14 : u_T := fun k => match k with
  | 0 => ("OperaHouse$Lesson", "singer", "I", true)
  | 1 => ("OperaHouse$Lesson", "opera", "I", true)
  | 2 => ("OperaHouse$Lesson", "role", "I", true)
  | 3 => ("OperaHouse$Lesson", "hours", "I", true)
  | _ => ("OperaHouse$Lesson", "day", "I", true)
def tyX14 : Nat → FieldType := fun k => match k with
  | 0 => .int
  | 1 => .int
  | 2 => .int
  | 3 => .int
  | _ => .int
abbrev wsX140 : List Cond := u_ws RX14 TX14 5
theorem nmX14 : ∀ a, a < 5 → ∀ b, b < 5 → a ≠ b → (TX14 a).2.1 ≠ (TX14 b).2.1 := by decide +kernel
theorem tyX14_ok : ∀ k, k < 5 → parseFieldDescriptor (TX14 k).2.2.1 = some (tyX14 k) := by decide +kernel
abbrev cX14_init : ByteArray := prog_10_method_1_code
def yX14_init : MethodName := ⟨RX14, "<init>", "(IIIII)V"⟩
def dkwX14_init_1 : List UInt8 := [181, 0, 19, 42, 21, 5, 181, 0, 22, 177]
abbrev dktX14_init_1 : List UInt8 := dkwX14_init_1 ++ []
def dkwX14_init_0 : List UInt8 := [42, 183, 0, 1, 42, 27, 181, 0, 7, 42, 28, 181, 0, 13, 42, 29, 181, 0, 16, 42, 21, 4]
abbrev dktX14_init_0 : List UInt8 := dkwX14_init_0 ++ dktX14_init_1
theorem dksX14_init_0 : cX14_init.data.toList.drop 0 = dktX14_init_0 := by decide +kernel
theorem dksX14_init_1 : cX14_init.data.toList.drop 22 = dktX14_init_1 := dk_seg dksX14_init_0 22 rfl rfl
theorem dX14_init_0 : decode cX14_init 0 = .ok (.aload_n 0, 1) := dk_42 (dk_at dksX14_init_0 0 rfl rfl)
theorem dX14_init_1 : decode cX14_init 1 = .ok (.invokespecial 1, 3) := dk_183 0 1 (dk_at dksX14_init_0 1 rfl rfl)
theorem dX14_init_4 : decode cX14_init 4 = .ok (.aload_n 0, 1) := dk_42 (dk_at dksX14_init_0 4 rfl rfl)
theorem dX14_init_5 : decode cX14_init 5 = .ok (.iload_n 1, 1) := dk_27 (dk_at dksX14_init_0 5 rfl rfl)
theorem dX14_init_6 : decode cX14_init 6 = .ok (.putfield 7, 3) := dk_181 0 7 (dk_at dksX14_init_0 6 rfl rfl)
theorem dX14_init_9 : decode cX14_init 9 = .ok (.aload_n 0, 1) := dk_42 (dk_at dksX14_init_0 9 rfl rfl)
theorem dX14_init_10 : decode cX14_init 10 = .ok (.iload_n 2, 1) := dk_28 (dk_at dksX14_init_0 10 rfl rfl)
theorem dX14_init_11 : decode cX14_init 11 = .ok (.putfield 13, 3) := dk_181 0 13 (dk_at dksX14_init_0 11 rfl rfl)
theorem dX14_init_14 : decode cX14_init 14 = .ok (.aload_n 0, 1) := dk_42 (dk_at dksX14_init_0 14 rfl rfl)
theorem dX14_init_15 : decode cX14_init 15 = .ok (.iload_n 3, 1) := dk_29 (dk_at dksX14_init_0 15 rfl rfl)
theorem dX14_init_16 : decode cX14_init 16 = .ok (.putfield 16, 3) := dk_181 0 16 (dk_at dksX14_init_0 16 rfl rfl)
theorem dX14_init_19 : decode cX14_init 19 = .ok (.aload_n 0, 1) := dk_42 (dk_at dksX14_init_0 19 rfl rfl)
theorem dX14_init_20 : decode cX14_init 20 = .ok (.iload 4, 2) := dk_21 4 (dk_at dksX14_init_0 20 rfl rfl)
theorem dX14_init_22 : decode cX14_init 22 = .ok (.putfield 19, 3) := dk_181 0 19 (dk_at dksX14_init_1 0 rfl rfl)
theorem dX14_init_25 : decode cX14_init 25 = .ok (.aload_n 0, 1) := dk_42 (dk_at dksX14_init_1 3 rfl rfl)
theorem dX14_init_26 : decode cX14_init 26 = .ok (.iload 5, 2) := dk_21 5 (dk_at dksX14_init_1 4 rfl rfl)
theorem dX14_init_28 : decode cX14_init 28 = .ok (.putfield 22, 3) := dk_181 0 22 (dk_at dksX14_init_1 6 rfl rfl)
theorem dX14_init_31 : decode cX14_init 31 = .ok (.return_, 1) := dk_177 (dk_at dksX14_init_1 9 rfl rfl)
theorem q164 : (Jvm.Cond.initialized "OperaHouse$Lesson") ∈ lw_all := lw_g (lw_at lw_m1 36 rfl) rfl
theorem q535 : (Jvm.Cond.selects "OperaHouse$Lesson" ({ cls := "java/lang/Object", name := "getClass", desc := "()Ljava/lang/Class;" } : Jvm.MethodName) ({ cls := "java/lang/Object", name := "getClass", desc := "()Ljava/lang/Class;" } : Jvm.MethodName)) ∈ lw_all := lw_g (lw_at lw_m2 167 rfl) rfl
theorem q1272 : (Jvm.Cond.instantiable "OperaHouse$Lesson" (5 : Nat)) ∈ lw_all := lw_g (lw_at lw_m5 184 rfl) rfl
theorem q1274 : (Jvm.Cond.instanceMethod ({ cls := "OperaHouse$Lesson", name := "<init>", desc := "(IIIII)V" } : Jvm.MethodName)) ∈ lw_all := lw_g (lw_at lw_m5 186 rfl) rfl
theorem q1275 : (Jvm.Cond.code ({ cls := "OperaHouse$Lesson", name := "<init>", desc := "(IIIII)V" } : Jvm.MethodName) prog_10_method_1_code (6 : Nat) (Option.none : Option Jvm.ClassFile.FieldType)) ∈ lw_all := lw_g (lw_at lw_m5 187 rfl) rfl
theorem q1276 : (Jvm.Cond.methodLink "OperaHouse$Lesson" (1 : Nat) ({ cls := "java/lang/Object", name := "<init>", desc := "()V" } : Jvm.MethodName)) ∈ lw_all := lw_g (lw_at lw_m5 188 rfl) rfl
theorem q1277 : (Jvm.Cond.fieldLink "OperaHouse$Lesson" (7 : Nat) "OperaHouse$Lesson" "singer" "I") ∈ lw_all := lw_g (lw_at lw_m5 189 rfl) rfl
theorem q1279 : (Jvm.Cond.fieldLink "OperaHouse$Lesson" (13 : Nat) "OperaHouse$Lesson" "opera" "I") ∈ lw_all := lw_g (lw_at lw_m5 191 rfl) rfl
theorem q1281 : (Jvm.Cond.fieldLink "OperaHouse$Lesson" (16 : Nat) "OperaHouse$Lesson" "role" "I") ∈ lw_all := lw_g (lw_at lw_m5 193 rfl) rfl
theorem q1283 : (Jvm.Cond.fieldLink "OperaHouse$Lesson" (19 : Nat) "OperaHouse$Lesson" "hours" "I") ∈ lw_all := lw_g (lw_at lw_m5 195 rfl) rfl
theorem q1285 : (Jvm.Cond.fieldLink "OperaHouse$Lesson" (22 : Nat) "OperaHouse$Lesson" "day" "I") ∈ lw_all := lw_g (lw_at lw_m5 197 rfl) rfl
theorem q1287 : (Jvm.Cond.laysFinal "OperaHouse$Lesson" "OperaHouse$Lesson" "singer" "I") ∈ lw_all := lw_g (lw_at lw_m5 199 rfl) rfl
theorem q1288 : (Jvm.Cond.soleField "OperaHouse$Lesson" "singer") ∈ lw_all := lw_g (lw_at lw_m5 200 rfl) rfl
theorem q1289 : (Jvm.Cond.laysFinal "OperaHouse$Lesson" "OperaHouse$Lesson" "opera" "I") ∈ lw_all := lw_g (lw_at lw_m5 201 rfl) rfl
theorem q1290 : (Jvm.Cond.soleField "OperaHouse$Lesson" "opera") ∈ lw_all := lw_g (lw_at lw_m5 202 rfl) rfl
theorem q1291 : (Jvm.Cond.laysFinal "OperaHouse$Lesson" "OperaHouse$Lesson" "role" "I") ∈ lw_all := lw_g (lw_at lw_m5 203 rfl) rfl
theorem q1292 : (Jvm.Cond.soleField "OperaHouse$Lesson" "role") ∈ lw_all := lw_g (lw_at lw_m5 204 rfl) rfl
theorem q1293 : (Jvm.Cond.laysFinal "OperaHouse$Lesson" "OperaHouse$Lesson" "hours" "I") ∈ lw_all := lw_g (lw_at lw_m5 205 rfl) rfl
theorem q1294 : (Jvm.Cond.soleField "OperaHouse$Lesson" "hours") ∈ lw_all := lw_g (lw_at lw_m5 206 rfl) rfl
theorem q1295 : (Jvm.Cond.laysFinal "OperaHouse$Lesson" "OperaHouse$Lesson" "day" "I") ∈ lw_all := lw_g (lw_at lw_m5 207 rfl) rfl
theorem q1296 : (Jvm.Cond.soleField "OperaHouse$Lesson" "day") ∈ lw_all := lw_g (lw_at lw_m5 208 rfl) rfl
theorem q1297 : (Jvm.Cond.superclass "OperaHouse$Lesson" "java/lang/Object") ∈ lw_all := lw_g (lw_at lw_m5 209 rfl) rfl
theorem q2478 : (Jvm.Cond.castable "OperaHouse$Lesson" "java/lang/Object") ∈ lw_tbl := lw_at lw_m10 190 rfl
theorem in_X14 : ∀ w ∈ wsX140, w ∈ lw_all := lw_in wsX140 [1287, 1289, 1291, 1293, 1295] (by decide +kernel) (by decide +kernel)

/-! OperaHouse$Call -/
set_option maxRecDepth 100000
def RX15 : String := "OperaHouse$Call"
def TX15 : u_T := fun k => match k with
  | 0 => ("OperaHouse$Call", "number", "I", true)
  | 1 => ("OperaHouse$Call", "day", "I", true)
  | 2 => ("OperaHouse$Call", "kind", "I", true)
  | 3 => ("OperaHouse$Call", "halves", "I", true)
  | 4 => ("OperaHouse$Call", "begin", "I", true)
  | 5 => ("OperaHouse$Call", "end", "I", true)
  | _ => ("OperaHouse$Call", "opera", "LOperaHouse$Opera;", true)
def tyX15 : Nat → FieldType := fun k => match k with
  | 0 => .int
  | 1 => .int
  | 2 => .int
  | 3 => .int
  | 4 => .int
  | 5 => .int
  | _ => .object "OperaHouse$Opera"
abbrev wsX150 : List Cond := u_ws RX15 TX15 7
theorem nmX15 : ∀ a, a < 7 → ∀ b, b < 7 → a ≠ b → (TX15 a).2.1 ≠ (TX15 b).2.1 := by decide +kernel
theorem tyX15_ok : ∀ k, k < 7 → parseFieldDescriptor (TX15 k).2.2.1 = some (tyX15 k) := by decide +kernel
abbrev cX15_hoursOf : ByteArray := prog_3_method_2_code
def yX15_hoursOf : MethodName := ⟨RX15, "hoursOf", "(ILOperaHouse$Opera;)I"⟩
def dkwX15_hoursOf_0 : List UInt8 := [26, 154, 0, 7, 5, 167, 0, 16, 26, 4, 160, 0, 7, 6, 167, 0, 7, 43, 180, 0, 38, 172]
abbrev dktX15_hoursOf_0 : List UInt8 := dkwX15_hoursOf_0 ++ []
theorem dksX15_hoursOf_0 : cX15_hoursOf.data.toList.drop 0 = dktX15_hoursOf_0 := by decide +kernel
theorem dX15_hoursOf_0 : decode cX15_hoursOf 0 = .ok (.iload_n 0, 1) := dk_26 (dk_at dksX15_hoursOf_0 0 rfl rfl)
theorem dX15_hoursOf_1 : decode cX15_hoursOf 1 = .ok (.ifCond .ne 7, 3) := dk_154 0 7 (dk_at dksX15_hoursOf_0 1 rfl rfl)
theorem dX15_hoursOf_4 : decode cX15_hoursOf 4 = .ok (.iconst 2, 1) := dk_5 (dk_at dksX15_hoursOf_0 4 rfl rfl)
theorem dX15_hoursOf_5 : decode cX15_hoursOf 5 = .ok (.goto 16, 3) := dk_167 0 16 (dk_at dksX15_hoursOf_0 5 rfl rfl)
theorem dX15_hoursOf_8 : decode cX15_hoursOf 8 = .ok (.iload_n 0, 1) := dk_26 (dk_at dksX15_hoursOf_0 8 rfl rfl)
theorem dX15_hoursOf_9 : decode cX15_hoursOf 9 = .ok (.iconst 1, 1) := dk_4 (dk_at dksX15_hoursOf_0 9 rfl rfl)
theorem dX15_hoursOf_10 : decode cX15_hoursOf 10 = .ok (.if_icmp .ne 7, 3) := dk_160 0 7 (dk_at dksX15_hoursOf_0 10 rfl rfl)
theorem dX15_hoursOf_13 : decode cX15_hoursOf 13 = .ok (.iconst 3, 1) := dk_6 (dk_at dksX15_hoursOf_0 13 rfl rfl)
theorem dX15_hoursOf_14 : decode cX15_hoursOf 14 = .ok (.goto 7, 3) := dk_167 0 7 (dk_at dksX15_hoursOf_0 14 rfl rfl)
theorem dX15_hoursOf_17 : decode cX15_hoursOf 17 = .ok (.aload_n 1, 1) := dk_43 (dk_at dksX15_hoursOf_0 17 rfl rfl)
theorem dX15_hoursOf_18 : decode cX15_hoursOf 18 = .ok (.getfield 38, 3) := dk_180 0 38 (dk_at dksX15_hoursOf_0 18 rfl rfl)
theorem dX15_hoursOf_21 : decode cX15_hoursOf 21 = .ok (.ireturn, 1) := dk_172 (dk_at dksX15_hoursOf_0 21 rfl rfl)
abbrev cX15_init : ByteArray := prog_3_method_1_code
def yX15_init : MethodName := ⟨RX15, "<init>", "(IIIILOperaHouse$Opera;I)V"⟩
def dkwX15_init_2 : List UInt8 := [21, 4, 25, 5, 184, 0, 31, 96, 181, 0, 35, 177]
abbrev dktX15_init_2 : List UInt8 := dkwX15_init_2 ++ []
def dkwX15_init_1 : List UInt8 := [181, 0, 21, 42, 21, 6, 181, 0, 25, 42, 16, 24, 28, 104, 29, 96, 181, 0, 28, 42, 42, 180, 0, 28]
abbrev dktX15_init_1 : List UInt8 := dkwX15_init_1 ++ dktX15_init_2
def dkwX15_init_0 : List UInt8 := [42, 183, 0, 3, 42, 27, 181, 0, 9, 42, 28, 181, 0, 15, 42, 21, 4, 181, 0, 18, 42, 25, 5]
abbrev dktX15_init_0 : List UInt8 := dkwX15_init_0 ++ dktX15_init_1
theorem dksX15_init_0 : cX15_init.data.toList.drop 0 = dktX15_init_0 := by decide +kernel
theorem dksX15_init_1 : cX15_init.data.toList.drop 23 = dktX15_init_1 := dk_seg dksX15_init_0 23 rfl rfl
theorem dksX15_init_2 : cX15_init.data.toList.drop 47 = dktX15_init_2 := dk_seg dksX15_init_1 24 rfl rfl
theorem dX15_init_0 : decode cX15_init 0 = .ok (.aload_n 0, 1) := dk_42 (dk_at dksX15_init_0 0 rfl rfl)
theorem dX15_init_1 : decode cX15_init 1 = .ok (.invokespecial 3, 3) := dk_183 0 3 (dk_at dksX15_init_0 1 rfl rfl)
theorem dX15_init_4 : decode cX15_init 4 = .ok (.aload_n 0, 1) := dk_42 (dk_at dksX15_init_0 4 rfl rfl)
theorem dX15_init_5 : decode cX15_init 5 = .ok (.iload_n 1, 1) := dk_27 (dk_at dksX15_init_0 5 rfl rfl)
theorem dX15_init_6 : decode cX15_init 6 = .ok (.putfield 9, 3) := dk_181 0 9 (dk_at dksX15_init_0 6 rfl rfl)
theorem dX15_init_9 : decode cX15_init 9 = .ok (.aload_n 0, 1) := dk_42 (dk_at dksX15_init_0 9 rfl rfl)
theorem dX15_init_10 : decode cX15_init 10 = .ok (.iload_n 2, 1) := dk_28 (dk_at dksX15_init_0 10 rfl rfl)
theorem dX15_init_11 : decode cX15_init 11 = .ok (.putfield 15, 3) := dk_181 0 15 (dk_at dksX15_init_0 11 rfl rfl)
theorem dX15_init_14 : decode cX15_init 14 = .ok (.aload_n 0, 1) := dk_42 (dk_at dksX15_init_0 14 rfl rfl)
theorem dX15_init_15 : decode cX15_init 15 = .ok (.iload 4, 2) := dk_21 4 (dk_at dksX15_init_0 15 rfl rfl)
theorem dX15_init_17 : decode cX15_init 17 = .ok (.putfield 18, 3) := dk_181 0 18 (dk_at dksX15_init_0 17 rfl rfl)
theorem dX15_init_20 : decode cX15_init 20 = .ok (.aload_n 0, 1) := dk_42 (dk_at dksX15_init_0 20 rfl rfl)
theorem dX15_init_21 : decode cX15_init 21 = .ok (.aload 5, 2) := dk_25 5 (dk_at dksX15_init_0 21 rfl rfl)
theorem dX15_init_23 : decode cX15_init 23 = .ok (.putfield 21, 3) := dk_181 0 21 (dk_at dksX15_init_1 0 rfl rfl)
theorem dX15_init_26 : decode cX15_init 26 = .ok (.aload_n 0, 1) := dk_42 (dk_at dksX15_init_1 3 rfl rfl)
theorem dX15_init_27 : decode cX15_init 27 = .ok (.iload 6, 2) := dk_21 6 (dk_at dksX15_init_1 4 rfl rfl)
theorem dX15_init_29 : decode cX15_init 29 = .ok (.putfield 25, 3) := dk_181 0 25 (dk_at dksX15_init_1 6 rfl rfl)
theorem dX15_init_32 : decode cX15_init 32 = .ok (.aload_n 0, 1) := dk_42 (dk_at dksX15_init_1 9 rfl rfl)
theorem dX15_init_33 : decode cX15_init 33 = .ok (.bipush 24, 2) := dk_16 24 (dk_at dksX15_init_1 10 rfl rfl)
theorem dX15_init_35 : decode cX15_init 35 = .ok (.iload_n 2, 1) := dk_28 (dk_at dksX15_init_1 12 rfl rfl)
theorem dX15_init_36 : decode cX15_init 36 = .ok (.imul, 1) := dk_104 (dk_at dksX15_init_1 13 rfl rfl)
theorem dX15_init_37 : decode cX15_init 37 = .ok (.iload_n 3, 1) := dk_29 (dk_at dksX15_init_1 14 rfl rfl)
theorem dX15_init_38 : decode cX15_init 38 = .ok (.iadd, 1) := dk_96 (dk_at dksX15_init_1 15 rfl rfl)
theorem dX15_init_39 : decode cX15_init 39 = .ok (.putfield 28, 3) := dk_181 0 28 (dk_at dksX15_init_1 16 rfl rfl)
theorem dX15_init_42 : decode cX15_init 42 = .ok (.aload_n 0, 1) := dk_42 (dk_at dksX15_init_1 19 rfl rfl)
theorem dX15_init_43 : decode cX15_init 43 = .ok (.aload_n 0, 1) := dk_42 (dk_at dksX15_init_1 20 rfl rfl)
theorem dX15_init_44 : decode cX15_init 44 = .ok (.getfield 28, 3) := dk_180 0 28 (dk_at dksX15_init_1 21 rfl rfl)
theorem dX15_init_47 : decode cX15_init 47 = .ok (.iload 4, 2) := dk_21 4 (dk_at dksX15_init_2 0 rfl rfl)
theorem dX15_init_49 : decode cX15_init 49 = .ok (.aload 5, 2) := dk_25 5 (dk_at dksX15_init_2 2 rfl rfl)
theorem dX15_init_51 : decode cX15_init 51 = .ok (.invokestatic 31, 3) := dk_184 0 31 (dk_at dksX15_init_2 4 rfl rfl)
theorem dX15_init_54 : decode cX15_init 54 = .ok (.iadd, 1) := dk_96 (dk_at dksX15_init_2 7 rfl rfl)
theorem dX15_init_55 : decode cX15_init 55 = .ok (.putfield 35, 3) := dk_181 0 35 (dk_at dksX15_init_2 8 rfl rfl)
theorem dX15_init_58 : decode cX15_init 58 = .ok (.return_, 1) := dk_177 (dk_at dksX15_init_2 11 rfl rfl)
abbrev cX15_roles : ByteArray := prog_3_method_9_code
def yX15_roles : MethodName := ⟨RX15, "roles", "()I"⟩
def dkwX15_roles_0 : List UInt8 := [42, 180, 0, 21, 180, 0, 47, 182, 0, 51, 172]
abbrev dktX15_roles_0 : List UInt8 := dkwX15_roles_0 ++ []
theorem dksX15_roles_0 : cX15_roles.data.toList.drop 0 = dktX15_roles_0 := by decide +kernel
theorem dX15_roles_0 : decode cX15_roles 0 = .ok (.aload_n 0, 1) := dk_42 (dk_at dksX15_roles_0 0 rfl rfl)
theorem dX15_roles_1 : decode cX15_roles 1 = .ok (.getfield 21, 3) := dk_180 0 21 (dk_at dksX15_roles_0 1 rfl rfl)
theorem dX15_roles_4 : decode cX15_roles 4 = .ok (.getfield 47, 3) := dk_180 0 47 (dk_at dksX15_roles_0 4 rfl rfl)
theorem dX15_roles_7 : decode cX15_roles 7 = .ok (.invokevirtual 51, 3) := dk_182 0 51 (dk_at dksX15_roles_0 7 rfl rfl)
theorem dX15_roles_10 : decode cX15_roles 10 = .ok (.ireturn, 1) := dk_172 (dk_at dksX15_roles_0 10 rfl rfl)
abbrev cX15_isOnStage : ByteArray := prog_3_method_5_code
def yX15_isOnStage : MethodName := ⟨RX15, "isOnStage", "()Z"⟩
def dkwX15_isOnStage_0 : List UInt8 := [42, 180, 0, 18, 153, 0, 7, 4, 167, 0, 4, 3, 172]
abbrev dktX15_isOnStage_0 : List UInt8 := dkwX15_isOnStage_0 ++ []
theorem dksX15_isOnStage_0 : cX15_isOnStage.data.toList.drop 0 = dktX15_isOnStage_0 := by decide +kernel
theorem dX15_isOnStage_0 : decode cX15_isOnStage 0 = .ok (.aload_n 0, 1) := dk_42 (dk_at dksX15_isOnStage_0 0 rfl rfl)
theorem dX15_isOnStage_1 : decode cX15_isOnStage 1 = .ok (.getfield 18, 3) := dk_180 0 18 (dk_at dksX15_isOnStage_0 1 rfl rfl)
theorem dX15_isOnStage_4 : decode cX15_isOnStage 4 = .ok (.ifCond .eq 7, 3) := dk_153 0 7 (dk_at dksX15_isOnStage_0 4 rfl rfl)
theorem dX15_isOnStage_7 : decode cX15_isOnStage 7 = .ok (.iconst 1, 1) := dk_4 (dk_at dksX15_isOnStage_0 7 rfl rfl)
theorem dX15_isOnStage_8 : decode cX15_isOnStage 8 = .ok (.goto 4, 3) := dk_167 0 4 (dk_at dksX15_isOnStage_0 8 rfl rfl)
theorem dX15_isOnStage_11 : decode cX15_isOnStage 11 = .ok (.iconst 0, 1) := dk_3 (dk_at dksX15_isOnStage_0 11 rfl rfl)
theorem dX15_isOnStage_12 : decode cX15_isOnStage 12 = .ok (.ireturn, 1) := dk_172 (dk_at dksX15_isOnStage_0 12 rfl rfl)
abbrev cX15_hasSet : ByteArray := prog_3_method_6_code
def yX15_hasSet : MethodName := ⟨RX15, "hasSet", "()Z"⟩
def dkwX15_hasSet_0 : List UInt8 := [42, 180, 0, 18, 5, 161, 0, 7, 4, 167, 0, 4, 3, 172]
abbrev dktX15_hasSet_0 : List UInt8 := dkwX15_hasSet_0 ++ []
theorem dksX15_hasSet_0 : cX15_hasSet.data.toList.drop 0 = dktX15_hasSet_0 := by decide +kernel
theorem dX15_hasSet_0 : decode cX15_hasSet 0 = .ok (.aload_n 0, 1) := dk_42 (dk_at dksX15_hasSet_0 0 rfl rfl)
theorem dX15_hasSet_1 : decode cX15_hasSet 1 = .ok (.getfield 18, 3) := dk_180 0 18 (dk_at dksX15_hasSet_0 1 rfl rfl)
theorem dX15_hasSet_4 : decode cX15_hasSet 4 = .ok (.iconst 2, 1) := dk_5 (dk_at dksX15_hasSet_0 4 rfl rfl)
theorem dX15_hasSet_5 : decode cX15_hasSet 5 = .ok (.if_icmp .lt 7, 3) := dk_161 0 7 (dk_at dksX15_hasSet_0 5 rfl rfl)
theorem dX15_hasSet_8 : decode cX15_hasSet 8 = .ok (.iconst 1, 1) := dk_4 (dk_at dksX15_hasSet_0 8 rfl rfl)
theorem dX15_hasSet_9 : decode cX15_hasSet 9 = .ok (.goto 4, 3) := dk_167 0 4 (dk_at dksX15_hasSet_0 9 rfl rfl)
theorem dX15_hasSet_12 : decode cX15_hasSet 12 = .ok (.iconst 0, 1) := dk_3 (dk_at dksX15_hasSet_0 12 rfl rfl)
theorem dX15_hasSet_13 : decode cX15_hasSet 13 = .ok (.ireturn, 1) := dk_172 (dk_at dksX15_hasSet_0 13 rfl rfl)
abbrev cX15_isOn : ByteArray := prog_3_method_4_code
def yX15_isOn : MethodName := ⟨RX15, "isOn", "(I)Z"⟩
def dkwX15_isOn_0 : List UInt8 := [42, 180, 0, 28, 27, 163, 0, 15, 27, 42, 180, 0, 35, 162, 0, 7, 4, 167, 0, 4, 3, 172]
abbrev dktX15_isOn_0 : List UInt8 := dkwX15_isOn_0 ++ []
theorem dksX15_isOn_0 : cX15_isOn.data.toList.drop 0 = dktX15_isOn_0 := by decide +kernel
theorem dX15_isOn_0 : decode cX15_isOn 0 = .ok (.aload_n 0, 1) := dk_42 (dk_at dksX15_isOn_0 0 rfl rfl)
theorem dX15_isOn_1 : decode cX15_isOn 1 = .ok (.getfield 28, 3) := dk_180 0 28 (dk_at dksX15_isOn_0 1 rfl rfl)
theorem dX15_isOn_4 : decode cX15_isOn 4 = .ok (.iload_n 1, 1) := dk_27 (dk_at dksX15_isOn_0 4 rfl rfl)
theorem dX15_isOn_5 : decode cX15_isOn 5 = .ok (.if_icmp .gt 15, 3) := dk_163 0 15 (dk_at dksX15_isOn_0 5 rfl rfl)
theorem dX15_isOn_8 : decode cX15_isOn 8 = .ok (.iload_n 1, 1) := dk_27 (dk_at dksX15_isOn_0 8 rfl rfl)
theorem dX15_isOn_9 : decode cX15_isOn 9 = .ok (.aload_n 0, 1) := dk_42 (dk_at dksX15_isOn_0 9 rfl rfl)
theorem dX15_isOn_10 : decode cX15_isOn 10 = .ok (.getfield 35, 3) := dk_180 0 35 (dk_at dksX15_isOn_0 10 rfl rfl)
theorem dX15_isOn_13 : decode cX15_isOn 13 = .ok (.if_icmp .ge 7, 3) := dk_162 0 7 (dk_at dksX15_isOn_0 13 rfl rfl)
theorem dX15_isOn_16 : decode cX15_isOn 16 = .ok (.iconst 1, 1) := dk_4 (dk_at dksX15_isOn_0 16 rfl rfl)
theorem dX15_isOn_17 : decode cX15_isOn 17 = .ok (.goto 4, 3) := dk_167 0 4 (dk_at dksX15_isOn_0 17 rfl rfl)
theorem dX15_isOn_20 : decode cX15_isOn 20 = .ok (.iconst 0, 1) := dk_3 (dk_at dksX15_isOn_0 20 rfl rfl)
theorem dX15_isOn_21 : decode cX15_isOn 21 = .ok (.ireturn, 1) := dk_172 (dk_at dksX15_isOn_0 21 rfl rfl)
abbrev cX15_hasChorus : ByteArray := prog_3_method_8_code
def yX15_hasChorus : MethodName := ⟨RX15, "hasChorus", "()Z"⟩
def dkwX15_hasChorus_0 : List UInt8 := [42, 180, 0, 18, 153, 0, 17, 42, 180, 0, 21, 180, 0, 43, 153, 0, 7, 4, 167, 0, 4, 3, 172]
abbrev dktX15_hasChorus_0 : List UInt8 := dkwX15_hasChorus_0 ++ []
theorem dksX15_hasChorus_0 : cX15_hasChorus.data.toList.drop 0 = dktX15_hasChorus_0 := by decide +kernel
theorem dX15_hasChorus_0 : decode cX15_hasChorus 0 = .ok (.aload_n 0, 1) := dk_42 (dk_at dksX15_hasChorus_0 0 rfl rfl)
theorem dX15_hasChorus_1 : decode cX15_hasChorus 1 = .ok (.getfield 18, 3) := dk_180 0 18 (dk_at dksX15_hasChorus_0 1 rfl rfl)
theorem dX15_hasChorus_4 : decode cX15_hasChorus 4 = .ok (.ifCond .eq 17, 3) := dk_153 0 17 (dk_at dksX15_hasChorus_0 4 rfl rfl)
theorem dX15_hasChorus_7 : decode cX15_hasChorus 7 = .ok (.aload_n 0, 1) := dk_42 (dk_at dksX15_hasChorus_0 7 rfl rfl)
theorem dX15_hasChorus_8 : decode cX15_hasChorus 8 = .ok (.getfield 21, 3) := dk_180 0 21 (dk_at dksX15_hasChorus_0 8 rfl rfl)
theorem dX15_hasChorus_11 : decode cX15_hasChorus 11 = .ok (.getfield 43, 3) := dk_180 0 43 (dk_at dksX15_hasChorus_0 11 rfl rfl)
theorem dX15_hasChorus_14 : decode cX15_hasChorus 14 = .ok (.ifCond .eq 7, 3) := dk_153 0 7 (dk_at dksX15_hasChorus_0 14 rfl rfl)
theorem dX15_hasChorus_17 : decode cX15_hasChorus 17 = .ok (.iconst 1, 1) := dk_4 (dk_at dksX15_hasChorus_0 17 rfl rfl)
theorem dX15_hasChorus_18 : decode cX15_hasChorus 18 = .ok (.goto 4, 3) := dk_167 0 4 (dk_at dksX15_hasChorus_0 18 rfl rfl)
theorem dX15_hasChorus_21 : decode cX15_hasChorus 21 = .ok (.iconst 0, 1) := dk_3 (dk_at dksX15_hasChorus_0 21 rfl rfl)
theorem dX15_hasChorus_22 : decode cX15_hasChorus 22 = .ok (.ireturn, 1) := dk_172 (dk_at dksX15_hasChorus_0 22 rfl rfl)
abbrev cX15_hours : ByteArray := prog_3_method_3_code
def yX15_hours : MethodName := ⟨RX15, "hours", "()I"⟩
def dkwX15_hours_0 : List UInt8 := [42, 180, 0, 35, 42, 180, 0, 28, 100, 172]
abbrev dktX15_hours_0 : List UInt8 := dkwX15_hours_0 ++ []
theorem dksX15_hours_0 : cX15_hours.data.toList.drop 0 = dktX15_hours_0 := by decide +kernel
theorem dX15_hours_0 : decode cX15_hours 0 = .ok (.aload_n 0, 1) := dk_42 (dk_at dksX15_hours_0 0 rfl rfl)
theorem dX15_hours_1 : decode cX15_hours 1 = .ok (.getfield 35, 3) := dk_180 0 35 (dk_at dksX15_hours_0 1 rfl rfl)
theorem dX15_hours_4 : decode cX15_hours 4 = .ok (.aload_n 0, 1) := dk_42 (dk_at dksX15_hours_0 4 rfl rfl)
theorem dX15_hours_5 : decode cX15_hours 5 = .ok (.getfield 28, 3) := dk_180 0 28 (dk_at dksX15_hours_0 5 rfl rfl)
theorem dX15_hours_8 : decode cX15_hours 8 = .ok (.isub, 1) := dk_100 (dk_at dksX15_hours_0 8 rfl rfl)
theorem dX15_hours_9 : decode cX15_hours 9 = .ok (.ireturn, 1) := dk_172 (dk_at dksX15_hours_0 9 rfl rfl)
abbrev cX15_isSung : ByteArray := prog_3_method_7_code
def yX15_isSung : MethodName := ⟨RX15, "isSung", "()Z"⟩
def dkwX15_isSung_0 : List UInt8 := [42, 180, 0, 18, 5, 161, 0, 7, 4, 167, 0, 4, 3, 172]
abbrev dktX15_isSung_0 : List UInt8 := dkwX15_isSung_0 ++ []
theorem dksX15_isSung_0 : cX15_isSung.data.toList.drop 0 = dktX15_isSung_0 := by decide +kernel
theorem dX15_isSung_0 : decode cX15_isSung 0 = .ok (.aload_n 0, 1) := dk_42 (dk_at dksX15_isSung_0 0 rfl rfl)
theorem dX15_isSung_1 : decode cX15_isSung 1 = .ok (.getfield 18, 3) := dk_180 0 18 (dk_at dksX15_isSung_0 1 rfl rfl)
theorem dX15_isSung_4 : decode cX15_isSung 4 = .ok (.iconst 2, 1) := dk_5 (dk_at dksX15_isSung_0 4 rfl rfl)
theorem dX15_isSung_5 : decode cX15_isSung 5 = .ok (.if_icmp .lt 7, 3) := dk_161 0 7 (dk_at dksX15_isSung_0 5 rfl rfl)
theorem dX15_isSung_8 : decode cX15_isSung 8 = .ok (.iconst 1, 1) := dk_4 (dk_at dksX15_isSung_0 8 rfl rfl)
theorem dX15_isSung_9 : decode cX15_isSung 9 = .ok (.goto 4, 3) := dk_167 0 4 (dk_at dksX15_isSung_0 9 rfl rfl)
theorem dX15_isSung_12 : decode cX15_isSung 12 = .ok (.iconst 0, 1) := dk_3 (dk_at dksX15_isSung_0 12 rfl rfl)
theorem dX15_isSung_13 : decode cX15_isSung 13 = .ok (.ireturn, 1) := dk_172 (dk_at dksX15_isSung_0 13 rfl rfl)
abbrev cX15_weight : ByteArray := prog_3_method_10_code
def yX15_weight : MethodName := ⟨RX15, "weight", "()I"⟩
def dkwX15_weight_1 : List UInt8 := [3, 172]
abbrev dktX15_weight_1 : List UInt8 := dkwX15_weight_1 ++ []
def dkwX15_weight_0 : List UInt8 := [42, 180, 0, 18, 6, 160, 0, 7, 5, 167, 0, 16, 42, 180, 0, 18, 5, 160, 0, 7, 4, 167, 0, 4]
abbrev dktX15_weight_0 : List UInt8 := dkwX15_weight_0 ++ dktX15_weight_1
theorem dksX15_weight_0 : cX15_weight.data.toList.drop 0 = dktX15_weight_0 := by decide +kernel
theorem dksX15_weight_1 : cX15_weight.data.toList.drop 24 = dktX15_weight_1 := dk_seg dksX15_weight_0 24 rfl rfl
theorem dX15_weight_0 : decode cX15_weight 0 = .ok (.aload_n 0, 1) := dk_42 (dk_at dksX15_weight_0 0 rfl rfl)
theorem dX15_weight_1 : decode cX15_weight 1 = .ok (.getfield 18, 3) := dk_180 0 18 (dk_at dksX15_weight_0 1 rfl rfl)
theorem dX15_weight_4 : decode cX15_weight 4 = .ok (.iconst 3, 1) := dk_6 (dk_at dksX15_weight_0 4 rfl rfl)
theorem dX15_weight_5 : decode cX15_weight 5 = .ok (.if_icmp .ne 7, 3) := dk_160 0 7 (dk_at dksX15_weight_0 5 rfl rfl)
theorem dX15_weight_8 : decode cX15_weight 8 = .ok (.iconst 2, 1) := dk_5 (dk_at dksX15_weight_0 8 rfl rfl)
theorem dX15_weight_9 : decode cX15_weight 9 = .ok (.goto 16, 3) := dk_167 0 16 (dk_at dksX15_weight_0 9 rfl rfl)
theorem dX15_weight_12 : decode cX15_weight 12 = .ok (.aload_n 0, 1) := dk_42 (dk_at dksX15_weight_0 12 rfl rfl)
theorem dX15_weight_13 : decode cX15_weight 13 = .ok (.getfield 18, 3) := dk_180 0 18 (dk_at dksX15_weight_0 13 rfl rfl)
theorem dX15_weight_16 : decode cX15_weight 16 = .ok (.iconst 2, 1) := dk_5 (dk_at dksX15_weight_0 16 rfl rfl)
theorem dX15_weight_17 : decode cX15_weight 17 = .ok (.if_icmp .ne 7, 3) := dk_160 0 7 (dk_at dksX15_weight_0 17 rfl rfl)
theorem dX15_weight_20 : decode cX15_weight 20 = .ok (.iconst 1, 1) := dk_4 (dk_at dksX15_weight_0 20 rfl rfl)
theorem dX15_weight_21 : decode cX15_weight 21 = .ok (.goto 4, 3) := dk_167 0 4 (dk_at dksX15_weight_0 21 rfl rfl)
theorem dX15_weight_24 : decode cX15_weight 24 = .ok (.iconst 0, 1) := dk_3 (dk_at dksX15_weight_1 0 rfl rfl)
theorem dX15_weight_25 : decode cX15_weight 25 = .ok (.ireturn, 1) := dk_172 (dk_at dksX15_weight_1 1 rfl rfl)
theorem q165 : (Jvm.Cond.initialized "OperaHouse$Call") ∈ lw_all := lw_g (lw_at lw_m1 37 rfl) rfl
theorem q445 : (Jvm.Cond.fieldLinkNest "OperaHouse$Call" (38 : Nat) "OperaHouse$Opera" "hours" "I" "OperaHouse") ∈ lw_tbl := lw_at lw_m2 77 rfl
theorem q451 : (Jvm.Cond.fieldLinkNest "OperaHouse$Call" (43 : Nat) "OperaHouse$Opera" "chorus" "Z" "OperaHouse") ∈ lw_tbl := lw_at lw_m2 83 rfl
theorem q455 : (Jvm.Cond.fieldLinkNest "OperaHouse$Call" (47 : Nat) "OperaHouse$Opera" "roles" "Ljava/util/ArrayList;" "OperaHouse") ∈ lw_tbl := lw_at lw_m2 87 rfl
theorem q528 : (Jvm.Cond.selects "OperaHouse$Call" ({ cls := "java/lang/Object", name := "getClass", desc := "()Ljava/lang/Class;" } : Jvm.MethodName) ({ cls := "java/lang/Object", name := "getClass", desc := "()Ljava/lang/Class;" } : Jvm.MethodName)) ∈ lw_all := lw_g (lw_at lw_m2 160 rfl) rfl
theorem q1307 : (Jvm.Cond.static ({ cls := "OperaHouse$Call", name := "hoursOf", desc := "(ILOperaHouse$Opera;)I" } : Jvm.MethodName)) ∈ lw_all := lw_g (lw_at lw_m5 219 rfl) rfl
theorem q1308 : (Jvm.Cond.code ({ cls := "OperaHouse$Call", name := "hoursOf", desc := "(ILOperaHouse$Opera;)I" } : Jvm.MethodName) prog_3_method_2_code (2 : Nat) (Option.some Jvm.ClassFile.FieldType.int)) ∈ lw_all := lw_g (lw_at lw_m5 220 rfl) rfl
theorem q1309 : (Jvm.Cond.instantiable "OperaHouse$Call" (7 : Nat)) ∈ lw_all := lw_g (lw_at lw_m5 221 rfl) rfl
theorem q1311 : (Jvm.Cond.instanceMethod ({ cls := "OperaHouse$Call", name := "<init>", desc := "(IIIILOperaHouse$Opera;I)V" } : Jvm.MethodName)) ∈ lw_all := lw_g (lw_at lw_m5 223 rfl) rfl
theorem q1312 : (Jvm.Cond.code ({ cls := "OperaHouse$Call", name := "<init>", desc := "(IIIILOperaHouse$Opera;I)V" } : Jvm.MethodName) prog_3_method_1_code (7 : Nat) (Option.none : Option Jvm.ClassFile.FieldType)) ∈ lw_all := lw_g (lw_at lw_m5 224 rfl) rfl
theorem q1313 : (Jvm.Cond.methodLink "OperaHouse$Call" (3 : Nat) ({ cls := "java/lang/Object", name := "<init>", desc := "()V" } : Jvm.MethodName)) ∈ lw_all := lw_g (lw_at lw_m5 225 rfl) rfl
theorem q1314 : (Jvm.Cond.methodLink "OperaHouse$Call" (31 : Nat) ({ cls := "OperaHouse$Call", name := "hoursOf", desc := "(ILOperaHouse$Opera;)I" } : Jvm.MethodName)) ∈ lw_all := lw_g (lw_at lw_m5 226 rfl) rfl
theorem q1315 : (Jvm.Cond.fieldLink "OperaHouse$Call" (9 : Nat) "OperaHouse$Call" "number" "I") ∈ lw_all := lw_g (lw_at lw_m5 227 rfl) rfl
theorem q1317 : (Jvm.Cond.fieldLink "OperaHouse$Call" (15 : Nat) "OperaHouse$Call" "day" "I") ∈ lw_all := lw_g (lw_at lw_m5 229 rfl) rfl
theorem q1319 : (Jvm.Cond.fieldLink "OperaHouse$Call" (18 : Nat) "OperaHouse$Call" "kind" "I") ∈ lw_all := lw_g (lw_at lw_m5 231 rfl) rfl
theorem q1321 : (Jvm.Cond.fieldLink "OperaHouse$Call" (25 : Nat) "OperaHouse$Call" "halves" "I") ∈ lw_all := lw_g (lw_at lw_m5 233 rfl) rfl
theorem q1323 : (Jvm.Cond.fieldLink "OperaHouse$Call" (28 : Nat) "OperaHouse$Call" "begin" "I") ∈ lw_all := lw_g (lw_at lw_m5 235 rfl) rfl
theorem q1325 : (Jvm.Cond.fieldLink "OperaHouse$Call" (35 : Nat) "OperaHouse$Call" "end" "I") ∈ lw_all := lw_g (lw_at lw_m5 237 rfl) rfl
theorem q1327 : (Jvm.Cond.fieldLink "OperaHouse$Call" (21 : Nat) "OperaHouse$Call" "opera" "LOperaHouse$Opera;") ∈ lw_all := lw_g (lw_at lw_m5 239 rfl) rfl
theorem q1329 : (Jvm.Cond.laysFinal "OperaHouse$Call" "OperaHouse$Call" "number" "I") ∈ lw_all := lw_g (lw_at lw_m6 1 rfl) rfl
theorem q1330 : (Jvm.Cond.soleField "OperaHouse$Call" "number") ∈ lw_all := lw_g (lw_at lw_m6 2 rfl) rfl
theorem q1331 : (Jvm.Cond.laysFinal "OperaHouse$Call" "OperaHouse$Call" "day" "I") ∈ lw_all := lw_g (lw_at lw_m6 3 rfl) rfl
theorem q1332 : (Jvm.Cond.soleField "OperaHouse$Call" "day") ∈ lw_all := lw_g (lw_at lw_m6 4 rfl) rfl
theorem q1333 : (Jvm.Cond.laysFinal "OperaHouse$Call" "OperaHouse$Call" "kind" "I") ∈ lw_all := lw_g (lw_at lw_m6 5 rfl) rfl
theorem q1334 : (Jvm.Cond.soleField "OperaHouse$Call" "kind") ∈ lw_all := lw_g (lw_at lw_m6 6 rfl) rfl
theorem q1335 : (Jvm.Cond.laysFinal "OperaHouse$Call" "OperaHouse$Call" "halves" "I") ∈ lw_all := lw_g (lw_at lw_m6 7 rfl) rfl
theorem q1336 : (Jvm.Cond.soleField "OperaHouse$Call" "halves") ∈ lw_all := lw_g (lw_at lw_m6 8 rfl) rfl
theorem q1337 : (Jvm.Cond.laysFinal "OperaHouse$Call" "OperaHouse$Call" "begin" "I") ∈ lw_all := lw_g (lw_at lw_m6 9 rfl) rfl
theorem q1338 : (Jvm.Cond.soleField "OperaHouse$Call" "begin") ∈ lw_all := lw_g (lw_at lw_m6 10 rfl) rfl
theorem q1339 : (Jvm.Cond.laysFinal "OperaHouse$Call" "OperaHouse$Call" "end" "I") ∈ lw_all := lw_g (lw_at lw_m6 11 rfl) rfl
theorem q1340 : (Jvm.Cond.soleField "OperaHouse$Call" "end") ∈ lw_all := lw_g (lw_at lw_m6 12 rfl) rfl
theorem q1341 : (Jvm.Cond.laysFinal "OperaHouse$Call" "OperaHouse$Call" "opera" "LOperaHouse$Opera;") ∈ lw_all := lw_g (lw_at lw_m6 13 rfl) rfl
theorem q1342 : (Jvm.Cond.soleField "OperaHouse$Call" "opera") ∈ lw_all := lw_g (lw_at lw_m6 14 rfl) rfl
theorem q1343 : (Jvm.Cond.superclass "OperaHouse$Call" "java/lang/Object") ∈ lw_all := lw_g (lw_at lw_m6 15 rfl) rfl
theorem q1353 : (Jvm.Cond.instanceMethod ({ cls := "OperaHouse$Call", name := "roles", desc := "()I" } : Jvm.MethodName)) ∈ lw_all := lw_g (lw_at lw_m6 25 rfl) rfl
theorem q1354 : (Jvm.Cond.selects "OperaHouse$Call" ({ cls := "OperaHouse$Call", name := "roles", desc := "()I" } : Jvm.MethodName) ({ cls := "OperaHouse$Call", name := "roles", desc := "()I" } : Jvm.MethodName)) ∈ lw_all := lw_g (lw_at lw_m6 26 rfl) rfl
theorem q1355 : (Jvm.Cond.code ({ cls := "OperaHouse$Call", name := "roles", desc := "()I" } : Jvm.MethodName) prog_3_method_9_code (1 : Nat) (Option.some Jvm.ClassFile.FieldType.int)) ∈ lw_all := lw_g (lw_at lw_m6 27 rfl) rfl
theorem q1356 : (Jvm.Cond.methodLink "OperaHouse$Call" (51 : Nat) ({ cls := "java/util/ArrayList", name := "size", desc := "()I" } : Jvm.MethodName)) ∈ lw_all := lw_g (lw_at lw_m6 28 rfl) rfl
theorem q1443 : (Jvm.Cond.instanceMethod ({ cls := "OperaHouse$Call", name := "isOnStage", desc := "()Z" } : Jvm.MethodName)) ∈ lw_all := lw_g (lw_at lw_m6 115 rfl) rfl
theorem q1444 : (Jvm.Cond.selects "OperaHouse$Call" ({ cls := "OperaHouse$Call", name := "isOnStage", desc := "()Z" } : Jvm.MethodName) ({ cls := "OperaHouse$Call", name := "isOnStage", desc := "()Z" } : Jvm.MethodName)) ∈ lw_all := lw_g (lw_at lw_m6 116 rfl) rfl
theorem q1445 : (Jvm.Cond.code ({ cls := "OperaHouse$Call", name := "isOnStage", desc := "()Z" } : Jvm.MethodName) prog_3_method_5_code (1 : Nat) (Option.some Jvm.ClassFile.FieldType.boolean)) ∈ lw_all := lw_g (lw_at lw_m6 117 rfl) rfl
theorem q1447 : (Jvm.Cond.instanceMethod ({ cls := "OperaHouse$Call", name := "hasSet", desc := "()Z" } : Jvm.MethodName)) ∈ lw_all := lw_g (lw_at lw_m6 119 rfl) rfl
theorem q1448 : (Jvm.Cond.selects "OperaHouse$Call" ({ cls := "OperaHouse$Call", name := "hasSet", desc := "()Z" } : Jvm.MethodName) ({ cls := "OperaHouse$Call", name := "hasSet", desc := "()Z" } : Jvm.MethodName)) ∈ lw_all := lw_g (lw_at lw_m6 120 rfl) rfl
theorem q1449 : (Jvm.Cond.code ({ cls := "OperaHouse$Call", name := "hasSet", desc := "()Z" } : Jvm.MethodName) prog_3_method_6_code (1 : Nat) (Option.some Jvm.ClassFile.FieldType.boolean)) ∈ lw_all := lw_g (lw_at lw_m6 121 rfl) rfl
theorem q1463 : (Jvm.Cond.instanceMethod ({ cls := "OperaHouse$Call", name := "isOn", desc := "(I)Z" } : Jvm.MethodName)) ∈ lw_all := lw_g (lw_at lw_m6 135 rfl) rfl
theorem q1464 : (Jvm.Cond.selects "OperaHouse$Call" ({ cls := "OperaHouse$Call", name := "isOn", desc := "(I)Z" } : Jvm.MethodName) ({ cls := "OperaHouse$Call", name := "isOn", desc := "(I)Z" } : Jvm.MethodName)) ∈ lw_all := lw_g (lw_at lw_m6 136 rfl) rfl
theorem q1465 : (Jvm.Cond.code ({ cls := "OperaHouse$Call", name := "isOn", desc := "(I)Z" } : Jvm.MethodName) prog_3_method_4_code (2 : Nat) (Option.some Jvm.ClassFile.FieldType.boolean)) ∈ lw_all := lw_g (lw_at lw_m6 137 rfl) rfl
theorem q1481 : (Jvm.Cond.instanceMethod ({ cls := "OperaHouse$Call", name := "hasChorus", desc := "()Z" } : Jvm.MethodName)) ∈ lw_all := lw_g (lw_at lw_m6 153 rfl) rfl
theorem q1482 : (Jvm.Cond.selects "OperaHouse$Call" ({ cls := "OperaHouse$Call", name := "hasChorus", desc := "()Z" } : Jvm.MethodName) ({ cls := "OperaHouse$Call", name := "hasChorus", desc := "()Z" } : Jvm.MethodName)) ∈ lw_all := lw_g (lw_at lw_m6 154 rfl) rfl
theorem q1483 : (Jvm.Cond.code ({ cls := "OperaHouse$Call", name := "hasChorus", desc := "()Z" } : Jvm.MethodName) prog_3_method_8_code (1 : Nat) (Option.some Jvm.ClassFile.FieldType.boolean)) ∈ lw_all := lw_g (lw_at lw_m6 155 rfl) rfl
theorem q1489 : (Jvm.Cond.instanceMethod ({ cls := "OperaHouse$Call", name := "hours", desc := "()I" } : Jvm.MethodName)) ∈ lw_all := lw_g (lw_at lw_m6 161 rfl) rfl
theorem q1490 : (Jvm.Cond.selects "OperaHouse$Call" ({ cls := "OperaHouse$Call", name := "hours", desc := "()I" } : Jvm.MethodName) ({ cls := "OperaHouse$Call", name := "hours", desc := "()I" } : Jvm.MethodName)) ∈ lw_all := lw_g (lw_at lw_m6 162 rfl) rfl
theorem q1491 : (Jvm.Cond.code ({ cls := "OperaHouse$Call", name := "hours", desc := "()I" } : Jvm.MethodName) prog_3_method_3_code (1 : Nat) (Option.some Jvm.ClassFile.FieldType.int)) ∈ lw_all := lw_g (lw_at lw_m6 163 rfl) rfl
theorem q1528 : (Jvm.Cond.instanceMethod ({ cls := "OperaHouse$Call", name := "isSung", desc := "()Z" } : Jvm.MethodName)) ∈ lw_all := lw_g (lw_at lw_m6 200 rfl) rfl
theorem q1529 : (Jvm.Cond.selects "OperaHouse$Call" ({ cls := "OperaHouse$Call", name := "isSung", desc := "()Z" } : Jvm.MethodName) ({ cls := "OperaHouse$Call", name := "isSung", desc := "()Z" } : Jvm.MethodName)) ∈ lw_all := lw_g (lw_at lw_m6 201 rfl) rfl
theorem q1530 : (Jvm.Cond.code ({ cls := "OperaHouse$Call", name := "isSung", desc := "()Z" } : Jvm.MethodName) prog_3_method_7_code (1 : Nat) (Option.some Jvm.ClassFile.FieldType.boolean)) ∈ lw_all := lw_g (lw_at lw_m6 202 rfl) rfl
theorem q1544 : (Jvm.Cond.instanceMethod ({ cls := "OperaHouse$Call", name := "weight", desc := "()I" } : Jvm.MethodName)) ∈ lw_all := lw_g (lw_at lw_m6 216 rfl) rfl
theorem q1545 : (Jvm.Cond.selects "OperaHouse$Call" ({ cls := "OperaHouse$Call", name := "weight", desc := "()I" } : Jvm.MethodName) ({ cls := "OperaHouse$Call", name := "weight", desc := "()I" } : Jvm.MethodName)) ∈ lw_all := lw_g (lw_at lw_m6 217 rfl) rfl
theorem q1546 : (Jvm.Cond.code ({ cls := "OperaHouse$Call", name := "weight", desc := "()I" } : Jvm.MethodName) prog_3_method_10_code (1 : Nat) (Option.some Jvm.ClassFile.FieldType.int)) ∈ lw_all := lw_g (lw_at lw_m6 218 rfl) rfl
theorem q2460 : (Jvm.Cond.castable "OperaHouse$Call" "java/lang/Object") ∈ lw_tbl := lw_at lw_m10 172 rfl
theorem in_X15 : ∀ w ∈ wsX150, w ∈ lw_all := lw_in wsX150 [1329, 1331, 1333, 1335, 1337, 1339, 1341] (by decide +kernel) (by decide +kernel)

/-! OperaHouse$Part -/
set_option maxRecDepth 100000
def RX16 : String := "OperaHouse$Part"
def TX16 : u_T := fun k => match k with
  | 0 => ("OperaHouse$Part", "call", "I", true)
  | 1 => ("OperaHouse$Part", "role", "I", true)
  | 2 => ("OperaHouse$Part", "singer", "I", true)
  | 3 => ("OperaHouse$Part", "day", "I", true)
  | _ => ("OperaHouse$Part", "cover", "Z", true)
def tyX16 : Nat → FieldType := fun k => match k with
  | 0 => .int
  | 1 => .int
  | 2 => .int
  | 3 => .int
  | _ => .boolean
abbrev wsX160 : List Cond := u_ws RX16 TX16 5
theorem nmX16 : ∀ a, a < 5 → ∀ b, b < 5 → a ≠ b → (TX16 a).2.1 ≠ (TX16 b).2.1 := by decide +kernel
theorem tyX16_ok : ∀ k, k < 5 → parseFieldDescriptor (TX16 k).2.2.1 = some (tyX16 k) := by decide +kernel
abbrev cX16_init : ByteArray := prog_12_method_1_code
def yX16_init : MethodName := ⟨RX16, "<init>", "(IIIZI)V"⟩
def dkwX16_init_1 : List UInt8 := [181, 0, 19, 42, 21, 5, 181, 0, 23, 177]
abbrev dktX16_init_1 : List UInt8 := dkwX16_init_1 ++ []
def dkwX16_init_0 : List UInt8 := [42, 183, 0, 1, 42, 27, 181, 0, 7, 42, 28, 181, 0, 13, 42, 29, 181, 0, 16, 42, 21, 4]
abbrev dktX16_init_0 : List UInt8 := dkwX16_init_0 ++ dktX16_init_1
theorem dksX16_init_0 : cX16_init.data.toList.drop 0 = dktX16_init_0 := by decide +kernel
theorem dksX16_init_1 : cX16_init.data.toList.drop 22 = dktX16_init_1 := dk_seg dksX16_init_0 22 rfl rfl
theorem dX16_init_0 : decode cX16_init 0 = .ok (.aload_n 0, 1) := dk_42 (dk_at dksX16_init_0 0 rfl rfl)
theorem dX16_init_1 : decode cX16_init 1 = .ok (.invokespecial 1, 3) := dk_183 0 1 (dk_at dksX16_init_0 1 rfl rfl)
theorem dX16_init_4 : decode cX16_init 4 = .ok (.aload_n 0, 1) := dk_42 (dk_at dksX16_init_0 4 rfl rfl)
theorem dX16_init_5 : decode cX16_init 5 = .ok (.iload_n 1, 1) := dk_27 (dk_at dksX16_init_0 5 rfl rfl)
theorem dX16_init_6 : decode cX16_init 6 = .ok (.putfield 7, 3) := dk_181 0 7 (dk_at dksX16_init_0 6 rfl rfl)
theorem dX16_init_9 : decode cX16_init 9 = .ok (.aload_n 0, 1) := dk_42 (dk_at dksX16_init_0 9 rfl rfl)
theorem dX16_init_10 : decode cX16_init 10 = .ok (.iload_n 2, 1) := dk_28 (dk_at dksX16_init_0 10 rfl rfl)
theorem dX16_init_11 : decode cX16_init 11 = .ok (.putfield 13, 3) := dk_181 0 13 (dk_at dksX16_init_0 11 rfl rfl)
theorem dX16_init_14 : decode cX16_init 14 = .ok (.aload_n 0, 1) := dk_42 (dk_at dksX16_init_0 14 rfl rfl)
theorem dX16_init_15 : decode cX16_init 15 = .ok (.iload_n 3, 1) := dk_29 (dk_at dksX16_init_0 15 rfl rfl)
theorem dX16_init_16 : decode cX16_init 16 = .ok (.putfield 16, 3) := dk_181 0 16 (dk_at dksX16_init_0 16 rfl rfl)
theorem dX16_init_19 : decode cX16_init 19 = .ok (.aload_n 0, 1) := dk_42 (dk_at dksX16_init_0 19 rfl rfl)
theorem dX16_init_20 : decode cX16_init 20 = .ok (.iload 4, 2) := dk_21 4 (dk_at dksX16_init_0 20 rfl rfl)
theorem dX16_init_22 : decode cX16_init 22 = .ok (.putfield 19, 3) := dk_181 0 19 (dk_at dksX16_init_1 0 rfl rfl)
theorem dX16_init_25 : decode cX16_init 25 = .ok (.aload_n 0, 1) := dk_42 (dk_at dksX16_init_1 3 rfl rfl)
theorem dX16_init_26 : decode cX16_init 26 = .ok (.iload 5, 2) := dk_21 5 (dk_at dksX16_init_1 4 rfl rfl)
theorem dX16_init_28 : decode cX16_init 28 = .ok (.putfield 23, 3) := dk_181 0 23 (dk_at dksX16_init_1 6 rfl rfl)
theorem dX16_init_31 : decode cX16_init 31 = .ok (.return_, 1) := dk_177 (dk_at dksX16_init_1 9 rfl rfl)
theorem q166 : (Jvm.Cond.initialized "OperaHouse$Part") ∈ lw_all := lw_g (lw_at lw_m1 38 rfl) rfl
theorem q537 : (Jvm.Cond.selects "OperaHouse$Part" ({ cls := "java/lang/Object", name := "getClass", desc := "()Ljava/lang/Class;" } : Jvm.MethodName) ({ cls := "java/lang/Object", name := "getClass", desc := "()Ljava/lang/Class;" } : Jvm.MethodName)) ∈ lw_all := lw_g (lw_at lw_m2 169 rfl) rfl
theorem q1358 : (Jvm.Cond.instantiable "OperaHouse$Part" (5 : Nat)) ∈ lw_all := lw_g (lw_at lw_m6 30 rfl) rfl
theorem q1360 : (Jvm.Cond.instanceMethod ({ cls := "OperaHouse$Part", name := "<init>", desc := "(IIIZI)V" } : Jvm.MethodName)) ∈ lw_all := lw_g (lw_at lw_m6 32 rfl) rfl
theorem q1361 : (Jvm.Cond.code ({ cls := "OperaHouse$Part", name := "<init>", desc := "(IIIZI)V" } : Jvm.MethodName) prog_12_method_1_code (6 : Nat) (Option.none : Option Jvm.ClassFile.FieldType)) ∈ lw_all := lw_g (lw_at lw_m6 33 rfl) rfl
theorem q1362 : (Jvm.Cond.methodLink "OperaHouse$Part" (1 : Nat) ({ cls := "java/lang/Object", name := "<init>", desc := "()V" } : Jvm.MethodName)) ∈ lw_all := lw_g (lw_at lw_m6 34 rfl) rfl
theorem q1363 : (Jvm.Cond.fieldLink "OperaHouse$Part" (7 : Nat) "OperaHouse$Part" "call" "I") ∈ lw_all := lw_g (lw_at lw_m6 35 rfl) rfl
theorem q1365 : (Jvm.Cond.fieldLink "OperaHouse$Part" (13 : Nat) "OperaHouse$Part" "role" "I") ∈ lw_all := lw_g (lw_at lw_m6 37 rfl) rfl
theorem q1367 : (Jvm.Cond.fieldLink "OperaHouse$Part" (16 : Nat) "OperaHouse$Part" "singer" "I") ∈ lw_all := lw_g (lw_at lw_m6 39 rfl) rfl
theorem q1369 : (Jvm.Cond.fieldLink "OperaHouse$Part" (23 : Nat) "OperaHouse$Part" "day" "I") ∈ lw_all := lw_g (lw_at lw_m6 41 rfl) rfl
theorem q1371 : (Jvm.Cond.fieldLink "OperaHouse$Part" (19 : Nat) "OperaHouse$Part" "cover" "Z") ∈ lw_all := lw_g (lw_at lw_m6 43 rfl) rfl
theorem q1373 : (Jvm.Cond.laysFinal "OperaHouse$Part" "OperaHouse$Part" "call" "I") ∈ lw_all := lw_g (lw_at lw_m6 45 rfl) rfl
theorem q1374 : (Jvm.Cond.soleField "OperaHouse$Part" "call") ∈ lw_all := lw_g (lw_at lw_m6 46 rfl) rfl
theorem q1375 : (Jvm.Cond.laysFinal "OperaHouse$Part" "OperaHouse$Part" "role" "I") ∈ lw_all := lw_g (lw_at lw_m6 47 rfl) rfl
theorem q1376 : (Jvm.Cond.soleField "OperaHouse$Part" "role") ∈ lw_all := lw_g (lw_at lw_m6 48 rfl) rfl
theorem q1377 : (Jvm.Cond.laysFinal "OperaHouse$Part" "OperaHouse$Part" "singer" "I") ∈ lw_all := lw_g (lw_at lw_m6 49 rfl) rfl
theorem q1378 : (Jvm.Cond.soleField "OperaHouse$Part" "singer") ∈ lw_all := lw_g (lw_at lw_m6 50 rfl) rfl
theorem q1379 : (Jvm.Cond.laysFinal "OperaHouse$Part" "OperaHouse$Part" "day" "I") ∈ lw_all := lw_g (lw_at lw_m6 51 rfl) rfl
theorem q1380 : (Jvm.Cond.soleField "OperaHouse$Part" "day") ∈ lw_all := lw_g (lw_at lw_m6 52 rfl) rfl
theorem q1381 : (Jvm.Cond.laysFinal "OperaHouse$Part" "OperaHouse$Part" "cover" "Z") ∈ lw_all := lw_g (lw_at lw_m6 53 rfl) rfl
theorem q1382 : (Jvm.Cond.soleField "OperaHouse$Part" "cover") ∈ lw_all := lw_g (lw_at lw_m6 54 rfl) rfl
theorem q1383 : (Jvm.Cond.superclass "OperaHouse$Part" "java/lang/Object") ∈ lw_all := lw_g (lw_at lw_m6 55 rfl) rfl
theorem q2479 : (Jvm.Cond.castable "OperaHouse$Part" "java/lang/Object") ∈ lw_tbl := lw_at lw_m10 191 rfl
theorem in_X16 : ∀ w ∈ wsX160, w ∈ lw_all := lw_in wsX160 [1373, 1375, 1377, 1379, 1381] (by decide +kernel) (by decide +kernel)

/-! OperaHouse$Ill -/
set_option maxRecDepth 100000
def RX17 : String := "OperaHouse$Ill"
def TX17 : u_T := fun k => match k with
  | 0 => ("OperaHouse$Ill", "singer", "I", true)
  | 1 => ("OperaHouse$Ill", "from", "I", true)
  | 2 => ("OperaHouse$Ill", "to", "I", true)
  | _ => ("OperaHouse$Ill", "day", "I", true)
def tyX17 : Nat → FieldType := fun k => match k with
  | 0 => .int
  | 1 => .int
  | 2 => .int
  | _ => .int
abbrev wsX170 : List Cond := u_ws RX17 TX17 4
theorem nmX17 : ∀ a, a < 4 → ∀ b, b < 4 → a ≠ b → (TX17 a).2.1 ≠ (TX17 b).2.1 := by decide +kernel
theorem tyX17_ok : ∀ k, k < 4 → parseFieldDescriptor (TX17 k).2.2.1 = some (tyX17 k) := by decide +kernel
abbrev cX17_init : ByteArray := prog_8_method_1_code
def yX17_init : MethodName := ⟨RX17, "<init>", "(IIII)V"⟩
def dkwX17_init_1 : List UInt8 := [181, 0, 19, 177]
abbrev dktX17_init_1 : List UInt8 := dkwX17_init_1 ++ []
def dkwX17_init_0 : List UInt8 := [42, 183, 0, 1, 42, 27, 181, 0, 7, 42, 28, 181, 0, 13, 42, 29, 181, 0, 16, 42, 21, 4]
abbrev dktX17_init_0 : List UInt8 := dkwX17_init_0 ++ dktX17_init_1
theorem dksX17_init_0 : cX17_init.data.toList.drop 0 = dktX17_init_0 := by decide +kernel
theorem dksX17_init_1 : cX17_init.data.toList.drop 22 = dktX17_init_1 := dk_seg dksX17_init_0 22 rfl rfl
theorem dX17_init_0 : decode cX17_init 0 = .ok (.aload_n 0, 1) := dk_42 (dk_at dksX17_init_0 0 rfl rfl)
theorem dX17_init_1 : decode cX17_init 1 = .ok (.invokespecial 1, 3) := dk_183 0 1 (dk_at dksX17_init_0 1 rfl rfl)
theorem dX17_init_4 : decode cX17_init 4 = .ok (.aload_n 0, 1) := dk_42 (dk_at dksX17_init_0 4 rfl rfl)
theorem dX17_init_5 : decode cX17_init 5 = .ok (.iload_n 1, 1) := dk_27 (dk_at dksX17_init_0 5 rfl rfl)
theorem dX17_init_6 : decode cX17_init 6 = .ok (.putfield 7, 3) := dk_181 0 7 (dk_at dksX17_init_0 6 rfl rfl)
theorem dX17_init_9 : decode cX17_init 9 = .ok (.aload_n 0, 1) := dk_42 (dk_at dksX17_init_0 9 rfl rfl)
theorem dX17_init_10 : decode cX17_init 10 = .ok (.iload_n 2, 1) := dk_28 (dk_at dksX17_init_0 10 rfl rfl)
theorem dX17_init_11 : decode cX17_init 11 = .ok (.putfield 13, 3) := dk_181 0 13 (dk_at dksX17_init_0 11 rfl rfl)
theorem dX17_init_14 : decode cX17_init 14 = .ok (.aload_n 0, 1) := dk_42 (dk_at dksX17_init_0 14 rfl rfl)
theorem dX17_init_15 : decode cX17_init 15 = .ok (.iload_n 3, 1) := dk_29 (dk_at dksX17_init_0 15 rfl rfl)
theorem dX17_init_16 : decode cX17_init 16 = .ok (.putfield 16, 3) := dk_181 0 16 (dk_at dksX17_init_0 16 rfl rfl)
theorem dX17_init_19 : decode cX17_init 19 = .ok (.aload_n 0, 1) := dk_42 (dk_at dksX17_init_0 19 rfl rfl)
theorem dX17_init_20 : decode cX17_init 20 = .ok (.iload 4, 2) := dk_21 4 (dk_at dksX17_init_0 20 rfl rfl)
theorem dX17_init_22 : decode cX17_init 22 = .ok (.putfield 19, 3) := dk_181 0 19 (dk_at dksX17_init_1 0 rfl rfl)
theorem dX17_init_25 : decode cX17_init 25 = .ok (.return_, 1) := dk_177 (dk_at dksX17_init_1 3 rfl rfl)
theorem q167 : (Jvm.Cond.initialized "OperaHouse$Ill") ∈ lw_all := lw_g (lw_at lw_m1 39 rfl) rfl
theorem q533 : (Jvm.Cond.selects "OperaHouse$Ill" ({ cls := "java/lang/Object", name := "getClass", desc := "()Ljava/lang/Class;" } : Jvm.MethodName) ({ cls := "java/lang/Object", name := "getClass", desc := "()Ljava/lang/Class;" } : Jvm.MethodName)) ∈ lw_all := lw_g (lw_at lw_m2 165 rfl) rfl
theorem q1392 : (Jvm.Cond.instantiable "OperaHouse$Ill" (4 : Nat)) ∈ lw_all := lw_g (lw_at lw_m6 64 rfl) rfl
theorem q1394 : (Jvm.Cond.instanceMethod ({ cls := "OperaHouse$Ill", name := "<init>", desc := "(IIII)V" } : Jvm.MethodName)) ∈ lw_all := lw_g (lw_at lw_m6 66 rfl) rfl
theorem q1395 : (Jvm.Cond.code ({ cls := "OperaHouse$Ill", name := "<init>", desc := "(IIII)V" } : Jvm.MethodName) prog_8_method_1_code (5 : Nat) (Option.none : Option Jvm.ClassFile.FieldType)) ∈ lw_all := lw_g (lw_at lw_m6 67 rfl) rfl
theorem q1396 : (Jvm.Cond.methodLink "OperaHouse$Ill" (1 : Nat) ({ cls := "java/lang/Object", name := "<init>", desc := "()V" } : Jvm.MethodName)) ∈ lw_all := lw_g (lw_at lw_m6 68 rfl) rfl
theorem q1397 : (Jvm.Cond.fieldLink "OperaHouse$Ill" (7 : Nat) "OperaHouse$Ill" "singer" "I") ∈ lw_all := lw_g (lw_at lw_m6 69 rfl) rfl
theorem q1399 : (Jvm.Cond.fieldLink "OperaHouse$Ill" (13 : Nat) "OperaHouse$Ill" "from" "I") ∈ lw_all := lw_g (lw_at lw_m6 71 rfl) rfl
theorem q1401 : (Jvm.Cond.fieldLink "OperaHouse$Ill" (16 : Nat) "OperaHouse$Ill" "to" "I") ∈ lw_all := lw_g (lw_at lw_m6 73 rfl) rfl
theorem q1403 : (Jvm.Cond.fieldLink "OperaHouse$Ill" (19 : Nat) "OperaHouse$Ill" "day" "I") ∈ lw_all := lw_g (lw_at lw_m6 75 rfl) rfl
theorem q1405 : (Jvm.Cond.laysFinal "OperaHouse$Ill" "OperaHouse$Ill" "singer" "I") ∈ lw_all := lw_g (lw_at lw_m6 77 rfl) rfl
theorem q1406 : (Jvm.Cond.soleField "OperaHouse$Ill" "singer") ∈ lw_all := lw_g (lw_at lw_m6 78 rfl) rfl
theorem q1407 : (Jvm.Cond.laysFinal "OperaHouse$Ill" "OperaHouse$Ill" "from" "I") ∈ lw_all := lw_g (lw_at lw_m6 79 rfl) rfl
theorem q1408 : (Jvm.Cond.soleField "OperaHouse$Ill" "from") ∈ lw_all := lw_g (lw_at lw_m6 80 rfl) rfl
theorem q1409 : (Jvm.Cond.laysFinal "OperaHouse$Ill" "OperaHouse$Ill" "to" "I") ∈ lw_all := lw_g (lw_at lw_m6 81 rfl) rfl
theorem q1410 : (Jvm.Cond.soleField "OperaHouse$Ill" "to") ∈ lw_all := lw_g (lw_at lw_m6 82 rfl) rfl
theorem q1411 : (Jvm.Cond.laysFinal "OperaHouse$Ill" "OperaHouse$Ill" "day" "I") ∈ lw_all := lw_g (lw_at lw_m6 83 rfl) rfl
theorem q1412 : (Jvm.Cond.soleField "OperaHouse$Ill" "day") ∈ lw_all := lw_g (lw_at lw_m6 84 rfl) rfl
theorem q1413 : (Jvm.Cond.superclass "OperaHouse$Ill" "java/lang/Object") ∈ lw_all := lw_g (lw_at lw_m6 85 rfl) rfl
theorem q2480 : (Jvm.Cond.castable "OperaHouse$Ill" "java/lang/Object") ∈ lw_tbl := lw_at lw_m10 192 rfl
theorem in_X17 : ∀ w ∈ wsX170, w ∈ lw_all := lw_in wsX170 [1405, 1407, 1409, 1411] (by decide +kernel) (by decide +kernel)

