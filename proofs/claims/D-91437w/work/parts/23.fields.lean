/-! MIRRORS 2: fields, classes, sites, shapes: printed by gen/mk_fields.py -/
theorem fJ1_7 : oFl RJ1 7 17 0 .int false true := ⟨RJ2, TJ2, 3, tyJ2, "java/util/AbstractList", rfl, rfl, by decide, in_J2, by decide, rfl, tyJ2_ok, nmJ2, rfl, rfl, (fun h _ => nomatch h), Or.inl rfl, Or.inl q194⟩
theorem fJ2_9 : oFl RJ2 9 17 1 (.array (.object "java/lang/Object")) false true := ⟨RJ2, TJ2, 3, tyJ2, "java/util/ArrayList", rfl, rfl, by decide, in_J2, by decide, rfl, tyJ2_ok, nmJ2, rfl, rfl, (fun h _ => nomatch h), Or.inl rfl, Or.inl q192⟩
theorem fJ2_48 : oFl RJ2 48 17 2 .int false true := ⟨RJ2, TJ2, 3, tyJ2, "java/util/ArrayList", rfl, rfl, by decide, in_J2, by decide, rfl, tyJ2_ok, nmJ2, rfl, rfl, (fun h _ => nomatch h), Or.inl rfl, Or.inl q193⟩
theorem fJ2_63 : oFl RJ2 63 17 0 .int false true := ⟨RJ2, TJ2, 3, tyJ2, "java/util/ArrayList", rfl, rfl, by decide, in_J2, by decide, rfl, tyJ2_ok, nmJ2, rfl, rfl, (fun h _ => nomatch h), Or.inr q196, Or.inl q195⟩
theorem fX1_9 : oFl RX1 9 0 0 (.array .byte) true true := ⟨RX1, TX1, 37, tyX1, "OperaHouse", rfl, rfl, by decide, in_X1, by decide, rfl, tyX1_ok, nmX1, rfl, rfl, (fun _ _ => rfl), Or.inl rfl, Or.inl q293⟩
theorem fX1_13 : oFl RX1 13 0 4 .int false true := ⟨RX1, TX1, 37, tyX1, "OperaHouse", rfl, rfl, by decide, in_X1, by decide, rfl, tyX1_ok, nmX1, rfl, rfl, (fun h _ => nomatch h), Or.inl rfl, Or.inl q297⟩
theorem fX1_17 : oFl RX1 17 0 5 .int false true := ⟨RX1, TX1, 37, tyX1, "OperaHouse", rfl, rfl, by decide, in_X1, by decide, rfl, tyX1_ok, nmX1, rfl, rfl, (fun h _ => nomatch h), Or.inl rfl, Or.inl q298⟩
theorem fX1_20 : oFl RX1 20 0 7 (.array .int) true true := ⟨RX1, TX1, 37, tyX1, "OperaHouse", rfl, rfl, by decide, in_X1, by decide, rfl, tyX1_ok, nmX1, rfl, rfl, (fun _ _ => rfl), Or.inl rfl, Or.inl q300⟩
theorem fX1_24 : oFl RX1 24 0 8 (.array .int) true true := ⟨RX1, TX1, 37, tyX1, "OperaHouse", rfl, rfl, by decide, in_X1, by decide, rfl, tyX1_ok, nmX1, rfl, rfl, (fun _ _ => rfl), Or.inl rfl, Or.inl q301⟩
theorem fX1_30 : oFl RX1 30 0 9 (.object "java/util/ArrayList") true true := ⟨RX1, TX1, 37, tyX1, "OperaHouse", rfl, rfl, by decide, in_X1, by decide, rfl, tyX1_ok, nmX1, rfl, rfl, (fun _ _ => rfl), Or.inl rfl, Or.inl q302⟩
theorem fX1_34 : oFl RX1 34 0 10 (.object "java/util/ArrayList") true true := ⟨RX1, TX1, 37, tyX1, "OperaHouse", rfl, rfl, by decide, in_X1, by decide, rfl, tyX1_ok, nmX1, rfl, rfl, (fun _ _ => rfl), Or.inl rfl, Or.inl q303⟩
theorem fX1_37 : oFl RX1 37 0 11 (.object "java/util/ArrayList") true true := ⟨RX1, TX1, 37, tyX1, "OperaHouse", rfl, rfl, by decide, in_X1, by decide, rfl, tyX1_ok, nmX1, rfl, rfl, (fun _ _ => rfl), Or.inl rfl, Or.inl q304⟩
theorem fX1_40 : oFl RX1 40 0 12 (.object "java/util/ArrayList") true true := ⟨RX1, TX1, 37, tyX1, "OperaHouse", rfl, rfl, by decide, in_X1, by decide, rfl, tyX1_ok, nmX1, rfl, rfl, (fun _ _ => rfl), Or.inl rfl, Or.inl q305⟩
theorem fX1_43 : oFl RX1 43 0 13 (.object "java/util/ArrayList") true true := ⟨RX1, TX1, 37, tyX1, "OperaHouse", rfl, rfl, by decide, in_X1, by decide, rfl, tyX1_ok, nmX1, rfl, rfl, (fun _ _ => rfl), Or.inl rfl, Or.inl q306⟩
theorem fX1_46 : oFl RX1 46 0 14 (.object "java/util/ArrayList") true true := ⟨RX1, TX1, 37, tyX1, "OperaHouse", rfl, rfl, by decide, in_X1, by decide, rfl, tyX1_ok, nmX1, rfl, rfl, (fun _ _ => rfl), Or.inl rfl, Or.inl q307⟩
theorem fX1_52 : oFl RX1 52 0 15 (.object "OperaHouse$Wagons") true true := ⟨RX1, TX1, 37, tyX1, "OperaHouse", rfl, rfl, by decide, in_X1, by decide, rfl, tyX1_ok, nmX1, rfl, rfl, (fun _ _ => rfl), Or.inl rfl, Or.inl q308⟩
theorem fX1_58 : oFl RX1 58 0 16 (.array (.object "OperaHouse$Call")) true true := ⟨RX1, TX1, 37, tyX1, "OperaHouse", rfl, rfl, by decide, in_X1, by decide, rfl, tyX1_ok, nmX1, rfl, rfl, (fun _ _ => rfl), Or.inl rfl, Or.inl q309⟩
theorem fX1_64 : oFl RX1 64 0 19 (.array (.array .int)) true true := ⟨RX1, TX1, 37, tyX1, "OperaHouse", rfl, rfl, by decide, in_X1, by decide, rfl, tyX1_ok, nmX1, rfl, rfl, (fun _ _ => rfl), Or.inl rfl, Or.inl q312⟩
theorem fX1_67 : oFl RX1 67 0 20 (.array (.array .int)) true true := ⟨RX1, TX1, 37, tyX1, "OperaHouse", rfl, rfl, by decide, in_X1, by decide, rfl, tyX1_ok, nmX1, rfl, rfl, (fun _ _ => rfl), Or.inl rfl, Or.inl q313⟩
theorem fX1_70 : oFl RX1 70 0 21 (.array (.array .int)) true true := ⟨RX1, TX1, 37, tyX1, "OperaHouse", rfl, rfl, by decide, in_X1, by decide, rfl, tyX1_ok, nmX1, rfl, rfl, (fun _ _ => rfl), Or.inl rfl, Or.inl q314⟩
theorem fX1_73 : oFl RX1 73 0 22 (.array (.array .int)) true true := ⟨RX1, TX1, 37, tyX1, "OperaHouse", rfl, rfl, by decide, in_X1, by decide, rfl, tyX1_ok, nmX1, rfl, rfl, (fun _ _ => rfl), Or.inl rfl, Or.inl q315⟩
theorem fX1_76 : oFl RX1 76 0 23 (.array .boolean) true true := ⟨RX1, TX1, 37, tyX1, "OperaHouse", rfl, rfl, by decide, in_X1, by decide, rfl, tyX1_ok, nmX1, rfl, rfl, (fun _ _ => rfl), Or.inl rfl, Or.inl q316⟩
theorem fX1_80 : oFl RX1 80 0 24 (.array .boolean) true true := ⟨RX1, TX1, 37, tyX1, "OperaHouse", rfl, rfl, by decide, in_X1, by decide, rfl, tyX1_ok, nmX1, rfl, rfl, (fun _ _ => rfl), Or.inl rfl, Or.inl q317⟩
theorem fX1_83 : oFl RX1 83 0 25 (.array .boolean) true true := ⟨RX1, TX1, 37, tyX1, "OperaHouse", rfl, rfl, by decide, in_X1, by decide, rfl, tyX1_ok, nmX1, rfl, rfl, (fun _ _ => rfl), Or.inl rfl, Or.inl q318⟩
theorem fX1_86 : oFl RX1 86 0 26 (.array .int) false true := ⟨RX1, TX1, 37, tyX1, "OperaHouse", rfl, rfl, by decide, in_X1, by decide, rfl, tyX1_ok, nmX1, rfl, rfl, (fun h _ => nomatch h), Or.inl rfl, Or.inl q319⟩
theorem fX1_92 : oFl RX1 92 0 27 (.object "OperaHouse$Asked") true true := ⟨RX1, TX1, 37, tyX1, "OperaHouse", rfl, rfl, by decide, in_X1, by decide, rfl, tyX1_ok, nmX1, rfl, rfl, (fun _ _ => rfl), Or.inl rfl, Or.inl q320⟩
theorem fX1_96 : oFl RX1 96 0 28 (.array (.array .int)) true true := ⟨RX1, TX1, 37, tyX1, "OperaHouse", rfl, rfl, by decide, in_X1, by decide, rfl, tyX1_ok, nmX1, rfl, rfl, (fun _ _ => rfl), Or.inl rfl, Or.inl q321⟩
theorem fX1_99 : oFl RX1 99 0 29 (.array (.object "OperaHouse$Call")) true true := ⟨RX1, TX1, 37, tyX1, "OperaHouse", rfl, rfl, by decide, in_X1, by decide, rfl, tyX1_ok, nmX1, rfl, rfl, (fun _ _ => rfl), Or.inl rfl, Or.inl q322⟩
theorem fX1_102 : oFl RX1 102 0 30 (.array .int) true true := ⟨RX1, TX1, 37, tyX1, "OperaHouse", rfl, rfl, by decide, in_X1, by decide, rfl, tyX1_ok, nmX1, rfl, rfl, (fun _ _ => rfl), Or.inl rfl, Or.inl q323⟩
theorem fX1_105 : oFl RX1 105 0 1 .int false true := ⟨RX1, TX1, 37, tyX1, "OperaHouse", rfl, rfl, by decide, in_X1, by decide, rfl, tyX1_ok, nmX1, rfl, rfl, (fun h _ => nomatch h), Or.inl rfl, Or.inl q294⟩
theorem fX1_116 : oFl RX1 116 0 3 .int false true := ⟨RX1, TX1, 37, tyX1, "OperaHouse", rfl, rfl, by decide, in_X1, by decide, rfl, tyX1_ok, nmX1, rfl, rfl, (fun h _ => nomatch h), Or.inl rfl, Or.inl q296⟩
theorem fX1_119 : oFl RX1 119 0 6 .int false true := ⟨RX1, TX1, 37, tyX1, "OperaHouse", rfl, rfl, by decide, in_X1, by decide, rfl, tyX1_ok, nmX1, rfl, rfl, (fun h _ => nomatch h), Or.inl rfl, Or.inl q299⟩
theorem fX1_134 : oFl RX1 134 4 5 (.array .int) true false := ⟨RX5, TX5, 7, tyX5, "OperaHouse$Opera", rfl, rfl, by decide, in_X5, by decide, rfl, tyX5_ok, nmX5, rfl, rfl, (fun _ h => nomatch h), Or.inl rfl, Or.inr ⟨_, q453⟩⟩
theorem fX1_137 : oFl RX1 137 4 6 (.object "java/util/ArrayList") true false := ⟨RX5, TX5, 7, tyX5, "OperaHouse$Opera", rfl, rfl, by decide, in_X5, by decide, rfl, tyX5_ok, nmX5, rfl, rfl, (fun _ h => nomatch h), Or.inl rfl, Or.inr ⟨_, q456⟩⟩
theorem fX1_149 : oFl RX1 149 4 0 .int true false := ⟨RX5, TX5, 7, tyX5, "OperaHouse$Opera", rfl, rfl, by decide, in_X5, by decide, rfl, tyX5_ok, nmX5, rfl, rfl, (fun _ h => nomatch h), Or.inl rfl, Or.inr ⟨_, q443⟩⟩
theorem fX1_163 : oFl RX1 163 0 2 .int false true := ⟨RX1, TX1, 37, tyX1, "OperaHouse", rfl, rfl, by decide, in_X1, by decide, rfl, tyX1_ok, nmX1, rfl, rfl, (fun h _ => nomatch h), Or.inl rfl, Or.inl q295⟩
theorem fX1_175 : oFl RX1 175 6 4 (.object "OperaHouse$Contract") false true := ⟨RX7, TX7, 5, tyX7, "OperaHouse$Singer", rfl, rfl, by decide, in_X7, by decide, rfl, tyX7_ok, nmX7, rfl, rfl, (fun h _ => nomatch h), Or.inl rfl, Or.inr ⟨_, q619⟩⟩
theorem fX1_179 : oFl RX1 179 7 4 .int false true := ⟨RX8, TX8, 7, tyX8, "OperaHouse$Contract", rfl, rfl, by decide, in_X8, by decide, rfl, tyX8_ok, nmX8, rfl, rfl, (fun h _ => nomatch h), Or.inl rfl, Or.inr ⟨_, q592⟩⟩
theorem fX1_186 : oFl RX1 186 9 6 .int true false := ⟨RX10, TX10, 8, tyX10, "OperaHouse$Fault", rfl, rfl, by decide, in_X10, by decide, rfl, tyX10_ok, nmX10, rfl, rfl, (fun _ h => nomatch h), Or.inl rfl, Or.inr ⟨_, q1034⟩⟩
theorem fX1_189 : oFl RX1 189 9 7 .int true false := ⟨RX10, TX10, 8, tyX10, "OperaHouse$Fault", rfl, rfl, by decide, in_X10, by decide, rfl, tyX10_ok, nmX10, rfl, rfl, (fun _ h => nomatch h), Or.inl rfl, Or.inr ⟨_, q1036⟩⟩
theorem fX1_214 : oFl RX1 214 14 1 .int true false := ⟨RX15, TX15, 7, tyX15, "OperaHouse$Call", rfl, rfl, by decide, in_X15, by decide, rfl, tyX15_ok, nmX15, rfl, rfl, (fun _ h => nomatch h), Or.inl rfl, Or.inr ⟨_, q1318⟩⟩
theorem fX1_227 : oFl RX1 227 0 17 .int false true := ⟨RX1, TX1, 37, tyX1, "OperaHouse", rfl, rfl, by decide, in_X1, by decide, rfl, tyX1_ok, nmX1, rfl, rfl, (fun h _ => nomatch h), Or.inl rfl, Or.inl q310⟩
theorem fX1_230 : oFl RX1 230 14 4 .int true false := ⟨RX15, TX15, 7, tyX15, "OperaHouse$Call", rfl, rfl, by decide, in_X15, by decide, rfl, tyX15_ok, nmX15, rfl, rfl, (fun _ h => nomatch h), Or.inl rfl, Or.inr ⟨_, q1324⟩⟩
theorem fX1_233 : oFl RX1 233 14 0 .int true false := ⟨RX15, TX15, 7, tyX15, "OperaHouse$Call", rfl, rfl, by decide, in_X15, by decide, rfl, tyX15_ok, nmX15, rfl, rfl, (fun _ h => nomatch h), Or.inl rfl, Or.inr ⟨_, q1316⟩⟩
theorem fX1_234 : oFl RX1 234 0 18 .int false true := ⟨RX1, TX1, 37, tyX1, "OperaHouse", rfl, rfl, by decide, in_X1, by decide, rfl, tyX1_ok, nmX1, rfl, rfl, (fun h _ => nomatch h), Or.inl rfl, Or.inl q311⟩
theorem fX1_241 : oFl RX1 241 15 3 .int true false := ⟨RX16, TX16, 5, tyX16, "OperaHouse$Part", rfl, rfl, by decide, in_X16, by decide, rfl, tyX16_ok, nmX16, rfl, rfl, (fun _ h => nomatch h), Or.inl rfl, Or.inr ⟨_, q1370⟩⟩
theorem fX1_242 : oFl RX1 242 15 4 .boolean true false := ⟨RX16, TX16, 5, tyX16, "OperaHouse$Part", rfl, rfl, by decide, in_X16, by decide, rfl, tyX16_ok, nmX16, rfl, rfl, (fun _ h => nomatch h), Or.inl rfl, Or.inr ⟨_, q1372⟩⟩
theorem fX1_245 : oFl RX1 245 15 0 .int true false := ⟨RX16, TX16, 5, tyX16, "OperaHouse$Part", rfl, rfl, by decide, in_X16, by decide, rfl, tyX16_ok, nmX16, rfl, rfl, (fun _ h => nomatch h), Or.inl rfl, Or.inr ⟨_, q1364⟩⟩
theorem fX1_248 : oFl RX1 248 15 1 .int true false := ⟨RX16, TX16, 5, tyX16, "OperaHouse$Part", rfl, rfl, by decide, in_X16, by decide, rfl, tyX16_ok, nmX16, rfl, rfl, (fun _ h => nomatch h), Or.inl rfl, Or.inr ⟨_, q1366⟩⟩
theorem fX1_251 : oFl RX1 251 15 2 .int true false := ⟨RX16, TX16, 5, tyX16, "OperaHouse$Part", rfl, rfl, by decide, in_X16, by decide, rfl, tyX16_ok, nmX16, rfl, rfl, (fun _ h => nomatch h), Or.inl rfl, Or.inr ⟨_, q1368⟩⟩
theorem fX1_258 : oFl RX1 258 14 6 (.object "OperaHouse$Opera") true false := ⟨RX15, TX15, 7, tyX15, "OperaHouse$Call", rfl, rfl, by decide, in_X15, by decide, rfl, tyX15_ok, nmX15, rfl, rfl, (fun _ h => nomatch h), Or.inl rfl, Or.inr ⟨_, q1328⟩⟩
theorem fX1_262 : oFl RX1 262 5 1 .int true false := ⟨RX6, TX6, 4, tyX6, "OperaHouse$Role", rfl, rfl, by decide, in_X6, by decide, rfl, tyX6_ok, nmX6, rfl, rfl, (fun _ h => nomatch h), Or.inl rfl, Or.inr ⟨_, q481⟩⟩
theorem fX1_265 : oFl RX1 265 16 0 .int true false := ⟨RX17, TX17, 4, tyX17, "OperaHouse$Ill", rfl, rfl, by decide, in_X17, by decide, rfl, tyX17_ok, nmX17, rfl, rfl, (fun _ h => nomatch h), Or.inl rfl, Or.inr ⟨_, q1398⟩⟩
theorem fX1_266 : oFl RX1 266 16 3 .int true false := ⟨RX17, TX17, 4, tyX17, "OperaHouse$Ill", rfl, rfl, by decide, in_X17, by decide, rfl, tyX17_ok, nmX17, rfl, rfl, (fun _ h => nomatch h), Or.inl rfl, Or.inr ⟨_, q1404⟩⟩
theorem fX1_267 : oFl RX1 267 16 1 .int true false := ⟨RX17, TX17, 4, tyX17, "OperaHouse$Ill", rfl, rfl, by decide, in_X17, by decide, rfl, tyX17_ok, nmX17, rfl, rfl, (fun _ h => nomatch h), Or.inl rfl, Or.inr ⟨_, q1400⟩⟩
theorem fX1_270 : oFl RX1 270 16 2 .int true false := ⟨RX17, TX17, 4, tyX17, "OperaHouse$Ill", rfl, rfl, by decide, in_X17, by decide, rfl, tyX17_ok, nmX17, rfl, rfl, (fun _ h => nomatch h), Or.inl rfl, Or.inr ⟨_, q1402⟩⟩
theorem fX1_273 : oFl RX1 273 13 0 .int true false := ⟨RX14, TX14, 5, tyX14, "OperaHouse$Lesson", rfl, rfl, by decide, in_X14, by decide, rfl, tyX14_ok, nmX14, rfl, rfl, (fun _ h => nomatch h), Or.inl rfl, Or.inr ⟨_, q1278⟩⟩
theorem fX1_274 : oFl RX1 274 13 1 .int true false := ⟨RX14, TX14, 5, tyX14, "OperaHouse$Lesson", rfl, rfl, by decide, in_X14, by decide, rfl, tyX14_ok, nmX14, rfl, rfl, (fun _ h => nomatch h), Or.inl rfl, Or.inr ⟨_, q1280⟩⟩
theorem fX1_276 : oFl RX1 276 13 2 .int true false := ⟨RX14, TX14, 5, tyX14, "OperaHouse$Lesson", rfl, rfl, by decide, in_X14, by decide, rfl, tyX14_ok, nmX14, rfl, rfl, (fun _ h => nomatch h), Or.inl rfl, Or.inr ⟨_, q1282⟩⟩
theorem fX1_277 : oFl RX1 277 13 4 .int true false := ⟨RX14, TX14, 5, tyX14, "OperaHouse$Lesson", rfl, rfl, by decide, in_X14, by decide, rfl, tyX14_ok, nmX14, rfl, rfl, (fun _ h => nomatch h), Or.inl rfl, Or.inr ⟨_, q1286⟩⟩
theorem fX1_278 : oFl RX1 278 13 3 .int true false := ⟨RX14, TX14, 5, tyX14, "OperaHouse$Lesson", rfl, rfl, by decide, in_X14, by decide, rfl, tyX14_ok, nmX14, rfl, rfl, (fun _ h => nomatch h), Or.inl rfl, Or.inr ⟨_, q1284⟩⟩
theorem fX1_281 : oFl RX1 281 14 2 .int true false := ⟨RX15, TX15, 7, tyX15, "OperaHouse$Call", rfl, rfl, by decide, in_X15, by decide, rfl, tyX15_ok, nmX15, rfl, rfl, (fun _ h => nomatch h), Or.inl rfl, Or.inr ⟨_, q1320⟩⟩
theorem fX1_282 : oFl RX1 282 14 5 .int true false := ⟨RX15, TX15, 7, tyX15, "OperaHouse$Call", rfl, rfl, by decide, in_X15, by decide, rfl, tyX15_ok, nmX15, rfl, rfl, (fun _ h => nomatch h), Or.inl rfl, Or.inr ⟨_, q1326⟩⟩
theorem fX1_349 : oFl RX1 349 14 3 .int true false := ⟨RX15, TX15, 7, tyX15, "OperaHouse$Call", rfl, rfl, by decide, in_X15, by decide, rfl, tyX15_ok, nmX15, rfl, rfl, (fun _ h => nomatch h), Or.inl rfl, Or.inr ⟨_, q1322⟩⟩
theorem fX1_356 : oFl RX1 356 6 0 .int true false := ⟨RX7, TX7, 5, tyX7, "OperaHouse$Singer", rfl, rfl, by decide, in_X7, by decide, rfl, tyX7_ok, nmX7, rfl, rfl, (fun _ h => nomatch h), Or.inl rfl, Or.inr ⟨_, q613⟩⟩
theorem fX1_361 : oFl RX1 361 4 3 .int true false := ⟨RX5, TX5, 7, tyX5, "OperaHouse$Opera", rfl, rfl, by decide, in_X5, by decide, rfl, tyX5_ok, nmX5, rfl, rfl, (fun _ h => nomatch h), Or.inl rfl, Or.inr ⟨_, q449⟩⟩
theorem fX1_377 : oFl RX1 377 7 0 .int false true := ⟨RX8, TX8, 7, tyX8, "OperaHouse$Contract", rfl, rfl, by decide, in_X8, by decide, rfl, tyX8_ok, nmX8, rfl, rfl, (fun h _ => nomatch h), Or.inl rfl, Or.inr ⟨_, q581⟩⟩
theorem fX1_383 : oFl RX1 383 7 1 .int false true := ⟨RX8, TX8, 7, tyX8, "OperaHouse$Contract", rfl, rfl, by decide, in_X8, by decide, rfl, tyX8_ok, nmX8, rfl, rfl, (fun h _ => nomatch h), Or.inl rfl, Or.inr ⟨_, q584⟩⟩
theorem fX1_388 : oFl RX1 388 7 2 .int false true := ⟨RX8, TX8, 7, tyX8, "OperaHouse$Contract", rfl, rfl, by decide, in_X8, by decide, rfl, tyX8_ok, nmX8, rfl, rfl, (fun h _ => nomatch h), Or.inl rfl, Or.inr ⟨_, q587⟩⟩
theorem fX1_394 : oFl RX1 394 7 3 .int false true := ⟨RX8, TX8, 7, tyX8, "OperaHouse$Contract", rfl, rfl, by decide, in_X8, by decide, rfl, tyX8_ok, nmX8, rfl, rfl, (fun h _ => nomatch h), Or.inl rfl, Or.inr ⟨_, q590⟩⟩
theorem fX1_401 : oFl RX1 401 2 1 (.array .int) true false := ⟨RX2, TX2, 4, tyX2, "OperaHouse$Wagons", rfl, rfl, by decide, in_X2, by decide, rfl, tyX2_ok, nmX2, rfl, rfl, (fun _ h => nomatch h), Or.inl rfl, Or.inr ⟨_, q242⟩⟩
theorem fX1_404 : oFl RX1 404 4 2 .int true false := ⟨RX5, TX5, 7, tyX5, "OperaHouse$Opera", rfl, rfl, by decide, in_X5, by decide, rfl, tyX5_ok, nmX5, rfl, rfl, (fun _ h => nomatch h), Or.inl rfl, Or.inr ⟨_, q447⟩⟩
theorem fX1_420 : oFl RX1 420 3 0 .int false true := ⟨RX3, TX3, 7, tyX3, "OperaHouse$Asked", rfl, rfl, by decide, in_X3, by decide, rfl, tyX3_ok, nmX3, rfl, rfl, (fun h _ => nomatch h), Or.inl rfl, Or.inr ⟨_, q264⟩⟩
theorem fX1_421 : oFl RX1 421 3 1 .int false true := ⟨RX3, TX3, 7, tyX3, "OperaHouse$Asked", rfl, rfl, by decide, in_X3, by decide, rfl, tyX3_ok, nmX3, rfl, rfl, (fun h _ => nomatch h), Or.inl rfl, Or.inr ⟨_, q266⟩⟩
theorem fX1_422 : oFl RX1 422 3 4 .boolean false true := ⟨RX3, TX3, 7, tyX3, "OperaHouse$Asked", rfl, rfl, by decide, in_X3, by decide, rfl, tyX3_ok, nmX3, rfl, rfl, (fun h _ => nomatch h), Or.inl rfl, Or.inr ⟨_, q272⟩⟩
theorem fX1_425 : oFl RX1 425 3 5 .boolean false true := ⟨RX3, TX3, 7, tyX3, "OperaHouse$Asked", rfl, rfl, by decide, in_X3, by decide, rfl, tyX3_ok, nmX3, rfl, rfl, (fun h _ => nomatch h), Or.inl rfl, Or.inr ⟨_, q274⟩⟩
theorem fX1_426 : oFl RX1 426 3 6 .boolean false true := ⟨RX3, TX3, 7, tyX3, "OperaHouse$Asked", rfl, rfl, by decide, in_X3, by decide, rfl, tyX3_ok, nmX3, rfl, rfl, (fun h _ => nomatch h), Or.inl rfl, Or.inr ⟨_, q276⟩⟩
theorem fX1_429 : oFl RX1 429 3 2 .int false true := ⟨RX3, TX3, 7, tyX3, "OperaHouse$Asked", rfl, rfl, by decide, in_X3, by decide, rfl, tyX3_ok, nmX3, rfl, rfl, (fun h _ => nomatch h), Or.inl rfl, Or.inr ⟨_, q268⟩⟩
theorem fX1_432 : oFl RX1 432 3 3 .int false true := ⟨RX3, TX3, 7, tyX3, "OperaHouse$Asked", rfl, rfl, by decide, in_X3, by decide, rfl, tyX3_ok, nmX3, rfl, rfl, (fun h _ => nomatch h), Or.inl rfl, Or.inr ⟨_, q270⟩⟩
theorem fX1_458 : oFl RX1 458 6 3 .int true false := ⟨RX7, TX7, 5, tyX7, "OperaHouse$Singer", rfl, rfl, by decide, in_X7, by decide, rfl, tyX7_ok, nmX7, rfl, rfl, (fun _ h => nomatch h), Or.inl rfl, Or.inr ⟨_, q617⟩⟩
theorem fX1_460 : oFl RX1 460 5 3 .int true false := ⟨RX6, TX6, 4, tyX6, "OperaHouse$Role", rfl, rfl, by decide, in_X6, by decide, rfl, tyX6_ok, nmX6, rfl, rfl, (fun _ h => nomatch h), Or.inl rfl, Or.inr ⟨_, q486⟩⟩
theorem fX1_472 : oFl RX1 472 0 33 .int false true := ⟨RX1, TX1, 37, tyX1, "OperaHouse", rfl, rfl, by decide, in_X1, by decide, rfl, tyX1_ok, nmX1, rfl, rfl, (fun h _ => nomatch h), Or.inl rfl, Or.inl q326⟩
theorem fX1_475 : oFl RX1 475 0 31 .int false true := ⟨RX1, TX1, 37, tyX1, "OperaHouse", rfl, rfl, by decide, in_X1, by decide, rfl, tyX1_ok, nmX1, rfl, rfl, (fun h _ => nomatch h), Or.inl rfl, Or.inl q324⟩
theorem fX1_478 : oFl RX1 478 0 34 .int false true := ⟨RX1, TX1, 37, tyX1, "OperaHouse", rfl, rfl, by decide, in_X1, by decide, rfl, tyX1_ok, nmX1, rfl, rfl, (fun h _ => nomatch h), Or.inl rfl, Or.inl q327⟩
theorem fX1_481 : oFl RX1 481 0 32 .int false true := ⟨RX1, TX1, 37, tyX1, "OperaHouse", rfl, rfl, by decide, in_X1, by decide, rfl, tyX1_ok, nmX1, rfl, rfl, (fun h _ => nomatch h), Or.inl rfl, Or.inl q325⟩
theorem fX1_497 : oFl RX1 497 0 35 .int false true := ⟨RX1, TX1, 37, tyX1, "OperaHouse", rfl, rfl, by decide, in_X1, by decide, rfl, tyX1_ok, nmX1, rfl, rfl, (fun h _ => nomatch h), Or.inl rfl, Or.inl q328⟩
theorem fX1_503 : oFl RX1 503 0 36 .int false true := ⟨RX1, TX1, 37, tyX1, "OperaHouse", rfl, rfl, by decide, in_X1, by decide, rfl, tyX1_ok, nmX1, rfl, rfl, (fun h _ => nomatch h), Or.inl rfl, Or.inl q329⟩
theorem fX10_7 : oFl RX10 7 9 6 .int true true := ⟨RX10, TX10, 8, tyX10, "OperaHouse$Fault", rfl, rfl, by decide, in_X10, by decide, rfl, tyX10_ok, nmX10, rfl, rfl, (fun _ _ => rfl), Or.inl rfl, Or.inl q1033⟩
theorem fX10_13 : oFl RX10 13 9 7 .int true true := ⟨RX10, TX10, 8, tyX10, "OperaHouse$Fault", rfl, rfl, by decide, in_X10, by decide, rfl, tyX10_ok, nmX10, rfl, rfl, (fun _ _ => rfl), Or.inl rfl, Or.inl q1035⟩
theorem fX11_7 : oFl RX11 7 10 0 .int true true := ⟨RX11, TX11, 2, tyX11, "OperaHouse$Leave", rfl, rfl, by decide, in_X11, by decide, rfl, tyX11_ok, nmX11, rfl, rfl, (fun _ _ => rfl), Or.inl rfl, Or.inl q1070⟩
theorem fX11_13 : oFl RX11 13 10 1 .int true true := ⟨RX11, TX11, 2, tyX11, "OperaHouse$Leave", rfl, rfl, by decide, in_X11, by decide, rfl, tyX11_ok, nmX11, rfl, rfl, (fun _ _ => rfl), Or.inl rfl, Or.inl q1072⟩
theorem fX12_7 : oFl RX12 7 11 0 .int true true := ⟨RX12, TX12, 2, tyX12, "OperaHouse$Fee", rfl, rfl, by decide, in_X12, by decide, rfl, tyX12_ok, nmX12, rfl, rfl, (fun _ _ => rfl), Or.inl rfl, Or.inl q1254⟩
theorem fX12_13 : oFl RX12 13 11 1 (.object "OperaHouse$Cond") true true := ⟨RX12, TX12, 2, tyX12, "OperaHouse$Fee", rfl, rfl, by decide, in_X12, by decide, rfl, tyX12_ok, nmX12, rfl, rfl, (fun _ _ => rfl), Or.inl rfl, Or.inl q1256⟩
theorem fX13_9 : oFl RX13 9 12 0 .int true true := ⟨RX13, TX13, 5, tyX13, "OperaHouse$Cond", rfl, rfl, by decide, in_X13, by decide, rfl, tyX13_ok, nmX13, rfl, rfl, (fun _ _ => rfl), Or.inl rfl, Or.inl q1228⟩
theorem fX13_15 : oFl RX13 15 12 1 .int true true := ⟨RX13, TX13, 5, tyX13, "OperaHouse$Cond", rfl, rfl, by decide, in_X13, by decide, rfl, tyX13_ok, nmX13, rfl, rfl, (fun _ _ => rfl), Or.inl rfl, Or.inl q1229⟩
theorem fX13_18 : oFl RX13 18 12 2 .int true true := ⟨RX13, TX13, 5, tyX13, "OperaHouse$Cond", rfl, rfl, by decide, in_X13, by decide, rfl, tyX13_ok, nmX13, rfl, rfl, (fun _ _ => rfl), Or.inl rfl, Or.inl q1230⟩
theorem fX13_21 : oFl RX13 21 12 3 (.object "OperaHouse$Cond") true true := ⟨RX13, TX13, 5, tyX13, "OperaHouse$Cond", rfl, rfl, by decide, in_X13, by decide, rfl, tyX13_ok, nmX13, rfl, rfl, (fun _ _ => rfl), Or.inl rfl, Or.inl q1231⟩
theorem fX13_25 : oFl RX13 25 12 4 (.object "OperaHouse$Cond") true true := ⟨RX13, TX13, 5, tyX13, "OperaHouse$Cond", rfl, rfl, by decide, in_X13, by decide, rfl, tyX13_ok, nmX13, rfl, rfl, (fun _ _ => rfl), Or.inl rfl, Or.inl q1232⟩
theorem fX13_32 : oFl RX13 32 3 4 .boolean false true := ⟨RX3, TX3, 7, tyX3, "OperaHouse$Asked", rfl, rfl, by decide, in_X3, by decide, rfl, tyX3_ok, nmX3, rfl, rfl, (fun h _ => nomatch h), Or.inl rfl, Or.inr ⟨_, q271⟩⟩
theorem fX13_38 : oFl RX13 38 3 5 .boolean false true := ⟨RX3, TX3, 7, tyX3, "OperaHouse$Asked", rfl, rfl, by decide, in_X3, by decide, rfl, tyX3_ok, nmX3, rfl, rfl, (fun h _ => nomatch h), Or.inl rfl, Or.inr ⟨_, q273⟩⟩
theorem fX13_41 : oFl RX13 41 3 6 .boolean false true := ⟨RX3, TX3, 7, tyX3, "OperaHouse$Asked", rfl, rfl, by decide, in_X3, by decide, rfl, tyX3_ok, nmX3, rfl, rfl, (fun h _ => nomatch h), Or.inl rfl, Or.inr ⟨_, q275⟩⟩
theorem fX13_44 : oFl RX13 44 3 1 .int false true := ⟨RX3, TX3, 7, tyX3, "OperaHouse$Asked", rfl, rfl, by decide, in_X3, by decide, rfl, tyX3_ok, nmX3, rfl, rfl, (fun h _ => nomatch h), Or.inl rfl, Or.inr ⟨_, q265⟩⟩
theorem fX13_51 : oFl RX13 51 3 2 .int false true := ⟨RX3, TX3, 7, tyX3, "OperaHouse$Asked", rfl, rfl, by decide, in_X3, by decide, rfl, tyX3_ok, nmX3, rfl, rfl, (fun h _ => nomatch h), Or.inl rfl, Or.inr ⟨_, q267⟩⟩
theorem fX13_54 : oFl RX13 54 3 3 .int false true := ⟨RX3, TX3, 7, tyX3, "OperaHouse$Asked", rfl, rfl, by decide, in_X3, by decide, rfl, tyX3_ok, nmX3, rfl, rfl, (fun h _ => nomatch h), Or.inl rfl, Or.inr ⟨_, q269⟩⟩
theorem fX13_57 : oFl RX13 57 3 0 .int false true := ⟨RX3, TX3, 7, tyX3, "OperaHouse$Asked", rfl, rfl, by decide, in_X3, by decide, rfl, tyX3_ok, nmX3, rfl, rfl, (fun h _ => nomatch h), Or.inl rfl, Or.inr ⟨_, q263⟩⟩
theorem fX14_7 : oFl RX14 7 13 0 .int true true := ⟨RX14, TX14, 5, tyX14, "OperaHouse$Lesson", rfl, rfl, by decide, in_X14, by decide, rfl, tyX14_ok, nmX14, rfl, rfl, (fun _ _ => rfl), Or.inl rfl, Or.inl q1277⟩
theorem fX14_13 : oFl RX14 13 13 1 .int true true := ⟨RX14, TX14, 5, tyX14, "OperaHouse$Lesson", rfl, rfl, by decide, in_X14, by decide, rfl, tyX14_ok, nmX14, rfl, rfl, (fun _ _ => rfl), Or.inl rfl, Or.inl q1279⟩
theorem fX14_16 : oFl RX14 16 13 2 .int true true := ⟨RX14, TX14, 5, tyX14, "OperaHouse$Lesson", rfl, rfl, by decide, in_X14, by decide, rfl, tyX14_ok, nmX14, rfl, rfl, (fun _ _ => rfl), Or.inl rfl, Or.inl q1281⟩
theorem fX14_19 : oFl RX14 19 13 3 .int true true := ⟨RX14, TX14, 5, tyX14, "OperaHouse$Lesson", rfl, rfl, by decide, in_X14, by decide, rfl, tyX14_ok, nmX14, rfl, rfl, (fun _ _ => rfl), Or.inl rfl, Or.inl q1283⟩
theorem fX14_22 : oFl RX14 22 13 4 .int true true := ⟨RX14, TX14, 5, tyX14, "OperaHouse$Lesson", rfl, rfl, by decide, in_X14, by decide, rfl, tyX14_ok, nmX14, rfl, rfl, (fun _ _ => rfl), Or.inl rfl, Or.inl q1285⟩
theorem fX15_9 : oFl RX15 9 14 0 .int true true := ⟨RX15, TX15, 7, tyX15, "OperaHouse$Call", rfl, rfl, by decide, in_X15, by decide, rfl, tyX15_ok, nmX15, rfl, rfl, (fun _ _ => rfl), Or.inl rfl, Or.inl q1315⟩
theorem fX15_15 : oFl RX15 15 14 1 .int true true := ⟨RX15, TX15, 7, tyX15, "OperaHouse$Call", rfl, rfl, by decide, in_X15, by decide, rfl, tyX15_ok, nmX15, rfl, rfl, (fun _ _ => rfl), Or.inl rfl, Or.inl q1317⟩
theorem fX15_18 : oFl RX15 18 14 2 .int true true := ⟨RX15, TX15, 7, tyX15, "OperaHouse$Call", rfl, rfl, by decide, in_X15, by decide, rfl, tyX15_ok, nmX15, rfl, rfl, (fun _ _ => rfl), Or.inl rfl, Or.inl q1319⟩
theorem fX15_21 : oFl RX15 21 14 6 (.object "OperaHouse$Opera") true true := ⟨RX15, TX15, 7, tyX15, "OperaHouse$Call", rfl, rfl, by decide, in_X15, by decide, rfl, tyX15_ok, nmX15, rfl, rfl, (fun _ _ => rfl), Or.inl rfl, Or.inl q1327⟩
theorem fX15_25 : oFl RX15 25 14 3 .int true true := ⟨RX15, TX15, 7, tyX15, "OperaHouse$Call", rfl, rfl, by decide, in_X15, by decide, rfl, tyX15_ok, nmX15, rfl, rfl, (fun _ _ => rfl), Or.inl rfl, Or.inl q1321⟩
theorem fX15_28 : oFl RX15 28 14 4 .int true true := ⟨RX15, TX15, 7, tyX15, "OperaHouse$Call", rfl, rfl, by decide, in_X15, by decide, rfl, tyX15_ok, nmX15, rfl, rfl, (fun _ _ => rfl), Or.inl rfl, Or.inl q1323⟩
theorem fX15_35 : oFl RX15 35 14 5 .int true true := ⟨RX15, TX15, 7, tyX15, "OperaHouse$Call", rfl, rfl, by decide, in_X15, by decide, rfl, tyX15_ok, nmX15, rfl, rfl, (fun _ _ => rfl), Or.inl rfl, Or.inl q1325⟩
theorem fX15_38 : oFl RX15 38 4 1 .int true false := ⟨RX5, TX5, 7, tyX5, "OperaHouse$Opera", rfl, rfl, by decide, in_X5, by decide, rfl, tyX5_ok, nmX5, rfl, rfl, (fun _ h => nomatch h), Or.inl rfl, Or.inr ⟨_, q445⟩⟩
theorem fX15_43 : oFl RX15 43 4 4 .boolean true false := ⟨RX5, TX5, 7, tyX5, "OperaHouse$Opera", rfl, rfl, by decide, in_X5, by decide, rfl, tyX5_ok, nmX5, rfl, rfl, (fun _ h => nomatch h), Or.inl rfl, Or.inr ⟨_, q451⟩⟩
theorem fX15_47 : oFl RX15 47 4 6 (.object "java/util/ArrayList") true false := ⟨RX5, TX5, 7, tyX5, "OperaHouse$Opera", rfl, rfl, by decide, in_X5, by decide, rfl, tyX5_ok, nmX5, rfl, rfl, (fun _ h => nomatch h), Or.inl rfl, Or.inr ⟨_, q455⟩⟩
theorem fX16_7 : oFl RX16 7 15 0 .int true true := ⟨RX16, TX16, 5, tyX16, "OperaHouse$Part", rfl, rfl, by decide, in_X16, by decide, rfl, tyX16_ok, nmX16, rfl, rfl, (fun _ _ => rfl), Or.inl rfl, Or.inl q1363⟩
theorem fX16_13 : oFl RX16 13 15 1 .int true true := ⟨RX16, TX16, 5, tyX16, "OperaHouse$Part", rfl, rfl, by decide, in_X16, by decide, rfl, tyX16_ok, nmX16, rfl, rfl, (fun _ _ => rfl), Or.inl rfl, Or.inl q1365⟩
theorem fX16_16 : oFl RX16 16 15 2 .int true true := ⟨RX16, TX16, 5, tyX16, "OperaHouse$Part", rfl, rfl, by decide, in_X16, by decide, rfl, tyX16_ok, nmX16, rfl, rfl, (fun _ _ => rfl), Or.inl rfl, Or.inl q1367⟩
theorem fX16_19 : oFl RX16 19 15 4 .boolean true true := ⟨RX16, TX16, 5, tyX16, "OperaHouse$Part", rfl, rfl, by decide, in_X16, by decide, rfl, tyX16_ok, nmX16, rfl, rfl, (fun _ _ => rfl), Or.inl rfl, Or.inl q1371⟩
theorem fX16_23 : oFl RX16 23 15 3 .int true true := ⟨RX16, TX16, 5, tyX16, "OperaHouse$Part", rfl, rfl, by decide, in_X16, by decide, rfl, tyX16_ok, nmX16, rfl, rfl, (fun _ _ => rfl), Or.inl rfl, Or.inl q1369⟩
theorem fX17_7 : oFl RX17 7 16 0 .int true true := ⟨RX17, TX17, 4, tyX17, "OperaHouse$Ill", rfl, rfl, by decide, in_X17, by decide, rfl, tyX17_ok, nmX17, rfl, rfl, (fun _ _ => rfl), Or.inl rfl, Or.inl q1397⟩
theorem fX17_13 : oFl RX17 13 16 1 .int true true := ⟨RX17, TX17, 4, tyX17, "OperaHouse$Ill", rfl, rfl, by decide, in_X17, by decide, rfl, tyX17_ok, nmX17, rfl, rfl, (fun _ _ => rfl), Or.inl rfl, Or.inl q1399⟩
theorem fX17_16 : oFl RX17 16 16 2 .int true true := ⟨RX17, TX17, 4, tyX17, "OperaHouse$Ill", rfl, rfl, by decide, in_X17, by decide, rfl, tyX17_ok, nmX17, rfl, rfl, (fun _ _ => rfl), Or.inl rfl, Or.inl q1401⟩
theorem fX17_19 : oFl RX17 19 16 3 .int true true := ⟨RX17, TX17, 4, tyX17, "OperaHouse$Ill", rfl, rfl, by decide, in_X17, by decide, rfl, tyX17_ok, nmX17, rfl, rfl, (fun _ _ => rfl), Or.inl rfl, Or.inl q1403⟩
theorem fX2_11 : oFl RX2 11 2 0 (.array .int) true true := ⟨RX2, TX2, 4, tyX2, "OperaHouse$Wagons", rfl, rfl, by decide, in_X2, by decide, rfl, tyX2_ok, nmX2, rfl, rfl, (fun _ _ => rfl), Or.inl rfl, Or.inl q240⟩
theorem fX2_15 : oFl RX2 15 2 1 (.array .int) true true := ⟨RX2, TX2, 4, tyX2, "OperaHouse$Wagons", rfl, rfl, by decide, in_X2, by decide, rfl, tyX2_ok, nmX2, rfl, rfl, (fun _ _ => rfl), Or.inl rfl, Or.inl q241⟩
theorem fX2_20 : oFl RX2 20 2 2 (.array (.array .int)) true true := ⟨RX2, TX2, 4, tyX2, "OperaHouse$Wagons", rfl, rfl, by decide, in_X2, by decide, rfl, tyX2_ok, nmX2, rfl, rfl, (fun _ _ => rfl), Or.inl rfl, Or.inl q243⟩
theorem fX2_30 : oFl RX2 30 2 3 .int false true := ⟨RX2, TX2, 4, tyX2, "OperaHouse$Wagons", rfl, rfl, by decide, in_X2, by decide, rfl, tyX2_ok, nmX2, rfl, rfl, (fun h _ => nomatch h), Or.inl rfl, Or.inl q244⟩
theorem fX4_7 : oFl RX4 7 1 1 (.array .byte) true true := ⟨RX4, TX4, 101, tyX4, "OperaHouseModel", rfl, rfl, by decide, in_X4, by decide, rfl, tyX4_ok, nmX4, rfl, rfl, (fun _ _ => rfl), Or.inl rfl, Or.inl q1709⟩
theorem fX4_13 : oFl RX4 13 1 7 (.array .int) true true := ⟨RX4, TX4, 101, tyX4, "OperaHouseModel", rfl, rfl, by decide, in_X4, by decide, rfl, tyX4_ok, nmX4, rfl, rfl, (fun _ _ => rfl), Or.inl rfl, Or.inl q1715⟩
theorem fX4_17 : oFl RX4 17 1 8 (.array .int) true true := ⟨RX4, TX4, 101, tyX4, "OperaHouseModel", rfl, rfl, by decide, in_X4, by decide, rfl, tyX4_ok, nmX4, rfl, rfl, (fun _ _ => rfl), Or.inl rfl, Or.inl q1716⟩
theorem fX4_20 : oFl RX4 20 1 9 (.array .int) true true := ⟨RX4, TX4, 101, tyX4, "OperaHouseModel", rfl, rfl, by decide, in_X4, by decide, rfl, tyX4_ok, nmX4, rfl, rfl, (fun _ _ => rfl), Or.inl rfl, Or.inl q1717⟩
theorem fX4_23 : oFl RX4 23 1 10 (.array .int) true true := ⟨RX4, TX4, 101, tyX4, "OperaHouseModel", rfl, rfl, by decide, in_X4, by decide, rfl, tyX4_ok, nmX4, rfl, rfl, (fun _ _ => rfl), Or.inl rfl, Or.inl q1718⟩
theorem fX4_26 : oFl RX4 26 1 11 (.array .int) true true := ⟨RX4, TX4, 101, tyX4, "OperaHouseModel", rfl, rfl, by decide, in_X4, by decide, rfl, tyX4_ok, nmX4, rfl, rfl, (fun _ _ => rfl), Or.inl rfl, Or.inl q1719⟩
theorem fX4_29 : oFl RX4 29 1 12 (.array .int) true true := ⟨RX4, TX4, 101, tyX4, "OperaHouseModel", rfl, rfl, by decide, in_X4, by decide, rfl, tyX4_ok, nmX4, rfl, rfl, (fun _ _ => rfl), Or.inl rfl, Or.inl q1720⟩
theorem fX4_32 : oFl RX4 32 1 13 (.array .int) true true := ⟨RX4, TX4, 101, tyX4, "OperaHouseModel", rfl, rfl, by decide, in_X4, by decide, rfl, tyX4_ok, nmX4, rfl, rfl, (fun _ _ => rfl), Or.inl rfl, Or.inl q1721⟩
theorem fX4_35 : oFl RX4 35 1 14 (.array .int) true true := ⟨RX4, TX4, 101, tyX4, "OperaHouseModel", rfl, rfl, by decide, in_X4, by decide, rfl, tyX4_ok, nmX4, rfl, rfl, (fun _ _ => rfl), Or.inl rfl, Or.inl q1722⟩
theorem fX4_38 : oFl RX4 38 1 15 (.array .int) true true := ⟨RX4, TX4, 101, tyX4, "OperaHouseModel", rfl, rfl, by decide, in_X4, by decide, rfl, tyX4_ok, nmX4, rfl, rfl, (fun _ _ => rfl), Or.inl rfl, Or.inl q1723⟩
theorem fX4_41 : oFl RX4 41 1 16 (.array .boolean) true true := ⟨RX4, TX4, 101, tyX4, "OperaHouseModel", rfl, rfl, by decide, in_X4, by decide, rfl, tyX4_ok, nmX4, rfl, rfl, (fun _ _ => rfl), Or.inl rfl, Or.inl q1724⟩
theorem fX4_45 : oFl RX4 45 1 17 (.array .int) true true := ⟨RX4, TX4, 101, tyX4, "OperaHouseModel", rfl, rfl, by decide, in_X4, by decide, rfl, tyX4_ok, nmX4, rfl, rfl, (fun _ _ => rfl), Or.inl rfl, Or.inl q1725⟩
theorem fX4_48 : oFl RX4 48 1 18 (.array .int) true true := ⟨RX4, TX4, 101, tyX4, "OperaHouseModel", rfl, rfl, by decide, in_X4, by decide, rfl, tyX4_ok, nmX4, rfl, rfl, (fun _ _ => rfl), Or.inl rfl, Or.inl q1726⟩
theorem fX4_51 : oFl RX4 51 1 19 (.array .int) true true := ⟨RX4, TX4, 101, tyX4, "OperaHouseModel", rfl, rfl, by decide, in_X4, by decide, rfl, tyX4_ok, nmX4, rfl, rfl, (fun _ _ => rfl), Or.inl rfl, Or.inl q1727⟩
theorem fX4_54 : oFl RX4 54 1 20 (.array .int) true true := ⟨RX4, TX4, 101, tyX4, "OperaHouseModel", rfl, rfl, by decide, in_X4, by decide, rfl, tyX4_ok, nmX4, rfl, rfl, (fun _ _ => rfl), Or.inl rfl, Or.inl q1728⟩
theorem fX4_57 : oFl RX4 57 1 23 .int false true := ⟨RX4, TX4, 101, tyX4, "OperaHouseModel", rfl, rfl, by decide, in_X4, by decide, rfl, tyX4_ok, nmX4, rfl, rfl, (fun h _ => nomatch h), Or.inl rfl, Or.inl q1731⟩
theorem fX4_61 : oFl RX4 61 1 24 .int false true := ⟨RX4, TX4, 101, tyX4, "OperaHouseModel", rfl, rfl, by decide, in_X4, by decide, rfl, tyX4_ok, nmX4, rfl, rfl, (fun h _ => nomatch h), Or.inl rfl, Or.inl q1732⟩
theorem fX4_64 : oFl RX4 64 1 25 (.array .int) true true := ⟨RX4, TX4, 101, tyX4, "OperaHouseModel", rfl, rfl, by decide, in_X4, by decide, rfl, tyX4_ok, nmX4, rfl, rfl, (fun _ _ => rfl), Or.inl rfl, Or.inl q1733⟩
theorem fX4_67 : oFl RX4 67 1 26 (.array .int) true true := ⟨RX4, TX4, 101, tyX4, "OperaHouseModel", rfl, rfl, by decide, in_X4, by decide, rfl, tyX4_ok, nmX4, rfl, rfl, (fun _ _ => rfl), Or.inl rfl, Or.inl q1734⟩
theorem fX4_70 : oFl RX4 70 1 27 (.array .int) true true := ⟨RX4, TX4, 101, tyX4, "OperaHouseModel", rfl, rfl, by decide, in_X4, by decide, rfl, tyX4_ok, nmX4, rfl, rfl, (fun _ _ => rfl), Or.inl rfl, Or.inl q1735⟩
theorem fX4_73 : oFl RX4 73 1 28 (.array .int) true true := ⟨RX4, TX4, 101, tyX4, "OperaHouseModel", rfl, rfl, by decide, in_X4, by decide, rfl, tyX4_ok, nmX4, rfl, rfl, (fun _ _ => rfl), Or.inl rfl, Or.inl q1736⟩
theorem fX4_76 : oFl RX4 76 1 29 (.array .int) true true := ⟨RX4, TX4, 101, tyX4, "OperaHouseModel", rfl, rfl, by decide, in_X4, by decide, rfl, tyX4_ok, nmX4, rfl, rfl, (fun _ _ => rfl), Or.inl rfl, Or.inl q1737⟩
theorem fX4_79 : oFl RX4 79 1 30 (.array .int) true true := ⟨RX4, TX4, 101, tyX4, "OperaHouseModel", rfl, rfl, by decide, in_X4, by decide, rfl, tyX4_ok, nmX4, rfl, rfl, (fun _ _ => rfl), Or.inl rfl, Or.inl q1738⟩
theorem fX4_82 : oFl RX4 82 1 31 (.array .int) true true := ⟨RX4, TX4, 101, tyX4, "OperaHouseModel", rfl, rfl, by decide, in_X4, by decide, rfl, tyX4_ok, nmX4, rfl, rfl, (fun _ _ => rfl), Or.inl rfl, Or.inl q1739⟩
theorem fX4_85 : oFl RX4 85 1 32 (.array .int) true true := ⟨RX4, TX4, 101, tyX4, "OperaHouseModel", rfl, rfl, by decide, in_X4, by decide, rfl, tyX4_ok, nmX4, rfl, rfl, (fun _ _ => rfl), Or.inl rfl, Or.inl q1740⟩
theorem fX4_88 : oFl RX4 88 1 33 (.array .int) true true := ⟨RX4, TX4, 101, tyX4, "OperaHouseModel", rfl, rfl, by decide, in_X4, by decide, rfl, tyX4_ok, nmX4, rfl, rfl, (fun _ _ => rfl), Or.inl rfl, Or.inl q1741⟩
theorem fX4_91 : oFl RX4 91 1 34 (.array .int) true true := ⟨RX4, TX4, 101, tyX4, "OperaHouseModel", rfl, rfl, by decide, in_X4, by decide, rfl, tyX4_ok, nmX4, rfl, rfl, (fun _ _ => rfl), Or.inl rfl, Or.inl q1742⟩
theorem fX4_94 : oFl RX4 94 1 35 (.array .int) true true := ⟨RX4, TX4, 101, tyX4, "OperaHouseModel", rfl, rfl, by decide, in_X4, by decide, rfl, tyX4_ok, nmX4, rfl, rfl, (fun _ _ => rfl), Or.inl rfl, Or.inl q1743⟩
theorem fX4_97 : oFl RX4 97 1 36 (.array .int) true true := ⟨RX4, TX4, 101, tyX4, "OperaHouseModel", rfl, rfl, by decide, in_X4, by decide, rfl, tyX4_ok, nmX4, rfl, rfl, (fun _ _ => rfl), Or.inl rfl, Or.inl q1744⟩
theorem fX4_100 : oFl RX4 100 1 48 (.array .int) true true := ⟨RX4, TX4, 101, tyX4, "OperaHouseModel", rfl, rfl, by decide, in_X4, by decide, rfl, tyX4_ok, nmX4, rfl, rfl, (fun _ _ => rfl), Or.inl rfl, Or.inl q1756⟩
theorem fX4_103 : oFl RX4 103 1 49 (.array .int) true true := ⟨RX4, TX4, 101, tyX4, "OperaHouseModel", rfl, rfl, by decide, in_X4, by decide, rfl, tyX4_ok, nmX4, rfl, rfl, (fun _ _ => rfl), Or.inl rfl, Or.inl q1757⟩
theorem fX4_106 : oFl RX4 106 1 50 (.array .int) true true := ⟨RX4, TX4, 101, tyX4, "OperaHouseModel", rfl, rfl, by decide, in_X4, by decide, rfl, tyX4_ok, nmX4, rfl, rfl, (fun _ _ => rfl), Or.inl rfl, Or.inl q1758⟩
theorem fX4_109 : oFl RX4 109 1 51 (.array .int) true true := ⟨RX4, TX4, 101, tyX4, "OperaHouseModel", rfl, rfl, by decide, in_X4, by decide, rfl, tyX4_ok, nmX4, rfl, rfl, (fun _ _ => rfl), Or.inl rfl, Or.inl q1759⟩
theorem fX4_112 : oFl RX4 112 1 52 (.array .int) true true := ⟨RX4, TX4, 101, tyX4, "OperaHouseModel", rfl, rfl, by decide, in_X4, by decide, rfl, tyX4_ok, nmX4, rfl, rfl, (fun _ _ => rfl), Or.inl rfl, Or.inl q1760⟩
theorem fX4_115 : oFl RX4 115 1 53 (.array .int) true true := ⟨RX4, TX4, 101, tyX4, "OperaHouseModel", rfl, rfl, by decide, in_X4, by decide, rfl, tyX4_ok, nmX4, rfl, rfl, (fun _ _ => rfl), Or.inl rfl, Or.inl q1761⟩
theorem fX4_118 : oFl RX4 118 1 54 (.array .int) true true := ⟨RX4, TX4, 101, tyX4, "OperaHouseModel", rfl, rfl, by decide, in_X4, by decide, rfl, tyX4_ok, nmX4, rfl, rfl, (fun _ _ => rfl), Or.inl rfl, Or.inl q1762⟩
theorem fX4_121 : oFl RX4 121 1 55 (.array .int) true true := ⟨RX4, TX4, 101, tyX4, "OperaHouseModel", rfl, rfl, by decide, in_X4, by decide, rfl, tyX4_ok, nmX4, rfl, rfl, (fun _ _ => rfl), Or.inl rfl, Or.inl q1763⟩
theorem fX4_124 : oFl RX4 124 1 56 (.array .int) true true := ⟨RX4, TX4, 101, tyX4, "OperaHouseModel", rfl, rfl, by decide, in_X4, by decide, rfl, tyX4_ok, nmX4, rfl, rfl, (fun _ _ => rfl), Or.inl rfl, Or.inl q1764⟩
theorem fX4_127 : oFl RX4 127 1 57 (.array .int) true true := ⟨RX4, TX4, 101, tyX4, "OperaHouseModel", rfl, rfl, by decide, in_X4, by decide, rfl, tyX4_ok, nmX4, rfl, rfl, (fun _ _ => rfl), Or.inl rfl, Or.inl q1765⟩
theorem fX4_130 : oFl RX4 130 1 58 (.array .int) true true := ⟨RX4, TX4, 101, tyX4, "OperaHouseModel", rfl, rfl, by decide, in_X4, by decide, rfl, tyX4_ok, nmX4, rfl, rfl, (fun _ _ => rfl), Or.inl rfl, Or.inl q1766⟩
theorem fX4_133 : oFl RX4 133 1 59 (.array .int) true true := ⟨RX4, TX4, 101, tyX4, "OperaHouseModel", rfl, rfl, by decide, in_X4, by decide, rfl, tyX4_ok, nmX4, rfl, rfl, (fun _ _ => rfl), Or.inl rfl, Or.inl q1767⟩
theorem fX4_136 : oFl RX4 136 1 60 (.array .int) true true := ⟨RX4, TX4, 101, tyX4, "OperaHouseModel", rfl, rfl, by decide, in_X4, by decide, rfl, tyX4_ok, nmX4, rfl, rfl, (fun _ _ => rfl), Or.inl rfl, Or.inl q1768⟩
theorem fX4_139 : oFl RX4 139 1 61 (.array .int) true true := ⟨RX4, TX4, 101, tyX4, "OperaHouseModel", rfl, rfl, by decide, in_X4, by decide, rfl, tyX4_ok, nmX4, rfl, rfl, (fun _ _ => rfl), Or.inl rfl, Or.inl q1769⟩
theorem fX4_142 : oFl RX4 142 1 62 (.array .int) true true := ⟨RX4, TX4, 101, tyX4, "OperaHouseModel", rfl, rfl, by decide, in_X4, by decide, rfl, tyX4_ok, nmX4, rfl, rfl, (fun _ _ => rfl), Or.inl rfl, Or.inl q1770⟩
theorem fX4_145 : oFl RX4 145 1 63 (.array .int) true true := ⟨RX4, TX4, 101, tyX4, "OperaHouseModel", rfl, rfl, by decide, in_X4, by decide, rfl, tyX4_ok, nmX4, rfl, rfl, (fun _ _ => rfl), Or.inl rfl, Or.inl q1771⟩
theorem fX4_148 : oFl RX4 148 1 64 (.array .int) true true := ⟨RX4, TX4, 101, tyX4, "OperaHouseModel", rfl, rfl, by decide, in_X4, by decide, rfl, tyX4_ok, nmX4, rfl, rfl, (fun _ _ => rfl), Or.inl rfl, Or.inl q1772⟩
theorem fX4_151 : oFl RX4 151 1 65 (.array .int) true true := ⟨RX4, TX4, 101, tyX4, "OperaHouseModel", rfl, rfl, by decide, in_X4, by decide, rfl, tyX4_ok, nmX4, rfl, rfl, (fun _ _ => rfl), Or.inl rfl, Or.inl q1773⟩
theorem fX4_154 : oFl RX4 154 1 66 (.array .boolean) true true := ⟨RX4, TX4, 101, tyX4, "OperaHouseModel", rfl, rfl, by decide, in_X4, by decide, rfl, tyX4_ok, nmX4, rfl, rfl, (fun _ _ => rfl), Or.inl rfl, Or.inl q1774⟩
theorem fX4_157 : oFl RX4 157 1 72 (.array .int) true true := ⟨RX4, TX4, 101, tyX4, "OperaHouseModel", rfl, rfl, by decide, in_X4, by decide, rfl, tyX4_ok, nmX4, rfl, rfl, (fun _ _ => rfl), Or.inl rfl, Or.inl q1780⟩
theorem fX4_160 : oFl RX4 160 1 73 (.array .int) true true := ⟨RX4, TX4, 101, tyX4, "OperaHouseModel", rfl, rfl, by decide, in_X4, by decide, rfl, tyX4_ok, nmX4, rfl, rfl, (fun _ _ => rfl), Or.inl rfl, Or.inl q1781⟩
theorem fX4_163 : oFl RX4 163 1 74 (.array .int) true true := ⟨RX4, TX4, 101, tyX4, "OperaHouseModel", rfl, rfl, by decide, in_X4, by decide, rfl, tyX4_ok, nmX4, rfl, rfl, (fun _ _ => rfl), Or.inl rfl, Or.inl q1782⟩
theorem fX4_166 : oFl RX4 166 1 75 (.array .int) true true := ⟨RX4, TX4, 101, tyX4, "OperaHouseModel", rfl, rfl, by decide, in_X4, by decide, rfl, tyX4_ok, nmX4, rfl, rfl, (fun _ _ => rfl), Or.inl rfl, Or.inl q1783⟩
theorem fX4_169 : oFl RX4 169 1 76 (.array .int) true true := ⟨RX4, TX4, 101, tyX4, "OperaHouseModel", rfl, rfl, by decide, in_X4, by decide, rfl, tyX4_ok, nmX4, rfl, rfl, (fun _ _ => rfl), Or.inl rfl, Or.inl q1784⟩
theorem fX4_172 : oFl RX4 172 1 77 (.array .int) true true := ⟨RX4, TX4, 101, tyX4, "OperaHouseModel", rfl, rfl, by decide, in_X4, by decide, rfl, tyX4_ok, nmX4, rfl, rfl, (fun _ _ => rfl), Or.inl rfl, Or.inl q1785⟩
theorem fX4_175 : oFl RX4 175 1 79 (.array .boolean) true true := ⟨RX4, TX4, 101, tyX4, "OperaHouseModel", rfl, rfl, by decide, in_X4, by decide, rfl, tyX4_ok, nmX4, rfl, rfl, (fun _ _ => rfl), Or.inl rfl, Or.inl q1787⟩
theorem fX4_178 : oFl RX4 178 1 80 (.array .boolean) true true := ⟨RX4, TX4, 101, tyX4, "OperaHouseModel", rfl, rfl, by decide, in_X4, by decide, rfl, tyX4_ok, nmX4, rfl, rfl, (fun _ _ => rfl), Or.inl rfl, Or.inl q1788⟩
theorem fX4_181 : oFl RX4 181 1 81 (.array .boolean) true true := ⟨RX4, TX4, 101, tyX4, "OperaHouseModel", rfl, rfl, by decide, in_X4, by decide, rfl, tyX4_ok, nmX4, rfl, rfl, (fun _ _ => rfl), Or.inl rfl, Or.inl q1789⟩
theorem fX4_184 : oFl RX4 184 1 82 (.array .boolean) true true := ⟨RX4, TX4, 101, tyX4, "OperaHouseModel", rfl, rfl, by decide, in_X4, by decide, rfl, tyX4_ok, nmX4, rfl, rfl, (fun _ _ => rfl), Or.inl rfl, Or.inl q1790⟩
theorem fX4_187 : oFl RX4 187 1 83 (.array .boolean) true true := ⟨RX4, TX4, 101, tyX4, "OperaHouseModel", rfl, rfl, by decide, in_X4, by decide, rfl, tyX4_ok, nmX4, rfl, rfl, (fun _ _ => rfl), Or.inl rfl, Or.inl q1791⟩
theorem fX4_190 : oFl RX4 190 1 84 (.array .int) true true := ⟨RX4, TX4, 101, tyX4, "OperaHouseModel", rfl, rfl, by decide, in_X4, by decide, rfl, tyX4_ok, nmX4, rfl, rfl, (fun _ _ => rfl), Or.inl rfl, Or.inl q1792⟩
theorem fX4_193 : oFl RX4 193 1 85 (.array .int) true true := ⟨RX4, TX4, 101, tyX4, "OperaHouseModel", rfl, rfl, by decide, in_X4, by decide, rfl, tyX4_ok, nmX4, rfl, rfl, (fun _ _ => rfl), Or.inl rfl, Or.inl q1793⟩
theorem fX4_196 : oFl RX4 196 1 86 (.array .int) true true := ⟨RX4, TX4, 101, tyX4, "OperaHouseModel", rfl, rfl, by decide, in_X4, by decide, rfl, tyX4_ok, nmX4, rfl, rfl, (fun _ _ => rfl), Or.inl rfl, Or.inl q1794⟩
theorem fX4_199 : oFl RX4 199 1 87 (.array .boolean) true true := ⟨RX4, TX4, 101, tyX4, "OperaHouseModel", rfl, rfl, by decide, in_X4, by decide, rfl, tyX4_ok, nmX4, rfl, rfl, (fun _ _ => rfl), Or.inl rfl, Or.inl q1795⟩
theorem fX4_202 : oFl RX4 202 1 90 (.array .int) true true := ⟨RX4, TX4, 101, tyX4, "OperaHouseModel", rfl, rfl, by decide, in_X4, by decide, rfl, tyX4_ok, nmX4, rfl, rfl, (fun _ _ => rfl), Or.inl rfl, Or.inl q1798⟩
theorem fX4_205 : oFl RX4 205 1 91 (.array .int) true true := ⟨RX4, TX4, 101, tyX4, "OperaHouseModel", rfl, rfl, by decide, in_X4, by decide, rfl, tyX4_ok, nmX4, rfl, rfl, (fun _ _ => rfl), Or.inl rfl, Or.inl q1799⟩
theorem fX4_208 : oFl RX4 208 1 92 (.array .int) true true := ⟨RX4, TX4, 101, tyX4, "OperaHouseModel", rfl, rfl, by decide, in_X4, by decide, rfl, tyX4_ok, nmX4, rfl, rfl, (fun _ _ => rfl), Or.inl rfl, Or.inl q1800⟩
theorem fX4_211 : oFl RX4 211 1 93 (.array .int) true true := ⟨RX4, TX4, 101, tyX4, "OperaHouseModel", rfl, rfl, by decide, in_X4, by decide, rfl, tyX4_ok, nmX4, rfl, rfl, (fun _ _ => rfl), Or.inl rfl, Or.inl q1801⟩
theorem fX4_214 : oFl RX4 214 1 94 (.array .int) true true := ⟨RX4, TX4, 101, tyX4, "OperaHouseModel", rfl, rfl, by decide, in_X4, by decide, rfl, tyX4_ok, nmX4, rfl, rfl, (fun _ _ => rfl), Or.inl rfl, Or.inl q1802⟩
theorem fX4_217 : oFl RX4 217 1 95 (.array .int) true true := ⟨RX4, TX4, 101, tyX4, "OperaHouseModel", rfl, rfl, by decide, in_X4, by decide, rfl, tyX4_ok, nmX4, rfl, rfl, (fun _ _ => rfl), Or.inl rfl, Or.inl q1803⟩
theorem fX4_220 : oFl RX4 220 1 96 (.array .int) true true := ⟨RX4, TX4, 101, tyX4, "OperaHouseModel", rfl, rfl, by decide, in_X4, by decide, rfl, tyX4_ok, nmX4, rfl, rfl, (fun _ _ => rfl), Or.inl rfl, Or.inl q1804⟩
theorem fX4_223 : oFl RX4 223 1 100 .int false true := ⟨RX4, TX4, 101, tyX4, "OperaHouseModel", rfl, rfl, by decide, in_X4, by decide, rfl, tyX4_ok, nmX4, rfl, rfl, (fun h _ => nomatch h), Or.inl rfl, Or.inl q1808⟩
theorem fX4_226 : oFl RX4 226 1 0 .int false true := ⟨RX4, TX4, 101, tyX4, "OperaHouseModel", rfl, rfl, by decide, in_X4, by decide, rfl, tyX4_ok, nmX4, rfl, rfl, (fun h _ => nomatch h), Or.inl rfl, Or.inl q1708⟩
theorem fX4_229 : oFl RX4 229 1 2 .int false true := ⟨RX4, TX4, 101, tyX4, "OperaHouseModel", rfl, rfl, by decide, in_X4, by decide, rfl, tyX4_ok, nmX4, rfl, rfl, (fun h _ => nomatch h), Or.inl rfl, Or.inl q1710⟩
theorem fX4_236 : oFl RX4 236 1 3 .int false true := ⟨RX4, TX4, 101, tyX4, "OperaHouseModel", rfl, rfl, by decide, in_X4, by decide, rfl, tyX4_ok, nmX4, rfl, rfl, (fun h _ => nomatch h), Or.inl rfl, Or.inl q1711⟩
theorem fX4_239 : oFl RX4 239 1 4 .int false true := ⟨RX4, TX4, 101, tyX4, "OperaHouseModel", rfl, rfl, by decide, in_X4, by decide, rfl, tyX4_ok, nmX4, rfl, rfl, (fun h _ => nomatch h), Or.inl rfl, Or.inl q1712⟩
theorem fX4_246 : oFl RX4 246 1 5 .int false true := ⟨RX4, TX4, 101, tyX4, "OperaHouseModel", rfl, rfl, by decide, in_X4, by decide, rfl, tyX4_ok, nmX4, rfl, rfl, (fun h _ => nomatch h), Or.inl rfl, Or.inl q1713⟩
theorem fX4_249 : oFl RX4 249 1 6 .int false true := ⟨RX4, TX4, 101, tyX4, "OperaHouseModel", rfl, rfl, by decide, in_X4, by decide, rfl, tyX4_ok, nmX4, rfl, rfl, (fun h _ => nomatch h), Or.inl rfl, Or.inl q1714⟩
theorem fX4_255 : oFl RX4 255 1 21 .int false true := ⟨RX4, TX4, 101, tyX4, "OperaHouseModel", rfl, rfl, by decide, in_X4, by decide, rfl, tyX4_ok, nmX4, rfl, rfl, (fun h _ => nomatch h), Or.inl rfl, Or.inl q1729⟩
theorem fX4_258 : oFl RX4 258 1 22 .int false true := ⟨RX4, TX4, 101, tyX4, "OperaHouseModel", rfl, rfl, by decide, in_X4, by decide, rfl, tyX4_ok, nmX4, rfl, rfl, (fun h _ => nomatch h), Or.inl rfl, Or.inl q1730⟩
theorem fX4_272 : oFl RX4 272 1 41 .int false true := ⟨RX4, TX4, 101, tyX4, "OperaHouseModel", rfl, rfl, by decide, in_X4, by decide, rfl, tyX4_ok, nmX4, rfl, rfl, (fun h _ => nomatch h), Or.inl rfl, Or.inl q1749⟩
theorem fX4_275 : oFl RX4 275 1 42 .int false true := ⟨RX4, TX4, 101, tyX4, "OperaHouseModel", rfl, rfl, by decide, in_X4, by decide, rfl, tyX4_ok, nmX4, rfl, rfl, (fun h _ => nomatch h), Or.inl rfl, Or.inl q1750⟩
theorem fX4_278 : oFl RX4 278 1 40 .int false true := ⟨RX4, TX4, 101, tyX4, "OperaHouseModel", rfl, rfl, by decide, in_X4, by decide, rfl, tyX4_ok, nmX4, rfl, rfl, (fun h _ => nomatch h), Or.inl rfl, Or.inl q1748⟩
theorem fX4_288 : oFl RX4 288 1 43 .int false true := ⟨RX4, TX4, 101, tyX4, "OperaHouseModel", rfl, rfl, by decide, in_X4, by decide, rfl, tyX4_ok, nmX4, rfl, rfl, (fun h _ => nomatch h), Or.inl rfl, Or.inl q1751⟩
theorem fX4_291 : oFl RX4 291 1 47 .long false true := ⟨RX4, TX4, 101, tyX4, "OperaHouseModel", rfl, rfl, by decide, in_X4, by decide, rfl, tyX4_ok, nmX4, rfl, rfl, (fun h _ => nomatch h), Or.inl rfl, Or.inl q1755⟩
theorem fX4_295 : oFl RX4 295 1 44 .int false true := ⟨RX4, TX4, 101, tyX4, "OperaHouseModel", rfl, rfl, by decide, in_X4, by decide, rfl, tyX4_ok, nmX4, rfl, rfl, (fun h _ => nomatch h), Or.inl rfl, Or.inl q1752⟩
theorem fX4_298 : oFl RX4 298 1 45 .int false true := ⟨RX4, TX4, 101, tyX4, "OperaHouseModel", rfl, rfl, by decide, in_X4, by decide, rfl, tyX4_ok, nmX4, rfl, rfl, (fun h _ => nomatch h), Or.inl rfl, Or.inl q1753⟩
theorem fX4_313 : oFl RX4 313 1 46 .int false true := ⟨RX4, TX4, 101, tyX4, "OperaHouseModel", rfl, rfl, by decide, in_X4, by decide, rfl, tyX4_ok, nmX4, rfl, rfl, (fun h _ => nomatch h), Or.inl rfl, Or.inl q1754⟩
theorem fX4_316 : oFl RX4 316 1 37 .int false true := ⟨RX4, TX4, 101, tyX4, "OperaHouseModel", rfl, rfl, by decide, in_X4, by decide, rfl, tyX4_ok, nmX4, rfl, rfl, (fun h _ => nomatch h), Or.inl rfl, Or.inl q1745⟩
theorem fX4_319 : oFl RX4 319 1 39 .int false true := ⟨RX4, TX4, 101, tyX4, "OperaHouseModel", rfl, rfl, by decide, in_X4, by decide, rfl, tyX4_ok, nmX4, rfl, rfl, (fun h _ => nomatch h), Or.inl rfl, Or.inl q1747⟩
theorem fX4_381 : oFl RX4 381 1 38 .int false true := ⟨RX4, TX4, 101, tyX4, "OperaHouseModel", rfl, rfl, by decide, in_X4, by decide, rfl, tyX4_ok, nmX4, rfl, rfl, (fun h _ => nomatch h), Or.inl rfl, Or.inl q1746⟩
theorem fX4_417 : oFl RX4 417 1 67 .int false true := ⟨RX4, TX4, 101, tyX4, "OperaHouseModel", rfl, rfl, by decide, in_X4, by decide, rfl, tyX4_ok, nmX4, rfl, rfl, (fun h _ => nomatch h), Or.inl rfl, Or.inl q1775⟩
theorem fX4_423 : oFl RX4 423 1 70 .int false true := ⟨RX4, TX4, 101, tyX4, "OperaHouseModel", rfl, rfl, by decide, in_X4, by decide, rfl, tyX4_ok, nmX4, rfl, rfl, (fun h _ => nomatch h), Or.inl rfl, Or.inl q1778⟩
theorem fX4_430 : oFl RX4 430 1 69 .int false true := ⟨RX4, TX4, 101, tyX4, "OperaHouseModel", rfl, rfl, by decide, in_X4, by decide, rfl, tyX4_ok, nmX4, rfl, rfl, (fun h _ => nomatch h), Or.inl rfl, Or.inl q1777⟩
theorem fX4_440 : oFl RX4 440 1 68 .int false true := ⟨RX4, TX4, 101, tyX4, "OperaHouseModel", rfl, rfl, by decide, in_X4, by decide, rfl, tyX4_ok, nmX4, rfl, rfl, (fun h _ => nomatch h), Or.inl rfl, Or.inl q1776⟩
theorem fX4_443 : oFl RX4 443 1 78 .int false true := ⟨RX4, TX4, 101, tyX4, "OperaHouseModel", rfl, rfl, by decide, in_X4, by decide, rfl, tyX4_ok, nmX4, rfl, rfl, (fun h _ => nomatch h), Or.inl rfl, Or.inl q1786⟩
theorem fX4_446 : oFl RX4 446 1 71 .int false true := ⟨RX4, TX4, 101, tyX4, "OperaHouseModel", rfl, rfl, by decide, in_X4, by decide, rfl, tyX4_ok, nmX4, rfl, rfl, (fun h _ => nomatch h), Or.inl rfl, Or.inl q1779⟩
theorem fX4_551 : oFl RX4 551 1 88 .int false true := ⟨RX4, TX4, 101, tyX4, "OperaHouseModel", rfl, rfl, by decide, in_X4, by decide, rfl, tyX4_ok, nmX4, rfl, rfl, (fun h _ => nomatch h), Or.inl rfl, Or.inl q1796⟩
theorem fX4_570 : oFl RX4 570 1 89 .int false true := ⟨RX4, TX4, 101, tyX4, "OperaHouseModel", rfl, rfl, by decide, in_X4, by decide, rfl, tyX4_ok, nmX4, rfl, rfl, (fun h _ => nomatch h), Or.inl rfl, Or.inl q1797⟩
theorem fX4_596 : oFl RX4 596 1 98 .int false true := ⟨RX4, TX4, 101, tyX4, "OperaHouseModel", rfl, rfl, by decide, in_X4, by decide, rfl, tyX4_ok, nmX4, rfl, rfl, (fun h _ => nomatch h), Or.inl rfl, Or.inl q1806⟩
theorem fX4_599 : oFl RX4 599 1 97 .int false true := ⟨RX4, TX4, 101, tyX4, "OperaHouseModel", rfl, rfl, by decide, in_X4, by decide, rfl, tyX4_ok, nmX4, rfl, rfl, (fun h _ => nomatch h), Or.inl rfl, Or.inl q1805⟩
theorem fX4_608 : oFl RX4 608 1 99 .int false true := ⟨RX4, TX4, 101, tyX4, "OperaHouseModel", rfl, rfl, by decide, in_X4, by decide, rfl, tyX4_ok, nmX4, rfl, rfl, (fun h _ => nomatch h), Or.inl rfl, Or.inl q1807⟩
theorem fX5_9 : oFl RX5 9 4 5 (.array .int) true true := ⟨RX5, TX5, 7, tyX5, "OperaHouse$Opera", rfl, rfl, by decide, in_X5, by decide, rfl, tyX5_ok, nmX5, rfl, rfl, (fun _ _ => rfl), Or.inl rfl, Or.inl q452⟩
theorem fX5_18 : oFl RX5 18 4 6 (.object "java/util/ArrayList") true true := ⟨RX5, TX5, 7, tyX5, "OperaHouse$Opera", rfl, rfl, by decide, in_X5, by decide, rfl, tyX5_ok, nmX5, rfl, rfl, (fun _ _ => rfl), Or.inl rfl, Or.inl q454⟩
theorem fX5_22 : oFl RX5 22 4 0 .int true true := ⟨RX5, TX5, 7, tyX5, "OperaHouse$Opera", rfl, rfl, by decide, in_X5, by decide, rfl, tyX5_ok, nmX5, rfl, rfl, (fun _ _ => rfl), Or.inl rfl, Or.inl q442⟩
theorem fX5_26 : oFl RX5 26 4 1 .int true true := ⟨RX5, TX5, 7, tyX5, "OperaHouse$Opera", rfl, rfl, by decide, in_X5, by decide, rfl, tyX5_ok, nmX5, rfl, rfl, (fun _ _ => rfl), Or.inl rfl, Or.inl q444⟩
theorem fX5_29 : oFl RX5 29 4 2 .int true true := ⟨RX5, TX5, 7, tyX5, "OperaHouse$Opera", rfl, rfl, by decide, in_X5, by decide, rfl, tyX5_ok, nmX5, rfl, rfl, (fun _ _ => rfl), Or.inl rfl, Or.inl q446⟩
theorem fX5_32 : oFl RX5 32 4 4 .boolean true true := ⟨RX5, TX5, 7, tyX5, "OperaHouse$Opera", rfl, rfl, by decide, in_X5, by decide, rfl, tyX5_ok, nmX5, rfl, rfl, (fun _ _ => rfl), Or.inl rfl, Or.inl q450⟩
theorem fX5_36 : oFl RX5 36 4 3 .int true true := ⟨RX5, TX5, 7, tyX5, "OperaHouse$Opera", rfl, rfl, by decide, in_X5, by decide, rfl, tyX5_ok, nmX5, rfl, rfl, (fun _ _ => rfl), Or.inl rfl, Or.inl q448⟩
theorem fX6_7 : oFl RX6 7 5 0 .int true true := ⟨RX6, TX6, 4, tyX6, "OperaHouse$Role", rfl, rfl, by decide, in_X6, by decide, rfl, tyX6_ok, nmX6, rfl, rfl, (fun _ _ => rfl), Or.inl rfl, Or.inl q478⟩
theorem fX6_13 : oFl RX6 13 5 1 .int true true := ⟨RX6, TX6, 4, tyX6, "OperaHouse$Role", rfl, rfl, by decide, in_X6, by decide, rfl, tyX6_ok, nmX6, rfl, rfl, (fun _ _ => rfl), Or.inl rfl, Or.inl q480⟩
theorem fX6_16 : oFl RX6 16 5 2 .int true true := ⟨RX6, TX6, 4, tyX6, "OperaHouse$Role", rfl, rfl, by decide, in_X6, by decide, rfl, tyX6_ok, nmX6, rfl, rfl, (fun _ _ => rfl), Or.inl rfl, Or.inl q482⟩
theorem fX6_19 : oFl RX6 19 5 3 .int true true := ⟨RX6, TX6, 4, tyX6, "OperaHouse$Role", rfl, rfl, by decide, in_X6, by decide, rfl, tyX6_ok, nmX6, rfl, rfl, (fun _ _ => rfl), Or.inl rfl, Or.inl q484⟩
theorem fX7_10 : oFl RX7 10 6 4 (.object "OperaHouse$Contract") false true := ⟨RX7, TX7, 5, tyX7, "OperaHouse$Singer", rfl, rfl, by decide, in_X7, by decide, rfl, tyX7_ok, nmX7, rfl, rfl, (fun h _ => nomatch h), Or.inl rfl, Or.inl q618⟩
theorem fX7_16 : oFl RX7 16 6 0 .int true true := ⟨RX7, TX7, 5, tyX7, "OperaHouse$Singer", rfl, rfl, by decide, in_X7, by decide, rfl, tyX7_ok, nmX7, rfl, rfl, (fun _ _ => rfl), Or.inl rfl, Or.inl q612⟩
theorem fX7_20 : oFl RX7 20 6 1 .int true true := ⟨RX7, TX7, 5, tyX7, "OperaHouse$Singer", rfl, rfl, by decide, in_X7, by decide, rfl, tyX7_ok, nmX7, rfl, rfl, (fun _ _ => rfl), Or.inl rfl, Or.inl q614⟩
theorem fX7_23 : oFl RX7 23 6 2 .int true true := ⟨RX7, TX7, 5, tyX7, "OperaHouse$Singer", rfl, rfl, by decide, in_X7, by decide, rfl, tyX7_ok, nmX7, rfl, rfl, (fun _ _ => rfl), Or.inl rfl, Or.inl q615⟩
theorem fX7_26 : oFl RX7 26 6 3 .int true true := ⟨RX7, TX7, 5, tyX7, "OperaHouse$Singer", rfl, rfl, by decide, in_X7, by decide, rfl, tyX7_ok, nmX7, rfl, rfl, (fun _ _ => rfl), Or.inl rfl, Or.inl q616⟩
theorem fX7_29 : oFl RX7 29 5 0 .int true false := ⟨RX6, TX6, 4, tyX6, "OperaHouse$Role", rfl, rfl, by decide, in_X6, by decide, rfl, tyX6_ok, nmX6, rfl, rfl, (fun _ h => nomatch h), Or.inl rfl, Or.inr ⟨_, q479⟩⟩
theorem fX7_34 : oFl RX7 34 5 2 .int true false := ⟨RX6, TX6, 4, tyX6, "OperaHouse$Role", rfl, rfl, by decide, in_X6, by decide, rfl, tyX6_ok, nmX6, rfl, rfl, (fun _ h => nomatch h), Or.inl rfl, Or.inr ⟨_, q483⟩⟩
theorem fX7_37 : oFl RX7 37 5 3 .int true false := ⟨RX6, TX6, 4, tyX6, "OperaHouse$Role", rfl, rfl, by decide, in_X6, by decide, rfl, tyX6_ok, nmX6, rfl, rfl, (fun _ h => nomatch h), Or.inl rfl, Or.inr ⟨_, q485⟩⟩
theorem fX8_7 : oFl RX8 7 7 0 .int false true := ⟨RX8, TX8, 7, tyX8, "OperaHouse$Contract", rfl, rfl, by decide, in_X8, by decide, rfl, tyX8_ok, nmX8, rfl, rfl, (fun h _ => nomatch h), Or.inl rfl, Or.inl q579⟩
theorem fX8_13 : oFl RX8 13 7 1 .int false true := ⟨RX8, TX8, 7, tyX8, "OperaHouse$Contract", rfl, rfl, by decide, in_X8, by decide, rfl, tyX8_ok, nmX8, rfl, rfl, (fun h _ => nomatch h), Or.inl rfl, Or.inl q582⟩
theorem fX8_16 : oFl RX8 16 7 2 .int false true := ⟨RX8, TX8, 7, tyX8, "OperaHouse$Contract", rfl, rfl, by decide, in_X8, by decide, rfl, tyX8_ok, nmX8, rfl, rfl, (fun h _ => nomatch h), Or.inl rfl, Or.inl q585⟩
theorem fX8_19 : oFl RX8 19 7 3 .int false true := ⟨RX8, TX8, 7, tyX8, "OperaHouse$Contract", rfl, rfl, by decide, in_X8, by decide, rfl, tyX8_ok, nmX8, rfl, rfl, (fun h _ => nomatch h), Or.inl rfl, Or.inl q588⟩
theorem fX8_25 : oFl RX8 25 7 5 (.object "java/util/ArrayList") true true := ⟨RX8, TX8, 7, tyX8, "OperaHouse$Contract", rfl, rfl, by decide, in_X8, by decide, rfl, tyX8_ok, nmX8, rfl, rfl, (fun _ _ => rfl), Or.inl rfl, Or.inl q593⟩
theorem fX8_29 : oFl RX8 29 7 6 (.object "java/util/ArrayList") true true := ⟨RX8, TX8, 7, tyX8, "OperaHouse$Contract", rfl, rfl, by decide, in_X8, by decide, rfl, tyX8_ok, nmX8, rfl, rfl, (fun _ _ => rfl), Or.inl rfl, Or.inl q595⟩
theorem fX8_42 : oFl RX8 42 10 0 .int true false := ⟨RX11, TX11, 2, tyX11, "OperaHouse$Leave", rfl, rfl, by decide, in_X11, by decide, rfl, tyX11_ok, nmX11, rfl, rfl, (fun _ h => nomatch h), Or.inl rfl, Or.inr ⟨_, q1071⟩⟩
theorem fX8_45 : oFl RX8 45 10 1 .int true false := ⟨RX11, TX11, 2, tyX11, "OperaHouse$Leave", rfl, rfl, by decide, in_X11, by decide, rfl, tyX11_ok, nmX11, rfl, rfl, (fun _ h => nomatch h), Or.inl rfl, Or.inr ⟨_, q1073⟩⟩
theorem fX8_56 : oFl RX8 56 11 1 (.object "OperaHouse$Cond") true false := ⟨RX12, TX12, 2, tyX12, "OperaHouse$Fee", rfl, rfl, by decide, in_X12, by decide, rfl, tyX12_ok, nmX12, rfl, rfl, (fun _ h => nomatch h), Or.inl rfl, Or.inr ⟨_, q1257⟩⟩
theorem fX8_66 : oFl RX8 66 11 0 .int true false := ⟨RX12, TX12, 2, tyX12, "OperaHouse$Fee", rfl, rfl, by decide, in_X12, by decide, rfl, tyX12_ok, nmX12, rfl, rfl, (fun _ h => nomatch h), Or.inl rfl, Or.inr ⟨_, q1255⟩⟩
theorem fX9_11 : oFl RX9 11 8 10 (.object "java/lang/String") false true := ⟨RX9, TX9, 12, tyX9, "OperaHouse$Reader", rfl, rfl, by decide, in_X9, by decide, rfl, tyX9_ok, nmX9, rfl, rfl, (fun h _ => nomatch h), Or.inl rfl, Or.inl q681⟩
theorem fX9_20 : oFl RX9 20 8 11 (.object "OperaHouse$Contract") true true := ⟨RX9, TX9, 12, tyX9, "OperaHouse$Reader", rfl, rfl, by decide, in_X9, by decide, rfl, tyX9_ok, nmX9, rfl, rfl, (fun _ _ => rfl), Or.inl rfl, Or.inl q682⟩
theorem fX9_24 : oFl RX9 24 8 0 (.array .byte) true true := ⟨RX9, TX9, 12, tyX9, "OperaHouse$Reader", rfl, rfl, by decide, in_X9, by decide, rfl, tyX9_ok, nmX9, rfl, rfl, (fun _ _ => rfl), Or.inl rfl, Or.inl q671⟩
theorem fX9_28 : oFl RX9 28 8 1 .int true true := ⟨RX9, TX9, 12, tyX9, "OperaHouse$Reader", rfl, rfl, by decide, in_X9, by decide, rfl, tyX9_ok, nmX9, rfl, rfl, (fun _ _ => rfl), Or.inl rfl, Or.inl q672⟩
theorem fX9_32 : oFl RX9 32 8 2 .int false true := ⟨RX9, TX9, 12, tyX9, "OperaHouse$Reader", rfl, rfl, by decide, in_X9, by decide, rfl, tyX9_ok, nmX9, rfl, rfl, (fun h _ => nomatch h), Or.inl rfl, Or.inl q673⟩
theorem fX9_39 : oFl RX9 39 8 4 .int false true := ⟨RX9, TX9, 12, tyX9, "OperaHouse$Reader", rfl, rfl, by decide, in_X9, by decide, rfl, tyX9_ok, nmX9, rfl, rfl, (fun h _ => nomatch h), Or.inl rfl, Or.inl q675⟩
theorem fX9_42 : oFl RX9 42 8 3 .int false true := ⟨RX9, TX9, 12, tyX9, "OperaHouse$Reader", rfl, rfl, by decide, in_X9, by decide, rfl, tyX9_ok, nmX9, rfl, rfl, (fun h _ => nomatch h), Or.inl rfl, Or.inl q674⟩
theorem fX9_59 : oFl RX9 59 8 6 .int false true := ⟨RX9, TX9, 12, tyX9, "OperaHouse$Reader", rfl, rfl, by decide, in_X9, by decide, rfl, tyX9_ok, nmX9, rfl, rfl, (fun h _ => nomatch h), Or.inl rfl, Or.inl q677⟩
theorem fX9_62 : oFl RX9 62 8 5 .int false true := ⟨RX9, TX9, 12, tyX9, "OperaHouse$Reader", rfl, rfl, by decide, in_X9, by decide, rfl, tyX9_ok, nmX9, rfl, rfl, (fun h _ => nomatch h), Or.inl rfl, Or.inl q676⟩
theorem fX9_102 : oFl RX9 102 7 4 .int false true := ⟨RX8, TX8, 7, tyX8, "OperaHouse$Contract", rfl, rfl, by decide, in_X8, by decide, rfl, tyX8_ok, nmX8, rfl, rfl, (fun h _ => nomatch h), Or.inl rfl, Or.inr ⟨_, q591⟩⟩
theorem fX9_105 : oFl RX9 105 8 7 .int false true := ⟨RX9, TX9, 12, tyX9, "OperaHouse$Reader", rfl, rfl, by decide, in_X9, by decide, rfl, tyX9_ok, nmX9, rfl, rfl, (fun h _ => nomatch h), Or.inl rfl, Or.inl q678⟩
theorem fX9_121 : oFl RX9 121 7 0 .int false true := ⟨RX8, TX8, 7, tyX8, "OperaHouse$Contract", rfl, rfl, by decide, in_X8, by decide, rfl, tyX8_ok, nmX8, rfl, rfl, (fun h _ => nomatch h), Or.inl rfl, Or.inr ⟨_, q580⟩⟩
theorem fX9_125 : oFl RX9 125 7 1 .int false true := ⟨RX8, TX8, 7, tyX8, "OperaHouse$Contract", rfl, rfl, by decide, in_X8, by decide, rfl, tyX8_ok, nmX8, rfl, rfl, (fun h _ => nomatch h), Or.inl rfl, Or.inr ⟨_, q583⟩⟩
theorem fX9_129 : oFl RX9 129 7 2 .int false true := ⟨RX8, TX8, 7, tyX8, "OperaHouse$Contract", rfl, rfl, by decide, in_X8, by decide, rfl, tyX8_ok, nmX8, rfl, rfl, (fun h _ => nomatch h), Or.inl rfl, Or.inr ⟨_, q586⟩⟩
theorem fX9_133 : oFl RX9 133 7 3 .int false true := ⟨RX8, TX8, 7, tyX8, "OperaHouse$Contract", rfl, rfl, by decide, in_X8, by decide, rfl, tyX8_ok, nmX8, rfl, rfl, (fun h _ => nomatch h), Or.inl rfl, Or.inr ⟨_, q589⟩⟩
theorem fX9_137 : oFl RX9 137 7 5 (.object "java/util/ArrayList") true false := ⟨RX8, TX8, 7, tyX8, "OperaHouse$Contract", rfl, rfl, by decide, in_X8, by decide, rfl, tyX8_ok, nmX8, rfl, rfl, (fun _ h => nomatch h), Or.inl rfl, Or.inr ⟨_, q594⟩⟩
theorem fX9_155 : oFl RX9 155 7 6 (.object "java/util/ArrayList") true false := ⟨RX8, TX8, 7, tyX8, "OperaHouse$Contract", rfl, rfl, by decide, in_X8, by decide, rfl, tyX8_ok, nmX8, rfl, rfl, (fun _ h => nomatch h), Or.inl rfl, Or.inr ⟨_, q596⟩⟩
theorem fX9_204 : oFl RX9 204 8 8 .int false true := ⟨RX9, TX9, 12, tyX9, "OperaHouse$Reader", rfl, rfl, by decide, in_X9, by decide, rfl, tyX9_ok, nmX9, rfl, rfl, (fun h _ => nomatch h), Or.inl rfl, Or.inl q679⟩
theorem fX9_207 : oFl RX9 207 8 9 .int false true := ⟨RX9, TX9, 12, tyX9, "OperaHouse$Reader", rfl, rfl, by decide, in_X9, by decide, rfl, tyX9_ok, nmX9, rfl, rfl, (fun h _ => nomatch h), Or.inl rfl, Or.inl q680⟩
theorem nX1_27 : oCn RX1 27 17 3 := ⟨RJ2, TJ2, tyJ2, rfl, rfl, by decide, in_J2, tyJ2_ok, fun j hj _ => (match j, hj with | 0, _ => rfl | 1, _ => rfl | 2, _ => rfl | j + 3, h => absurd h (by omega)), q178, q179, q132⟩
theorem nX1_49 : oCn RX1 49 2 4 := ⟨RX2, TX2, tyX2, rfl, rfl, by decide, in_X2, tyX2_ok, fun j hj _ => (match j, hj with | 0, _ => rfl | 1, _ => rfl | 2, _ => rfl | 3, _ => rfl | j + 4, h => absurd h (by omega)), q206, q207, q133⟩
theorem nX1_56 : oCn RX1 56 14 7 := ⟨RX15, TX15, tyX15, rfl, rfl, by decide, in_X15, tyX15_ok, fun j hj _ => (match j, hj with | 0, _ => rfl | 1, _ => rfl | 2, _ => rfl | 3, _ => rfl | 4, _ => rfl | 5, _ => rfl | 6, _ => rfl | j + 7, h => absurd h (by omega)), q254, q1309, q165⟩
theorem nX1_89 : oCn RX1 89 3 7 := ⟨RX3, TX3, tyX3, rfl, rfl, by decide, in_X3, tyX3_ok, fun j hj _ => (match j, hj with | 0, _ => rfl | 1, _ => rfl | 2, _ => rfl | 3, _ => rfl | 4, _ => rfl | 5, _ => rfl | 6, _ => rfl | j + 7, h => absurd h (by omega)), q257, q258, q135⟩
theorem nX1_129 : oCn RX1 129 4 7 := ⟨RX5, TX5, tyX5, rfl, rfl, by decide, in_X5, tyX5_ok, fun j hj _ => (match j, hj with | 0, _ => rfl | 1, _ => rfl | 2, _ => rfl | 3, _ => rfl | 4, _ => rfl | 5, _ => rfl | 6, _ => rfl | j + 7, h => absurd h (by omega)), q434, q435, q137⟩
theorem nX1_140 : oCn RX1 140 5 4 := ⟨RX6, TX6, tyX6, rfl, rfl, by decide, in_X6, tyX6_ok, fun j hj _ => (match j, hj with | 0, _ => rfl | 1, _ => rfl | 2, _ => rfl | 3, _ => rfl | j + 4, h => absurd h (by omega)), q472, q473, q138⟩
theorem nX1_152 : oCn RX1 152 6 5 := ⟨RX7, TX7, tyX7, rfl, rfl, by decide, in_X7, tyX7_ok, fun j hj _ => (match j, hj with | 0, _ => rfl | 1, _ => rfl | 2, _ => rfl | 3, _ => rfl | 4, _ => rfl | j + 5, h => absurd h (by omega)), q565, q566, q142⟩
theorem nX1_166 : oCn RX1 166 8 12 := ⟨RX9, TX9, tyX9, rfl, rfl, by decide, in_X9, tyX9_ok, fun j hj _ => (match j, hj with | 0, _ => rfl | 1, _ => rfl | 2, _ => rfl | 3, _ => rfl | 4, _ => rfl | 5, _ => rfl | 6, _ => rfl | 7, _ => rfl | 8, _ => rfl | 9, _ => rfl | 10, _ => rfl | 11, _ => rfl | j + 12, h => absurd h (by omega)), q662, q663, q146⟩
theorem nX1_192 : oCn RX1 192 13 5 := ⟨RX14, TX14, tyX14, rfl, rfl, by decide, in_X14, tyX14_ok, fun j hj _ => (match j, hj with | 0, _ => rfl | 1, _ => rfl | 2, _ => rfl | 3, _ => rfl | 4, _ => rfl | j + 5, h => absurd h (by omega)), q1271, q1272, q164⟩
theorem nX1_217 : oCn RX1 217 15 5 := ⟨RX16, TX16, tyX16, rfl, rfl, by decide, in_X16, tyX16_ok, fun j hj _ => (match j, hj with | 0, _ => rfl | 1, _ => rfl | 2, _ => rfl | 3, _ => rfl | 4, _ => rfl | j + 5, h => absurd h (by omega)), q1357, q1358, q166⟩
theorem nX1_224 : oCn RX1 224 16 4 := ⟨RX17, TX17, tyX17, rfl, rfl, by decide, in_X17, tyX17_ok, fun j hj _ => (match j, hj with | 0, _ => rfl | 1, _ => rfl | 2, _ => rfl | 3, _ => rfl | j + 4, h => absurd h (by omega)), q1391, q1392, q167⟩
theorem nX5_15 : oCn RX5 15 17 3 := ⟨RJ2, TJ2, tyJ2, rfl, rfl, by decide, in_J2, tyJ2_ok, fun j hj _ => (match j, hj with | 0, _ => rfl | 1, _ => rfl | 2, _ => rfl | j + 3, h => absurd h (by omega)), q440, q179, q132⟩
theorem nX7_7 : oCn RX7 7 7 7 := ⟨RX8, TX8, tyX8, rfl, rfl, by decide, in_X8, tyX8_ok, fun j hj _ => (match j, hj with | 0, _ => rfl | 1, _ => rfl | 2, _ => rfl | 3, _ => rfl | 4, _ => rfl | 5, _ => rfl | 6, _ => rfl | j + 7, h => absurd h (by omega)), q571, q572, q143⟩
theorem nX8_22 : oCn RX8 22 17 3 := ⟨RJ2, TJ2, tyJ2, rfl, rfl, by decide, in_J2, tyJ2_ok, fun j hj _ => (match j, hj with | 0, _ => rfl | 1, _ => rfl | 2, _ => rfl | j + 3, h => absurd h (by omega)), q577, q179, q132⟩
theorem nX9_17 : oCn RX9 17 7 7 := ⟨RX8, TX8, tyX8, rfl, rfl, by decide, in_X8, tyX8_ok, fun j hj _ => (match j, hj with | 0, _ => rfl | 1, _ => rfl | 2, _ => rfl | 3, _ => rfl | 4, _ => rfl | 5, _ => rfl | 6, _ => rfl | j + 7, h => absurd h (by omega)), q669, q572, q143⟩
theorem nX9_65 : oCn RX9 65 19 4 := ⟨RJ13, TJ13, tyJ13, rfl, rfl, by decide, in_J13, tyJ13_ok, fun j hj _ => (match j, hj with | 0, _ => rfl | 1, _ => rfl | 2, _ => rfl | 3, _ => rfl | j + 4, h => absurd h (by omega)), q809, q810, q152⟩
theorem nX9_76 : oCn RX9 76 9 8 := ⟨RX10, TX10, tyX10, rfl, rfl, by decide, in_X10, tyX10_ok, fun j hj _ => (match j, hj with | 0, _ => rfl | 1, _ => rfl | 2, _ => rfl | 3, _ => rfl | 4, _ => rfl | 5, _ => rfl | 6, _ => rfl | 7, _ => rfl | j + 8, h => absurd h (by omega)), q988, q989, q155⟩
theorem nX9_147 : oCn RX9 147 10 2 := ⟨RX11, TX11, tyX11, rfl, rfl, by decide, in_X11, tyX11_ok, fun j hj _ => (match j, hj with | 0, _ => rfl | 1, _ => rfl | j + 2, h => absurd h (by omega)), q1064, q1065, q156⟩
theorem nX9_159 : oCn RX9 159 11 2 := ⟨RX12, TX12, tyX12, rfl, rfl, by decide, in_X12, tyX12_ok, fun j hj _ => (match j, hj with | 0, _ => rfl | 1, _ => rfl | j + 2, h => absurd h (by omega)), q1082, q1083, q157⟩
theorem nX9_178 : oCn RX9 178 12 5 := ⟨RX13, TX13, tyX13, rfl, rfl, by decide, in_X13, tyX13_ok, fun j hj _ => (match j, hj with | 0, _ => rfl | 1, _ => rfl | 2, _ => rfl | 3, _ => rfl | 4, _ => rfl | j + 5, h => absurd h (by omega)), q1222, q1223, q163⟩
theorem oDs0 {i : Nat} : oD 0 (some (0, i)) = some (0, i) := rfl
theorem oDs1 {i : Nat} : oD 1 (some (1, i)) = some (1, i) := rfl
theorem oDs2 {i : Nat} : oD 103 (some (2, i)) = some (2, i) := rfl
theorem oDs3 {i : Nat} : oD 120 (some (3, i)) = some (3, i) := rfl
theorem oDs4 {i : Nat} : oD 4 (some (4, i)) = some (4, i) := rfl
theorem oDs5 {i : Nat} : oD 100 (some (5, i)) = some (5, i) := rfl
theorem oDs6 {i : Nat} : oD 17 (some (6, i)) = some (6, i) := rfl
theorem oDs7 {i : Nat} : oD 5 (some (7, i)) = some (7, i) := rfl
theorem oDs8 {i : Nat} : oD 6 (some (8, i)) = some (8, i) := rfl
theorem oDs9 {i : Nat} : oD 7 (some (9, i)) = some (9, i) := rfl
theorem oDs10 {i : Nat} : oD 7 (some (10, i)) = some (10, i) := rfl
theorem oDs11 {i : Nat} : oD 17 (some (11, i)) = some (11, i) := rfl
theorem oDs12 {i : Nat} : oD 17 (some (12, i)) = some (12, i) := rfl
theorem oDs13 {i : Nat} : oD 8 (some (13, i)) = some (13, i) := rfl
theorem oDs14 {i : Nat} : oD 13 (some (14, i)) = some (14, i) := rfl
theorem oDs15 {i : Nat} : oD 14 (some (15, i)) = some (15, i) := rfl
theorem oDs16 {i : Nat} : oD 14 (some (16, i)) = some (16, i) := rfl
theorem oDs17 {i : Nat} : oD 15 (some (17, i)) = some (17, i) := rfl
theorem oDs18 {i : Nat} : oD 15 (some (18, i)) = some (18, i) := rfl
theorem oDs19 {i : Nat} : oD 16 (some (19, i)) = some (19, i) := rfl
theorem oDs20 {i : Nat} : oD 100 (some (20, i)) = some (20, i) := rfl
theorem oDs21 {i : Nat} : oD 10 (some (21, i)) = some (21, i) := rfl
theorem oDs22 {i : Nat} : oD 11 (some (22, i)) = some (22, i) := rfl
theorem oDs23 {i : Nat} : oD 12 (some (23, i)) = some (23, i) := rfl
theorem oDs24 {i : Nat} : oD 12 (some (24, i)) = some (24, i) := rfl
theorem oDs25 {i : Nat} : oD 12 (some (25, i)) = some (25, i) := rfl
theorem oDs26 {i : Nat} : oD 12 (some (26, i)) = some (26, i) := rfl
theorem oDs27 {i : Nat} : oD 12 (some (27, i)) = some (27, i) := rfl
theorem oDs28 {i : Nat} : oD 9 (some (28, i)) = some (28, i) := rfl
theorem oDs29 {i : Nat} : oD 20 (some (29, i)) = some (29, i) := rfl
theorem oDs30 {i : Nat} : oD 19 (some (30, i)) = some (30, i) := rfl
theorem oDs31 {i : Nat} : oD 18 (some (31, i)) = some (31, i) := rfl
theorem oDs32 {i : Nat} : oD 102 (some (32, i)) = some (32, i) := rfl
theorem oDs33 {i : Nat} : oD 106 (some (33, i)) = some (33, i) := rfl
theorem oDs34 {i : Nat} : oD 106 (some (34, i)) = some (34, i) := rfl
theorem oDs35 {i : Nat} : oD 102 (some (35, i)) = some (35, i) := rfl
theorem oDs36 {i : Nat} : oD 102 (some (36, i)) = some (36, i) := rfl
theorem oDs40 {i : Nat} : oD 126 (some (40, i)) = some (40, i) := rfl
theorem oDs60 {i : Nat} : oD 100 (some (60, i)) = some (60, i) := rfl
theorem oDs61 {i : Nat} : oD 100 (some (61, i)) = some (61, i) := rfl
theorem oDs62 {i : Nat} : oD 104 (some (62, i)) = some (62, i) := rfl
theorem oDs63 {i : Nat} : oD 100 (some (63, i)) = some (63, i) := rfl
theorem oDs71 {i : Nat} : oD 122 (some (71, i)) = some (71, i) := rfl
theorem oDs72 {i : Nat} : oD 122 (some (72, i)) = some (72, i) := rfl
theorem oDs73 {i : Nat} : oD 122 (some (73, i)) = some (73, i) := rfl
theorem oDs74 {i : Nat} : oD 122 (some (74, i)) = some (74, i) := rfl
theorem oDs75 {i : Nat} : oD 122 (some (75, i)) = some (75, i) := rfl
theorem oDs76 {i : Nat} : oD 122 (some (76, i)) = some (76, i) := rfl
theorem oDs77 {i : Nat} : oD 122 (some (77, i)) = some (77, i) := rfl
theorem oDs78 {i : Nat} : oD 122 (some (78, i)) = some (78, i) := rfl
theorem oDs79 {i : Nat} : oD 122 (some (79, i)) = some (79, i) := rfl
theorem oDs80 {i : Nat} : oD 122 (some (80, i)) = some (80, i) := rfl
theorem oDs81 {i : Nat} : oD 122 (some (81, i)) = some (81, i) := rfl
theorem oDs82 {i : Nat} : oD 122 (some (82, i)) = some (82, i) := rfl
theorem oDs83 {i : Nat} : oD 122 (some (83, i)) = some (83, i) := rfl
theorem oDs84 {i : Nat} : oD 122 (some (84, i)) = some (84, i) := rfl
theorem oDs85 {i : Nat} : oD 122 (some (85, i)) = some (85, i) := rfl
theorem oDs101 {i : Nat} : oD 102 (some (101, i)) = some (101, i) := rfl
theorem oDs107 {i : Nat} : oD 100 (some (107, i)) = some (107, i) := rfl
theorem oDs108 {i : Nat} : oD 100 (some (108, i)) = some (108, i) := rfl
theorem oDs109 {i : Nat} : oD 100 (some (109, i)) = some (109, i) := rfl
theorem oDs110 {i : Nat} : oD 100 (some (110, i)) = some (110, i) := rfl
theorem oDs111 {i : Nat} : oD 100 (some (111, i)) = some (111, i) := rfl
theorem oDs112 {i : Nat} : oD 100 (some (112, i)) = some (112, i) := rfl
theorem oDs113 {i : Nat} : oD 100 (some (113, i)) = some (113, i) := rfl
theorem oDs114 {i : Nat} : oD 100 (some (114, i)) = some (114, i) := rfl
theorem oDs115 {i : Nat} : oD 100 (some (115, i)) = some (115, i) := rfl
theorem oDs116 {i : Nat} : oD 101 (some (116, i)) = some (116, i) := rfl
theorem oDs117 {i : Nat} : oD 100 (some (117, i)) = some (117, i) := rfl
theorem oDs118 {i : Nat} : oD 100 (some (118, i)) = some (118, i) := rfl
theorem oDs119 {i : Nat} : oD 100 (some (119, i)) = some (119, i) := rfl
theorem oDs120 {i : Nat} : oD 100 (some (120, i)) = some (120, i) := rfl
theorem oDs125 {i : Nat} : oD 100 (some (125, i)) = some (125, i) := rfl
theorem oDs126 {i : Nat} : oD 100 (some (126, i)) = some (126, i) := rfl
theorem oDs127 {i : Nat} : oD 100 (some (127, i)) = some (127, i) := rfl
theorem oDs128 {i : Nat} : oD 100 (some (128, i)) = some (128, i) := rfl
theorem oDs129 {i : Nat} : oD 100 (some (129, i)) = some (129, i) := rfl
theorem oDs130 {i : Nat} : oD 100 (some (130, i)) = some (130, i) := rfl
theorem oDs131 {i : Nat} : oD 100 (some (131, i)) = some (131, i) := rfl
theorem oDs132 {i : Nat} : oD 100 (some (132, i)) = some (132, i) := rfl
theorem oDs133 {i : Nat} : oD 100 (some (133, i)) = some (133, i) := rfl
theorem oDs134 {i : Nat} : oD 100 (some (134, i)) = some (134, i) := rfl
theorem oDs135 {i : Nat} : oD 100 (some (135, i)) = some (135, i) := rfl
theorem oDs136 {i : Nat} : oD 100 (some (136, i)) = some (136, i) := rfl
theorem oDs148 {i : Nat} : oD 100 (some (148, i)) = some (148, i) := rfl
theorem oDs149 {i : Nat} : oD 100 (some (149, i)) = some (149, i) := rfl
theorem oDs150 {i : Nat} : oD 100 (some (150, i)) = some (150, i) := rfl
theorem oDs151 {i : Nat} : oD 100 (some (151, i)) = some (151, i) := rfl
theorem oDs152 {i : Nat} : oD 100 (some (152, i)) = some (152, i) := rfl
theorem oDs153 {i : Nat} : oD 100 (some (153, i)) = some (153, i) := rfl
theorem oDs154 {i : Nat} : oD 100 (some (154, i)) = some (154, i) := rfl
theorem oDs155 {i : Nat} : oD 100 (some (155, i)) = some (155, i) := rfl
theorem oDs156 {i : Nat} : oD 100 (some (156, i)) = some (156, i) := rfl
theorem oDs157 {i : Nat} : oD 100 (some (157, i)) = some (157, i) := rfl
theorem oDs158 {i : Nat} : oD 100 (some (158, i)) = some (158, i) := rfl
theorem oDs159 {i : Nat} : oD 100 (some (159, i)) = some (159, i) := rfl
theorem oDs160 {i : Nat} : oD 100 (some (160, i)) = some (160, i) := rfl
theorem oDs161 {i : Nat} : oD 100 (some (161, i)) = some (161, i) := rfl
theorem oDs162 {i : Nat} : oD 100 (some (162, i)) = some (162, i) := rfl
theorem oDs163 {i : Nat} : oD 100 (some (163, i)) = some (163, i) := rfl
theorem oDs164 {i : Nat} : oD 100 (some (164, i)) = some (164, i) := rfl
theorem oDs165 {i : Nat} : oD 100 (some (165, i)) = some (165, i) := rfl
theorem oDs166 {i : Nat} : oD 101 (some (166, i)) = some (166, i) := rfl
theorem oDs172 {i : Nat} : oD 100 (some (172, i)) = some (172, i) := rfl
theorem oDs173 {i : Nat} : oD 100 (some (173, i)) = some (173, i) := rfl
theorem oDs174 {i : Nat} : oD 100 (some (174, i)) = some (174, i) := rfl
theorem oDs175 {i : Nat} : oD 100 (some (175, i)) = some (175, i) := rfl
theorem oDs176 {i : Nat} : oD 100 (some (176, i)) = some (176, i) := rfl
theorem oDs177 {i : Nat} : oD 100 (some (177, i)) = some (177, i) := rfl
theorem oDs179 {i : Nat} : oD 101 (some (179, i)) = some (179, i) := rfl
theorem oDs180 {i : Nat} : oD 101 (some (180, i)) = some (180, i) := rfl
theorem oDs181 {i : Nat} : oD 101 (some (181, i)) = some (181, i) := rfl
theorem oDs182 {i : Nat} : oD 101 (some (182, i)) = some (182, i) := rfl
theorem oDs183 {i : Nat} : oD 101 (some (183, i)) = some (183, i) := rfl
theorem oDs184 {i : Nat} : oD 100 (some (184, i)) = some (184, i) := rfl
theorem oDs185 {i : Nat} : oD 100 (some (185, i)) = some (185, i) := rfl
theorem oDs186 {i : Nat} : oD 100 (some (186, i)) = some (186, i) := rfl
theorem oDs187 {i : Nat} : oD 101 (some (187, i)) = some (187, i) := rfl
theorem oDs190 {i : Nat} : oD 100 (some (190, i)) = some (190, i) := rfl
theorem oDs191 {i : Nat} : oD 100 (some (191, i)) = some (191, i) := rfl
theorem oDs192 {i : Nat} : oD 100 (some (192, i)) = some (192, i) := rfl
theorem oDs193 {i : Nat} : oD 100 (some (193, i)) = some (193, i) := rfl
theorem oDs194 {i : Nat} : oD 100 (some (194, i)) = some (194, i) := rfl
theorem oDs195 {i : Nat} : oD 100 (some (195, i)) = some (195, i) := rfl
theorem oDs196 {i : Nat} : oD 100 (some (196, i)) = some (196, i) := rfl
theorem oDs300 {i : Nat} : oD 102 (some (300, i)) = some (300, i) := rfl
theorem oDs307 {i : Nat} : oD 100 (some (307, i)) = some (307, i) := rfl
theorem oDs308 {i : Nat} : oD 100 (some (308, i)) = some (308, i) := rfl
theorem oDs309 {i : Nat} : oD 17 (some (309, i)) = some (309, i) := rfl
theorem oDs310 {i : Nat} : oD 17 (some (310, i)) = some (310, i) := rfl
theorem oDs311 {i : Nat} : oD 17 (some (311, i)) = some (311, i) := rfl
theorem oDs312 {i : Nat} : oD 17 (some (312, i)) = some (312, i) := rfl
theorem oDs313 {i : Nat} : oD 17 (some (313, i)) = some (313, i) := rfl
theorem oDs314 {i : Nat} : oD 17 (some (314, i)) = some (314, i) := rfl
theorem oDs315 {i : Nat} : oD 2 (some (315, i)) = some (315, i) := rfl
theorem oDs316 {i : Nat} : oD 105 (some (316, i)) = some (316, i) := rfl
theorem oDs319 {i : Nat} : oD 104 (some (319, i)) = some (319, i) := rfl
theorem oDs320 {i : Nat} : oD 104 (some (320, i)) = some (320, i) := rfl
theorem oDs321 {i : Nat} : oD 104 (some (321, i)) = some (321, i) := rfl
theorem oDs322 {i : Nat} : oD 104 (some (322, i)) = some (322, i) := rfl
theorem oDs323 {i : Nat} : oD 101 (some (323, i)) = some (323, i) := rfl
theorem oDs324 {i : Nat} : oD 101 (some (324, i)) = some (324, i) := rfl
theorem oDs325 {i : Nat} : oD 101 (some (325, i)) = some (325, i) := rfl
theorem oDs326 {i : Nat} : oD 100 (some (326, i)) = some (326, i) := rfl
theorem oDs327 {i : Nat} : oD 3 (some (327, i)) = some (327, i) := rfl
theorem oDs328 {i : Nat} : oD 104 (some (328, i)) = some (328, i) := rfl
theorem oDs329 {i : Nat} : oD 105 (some (329, i)) = some (329, i) := rfl
theorem oDs330 {i : Nat} : oD 100 (some (330, i)) = some (330, i) := rfl
theorem oDs419 {i : Nat} : oD 100 (some (419, i)) = some (419, i) := rfl
theorem oDs420 {i : Nat} : oD 100 (some (420, i)) = some (420, i) := rfl
theorem oDs421 {i : Nat} : oD 100 (some (421, i)) = some (421, i) := rfl
theorem oDs422 {i : Nat} : oD 100 (some (422, i)) = some (422, i) := rfl
theorem oDs428 {i : Nat} : oD 100 (some (428, i)) = some (428, i) := rfl
/-- lengths of the fixed arrays, by site -/
def ohLenT : List (Nat × Nat) := [(60, 120), (61, 120), (62, 120), (63, 3), (101, 340), (107, 9), (108, 9), (109, 9), (110, 36), (111, 9), (112, 72), (113, 72), (114, 72), (115, 72), (116, 9), (117, 20), (118, 20), (119, 20), (120, 8), (125, 84), (126, 21), (127, 126), (128, 126), (129, 21), (130, 168), (131, 168), (132, 168), (133, 2100), (134, 2100), (135, 2100), (136, 64), (148, 200), (149, 200), (150, 200), (151, 200), (152, 60), (153, 60), (154, 60), (155, 60), (156, 400), (157, 400), (158, 400), (159, 400), (160, 66), (161, 66), (162, 66), (163, 66), (164, 66), (165, 66), (166, 400), (172, 528), (173, 528), (174, 528), (175, 66), (176, 66), (177, 66), (179, 64), (180, 625), (181, 625), (182, 721), (183, 66), (184, 5200), (185, 5200), (186, 5200), (187, 9504), (190, 5200), (191, 5200), (192, 5200), (193, 6), (194, 6), (195, 6), (196, 6), (300, 340), (307, 4), (308, 4), (316, 66), (319, 66), (320, 66), (321, 66), (322, 66), (323, 120), (324, 120), (325, 720), (328, 66), (329, 6), (330, 6), (419, 8), (420, 8), (421, 8), (422, 9), (428, 9)]
def ohLn (s : Nat) : Nat := ((ohLenT.find? (fun q => q.1 == s)).map (fun q => q.2)).getD 0
def ohMk : List Nat := [1, 7, 8, 9, 10, 11, 12, 13, 14, 15, 16, 17, 18, 19, 20, 25, 26, 27, 28, 29, 30, 31, 32, 33, 34, 35, 36, 48, 49, 50, 51, 52, 53, 54, 55, 56, 57, 58, 59, 60, 61, 62, 63, 64, 65, 66, 72, 73, 74, 75, 76, 77, 79, 80, 81, 82, 83, 84, 85, 86, 87, 90, 91, 92, 93, 94, 95, 96]
def ohHk : List Nat := [0, 7, 8, 9, 10, 11, 12, 13, 14, 15, 16, 19, 20, 21, 22, 23, 24, 25, 27, 28, 29, 30]
def ohHl : List Nat := [0, 7, 8, 16, 19, 20, 21, 22, 23, 24, 25, 28, 29, 30]
/-- where the model's arrays lie, how long they are -/
def ohShM (FR : OhQ) (AN : OhN) : Prop := ∀ k ∈ ohMk, FR 1 0 k = some (100 + k, 0) ∧ AN (100 + k) 0 = ohLn (100 + k)
def ohShW (FR AR : OhQ) (AN : OhN) : Prop := (FR 315 0 0 = some (60, 0) ∧ FR 315 0 1 = some (61, 0) ∧ FR 315 0 2 = some (62, 0)) ∧ (AN 60 0 = 120 ∧ AN 61 0 = 120 ∧ AN 62 0 = 120) ∧ ∀ i, i < 120 → AR 62 0 i = some (63, i) ∧ AN 63 i = 3
def ohShH (FR AR : OhQ) (AN : OhN) : Prop := (∀ k ∈ ohHk, FR 0 0 k = some (300 + k, 0)) ∧ (∀ k ∈ ohHl, AN (300 + k) 0 = ohLn (300 + k)) ∧ (∀ k ∈ [19, 20, 21, 22, 28], ∀ i, i < 66 → AR (300 + k) 0 i = some (400 + k, i) ∧ AN (400 + k) i = ohLn (400 + k)) ∧ ohShW FR AR AN
theorem ohShH_W {FR AR : OhQ} {AN : OhN} (h : ohShH FR AR AN) : ohShW FR AR AN := h.2.2.2
theorem ohF101 {FR : OhQ} {AN : OhN} (h : ohShM FR AN) : FR 1 0 1 = some (101, 0) := (h 1 (by decide)).1
theorem ohN101 {FR : OhQ} {AN : OhN} (h : ohShM FR AN) : AN 101 0 = 340 := (h 1 (by decide)).2
theorem ohF107 {FR : OhQ} {AN : OhN} (h : ohShM FR AN) : FR 1 0 7 = some (107, 0) := (h 7 (by decide)).1
theorem ohN107 {FR : OhQ} {AN : OhN} (h : ohShM FR AN) : AN 107 0 = 9 := (h 7 (by decide)).2
theorem ohF108 {FR : OhQ} {AN : OhN} (h : ohShM FR AN) : FR 1 0 8 = some (108, 0) := (h 8 (by decide)).1
theorem ohN108 {FR : OhQ} {AN : OhN} (h : ohShM FR AN) : AN 108 0 = 9 := (h 8 (by decide)).2
theorem ohF109 {FR : OhQ} {AN : OhN} (h : ohShM FR AN) : FR 1 0 9 = some (109, 0) := (h 9 (by decide)).1
theorem ohN109 {FR : OhQ} {AN : OhN} (h : ohShM FR AN) : AN 109 0 = 9 := (h 9 (by decide)).2
theorem ohF110 {FR : OhQ} {AN : OhN} (h : ohShM FR AN) : FR 1 0 10 = some (110, 0) := (h 10 (by decide)).1
theorem ohN110 {FR : OhQ} {AN : OhN} (h : ohShM FR AN) : AN 110 0 = 36 := (h 10 (by decide)).2
theorem ohF111 {FR : OhQ} {AN : OhN} (h : ohShM FR AN) : FR 1 0 11 = some (111, 0) := (h 11 (by decide)).1
theorem ohN111 {FR : OhQ} {AN : OhN} (h : ohShM FR AN) : AN 111 0 = 9 := (h 11 (by decide)).2
theorem ohF112 {FR : OhQ} {AN : OhN} (h : ohShM FR AN) : FR 1 0 12 = some (112, 0) := (h 12 (by decide)).1
theorem ohN112 {FR : OhQ} {AN : OhN} (h : ohShM FR AN) : AN 112 0 = 72 := (h 12 (by decide)).2
theorem ohF113 {FR : OhQ} {AN : OhN} (h : ohShM FR AN) : FR 1 0 13 = some (113, 0) := (h 13 (by decide)).1
theorem ohN113 {FR : OhQ} {AN : OhN} (h : ohShM FR AN) : AN 113 0 = 72 := (h 13 (by decide)).2
theorem ohF114 {FR : OhQ} {AN : OhN} (h : ohShM FR AN) : FR 1 0 14 = some (114, 0) := (h 14 (by decide)).1
theorem ohN114 {FR : OhQ} {AN : OhN} (h : ohShM FR AN) : AN 114 0 = 72 := (h 14 (by decide)).2
theorem ohF115 {FR : OhQ} {AN : OhN} (h : ohShM FR AN) : FR 1 0 15 = some (115, 0) := (h 15 (by decide)).1
theorem ohN115 {FR : OhQ} {AN : OhN} (h : ohShM FR AN) : AN 115 0 = 72 := (h 15 (by decide)).2
theorem ohF116 {FR : OhQ} {AN : OhN} (h : ohShM FR AN) : FR 1 0 16 = some (116, 0) := (h 16 (by decide)).1
theorem ohN116 {FR : OhQ} {AN : OhN} (h : ohShM FR AN) : AN 116 0 = 9 := (h 16 (by decide)).2
theorem ohF117 {FR : OhQ} {AN : OhN} (h : ohShM FR AN) : FR 1 0 17 = some (117, 0) := (h 17 (by decide)).1
theorem ohN117 {FR : OhQ} {AN : OhN} (h : ohShM FR AN) : AN 117 0 = 20 := (h 17 (by decide)).2
theorem ohF118 {FR : OhQ} {AN : OhN} (h : ohShM FR AN) : FR 1 0 18 = some (118, 0) := (h 18 (by decide)).1
theorem ohN118 {FR : OhQ} {AN : OhN} (h : ohShM FR AN) : AN 118 0 = 20 := (h 18 (by decide)).2
theorem ohF119 {FR : OhQ} {AN : OhN} (h : ohShM FR AN) : FR 1 0 19 = some (119, 0) := (h 19 (by decide)).1
theorem ohN119 {FR : OhQ} {AN : OhN} (h : ohShM FR AN) : AN 119 0 = 20 := (h 19 (by decide)).2
theorem ohF120 {FR : OhQ} {AN : OhN} (h : ohShM FR AN) : FR 1 0 20 = some (120, 0) := (h 20 (by decide)).1
theorem ohN120 {FR : OhQ} {AN : OhN} (h : ohShM FR AN) : AN 120 0 = 8 := (h 20 (by decide)).2
theorem ohF125 {FR : OhQ} {AN : OhN} (h : ohShM FR AN) : FR 1 0 25 = some (125, 0) := (h 25 (by decide)).1
theorem ohN125 {FR : OhQ} {AN : OhN} (h : ohShM FR AN) : AN 125 0 = 84 := (h 25 (by decide)).2
theorem ohF126 {FR : OhQ} {AN : OhN} (h : ohShM FR AN) : FR 1 0 26 = some (126, 0) := (h 26 (by decide)).1
theorem ohN126 {FR : OhQ} {AN : OhN} (h : ohShM FR AN) : AN 126 0 = 21 := (h 26 (by decide)).2
theorem ohF127 {FR : OhQ} {AN : OhN} (h : ohShM FR AN) : FR 1 0 27 = some (127, 0) := (h 27 (by decide)).1
theorem ohN127 {FR : OhQ} {AN : OhN} (h : ohShM FR AN) : AN 127 0 = 126 := (h 27 (by decide)).2
theorem ohF128 {FR : OhQ} {AN : OhN} (h : ohShM FR AN) : FR 1 0 28 = some (128, 0) := (h 28 (by decide)).1
theorem ohN128 {FR : OhQ} {AN : OhN} (h : ohShM FR AN) : AN 128 0 = 126 := (h 28 (by decide)).2
theorem ohF129 {FR : OhQ} {AN : OhN} (h : ohShM FR AN) : FR 1 0 29 = some (129, 0) := (h 29 (by decide)).1
theorem ohN129 {FR : OhQ} {AN : OhN} (h : ohShM FR AN) : AN 129 0 = 21 := (h 29 (by decide)).2
theorem ohF130 {FR : OhQ} {AN : OhN} (h : ohShM FR AN) : FR 1 0 30 = some (130, 0) := (h 30 (by decide)).1
theorem ohN130 {FR : OhQ} {AN : OhN} (h : ohShM FR AN) : AN 130 0 = 168 := (h 30 (by decide)).2
theorem ohF131 {FR : OhQ} {AN : OhN} (h : ohShM FR AN) : FR 1 0 31 = some (131, 0) := (h 31 (by decide)).1
theorem ohN131 {FR : OhQ} {AN : OhN} (h : ohShM FR AN) : AN 131 0 = 168 := (h 31 (by decide)).2
theorem ohF132 {FR : OhQ} {AN : OhN} (h : ohShM FR AN) : FR 1 0 32 = some (132, 0) := (h 32 (by decide)).1
theorem ohN132 {FR : OhQ} {AN : OhN} (h : ohShM FR AN) : AN 132 0 = 168 := (h 32 (by decide)).2
theorem ohF133 {FR : OhQ} {AN : OhN} (h : ohShM FR AN) : FR 1 0 33 = some (133, 0) := (h 33 (by decide)).1
theorem ohN133 {FR : OhQ} {AN : OhN} (h : ohShM FR AN) : AN 133 0 = 2100 := (h 33 (by decide)).2
theorem ohF134 {FR : OhQ} {AN : OhN} (h : ohShM FR AN) : FR 1 0 34 = some (134, 0) := (h 34 (by decide)).1
theorem ohN134 {FR : OhQ} {AN : OhN} (h : ohShM FR AN) : AN 134 0 = 2100 := (h 34 (by decide)).2
theorem ohF135 {FR : OhQ} {AN : OhN} (h : ohShM FR AN) : FR 1 0 35 = some (135, 0) := (h 35 (by decide)).1
theorem ohN135 {FR : OhQ} {AN : OhN} (h : ohShM FR AN) : AN 135 0 = 2100 := (h 35 (by decide)).2
theorem ohF136 {FR : OhQ} {AN : OhN} (h : ohShM FR AN) : FR 1 0 36 = some (136, 0) := (h 36 (by decide)).1
theorem ohN136 {FR : OhQ} {AN : OhN} (h : ohShM FR AN) : AN 136 0 = 64 := (h 36 (by decide)).2
theorem ohF148 {FR : OhQ} {AN : OhN} (h : ohShM FR AN) : FR 1 0 48 = some (148, 0) := (h 48 (by decide)).1
theorem ohN148 {FR : OhQ} {AN : OhN} (h : ohShM FR AN) : AN 148 0 = 200 := (h 48 (by decide)).2
theorem ohF149 {FR : OhQ} {AN : OhN} (h : ohShM FR AN) : FR 1 0 49 = some (149, 0) := (h 49 (by decide)).1
theorem ohN149 {FR : OhQ} {AN : OhN} (h : ohShM FR AN) : AN 149 0 = 200 := (h 49 (by decide)).2
theorem ohF150 {FR : OhQ} {AN : OhN} (h : ohShM FR AN) : FR 1 0 50 = some (150, 0) := (h 50 (by decide)).1
theorem ohN150 {FR : OhQ} {AN : OhN} (h : ohShM FR AN) : AN 150 0 = 200 := (h 50 (by decide)).2
theorem ohF151 {FR : OhQ} {AN : OhN} (h : ohShM FR AN) : FR 1 0 51 = some (151, 0) := (h 51 (by decide)).1
theorem ohN151 {FR : OhQ} {AN : OhN} (h : ohShM FR AN) : AN 151 0 = 200 := (h 51 (by decide)).2
theorem ohF152 {FR : OhQ} {AN : OhN} (h : ohShM FR AN) : FR 1 0 52 = some (152, 0) := (h 52 (by decide)).1
theorem ohN152 {FR : OhQ} {AN : OhN} (h : ohShM FR AN) : AN 152 0 = 60 := (h 52 (by decide)).2
theorem ohF153 {FR : OhQ} {AN : OhN} (h : ohShM FR AN) : FR 1 0 53 = some (153, 0) := (h 53 (by decide)).1
theorem ohN153 {FR : OhQ} {AN : OhN} (h : ohShM FR AN) : AN 153 0 = 60 := (h 53 (by decide)).2
theorem ohF154 {FR : OhQ} {AN : OhN} (h : ohShM FR AN) : FR 1 0 54 = some (154, 0) := (h 54 (by decide)).1
theorem ohN154 {FR : OhQ} {AN : OhN} (h : ohShM FR AN) : AN 154 0 = 60 := (h 54 (by decide)).2
theorem ohF155 {FR : OhQ} {AN : OhN} (h : ohShM FR AN) : FR 1 0 55 = some (155, 0) := (h 55 (by decide)).1
theorem ohN155 {FR : OhQ} {AN : OhN} (h : ohShM FR AN) : AN 155 0 = 60 := (h 55 (by decide)).2
theorem ohF156 {FR : OhQ} {AN : OhN} (h : ohShM FR AN) : FR 1 0 56 = some (156, 0) := (h 56 (by decide)).1
theorem ohN156 {FR : OhQ} {AN : OhN} (h : ohShM FR AN) : AN 156 0 = 400 := (h 56 (by decide)).2
theorem ohF157 {FR : OhQ} {AN : OhN} (h : ohShM FR AN) : FR 1 0 57 = some (157, 0) := (h 57 (by decide)).1
theorem ohN157 {FR : OhQ} {AN : OhN} (h : ohShM FR AN) : AN 157 0 = 400 := (h 57 (by decide)).2
theorem ohF158 {FR : OhQ} {AN : OhN} (h : ohShM FR AN) : FR 1 0 58 = some (158, 0) := (h 58 (by decide)).1
theorem ohN158 {FR : OhQ} {AN : OhN} (h : ohShM FR AN) : AN 158 0 = 400 := (h 58 (by decide)).2
theorem ohF159 {FR : OhQ} {AN : OhN} (h : ohShM FR AN) : FR 1 0 59 = some (159, 0) := (h 59 (by decide)).1
theorem ohN159 {FR : OhQ} {AN : OhN} (h : ohShM FR AN) : AN 159 0 = 400 := (h 59 (by decide)).2
theorem ohF160 {FR : OhQ} {AN : OhN} (h : ohShM FR AN) : FR 1 0 60 = some (160, 0) := (h 60 (by decide)).1
theorem ohN160 {FR : OhQ} {AN : OhN} (h : ohShM FR AN) : AN 160 0 = 66 := (h 60 (by decide)).2
theorem ohF161 {FR : OhQ} {AN : OhN} (h : ohShM FR AN) : FR 1 0 61 = some (161, 0) := (h 61 (by decide)).1
theorem ohN161 {FR : OhQ} {AN : OhN} (h : ohShM FR AN) : AN 161 0 = 66 := (h 61 (by decide)).2
theorem ohF162 {FR : OhQ} {AN : OhN} (h : ohShM FR AN) : FR 1 0 62 = some (162, 0) := (h 62 (by decide)).1
theorem ohN162 {FR : OhQ} {AN : OhN} (h : ohShM FR AN) : AN 162 0 = 66 := (h 62 (by decide)).2
theorem ohF163 {FR : OhQ} {AN : OhN} (h : ohShM FR AN) : FR 1 0 63 = some (163, 0) := (h 63 (by decide)).1
theorem ohN163 {FR : OhQ} {AN : OhN} (h : ohShM FR AN) : AN 163 0 = 66 := (h 63 (by decide)).2
theorem ohF164 {FR : OhQ} {AN : OhN} (h : ohShM FR AN) : FR 1 0 64 = some (164, 0) := (h 64 (by decide)).1
theorem ohN164 {FR : OhQ} {AN : OhN} (h : ohShM FR AN) : AN 164 0 = 66 := (h 64 (by decide)).2
theorem ohF165 {FR : OhQ} {AN : OhN} (h : ohShM FR AN) : FR 1 0 65 = some (165, 0) := (h 65 (by decide)).1
theorem ohN165 {FR : OhQ} {AN : OhN} (h : ohShM FR AN) : AN 165 0 = 66 := (h 65 (by decide)).2
theorem ohF166 {FR : OhQ} {AN : OhN} (h : ohShM FR AN) : FR 1 0 66 = some (166, 0) := (h 66 (by decide)).1
theorem ohN166 {FR : OhQ} {AN : OhN} (h : ohShM FR AN) : AN 166 0 = 400 := (h 66 (by decide)).2
theorem ohF172 {FR : OhQ} {AN : OhN} (h : ohShM FR AN) : FR 1 0 72 = some (172, 0) := (h 72 (by decide)).1
theorem ohN172 {FR : OhQ} {AN : OhN} (h : ohShM FR AN) : AN 172 0 = 528 := (h 72 (by decide)).2
theorem ohF173 {FR : OhQ} {AN : OhN} (h : ohShM FR AN) : FR 1 0 73 = some (173, 0) := (h 73 (by decide)).1
theorem ohN173 {FR : OhQ} {AN : OhN} (h : ohShM FR AN) : AN 173 0 = 528 := (h 73 (by decide)).2
theorem ohF174 {FR : OhQ} {AN : OhN} (h : ohShM FR AN) : FR 1 0 74 = some (174, 0) := (h 74 (by decide)).1
theorem ohN174 {FR : OhQ} {AN : OhN} (h : ohShM FR AN) : AN 174 0 = 528 := (h 74 (by decide)).2
theorem ohF175 {FR : OhQ} {AN : OhN} (h : ohShM FR AN) : FR 1 0 75 = some (175, 0) := (h 75 (by decide)).1
theorem ohN175 {FR : OhQ} {AN : OhN} (h : ohShM FR AN) : AN 175 0 = 66 := (h 75 (by decide)).2
theorem ohF176 {FR : OhQ} {AN : OhN} (h : ohShM FR AN) : FR 1 0 76 = some (176, 0) := (h 76 (by decide)).1
theorem ohN176 {FR : OhQ} {AN : OhN} (h : ohShM FR AN) : AN 176 0 = 66 := (h 76 (by decide)).2
theorem ohF177 {FR : OhQ} {AN : OhN} (h : ohShM FR AN) : FR 1 0 77 = some (177, 0) := (h 77 (by decide)).1
theorem ohN177 {FR : OhQ} {AN : OhN} (h : ohShM FR AN) : AN 177 0 = 66 := (h 77 (by decide)).2
theorem ohF179 {FR : OhQ} {AN : OhN} (h : ohShM FR AN) : FR 1 0 79 = some (179, 0) := (h 79 (by decide)).1
theorem ohN179 {FR : OhQ} {AN : OhN} (h : ohShM FR AN) : AN 179 0 = 64 := (h 79 (by decide)).2
theorem ohF180 {FR : OhQ} {AN : OhN} (h : ohShM FR AN) : FR 1 0 80 = some (180, 0) := (h 80 (by decide)).1
theorem ohN180 {FR : OhQ} {AN : OhN} (h : ohShM FR AN) : AN 180 0 = 625 := (h 80 (by decide)).2
theorem ohF181 {FR : OhQ} {AN : OhN} (h : ohShM FR AN) : FR 1 0 81 = some (181, 0) := (h 81 (by decide)).1
theorem ohN181 {FR : OhQ} {AN : OhN} (h : ohShM FR AN) : AN 181 0 = 625 := (h 81 (by decide)).2
theorem ohF182 {FR : OhQ} {AN : OhN} (h : ohShM FR AN) : FR 1 0 82 = some (182, 0) := (h 82 (by decide)).1
theorem ohN182 {FR : OhQ} {AN : OhN} (h : ohShM FR AN) : AN 182 0 = 721 := (h 82 (by decide)).2
theorem ohF183 {FR : OhQ} {AN : OhN} (h : ohShM FR AN) : FR 1 0 83 = some (183, 0) := (h 83 (by decide)).1
theorem ohN183 {FR : OhQ} {AN : OhN} (h : ohShM FR AN) : AN 183 0 = 66 := (h 83 (by decide)).2
theorem ohF184 {FR : OhQ} {AN : OhN} (h : ohShM FR AN) : FR 1 0 84 = some (184, 0) := (h 84 (by decide)).1
theorem ohN184 {FR : OhQ} {AN : OhN} (h : ohShM FR AN) : AN 184 0 = 5200 := (h 84 (by decide)).2
theorem ohF185 {FR : OhQ} {AN : OhN} (h : ohShM FR AN) : FR 1 0 85 = some (185, 0) := (h 85 (by decide)).1
theorem ohN185 {FR : OhQ} {AN : OhN} (h : ohShM FR AN) : AN 185 0 = 5200 := (h 85 (by decide)).2
theorem ohF186 {FR : OhQ} {AN : OhN} (h : ohShM FR AN) : FR 1 0 86 = some (186, 0) := (h 86 (by decide)).1
theorem ohN186 {FR : OhQ} {AN : OhN} (h : ohShM FR AN) : AN 186 0 = 5200 := (h 86 (by decide)).2
theorem ohF187 {FR : OhQ} {AN : OhN} (h : ohShM FR AN) : FR 1 0 87 = some (187, 0) := (h 87 (by decide)).1
theorem ohN187 {FR : OhQ} {AN : OhN} (h : ohShM FR AN) : AN 187 0 = 9504 := (h 87 (by decide)).2
theorem ohF190 {FR : OhQ} {AN : OhN} (h : ohShM FR AN) : FR 1 0 90 = some (190, 0) := (h 90 (by decide)).1
theorem ohN190 {FR : OhQ} {AN : OhN} (h : ohShM FR AN) : AN 190 0 = 5200 := (h 90 (by decide)).2
theorem ohF191 {FR : OhQ} {AN : OhN} (h : ohShM FR AN) : FR 1 0 91 = some (191, 0) := (h 91 (by decide)).1
theorem ohN191 {FR : OhQ} {AN : OhN} (h : ohShM FR AN) : AN 191 0 = 5200 := (h 91 (by decide)).2
theorem ohF192 {FR : OhQ} {AN : OhN} (h : ohShM FR AN) : FR 1 0 92 = some (192, 0) := (h 92 (by decide)).1
theorem ohN192 {FR : OhQ} {AN : OhN} (h : ohShM FR AN) : AN 192 0 = 5200 := (h 92 (by decide)).2
theorem ohF193 {FR : OhQ} {AN : OhN} (h : ohShM FR AN) : FR 1 0 93 = some (193, 0) := (h 93 (by decide)).1
theorem ohN193 {FR : OhQ} {AN : OhN} (h : ohShM FR AN) : AN 193 0 = 6 := (h 93 (by decide)).2
theorem ohF194 {FR : OhQ} {AN : OhN} (h : ohShM FR AN) : FR 1 0 94 = some (194, 0) := (h 94 (by decide)).1
theorem ohN194 {FR : OhQ} {AN : OhN} (h : ohShM FR AN) : AN 194 0 = 6 := (h 94 (by decide)).2
theorem ohF195 {FR : OhQ} {AN : OhN} (h : ohShM FR AN) : FR 1 0 95 = some (195, 0) := (h 95 (by decide)).1
theorem ohN195 {FR : OhQ} {AN : OhN} (h : ohShM FR AN) : AN 195 0 = 6 := (h 95 (by decide)).2
theorem ohF196 {FR : OhQ} {AN : OhN} (h : ohShM FR AN) : FR 1 0 96 = some (196, 0) := (h 96 (by decide)).1
theorem ohN196 {FR : OhQ} {AN : OhN} (h : ohShM FR AN) : AN 196 0 = 6 := (h 96 (by decide)).2
theorem ohF300 {FR AR : OhQ} {AN : OhN} (h : ohShH FR AR AN) : FR 0 0 0 = some (300, 0) := h.1 0 (by decide)
theorem ohN300 {FR AR : OhQ} {AN : OhN} (h : ohShH FR AR AN) : AN 300 0 = 340 := h.2.1 0 (by decide)
theorem ohF307 {FR AR : OhQ} {AN : OhN} (h : ohShH FR AR AN) : FR 0 0 7 = some (307, 0) := h.1 7 (by decide)
theorem ohN307 {FR AR : OhQ} {AN : OhN} (h : ohShH FR AR AN) : AN 307 0 = 4 := h.2.1 7 (by decide)
theorem ohF308 {FR AR : OhQ} {AN : OhN} (h : ohShH FR AR AN) : FR 0 0 8 = some (308, 0) := h.1 8 (by decide)
theorem ohN308 {FR AR : OhQ} {AN : OhN} (h : ohShH FR AR AN) : AN 308 0 = 4 := h.2.1 8 (by decide)
theorem ohF309 {FR AR : OhQ} {AN : OhN} (h : ohShH FR AR AN) : FR 0 0 9 = some (309, 0) := h.1 9 (by decide)
theorem ohF310 {FR AR : OhQ} {AN : OhN} (h : ohShH FR AR AN) : FR 0 0 10 = some (310, 0) := h.1 10 (by decide)
theorem ohF311 {FR AR : OhQ} {AN : OhN} (h : ohShH FR AR AN) : FR 0 0 11 = some (311, 0) := h.1 11 (by decide)
theorem ohF312 {FR AR : OhQ} {AN : OhN} (h : ohShH FR AR AN) : FR 0 0 12 = some (312, 0) := h.1 12 (by decide)
theorem ohF313 {FR AR : OhQ} {AN : OhN} (h : ohShH FR AR AN) : FR 0 0 13 = some (313, 0) := h.1 13 (by decide)
theorem ohF314 {FR AR : OhQ} {AN : OhN} (h : ohShH FR AR AN) : FR 0 0 14 = some (314, 0) := h.1 14 (by decide)
theorem ohF315 {FR AR : OhQ} {AN : OhN} (h : ohShH FR AR AN) : FR 0 0 15 = some (315, 0) := h.1 15 (by decide)
theorem ohF316 {FR AR : OhQ} {AN : OhN} (h : ohShH FR AR AN) : FR 0 0 16 = some (316, 0) := h.1 16 (by decide)
theorem ohN316 {FR AR : OhQ} {AN : OhN} (h : ohShH FR AR AN) : AN 316 0 = 66 := h.2.1 16 (by decide)
theorem ohF319 {FR AR : OhQ} {AN : OhN} (h : ohShH FR AR AN) : FR 0 0 19 = some (319, 0) := h.1 19 (by decide)
theorem ohN319 {FR AR : OhQ} {AN : OhN} (h : ohShH FR AR AN) : AN 319 0 = 66 := h.2.1 19 (by decide)
theorem ohF320 {FR AR : OhQ} {AN : OhN} (h : ohShH FR AR AN) : FR 0 0 20 = some (320, 0) := h.1 20 (by decide)
theorem ohN320 {FR AR : OhQ} {AN : OhN} (h : ohShH FR AR AN) : AN 320 0 = 66 := h.2.1 20 (by decide)
theorem ohF321 {FR AR : OhQ} {AN : OhN} (h : ohShH FR AR AN) : FR 0 0 21 = some (321, 0) := h.1 21 (by decide)
theorem ohN321 {FR AR : OhQ} {AN : OhN} (h : ohShH FR AR AN) : AN 321 0 = 66 := h.2.1 21 (by decide)
theorem ohF322 {FR AR : OhQ} {AN : OhN} (h : ohShH FR AR AN) : FR 0 0 22 = some (322, 0) := h.1 22 (by decide)
theorem ohN322 {FR AR : OhQ} {AN : OhN} (h : ohShH FR AR AN) : AN 322 0 = 66 := h.2.1 22 (by decide)
theorem ohF323 {FR AR : OhQ} {AN : OhN} (h : ohShH FR AR AN) : FR 0 0 23 = some (323, 0) := h.1 23 (by decide)
theorem ohN323 {FR AR : OhQ} {AN : OhN} (h : ohShH FR AR AN) : AN 323 0 = 120 := h.2.1 23 (by decide)
theorem ohF324 {FR AR : OhQ} {AN : OhN} (h : ohShH FR AR AN) : FR 0 0 24 = some (324, 0) := h.1 24 (by decide)
theorem ohN324 {FR AR : OhQ} {AN : OhN} (h : ohShH FR AR AN) : AN 324 0 = 120 := h.2.1 24 (by decide)
theorem ohF325 {FR AR : OhQ} {AN : OhN} (h : ohShH FR AR AN) : FR 0 0 25 = some (325, 0) := h.1 25 (by decide)
theorem ohN325 {FR AR : OhQ} {AN : OhN} (h : ohShH FR AR AN) : AN 325 0 = 720 := h.2.1 25 (by decide)
theorem ohF327 {FR AR : OhQ} {AN : OhN} (h : ohShH FR AR AN) : FR 0 0 27 = some (327, 0) := h.1 27 (by decide)
theorem ohF328 {FR AR : OhQ} {AN : OhN} (h : ohShH FR AR AN) : FR 0 0 28 = some (328, 0) := h.1 28 (by decide)
theorem ohN328 {FR AR : OhQ} {AN : OhN} (h : ohShH FR AR AN) : AN 328 0 = 66 := h.2.1 28 (by decide)
theorem ohF329 {FR AR : OhQ} {AN : OhN} (h : ohShH FR AR AN) : FR 0 0 29 = some (329, 0) := h.1 29 (by decide)
theorem ohN329 {FR AR : OhQ} {AN : OhN} (h : ohShH FR AR AN) : AN 329 0 = 6 := h.2.1 29 (by decide)
theorem ohF330 {FR AR : OhQ} {AN : OhN} (h : ohShH FR AR AN) : FR 0 0 30 = some (330, 0) := h.1 30 (by decide)
theorem ohN330 {FR AR : OhQ} {AN : OhN} (h : ohShH FR AR AN) : AN 330 0 = 6 := h.2.1 30 (by decide)
theorem ohA319 {FR AR : OhQ} {AN : OhN} (h : ohShH FR AR AN) {i : Nat} (hi : i < 66) : AR 319 0 i = some (419, i) := (h.2.2.1 19 (by decide) i hi).1
theorem ohM419 {FR AR : OhQ} {AN : OhN} (h : ohShH FR AR AN) {i : Nat} (hi : i < 66) : AN 419 i = 8 := (h.2.2.1 19 (by decide) i hi).2
theorem ohA320 {FR AR : OhQ} {AN : OhN} (h : ohShH FR AR AN) {i : Nat} (hi : i < 66) : AR 320 0 i = some (420, i) := (h.2.2.1 20 (by decide) i hi).1
theorem ohM420 {FR AR : OhQ} {AN : OhN} (h : ohShH FR AR AN) {i : Nat} (hi : i < 66) : AN 420 i = 8 := (h.2.2.1 20 (by decide) i hi).2
theorem ohA321 {FR AR : OhQ} {AN : OhN} (h : ohShH FR AR AN) {i : Nat} (hi : i < 66) : AR 321 0 i = some (421, i) := (h.2.2.1 21 (by decide) i hi).1
theorem ohM421 {FR AR : OhQ} {AN : OhN} (h : ohShH FR AR AN) {i : Nat} (hi : i < 66) : AN 421 i = 8 := (h.2.2.1 21 (by decide) i hi).2
theorem ohA322 {FR AR : OhQ} {AN : OhN} (h : ohShH FR AR AN) {i : Nat} (hi : i < 66) : AR 322 0 i = some (422, i) := (h.2.2.1 22 (by decide) i hi).1
theorem ohM422 {FR AR : OhQ} {AN : OhN} (h : ohShH FR AR AN) {i : Nat} (hi : i < 66) : AN 422 i = 9 := (h.2.2.1 22 (by decide) i hi).2
theorem ohA328 {FR AR : OhQ} {AN : OhN} (h : ohShH FR AR AN) {i : Nat} (hi : i < 66) : AR 328 0 i = some (428, i) := (h.2.2.1 28 (by decide) i hi).1
theorem ohM428 {FR AR : OhQ} {AN : OhN} (h : ohShH FR AR AN) {i : Nat} (hi : i < 66) : AN 428 i = 9 := (h.2.2.1 28 (by decide) i hi).2
theorem ohF60 {FR AR : OhQ} {AN : OhN} (h : ohShW FR AR AN) : FR 315 0 0 = some (60, 0) := h.1.1
theorem ohN60 {FR AR : OhQ} {AN : OhN} (h : ohShW FR AR AN) : AN 60 0 = 120 := h.2.1.1
theorem ohF61 {FR AR : OhQ} {AN : OhN} (h : ohShW FR AR AN) : FR 315 0 1 = some (61, 0) := h.1.2.1
theorem ohN61 {FR AR : OhQ} {AN : OhN} (h : ohShW FR AR AN) : AN 61 0 = 120 := h.2.1.2.1
theorem ohF62 {FR AR : OhQ} {AN : OhN} (h : ohShW FR AR AN) : FR 315 0 2 = some (62, 0) := h.1.2.2
theorem ohN62 {FR AR : OhQ} {AN : OhN} (h : ohShW FR AR AN) : AN 62 0 = 120 := h.2.1.2.2
theorem ohA62 {FR AR : OhQ} {AN : OhN} (h : ohShW FR AR AN) {i : Nat} (hi : i < 120) : AR 62 0 i = some (63, i) := (h.2.2 i hi).1
theorem ohM63 {FR AR : OhQ} {AN : OhN} (h : ohShW FR AR AN) {i : Nat} (hi : i < 120) : AN 63 i = 3 := (h.2.2 i hi).2
