/-! MIRRORS of methods that make things: printed by gen/mk_alloc.py -/
abbrev iX4_init : OhM := (yX4_init, cX4_init, 1, none, [])
theorem ok_X4_init : oOk iX4_init 0 := ⟨by decide, by decide, by decide +kernel⟩
set_option maxHeartbeats 4000000 in
set_option maxRecDepth 100000 in
noncomputable def mX4_init (FI : OhI) (FR : OhQ) (AI : OhI) (AN : OhN) (C : OhC) : Option ((OhI × OhQ × OhI × OhN × OhC) × (Nat × Nat)) :=
  oLet (sA AI 101 (C 101) (fun _ => 0)) fun AI1 =>
  oLet (sA AN 101 (C 101) (340 : Int32).toNatClampNeg) fun AN1 =>
  oLet (uA C 101 (C 101 + 1)) fun C1 =>
  oCost (1, (340 : Int32).toNatClampNeg) <|
  oLet (sA FR 1 0 (uA (FR 1 0) 1 (some (101, C 101)))) fun FR2 =>
  oLet (sA AI1 107 (C1 107) (fun _ => 0)) fun AI3 =>
  oLet (sA AN1 107 (C1 107) (9 : Int32).toNatClampNeg) fun AN3 =>
  oLet (uA C1 107 (C1 107 + 1)) fun C3 =>
  oCost (1, (9 : Int32).toNatClampNeg) <|
  oLet (sA FR2 1 0 (uA (FR2 1 0) 7 (some (107, C1 107)))) fun FR4 =>
  oLet (sA AI3 108 (C3 108) (fun _ => 0)) fun AI5 =>
  oLet (sA AN3 108 (C3 108) (9 : Int32).toNatClampNeg) fun AN5 =>
  oLet (uA C3 108 (C3 108 + 1)) fun C5 =>
  oCost (1, (9 : Int32).toNatClampNeg) <|
  oLet (sA FR4 1 0 (uA (FR4 1 0) 8 (some (108, C3 108)))) fun FR6 =>
  oLet (sA AI5 109 (C5 109) (fun _ => 0)) fun AI7 =>
  oLet (sA AN5 109 (C5 109) (9 : Int32).toNatClampNeg) fun AN7 =>
  oLet (uA C5 109 (C5 109 + 1)) fun C7 =>
  oCost (1, (9 : Int32).toNatClampNeg) <|
  oLet (sA FR6 1 0 (uA (FR6 1 0) 9 (some (109, C5 109)))) fun FR8 =>
  oLet (sA AI7 110 (C7 110) (fun _ => 0)) fun AI9 =>
  oLet (sA AN7 110 (C7 110) (36 : Int32).toNatClampNeg) fun AN9 =>
  oLet (uA C7 110 (C7 110 + 1)) fun C9 =>
  oCost (1, (36 : Int32).toNatClampNeg) <|
  oLet (sA FR8 1 0 (uA (FR8 1 0) 10 (some (110, C7 110)))) fun FR10 =>
  oLet (sA AI9 111 (C9 111) (fun _ => 0)) fun AI11 =>
  oLet (sA AN9 111 (C9 111) (9 : Int32).toNatClampNeg) fun AN11 =>
  oLet (uA C9 111 (C9 111 + 1)) fun C11 =>
  oCost (1, (9 : Int32).toNatClampNeg) <|
  oLet (sA FR10 1 0 (uA (FR10 1 0) 11 (some (111, C9 111)))) fun FR12 =>
  oLet (sA AI11 112 (C11 112) (fun _ => 0)) fun AI13 =>
  oLet (sA AN11 112 (C11 112) (72 : Int32).toNatClampNeg) fun AN13 =>
  oLet (uA C11 112 (C11 112 + 1)) fun C13 =>
  oCost (1, (72 : Int32).toNatClampNeg) <|
  oLet (sA FR12 1 0 (uA (FR12 1 0) 12 (some (112, C11 112)))) fun FR14 =>
  oLet (sA AI13 113 (C13 113) (fun _ => 0)) fun AI15 =>
  oLet (sA AN13 113 (C13 113) (72 : Int32).toNatClampNeg) fun AN15 =>
  oLet (uA C13 113 (C13 113 + 1)) fun C15 =>
  oCost (1, (72 : Int32).toNatClampNeg) <|
  oLet (sA FR14 1 0 (uA (FR14 1 0) 13 (some (113, C13 113)))) fun FR16 =>
  oLet (sA AI15 114 (C15 114) (fun _ => 0)) fun AI17 =>
  oLet (sA AN15 114 (C15 114) (72 : Int32).toNatClampNeg) fun AN17 =>
  oLet (uA C15 114 (C15 114 + 1)) fun C17 =>
  oCost (1, (72 : Int32).toNatClampNeg) <|
  oLet (sA FR16 1 0 (uA (FR16 1 0) 14 (some (114, C15 114)))) fun FR18 =>
  oLet (sA AI17 115 (C17 115) (fun _ => 0)) fun AI19 =>
  oLet (sA AN17 115 (C17 115) (72 : Int32).toNatClampNeg) fun AN19 =>
  oLet (uA C17 115 (C17 115 + 1)) fun C19 =>
  oCost (1, (72 : Int32).toNatClampNeg) <|
  oLet (sA FR18 1 0 (uA (FR18 1 0) 15 (some (115, C17 115)))) fun FR20 =>
  oLet (sA AI19 116 (C19 116) (fun _ => 0)) fun AI21 =>
  oLet (sA AN19 116 (C19 116) (9 : Int32).toNatClampNeg) fun AN21 =>
  oLet (uA C19 116 (C19 116 + 1)) fun C21 =>
  oCost (1, (9 : Int32).toNatClampNeg) <|
  oLet (sA FR20 1 0 (uA (FR20 1 0) 16 (some (116, C19 116)))) fun FR22 =>
  oLet (sA AI21 117 (C21 117) (fun _ => 0)) fun AI23 =>
  oLet (sA AN21 117 (C21 117) (20 : Int32).toNatClampNeg) fun AN23 =>
  oLet (uA C21 117 (C21 117 + 1)) fun C23 =>
  oCost (1, (20 : Int32).toNatClampNeg) <|
  oLet (sA FR22 1 0 (uA (FR22 1 0) 17 (some (117, C21 117)))) fun FR24 =>
  oLet (sA AI23 118 (C23 118) (fun _ => 0)) fun AI25 =>
  oLet (sA AN23 118 (C23 118) (20 : Int32).toNatClampNeg) fun AN25 =>
  oLet (uA C23 118 (C23 118 + 1)) fun C25 =>
  oCost (1, (20 : Int32).toNatClampNeg) <|
  oLet (sA FR24 1 0 (uA (FR24 1 0) 18 (some (118, C23 118)))) fun FR26 =>
  oLet (sA AI25 119 (C25 119) (fun _ => 0)) fun AI27 =>
  oLet (sA AN25 119 (C25 119) (20 : Int32).toNatClampNeg) fun AN27 =>
  oLet (uA C25 119 (C25 119 + 1)) fun C27 =>
  oCost (1, (20 : Int32).toNatClampNeg) <|
  oLet (sA FR26 1 0 (uA (FR26 1 0) 19 (some (119, C25 119)))) fun FR28 =>
  oLet (sA AI27 120 (C27 120) (fun _ => 0)) fun AI29 =>
  oLet (sA AN27 120 (C27 120) (8 : Int32).toNatClampNeg) fun AN29 =>
  oLet (uA C27 120 (C27 120 + 1)) fun C29 =>
  oCost (1, (8 : Int32).toNatClampNeg) <|
  oLet (sA FR28 1 0 (uA (FR28 1 0) 20 (some (120, C27 120)))) fun FR30 =>
  oLet (sA FI 1 0 (uA (FI 1 0) 23 (24 : Int32))) fun FI31 =>
  oLet (sA FI31 1 0 (uA (FI31 1 0) 24 (168 : Int32))) fun FI32 =>
  oLet (sA AI29 125 (C29 125) (fun _ => 0)) fun AI33 =>
  oLet (sA AN29 125 (C29 125) (84 : Int32).toNatClampNeg) fun AN33 =>
  oLet (uA C29 125 (C29 125 + 1)) fun C33 =>
  oCost (1, (84 : Int32).toNatClampNeg) <|
  oLet (sA FR30 1 0 (uA (FR30 1 0) 25 (some (125, C29 125)))) fun FR34 =>
  oLet (sA AI33 126 (C33 126) (fun _ => 0)) fun AI35 =>
  oLet (sA AN33 126 (C33 126) (21 : Int32).toNatClampNeg) fun AN35 =>
  oLet (uA C33 126 (C33 126 + 1)) fun C35 =>
  oCost (1, (21 : Int32).toNatClampNeg) <|
  oLet (sA FR34 1 0 (uA (FR34 1 0) 26 (some (126, C33 126)))) fun FR36 =>
  oLet (sA AI35 127 (C35 127) (fun _ => 0)) fun AI37 =>
  oLet (sA AN35 127 (C35 127) (126 : Int32).toNatClampNeg) fun AN37 =>
  oLet (uA C35 127 (C35 127 + 1)) fun C37 =>
  oCost (1, (126 : Int32).toNatClampNeg) <|
  oLet (sA FR36 1 0 (uA (FR36 1 0) 27 (some (127, C35 127)))) fun FR38 =>
  oLet (sA AI37 128 (C37 128) (fun _ => 0)) fun AI39 =>
  oLet (sA AN37 128 (C37 128) (126 : Int32).toNatClampNeg) fun AN39 =>
  oLet (uA C37 128 (C37 128 + 1)) fun C39 =>
  oCost (1, (126 : Int32).toNatClampNeg) <|
  oLet (sA FR38 1 0 (uA (FR38 1 0) 28 (some (128, C37 128)))) fun FR40 =>
  oLet (sA AI39 129 (C39 129) (fun _ => 0)) fun AI41 =>
  oLet (sA AN39 129 (C39 129) (21 : Int32).toNatClampNeg) fun AN41 =>
  oLet (uA C39 129 (C39 129 + 1)) fun C41 =>
  oCost (1, (21 : Int32).toNatClampNeg) <|
  oLet (sA FR40 1 0 (uA (FR40 1 0) 29 (some (129, C39 129)))) fun FR42 =>
  oLet (sA AI41 130 (C41 130) (fun _ => 0)) fun AI43 =>
  oLet (sA AN41 130 (C41 130) (168 : Int32).toNatClampNeg) fun AN43 =>
  oLet (uA C41 130 (C41 130 + 1)) fun C43 =>
  oCost (1, (168 : Int32).toNatClampNeg) <|
  oLet (sA FR42 1 0 (uA (FR42 1 0) 30 (some (130, C41 130)))) fun FR44 =>
  oLet (sA AI43 131 (C43 131) (fun _ => 0)) fun AI45 =>
  oLet (sA AN43 131 (C43 131) (168 : Int32).toNatClampNeg) fun AN45 =>
  oLet (uA C43 131 (C43 131 + 1)) fun C45 =>
  oCost (1, (168 : Int32).toNatClampNeg) <|
  oLet (sA FR44 1 0 (uA (FR44 1 0) 31 (some (131, C43 131)))) fun FR46 =>
  oLet (sA AI45 132 (C45 132) (fun _ => 0)) fun AI47 =>
  oLet (sA AN45 132 (C45 132) (168 : Int32).toNatClampNeg) fun AN47 =>
  oLet (uA C45 132 (C45 132 + 1)) fun C47 =>
  oCost (1, (168 : Int32).toNatClampNeg) <|
  oLet (sA FR46 1 0 (uA (FR46 1 0) 32 (some (132, C45 132)))) fun FR48 =>
  oLet (sA AI47 133 (C47 133) (fun _ => 0)) fun AI49 =>
  oLet (sA AN47 133 (C47 133) (2100 : Int32).toNatClampNeg) fun AN49 =>
  oLet (uA C47 133 (C47 133 + 1)) fun C49 =>
  oCost (1, (2100 : Int32).toNatClampNeg) <|
  oLet (sA FR48 1 0 (uA (FR48 1 0) 33 (some (133, C47 133)))) fun FR50 =>
  oLet (sA AI49 134 (C49 134) (fun _ => 0)) fun AI51 =>
  oLet (sA AN49 134 (C49 134) (2100 : Int32).toNatClampNeg) fun AN51 =>
  oLet (uA C49 134 (C49 134 + 1)) fun C51 =>
  oCost (1, (2100 : Int32).toNatClampNeg) <|
  oLet (sA FR50 1 0 (uA (FR50 1 0) 34 (some (134, C49 134)))) fun FR52 =>
  oLet (sA AI51 135 (C51 135) (fun _ => 0)) fun AI53 =>
  oLet (sA AN51 135 (C51 135) (2100 : Int32).toNatClampNeg) fun AN53 =>
  oLet (uA C51 135 (C51 135 + 1)) fun C53 =>
  oCost (1, (2100 : Int32).toNatClampNeg) <|
  oLet (sA FR52 1 0 (uA (FR52 1 0) 35 (some (135, C51 135)))) fun FR54 =>
  oLet (sA AI53 136 (C53 136) (fun _ => 0)) fun AI55 =>
  oLet (sA AN53 136 (C53 136) (64 : Int32).toNatClampNeg) fun AN55 =>
  oLet (uA C53 136 (C53 136 + 1)) fun C55 =>
  oCost (1, (64 : Int32).toNatClampNeg) <|
  oLet (sA FR54 1 0 (uA (FR54 1 0) 36 (some (136, C53 136)))) fun FR56 =>
  oLet (sA AI55 148 (C55 148) (fun _ => 0)) fun AI57 =>
  oLet (sA AN55 148 (C55 148) (200 : Int32).toNatClampNeg) fun AN57 =>
  oLet (uA C55 148 (C55 148 + 1)) fun C57 =>
  oCost (1, (200 : Int32).toNatClampNeg) <|
  oLet (sA FR56 1 0 (uA (FR56 1 0) 48 (some (148, C55 148)))) fun FR58 =>
  oLet (sA AI57 149 (C57 149) (fun _ => 0)) fun AI59 =>
  oLet (sA AN57 149 (C57 149) (200 : Int32).toNatClampNeg) fun AN59 =>
  oLet (uA C57 149 (C57 149 + 1)) fun C59 =>
  oCost (1, (200 : Int32).toNatClampNeg) <|
  oLet (sA FR58 1 0 (uA (FR58 1 0) 49 (some (149, C57 149)))) fun FR60 =>
  oLet (sA AI59 150 (C59 150) (fun _ => 0)) fun AI61 =>
  oLet (sA AN59 150 (C59 150) (200 : Int32).toNatClampNeg) fun AN61 =>
  oLet (uA C59 150 (C59 150 + 1)) fun C61 =>
  oCost (1, (200 : Int32).toNatClampNeg) <|
  oLet (sA FR60 1 0 (uA (FR60 1 0) 50 (some (150, C59 150)))) fun FR62 =>
  oLet (sA AI61 151 (C61 151) (fun _ => 0)) fun AI63 =>
  oLet (sA AN61 151 (C61 151) (200 : Int32).toNatClampNeg) fun AN63 =>
  oLet (uA C61 151 (C61 151 + 1)) fun C63 =>
  oCost (1, (200 : Int32).toNatClampNeg) <|
  oLet (sA FR62 1 0 (uA (FR62 1 0) 51 (some (151, C61 151)))) fun FR64 =>
  oLet (sA AI63 152 (C63 152) (fun _ => 0)) fun AI65 =>
  oLet (sA AN63 152 (C63 152) (60 : Int32).toNatClampNeg) fun AN65 =>
  oLet (uA C63 152 (C63 152 + 1)) fun C65 =>
  oCost (1, (60 : Int32).toNatClampNeg) <|
  oLet (sA FR64 1 0 (uA (FR64 1 0) 52 (some (152, C63 152)))) fun FR66 =>
  oLet (sA AI65 153 (C65 153) (fun _ => 0)) fun AI67 =>
  oLet (sA AN65 153 (C65 153) (60 : Int32).toNatClampNeg) fun AN67 =>
  oLet (uA C65 153 (C65 153 + 1)) fun C67 =>
  oCost (1, (60 : Int32).toNatClampNeg) <|
  oLet (sA FR66 1 0 (uA (FR66 1 0) 53 (some (153, C65 153)))) fun FR68 =>
  oLet (sA AI67 154 (C67 154) (fun _ => 0)) fun AI69 =>
  oLet (sA AN67 154 (C67 154) (60 : Int32).toNatClampNeg) fun AN69 =>
  oLet (uA C67 154 (C67 154 + 1)) fun C69 =>
  oCost (1, (60 : Int32).toNatClampNeg) <|
  oLet (sA FR68 1 0 (uA (FR68 1 0) 54 (some (154, C67 154)))) fun FR70 =>
  oLet (sA AI69 155 (C69 155) (fun _ => 0)) fun AI71 =>
  oLet (sA AN69 155 (C69 155) (60 : Int32).toNatClampNeg) fun AN71 =>
  oLet (uA C69 155 (C69 155 + 1)) fun C71 =>
  oCost (1, (60 : Int32).toNatClampNeg) <|
  oLet (sA FR70 1 0 (uA (FR70 1 0) 55 (some (155, C69 155)))) fun FR72 =>
  oLet (sA AI71 156 (C71 156) (fun _ => 0)) fun AI73 =>
  oLet (sA AN71 156 (C71 156) (400 : Int32).toNatClampNeg) fun AN73 =>
  oLet (uA C71 156 (C71 156 + 1)) fun C73 =>
  oCost (1, (400 : Int32).toNatClampNeg) <|
  oLet (sA FR72 1 0 (uA (FR72 1 0) 56 (some (156, C71 156)))) fun FR74 =>
  oLet (sA AI73 157 (C73 157) (fun _ => 0)) fun AI75 =>
  oLet (sA AN73 157 (C73 157) (400 : Int32).toNatClampNeg) fun AN75 =>
  oLet (uA C73 157 (C73 157 + 1)) fun C75 =>
  oCost (1, (400 : Int32).toNatClampNeg) <|
  oLet (sA FR74 1 0 (uA (FR74 1 0) 57 (some (157, C73 157)))) fun FR76 =>
  oLet (sA AI75 158 (C75 158) (fun _ => 0)) fun AI77 =>
  oLet (sA AN75 158 (C75 158) (400 : Int32).toNatClampNeg) fun AN77 =>
  oLet (uA C75 158 (C75 158 + 1)) fun C77 =>
  oCost (1, (400 : Int32).toNatClampNeg) <|
  oLet (sA FR76 1 0 (uA (FR76 1 0) 58 (some (158, C75 158)))) fun FR78 =>
  oLet (sA AI77 159 (C77 159) (fun _ => 0)) fun AI79 =>
  oLet (sA AN77 159 (C77 159) (400 : Int32).toNatClampNeg) fun AN79 =>
  oLet (uA C77 159 (C77 159 + 1)) fun C79 =>
  oCost (1, (400 : Int32).toNatClampNeg) <|
  oLet (sA FR78 1 0 (uA (FR78 1 0) 59 (some (159, C77 159)))) fun FR80 =>
  oLet (sA AI79 160 (C79 160) (fun _ => 0)) fun AI81 =>
  oLet (sA AN79 160 (C79 160) (66 : Int32).toNatClampNeg) fun AN81 =>
  oLet (uA C79 160 (C79 160 + 1)) fun C81 =>
  oCost (1, (66 : Int32).toNatClampNeg) <|
  oLet (sA FR80 1 0 (uA (FR80 1 0) 60 (some (160, C79 160)))) fun FR82 =>
  oLet (sA AI81 161 (C81 161) (fun _ => 0)) fun AI83 =>
  oLet (sA AN81 161 (C81 161) (66 : Int32).toNatClampNeg) fun AN83 =>
  oLet (uA C81 161 (C81 161 + 1)) fun C83 =>
  oCost (1, (66 : Int32).toNatClampNeg) <|
  oLet (sA FR82 1 0 (uA (FR82 1 0) 61 (some (161, C81 161)))) fun FR84 =>
  oLet (sA AI83 162 (C83 162) (fun _ => 0)) fun AI85 =>
  oLet (sA AN83 162 (C83 162) (66 : Int32).toNatClampNeg) fun AN85 =>
  oLet (uA C83 162 (C83 162 + 1)) fun C85 =>
  oCost (1, (66 : Int32).toNatClampNeg) <|
  oLet (sA FR84 1 0 (uA (FR84 1 0) 62 (some (162, C83 162)))) fun FR86 =>
  oLet (sA AI85 163 (C85 163) (fun _ => 0)) fun AI87 =>
  oLet (sA AN85 163 (C85 163) (66 : Int32).toNatClampNeg) fun AN87 =>
  oLet (uA C85 163 (C85 163 + 1)) fun C87 =>
  oCost (1, (66 : Int32).toNatClampNeg) <|
  oLet (sA FR86 1 0 (uA (FR86 1 0) 63 (some (163, C85 163)))) fun FR88 =>
  oLet (sA AI87 164 (C87 164) (fun _ => 0)) fun AI89 =>
  oLet (sA AN87 164 (C87 164) (66 : Int32).toNatClampNeg) fun AN89 =>
  oLet (uA C87 164 (C87 164 + 1)) fun C89 =>
  oCost (1, (66 : Int32).toNatClampNeg) <|
  oLet (sA FR88 1 0 (uA (FR88 1 0) 64 (some (164, C87 164)))) fun FR90 =>
  oLet (sA AI89 165 (C89 165) (fun _ => 0)) fun AI91 =>
  oLet (sA AN89 165 (C89 165) (66 : Int32).toNatClampNeg) fun AN91 =>
  oLet (uA C89 165 (C89 165 + 1)) fun C91 =>
  oCost (1, (66 : Int32).toNatClampNeg) <|
  oLet (sA FR90 1 0 (uA (FR90 1 0) 65 (some (165, C89 165)))) fun FR92 =>
  oLet (sA AI91 166 (C91 166) (fun _ => 0)) fun AI93 =>
  oLet (sA AN91 166 (C91 166) (400 : Int32).toNatClampNeg) fun AN93 =>
  oLet (uA C91 166 (C91 166 + 1)) fun C93 =>
  oCost (1, (400 : Int32).toNatClampNeg) <|
  oLet (sA FR92 1 0 (uA (FR92 1 0) 66 (some (166, C91 166)))) fun FR94 =>
  oLet (sA AI93 172 (C93 172) (fun _ => 0)) fun AI95 =>
  oLet (sA AN93 172 (C93 172) (528 : Int32).toNatClampNeg) fun AN95 =>
  oLet (uA C93 172 (C93 172 + 1)) fun C95 =>
  oCost (1, (528 : Int32).toNatClampNeg) <|
  oLet (sA FR94 1 0 (uA (FR94 1 0) 72 (some (172, C93 172)))) fun FR96 =>
  oLet (sA AI95 173 (C95 173) (fun _ => 0)) fun AI97 =>
  oLet (sA AN95 173 (C95 173) (528 : Int32).toNatClampNeg) fun AN97 =>
  oLet (uA C95 173 (C95 173 + 1)) fun C97 =>
  oCost (1, (528 : Int32).toNatClampNeg) <|
  oLet (sA FR96 1 0 (uA (FR96 1 0) 73 (some (173, C95 173)))) fun FR98 =>
  oLet (sA AI97 174 (C97 174) (fun _ => 0)) fun AI99 =>
  oLet (sA AN97 174 (C97 174) (528 : Int32).toNatClampNeg) fun AN99 =>
  oLet (uA C97 174 (C97 174 + 1)) fun C99 =>
  oCost (1, (528 : Int32).toNatClampNeg) <|
  oLet (sA FR98 1 0 (uA (FR98 1 0) 74 (some (174, C97 174)))) fun FR100 =>
  oLet (sA AI99 175 (C99 175) (fun _ => 0)) fun AI101 =>
  oLet (sA AN99 175 (C99 175) (66 : Int32).toNatClampNeg) fun AN101 =>
  oLet (uA C99 175 (C99 175 + 1)) fun C101 =>
  oCost (1, (66 : Int32).toNatClampNeg) <|
  oLet (sA FR100 1 0 (uA (FR100 1 0) 75 (some (175, C99 175)))) fun FR102 =>
  oLet (sA AI101 176 (C101 176) (fun _ => 0)) fun AI103 =>
  oLet (sA AN101 176 (C101 176) (66 : Int32).toNatClampNeg) fun AN103 =>
  oLet (uA C101 176 (C101 176 + 1)) fun C103 =>
  oCost (1, (66 : Int32).toNatClampNeg) <|
  oLet (sA FR102 1 0 (uA (FR102 1 0) 76 (some (176, C101 176)))) fun FR104 =>
  oLet (sA AI103 177 (C103 177) (fun _ => 0)) fun AI105 =>
  oLet (sA AN103 177 (C103 177) (66 : Int32).toNatClampNeg) fun AN105 =>
  oLet (uA C103 177 (C103 177 + 1)) fun C105 =>
  oCost (1, (66 : Int32).toNatClampNeg) <|
  oLet (sA FR104 1 0 (uA (FR104 1 0) 77 (some (177, C103 177)))) fun FR106 =>
  oLet (sA AI105 179 (C105 179) (fun _ => 0)) fun AI107 =>
  oLet (sA AN105 179 (C105 179) (64 : Int32).toNatClampNeg) fun AN107 =>
  oLet (uA C105 179 (C105 179 + 1)) fun C107 =>
  oCost (1, (64 : Int32).toNatClampNeg) <|
  oLet (sA FR106 1 0 (uA (FR106 1 0) 79 (some (179, C105 179)))) fun FR108 =>
  oLet (sA AI107 180 (C107 180) (fun _ => 0)) fun AI109 =>
  oLet (sA AN107 180 (C107 180) (625 : Int32).toNatClampNeg) fun AN109 =>
  oLet (uA C107 180 (C107 180 + 1)) fun C109 =>
  oCost (1, (625 : Int32).toNatClampNeg) <|
  oLet (sA FR108 1 0 (uA (FR108 1 0) 80 (some (180, C107 180)))) fun FR110 =>
  oLet (sA AI109 181 (C109 181) (fun _ => 0)) fun AI111 =>
  oLet (sA AN109 181 (C109 181) (625 : Int32).toNatClampNeg) fun AN111 =>
  oLet (uA C109 181 (C109 181 + 1)) fun C111 =>
  oCost (1, (625 : Int32).toNatClampNeg) <|
  oLet (sA FR110 1 0 (uA (FR110 1 0) 81 (some (181, C109 181)))) fun FR112 =>
  oLet (sA AI111 182 (C111 182) (fun _ => 0)) fun AI113 =>
  oLet (sA AN111 182 (C111 182) (721 : Int32).toNatClampNeg) fun AN113 =>
  oLet (uA C111 182 (C111 182 + 1)) fun C113 =>
  oCost (1, (721 : Int32).toNatClampNeg) <|
  oLet (sA FR112 1 0 (uA (FR112 1 0) 82 (some (182, C111 182)))) fun FR114 =>
  oLet (sA AI113 183 (C113 183) (fun _ => 0)) fun AI115 =>
  oLet (sA AN113 183 (C113 183) (66 : Int32).toNatClampNeg) fun AN115 =>
  oLet (uA C113 183 (C113 183 + 1)) fun C115 =>
  oCost (1, (66 : Int32).toNatClampNeg) <|
  oLet (sA FR114 1 0 (uA (FR114 1 0) 83 (some (183, C113 183)))) fun FR116 =>
  oLet (sA AI115 184 (C115 184) (fun _ => 0)) fun AI117 =>
  oLet (sA AN115 184 (C115 184) (5200 : Int32).toNatClampNeg) fun AN117 =>
  oLet (uA C115 184 (C115 184 + 1)) fun C117 =>
  oCost (1, (5200 : Int32).toNatClampNeg) <|
  oLet (sA FR116 1 0 (uA (FR116 1 0) 84 (some (184, C115 184)))) fun FR118 =>
  oLet (sA AI117 185 (C117 185) (fun _ => 0)) fun AI119 =>
  oLet (sA AN117 185 (C117 185) (5200 : Int32).toNatClampNeg) fun AN119 =>
  oLet (uA C117 185 (C117 185 + 1)) fun C119 =>
  oCost (1, (5200 : Int32).toNatClampNeg) <|
  oLet (sA FR118 1 0 (uA (FR118 1 0) 85 (some (185, C117 185)))) fun FR120 =>
  oLet (sA AI119 186 (C119 186) (fun _ => 0)) fun AI121 =>
  oLet (sA AN119 186 (C119 186) (5200 : Int32).toNatClampNeg) fun AN121 =>
  oLet (uA C119 186 (C119 186 + 1)) fun C121 =>
  oCost (1, (5200 : Int32).toNatClampNeg) <|
  oLet (sA FR120 1 0 (uA (FR120 1 0) 86 (some (186, C119 186)))) fun FR122 =>
  oLet (sA AI121 187 (C121 187) (fun _ => 0)) fun AI123 =>
  oLet (sA AN121 187 (C121 187) (9504 : Int32).toNatClampNeg) fun AN123 =>
  oLet (uA C121 187 (C121 187 + 1)) fun C123 =>
  oCost (1, (9504 : Int32).toNatClampNeg) <|
  oLet (sA FR122 1 0 (uA (FR122 1 0) 87 (some (187, C121 187)))) fun FR124 =>
  oLet (sA AI123 190 (C123 190) (fun _ => 0)) fun AI125 =>
  oLet (sA AN123 190 (C123 190) (5200 : Int32).toNatClampNeg) fun AN125 =>
  oLet (uA C123 190 (C123 190 + 1)) fun C125 =>
  oCost (1, (5200 : Int32).toNatClampNeg) <|
  oLet (sA FR124 1 0 (uA (FR124 1 0) 90 (some (190, C123 190)))) fun FR126 =>
  oLet (sA AI125 191 (C125 191) (fun _ => 0)) fun AI127 =>
  oLet (sA AN125 191 (C125 191) (5200 : Int32).toNatClampNeg) fun AN127 =>
  oLet (uA C125 191 (C125 191 + 1)) fun C127 =>
  oCost (1, (5200 : Int32).toNatClampNeg) <|
  oLet (sA FR126 1 0 (uA (FR126 1 0) 91 (some (191, C125 191)))) fun FR128 =>
  oLet (sA AI127 192 (C127 192) (fun _ => 0)) fun AI129 =>
  oLet (sA AN127 192 (C127 192) (5200 : Int32).toNatClampNeg) fun AN129 =>
  oLet (uA C127 192 (C127 192 + 1)) fun C129 =>
  oCost (1, (5200 : Int32).toNatClampNeg) <|
  oLet (sA FR128 1 0 (uA (FR128 1 0) 92 (some (192, C127 192)))) fun FR130 =>
  oLet (sA AI129 193 (C129 193) (fun _ => 0)) fun AI131 =>
  oLet (sA AN129 193 (C129 193) (6 : Int32).toNatClampNeg) fun AN131 =>
  oLet (uA C129 193 (C129 193 + 1)) fun C131 =>
  oCost (1, (6 : Int32).toNatClampNeg) <|
  oLet (sA FR130 1 0 (uA (FR130 1 0) 93 (some (193, C129 193)))) fun FR132 =>
  oLet (sA AI131 194 (C131 194) (fun _ => 0)) fun AI133 =>
  oLet (sA AN131 194 (C131 194) (6 : Int32).toNatClampNeg) fun AN133 =>
  oLet (uA C131 194 (C131 194 + 1)) fun C133 =>
  oCost (1, (6 : Int32).toNatClampNeg) <|
  oLet (sA FR132 1 0 (uA (FR132 1 0) 94 (some (194, C131 194)))) fun FR134 =>
  oLet (sA AI133 195 (C133 195) (fun _ => 0)) fun AI135 =>
  oLet (sA AN133 195 (C133 195) (6 : Int32).toNatClampNeg) fun AN135 =>
  oLet (uA C133 195 (C133 195 + 1)) fun C135 =>
  oCost (1, (6 : Int32).toNatClampNeg) <|
  oLet (sA FR134 1 0 (uA (FR134 1 0) 95 (some (195, C133 195)))) fun FR136 =>
  oLet (sA AI135 196 (C135 196) (fun _ => 0)) fun AI137 =>
  oLet (sA AN135 196 (C135 196) (6 : Int32).toNatClampNeg) fun AN137 =>
  oLet (uA C135 196 (C135 196 + 1)) fun C137 =>
  oCost (1, (6 : Int32).toNatClampNeg) <|
  oLet (sA FR136 1 0 (uA (FR136 1 0) 96 (some (196, C135 196)))) fun FR138 =>
  oLet (sA FI32 1 0 (uA (FI32 1 0) 100 (-1 : Int32))) fun FI139 =>
  some ((FI139, FR138, AI137, AN137, C137), (0, 0))
set_option maxHeartbeats 4000000 in
set_option maxRecDepth 100000 in
theorem x_mX4_init {G : OhG} {FI AI : OhI} {FL AL : OhL} {FR GR AR BR : OhQ} {AN : OhN} {C : OhC} {k : Nat × Nat} {Φ : OhP} {Ψ : OhX} {r : (OhI × OhQ × OhI × OhN × OhC) × (Nat × Nat)} (hm : mX4_init FI FR AI AN C = some r) (hK : Φ none (r.1.1, FL, r.1.2.1, GR, r.1.2.2.1, AL, AR, BR, r.1.2.2.2.1, r.1.2.2.2.2)) : oX G 1 iX4_init 0 [(0, vR (some (1, 0)))] [] (FI, FL, FR, GR, AI, AL, AR, BR, AN, C) (oPl r.2 k) Φ Ψ := by
  obtain ⟨r, q0⟩ := r
  unfold mX4_init at hm
  refine oX_aload_n dX4_init_0 rfl rfl ?_
  refine oX_objInit (a := (1, 0)) rfl q1707 q176 q177 dX4_init_1 (by decide) (Nat.le_of_ble_eq_true rfl) ?_
  refine oX_aload_n dX4_init_4 rfl rfl ?_
  refine oX_sipush (v := (340 : Int32)) dX4_init_5 (by decide) ?_
  obtain ⟨AI1, hAI1, hm⟩ := oLs hm
  obtain ⟨AN1, hAN1, hm⟩ := oLs hm
  obtain ⟨C1, hC1, hm⟩ := oLs hm
  refine oX_cost hm (fun qq1 hm => ?_)
  refine oX_newa2 (k := oPl qq1 k) 101 rfl q204 dX4_init_8 (by decide) (by decide) hAI1 hAN1 hC1 ?_
  obtain ⟨FR2, hFR2, hm⟩ := oLs hm
  refine oX_putF fX4_7 rfl (fun _ => rfl) oDs1 dX4_init_10 (by first | exact Or.inl ⟨_, rfl⟩ | exact Or.inr ⟨_, rfl⟩) hFR2 ?_
  refine oX_aload_n dX4_init_13 rfl rfl ?_
  refine oX_bipush (v := (9 : Int32)) dX4_init_14 (by decide) ?_
  obtain ⟨AI3, hAI3, hm⟩ := oLs hm
  obtain ⟨AN3, hAN3, hm⟩ := oLs hm
  obtain ⟨C3, hC3, hm⟩ := oLs hm
  refine oX_cost hm (fun qq3 hm => ?_)
  refine oX_newa0 (k := oPl qq3 k) 107 rfl q205 dX4_init_16 (by decide) (by decide) hAI3 hAN3 hC3 ?_
  obtain ⟨FR4, hFR4, hm⟩ := oLs hm
  refine oX_putF fX4_13 rfl (fun _ => rfl) oDs1 dX4_init_18 (by first | exact Or.inl ⟨_, rfl⟩ | exact Or.inr ⟨_, rfl⟩) hFR4 ?_
  refine oX_aload_n dX4_init_21 rfl rfl ?_
  refine oX_bipush (v := (9 : Int32)) dX4_init_22 (by decide) ?_
  obtain ⟨AI5, hAI5, hm⟩ := oLs hm
  obtain ⟨AN5, hAN5, hm⟩ := oLs hm
  obtain ⟨C5, hC5, hm⟩ := oLs hm
  refine oX_cost hm (fun qq5 hm => ?_)
  refine oX_newa0 (k := oPl qq5 k) 108 rfl q205 dX4_init_24 (by decide) (by decide) hAI5 hAN5 hC5 ?_
  obtain ⟨FR6, hFR6, hm⟩ := oLs hm
  refine oX_putF fX4_17 rfl (fun _ => rfl) oDs1 dX4_init_26 (by first | exact Or.inl ⟨_, rfl⟩ | exact Or.inr ⟨_, rfl⟩) hFR6 ?_
  refine oX_aload_n dX4_init_29 rfl rfl ?_
  refine oX_bipush (v := (9 : Int32)) dX4_init_30 (by decide) ?_
  obtain ⟨AI7, hAI7, hm⟩ := oLs hm
  obtain ⟨AN7, hAN7, hm⟩ := oLs hm
  obtain ⟨C7, hC7, hm⟩ := oLs hm
  refine oX_cost hm (fun qq7 hm => ?_)
  refine oX_newa0 (k := oPl qq7 k) 109 rfl q205 dX4_init_32 (by decide) (by decide) hAI7 hAN7 hC7 ?_
  obtain ⟨FR8, hFR8, hm⟩ := oLs hm
  refine oX_putF fX4_20 rfl (fun _ => rfl) oDs1 dX4_init_34 (by first | exact Or.inl ⟨_, rfl⟩ | exact Or.inr ⟨_, rfl⟩) hFR8 ?_
  refine oX_aload_n dX4_init_37 rfl rfl ?_
  refine oX_bipush (v := (36 : Int32)) dX4_init_38 (by decide) ?_
  obtain ⟨AI9, hAI9, hm⟩ := oLs hm
  obtain ⟨AN9, hAN9, hm⟩ := oLs hm
  obtain ⟨C9, hC9, hm⟩ := oLs hm
  refine oX_cost hm (fun qq9 hm => ?_)
  refine oX_newa0 (k := oPl qq9 k) 110 rfl q205 dX4_init_40 (by decide) (by decide) hAI9 hAN9 hC9 ?_
  obtain ⟨FR10, hFR10, hm⟩ := oLs hm
  refine oX_putF fX4_23 rfl (fun _ => rfl) oDs1 dX4_init_42 (by first | exact Or.inl ⟨_, rfl⟩ | exact Or.inr ⟨_, rfl⟩) hFR10 ?_
  refine oX_aload_n dX4_init_45 rfl rfl ?_
  refine oX_bipush (v := (9 : Int32)) dX4_init_46 (by decide) ?_
  obtain ⟨AI11, hAI11, hm⟩ := oLs hm
  obtain ⟨AN11, hAN11, hm⟩ := oLs hm
  obtain ⟨C11, hC11, hm⟩ := oLs hm
  refine oX_cost hm (fun qq11 hm => ?_)
  refine oX_newa0 (k := oPl qq11 k) 111 rfl q205 dX4_init_48 (by decide) (by decide) hAI11 hAN11 hC11 ?_
  obtain ⟨FR12, hFR12, hm⟩ := oLs hm
  refine oX_putF fX4_26 rfl (fun _ => rfl) oDs1 dX4_init_50 (by first | exact Or.inl ⟨_, rfl⟩ | exact Or.inr ⟨_, rfl⟩) hFR12 ?_
  refine oX_aload_n dX4_init_53 rfl rfl ?_
  refine oX_bipush (v := (72 : Int32)) dX4_init_54 (by decide) ?_
  obtain ⟨AI13, hAI13, hm⟩ := oLs hm
  obtain ⟨AN13, hAN13, hm⟩ := oLs hm
  obtain ⟨C13, hC13, hm⟩ := oLs hm
  refine oX_cost hm (fun qq13 hm => ?_)
  refine oX_newa0 (k := oPl qq13 k) 112 rfl q205 dX4_init_56 (by decide) (by decide) hAI13 hAN13 hC13 ?_
  obtain ⟨FR14, hFR14, hm⟩ := oLs hm
  refine oX_putF fX4_29 rfl (fun _ => rfl) oDs1 dX4_init_58 (by first | exact Or.inl ⟨_, rfl⟩ | exact Or.inr ⟨_, rfl⟩) hFR14 ?_
  refine oX_aload_n dX4_init_61 rfl rfl ?_
  refine oX_bipush (v := (72 : Int32)) dX4_init_62 (by decide) ?_
  obtain ⟨AI15, hAI15, hm⟩ := oLs hm
  obtain ⟨AN15, hAN15, hm⟩ := oLs hm
  obtain ⟨C15, hC15, hm⟩ := oLs hm
  refine oX_cost hm (fun qq15 hm => ?_)
  refine oX_newa0 (k := oPl qq15 k) 113 rfl q205 dX4_init_64 (by decide) (by decide) hAI15 hAN15 hC15 ?_
  obtain ⟨FR16, hFR16, hm⟩ := oLs hm
  refine oX_putF fX4_32 rfl (fun _ => rfl) oDs1 dX4_init_66 (by first | exact Or.inl ⟨_, rfl⟩ | exact Or.inr ⟨_, rfl⟩) hFR16 ?_
  refine oX_aload_n dX4_init_69 rfl rfl ?_
  refine oX_bipush (v := (72 : Int32)) dX4_init_70 (by decide) ?_
  obtain ⟨AI17, hAI17, hm⟩ := oLs hm
  obtain ⟨AN17, hAN17, hm⟩ := oLs hm
  obtain ⟨C17, hC17, hm⟩ := oLs hm
  refine oX_cost hm (fun qq17 hm => ?_)
  refine oX_newa0 (k := oPl qq17 k) 114 rfl q205 dX4_init_72 (by decide) (by decide) hAI17 hAN17 hC17 ?_
  obtain ⟨FR18, hFR18, hm⟩ := oLs hm
  refine oX_putF fX4_35 rfl (fun _ => rfl) oDs1 dX4_init_74 (by first | exact Or.inl ⟨_, rfl⟩ | exact Or.inr ⟨_, rfl⟩) hFR18 ?_
  refine oX_aload_n dX4_init_77 rfl rfl ?_
  refine oX_bipush (v := (72 : Int32)) dX4_init_78 (by decide) ?_
  obtain ⟨AI19, hAI19, hm⟩ := oLs hm
  obtain ⟨AN19, hAN19, hm⟩ := oLs hm
  obtain ⟨C19, hC19, hm⟩ := oLs hm
  refine oX_cost hm (fun qq19 hm => ?_)
  refine oX_newa0 (k := oPl qq19 k) 115 rfl q205 dX4_init_80 (by decide) (by decide) hAI19 hAN19 hC19 ?_
  obtain ⟨FR20, hFR20, hm⟩ := oLs hm
  refine oX_putF fX4_38 rfl (fun _ => rfl) oDs1 dX4_init_82 (by first | exact Or.inl ⟨_, rfl⟩ | exact Or.inr ⟨_, rfl⟩) hFR20 ?_
  refine oX_aload_n dX4_init_85 rfl rfl ?_
  refine oX_bipush (v := (9 : Int32)) dX4_init_86 (by decide) ?_
  obtain ⟨AI21, hAI21, hm⟩ := oLs hm
  obtain ⟨AN21, hAN21, hm⟩ := oLs hm
  obtain ⟨C21, hC21, hm⟩ := oLs hm
  refine oX_cost hm (fun qq21 hm => ?_)
  refine oX_newa1 (k := oPl qq21 k) 116 rfl q292 dX4_init_88 (by decide) (by decide) hAI21 hAN21 hC21 ?_
  obtain ⟨FR22, hFR22, hm⟩ := oLs hm
  refine oX_putF fX4_41 rfl (fun _ => rfl) oDs1 dX4_init_90 (by first | exact Or.inl ⟨_, rfl⟩ | exact Or.inr ⟨_, rfl⟩) hFR22 ?_
  refine oX_aload_n dX4_init_93 rfl rfl ?_
  refine oX_bipush (v := (20 : Int32)) dX4_init_94 (by decide) ?_
  obtain ⟨AI23, hAI23, hm⟩ := oLs hm
  obtain ⟨AN23, hAN23, hm⟩ := oLs hm
  obtain ⟨C23, hC23, hm⟩ := oLs hm
  refine oX_cost hm (fun qq23 hm => ?_)
  refine oX_newa0 (k := oPl qq23 k) 117 rfl q205 dX4_init_96 (by decide) (by decide) hAI23 hAN23 hC23 ?_
  obtain ⟨FR24, hFR24, hm⟩ := oLs hm
  refine oX_putF fX4_45 rfl (fun _ => rfl) oDs1 dX4_init_98 (by first | exact Or.inl ⟨_, rfl⟩ | exact Or.inr ⟨_, rfl⟩) hFR24 ?_
  refine oX_aload_n dX4_init_101 rfl rfl ?_
  refine oX_bipush (v := (20 : Int32)) dX4_init_102 (by decide) ?_
  obtain ⟨AI25, hAI25, hm⟩ := oLs hm
  obtain ⟨AN25, hAN25, hm⟩ := oLs hm
  obtain ⟨C25, hC25, hm⟩ := oLs hm
  refine oX_cost hm (fun qq25 hm => ?_)
  refine oX_newa0 (k := oPl qq25 k) 118 rfl q205 dX4_init_104 (by decide) (by decide) hAI25 hAN25 hC25 ?_
  obtain ⟨FR26, hFR26, hm⟩ := oLs hm
  refine oX_putF fX4_48 rfl (fun _ => rfl) oDs1 dX4_init_106 (by first | exact Or.inl ⟨_, rfl⟩ | exact Or.inr ⟨_, rfl⟩) hFR26 ?_
  refine oX_aload_n dX4_init_109 rfl rfl ?_
  refine oX_bipush (v := (20 : Int32)) dX4_init_110 (by decide) ?_
  obtain ⟨AI27, hAI27, hm⟩ := oLs hm
  obtain ⟨AN27, hAN27, hm⟩ := oLs hm
  obtain ⟨C27, hC27, hm⟩ := oLs hm
  refine oX_cost hm (fun qq27 hm => ?_)
  refine oX_newa0 (k := oPl qq27 k) 119 rfl q205 dX4_init_112 (by decide) (by decide) hAI27 hAN27 hC27 ?_
  obtain ⟨FR28, hFR28, hm⟩ := oLs hm
  refine oX_putF fX4_51 rfl (fun _ => rfl) oDs1 dX4_init_114 (by first | exact Or.inl ⟨_, rfl⟩ | exact Or.inr ⟨_, rfl⟩) hFR28 ?_
  refine oX_aload_n dX4_init_117 rfl rfl ?_
  refine oX_bipush (v := (8 : Int32)) dX4_init_118 (by decide) ?_
  obtain ⟨AI29, hAI29, hm⟩ := oLs hm
  obtain ⟨AN29, hAN29, hm⟩ := oLs hm
  obtain ⟨C29, hC29, hm⟩ := oLs hm
  refine oX_cost hm (fun qq29 hm => ?_)
  refine oX_newa0 (k := oPl qq29 k) 120 rfl q205 dX4_init_120 (by decide) (by decide) hAI29 hAN29 hC29 ?_
  obtain ⟨FR30, hFR30, hm⟩ := oLs hm
  refine oX_putF fX4_54 rfl (fun _ => rfl) oDs1 dX4_init_122 (by first | exact Or.inl ⟨_, rfl⟩ | exact Or.inr ⟨_, rfl⟩) hFR30 ?_
  refine oX_aload_n dX4_init_125 rfl rfl ?_
  refine oX_bipush (v := (24 : Int32)) dX4_init_126 (by decide) ?_
  obtain ⟨FI31, hFI31, hm⟩ := oLs hm
  refine oX_putI fX4_57 rfl (fun _ => rfl) oDs1 dX4_init_128 ⟨rfl, rfl⟩ hFI31 ?_
  refine oX_aload_n dX4_init_131 rfl rfl ?_
  refine oX_sipush (v := (168 : Int32)) dX4_init_132 (by decide) ?_
  obtain ⟨FI32, hFI32, hm⟩ := oLs hm
  refine oX_putI fX4_61 rfl (fun _ => rfl) oDs1 dX4_init_135 ⟨rfl, rfl⟩ hFI32 ?_
  refine oX_aload_n dX4_init_138 rfl rfl ?_
  refine oX_bipush (v := (84 : Int32)) dX4_init_139 (by decide) ?_
  obtain ⟨AI33, hAI33, hm⟩ := oLs hm
  obtain ⟨AN33, hAN33, hm⟩ := oLs hm
  obtain ⟨C33, hC33, hm⟩ := oLs hm
  refine oX_cost hm (fun qq33 hm => ?_)
  refine oX_newa0 (k := oPl qq33 k) 125 rfl q205 dX4_init_141 (by decide) (by decide) hAI33 hAN33 hC33 ?_
  obtain ⟨FR34, hFR34, hm⟩ := oLs hm
  refine oX_putF fX4_64 rfl (fun _ => rfl) oDs1 dX4_init_143 (by first | exact Or.inl ⟨_, rfl⟩ | exact Or.inr ⟨_, rfl⟩) hFR34 ?_
  refine oX_aload_n dX4_init_146 rfl rfl ?_
  refine oX_bipush (v := (21 : Int32)) dX4_init_147 (by decide) ?_
  obtain ⟨AI35, hAI35, hm⟩ := oLs hm
  obtain ⟨AN35, hAN35, hm⟩ := oLs hm
  obtain ⟨C35, hC35, hm⟩ := oLs hm
  refine oX_cost hm (fun qq35 hm => ?_)
  refine oX_newa0 (k := oPl qq35 k) 126 rfl q205 dX4_init_149 (by decide) (by decide) hAI35 hAN35 hC35 ?_
  obtain ⟨FR36, hFR36, hm⟩ := oLs hm
  refine oX_putF fX4_67 rfl (fun _ => rfl) oDs1 dX4_init_151 (by first | exact Or.inl ⟨_, rfl⟩ | exact Or.inr ⟨_, rfl⟩) hFR36 ?_
  refine oX_aload_n dX4_init_154 rfl rfl ?_
  refine oX_bipush (v := (126 : Int32)) dX4_init_155 (by decide) ?_
  obtain ⟨AI37, hAI37, hm⟩ := oLs hm
  obtain ⟨AN37, hAN37, hm⟩ := oLs hm
  obtain ⟨C37, hC37, hm⟩ := oLs hm
  refine oX_cost hm (fun qq37 hm => ?_)
  refine oX_newa0 (k := oPl qq37 k) 127 rfl q205 dX4_init_157 (by decide) (by decide) hAI37 hAN37 hC37 ?_
  obtain ⟨FR38, hFR38, hm⟩ := oLs hm
  refine oX_putF fX4_70 rfl (fun _ => rfl) oDs1 dX4_init_159 (by first | exact Or.inl ⟨_, rfl⟩ | exact Or.inr ⟨_, rfl⟩) hFR38 ?_
  refine oX_aload_n dX4_init_162 rfl rfl ?_
  refine oX_bipush (v := (126 : Int32)) dX4_init_163 (by decide) ?_
  obtain ⟨AI39, hAI39, hm⟩ := oLs hm
  obtain ⟨AN39, hAN39, hm⟩ := oLs hm
  obtain ⟨C39, hC39, hm⟩ := oLs hm
  refine oX_cost hm (fun qq39 hm => ?_)
  refine oX_newa0 (k := oPl qq39 k) 128 rfl q205 dX4_init_165 (by decide) (by decide) hAI39 hAN39 hC39 ?_
  obtain ⟨FR40, hFR40, hm⟩ := oLs hm
  refine oX_putF fX4_73 rfl (fun _ => rfl) oDs1 dX4_init_167 (by first | exact Or.inl ⟨_, rfl⟩ | exact Or.inr ⟨_, rfl⟩) hFR40 ?_
  refine oX_aload_n dX4_init_170 rfl rfl ?_
  refine oX_bipush (v := (21 : Int32)) dX4_init_171 (by decide) ?_
  obtain ⟨AI41, hAI41, hm⟩ := oLs hm
  obtain ⟨AN41, hAN41, hm⟩ := oLs hm
  obtain ⟨C41, hC41, hm⟩ := oLs hm
  refine oX_cost hm (fun qq41 hm => ?_)
  refine oX_newa0 (k := oPl qq41 k) 129 rfl q205 dX4_init_173 (by decide) (by decide) hAI41 hAN41 hC41 ?_
  obtain ⟨FR42, hFR42, hm⟩ := oLs hm
  refine oX_putF fX4_76 rfl (fun _ => rfl) oDs1 dX4_init_175 (by first | exact Or.inl ⟨_, rfl⟩ | exact Or.inr ⟨_, rfl⟩) hFR42 ?_
  refine oX_aload_n dX4_init_178 rfl rfl ?_
  refine oX_sipush (v := (168 : Int32)) dX4_init_179 (by decide) ?_
  obtain ⟨AI43, hAI43, hm⟩ := oLs hm
  obtain ⟨AN43, hAN43, hm⟩ := oLs hm
  obtain ⟨C43, hC43, hm⟩ := oLs hm
  refine oX_cost hm (fun qq43 hm => ?_)
  refine oX_newa0 (k := oPl qq43 k) 130 rfl q205 dX4_init_182 (by decide) (by decide) hAI43 hAN43 hC43 ?_
  obtain ⟨FR44, hFR44, hm⟩ := oLs hm
  refine oX_putF fX4_79 rfl (fun _ => rfl) oDs1 dX4_init_184 (by first | exact Or.inl ⟨_, rfl⟩ | exact Or.inr ⟨_, rfl⟩) hFR44 ?_
  refine oX_aload_n dX4_init_187 rfl rfl ?_
  refine oX_sipush (v := (168 : Int32)) dX4_init_188 (by decide) ?_
  obtain ⟨AI45, hAI45, hm⟩ := oLs hm
  obtain ⟨AN45, hAN45, hm⟩ := oLs hm
  obtain ⟨C45, hC45, hm⟩ := oLs hm
  refine oX_cost hm (fun qq45 hm => ?_)
  refine oX_newa0 (k := oPl qq45 k) 131 rfl q205 dX4_init_191 (by decide) (by decide) hAI45 hAN45 hC45 ?_
  obtain ⟨FR46, hFR46, hm⟩ := oLs hm
  refine oX_putF fX4_82 rfl (fun _ => rfl) oDs1 dX4_init_193 (by first | exact Or.inl ⟨_, rfl⟩ | exact Or.inr ⟨_, rfl⟩) hFR46 ?_
  refine oX_aload_n dX4_init_196 rfl rfl ?_
  refine oX_sipush (v := (168 : Int32)) dX4_init_197 (by decide) ?_
  obtain ⟨AI47, hAI47, hm⟩ := oLs hm
  obtain ⟨AN47, hAN47, hm⟩ := oLs hm
  obtain ⟨C47, hC47, hm⟩ := oLs hm
  refine oX_cost hm (fun qq47 hm => ?_)
  refine oX_newa0 (k := oPl qq47 k) 132 rfl q205 dX4_init_200 (by decide) (by decide) hAI47 hAN47 hC47 ?_
  obtain ⟨FR48, hFR48, hm⟩ := oLs hm
  refine oX_putF fX4_85 rfl (fun _ => rfl) oDs1 dX4_init_202 (by first | exact Or.inl ⟨_, rfl⟩ | exact Or.inr ⟨_, rfl⟩) hFR48 ?_
  refine oX_aload_n dX4_init_205 rfl rfl ?_
  refine oX_sipush (v := (2100 : Int32)) dX4_init_206 (by decide) ?_
  obtain ⟨AI49, hAI49, hm⟩ := oLs hm
  obtain ⟨AN49, hAN49, hm⟩ := oLs hm
  obtain ⟨C49, hC49, hm⟩ := oLs hm
  refine oX_cost hm (fun qq49 hm => ?_)
  refine oX_newa0 (k := oPl qq49 k) 133 rfl q205 dX4_init_209 (by decide) (by decide) hAI49 hAN49 hC49 ?_
  obtain ⟨FR50, hFR50, hm⟩ := oLs hm
  refine oX_putF fX4_88 rfl (fun _ => rfl) oDs1 dX4_init_211 (by first | exact Or.inl ⟨_, rfl⟩ | exact Or.inr ⟨_, rfl⟩) hFR50 ?_
  refine oX_aload_n dX4_init_214 rfl rfl ?_
  refine oX_sipush (v := (2100 : Int32)) dX4_init_215 (by decide) ?_
  obtain ⟨AI51, hAI51, hm⟩ := oLs hm
  obtain ⟨AN51, hAN51, hm⟩ := oLs hm
  obtain ⟨C51, hC51, hm⟩ := oLs hm
  refine oX_cost hm (fun qq51 hm => ?_)
  refine oX_newa0 (k := oPl qq51 k) 134 rfl q205 dX4_init_218 (by decide) (by decide) hAI51 hAN51 hC51 ?_
  obtain ⟨FR52, hFR52, hm⟩ := oLs hm
  refine oX_putF fX4_91 rfl (fun _ => rfl) oDs1 dX4_init_220 (by first | exact Or.inl ⟨_, rfl⟩ | exact Or.inr ⟨_, rfl⟩) hFR52 ?_
  refine oX_aload_n dX4_init_223 rfl rfl ?_
  refine oX_sipush (v := (2100 : Int32)) dX4_init_224 (by decide) ?_
  obtain ⟨AI53, hAI53, hm⟩ := oLs hm
  obtain ⟨AN53, hAN53, hm⟩ := oLs hm
  obtain ⟨C53, hC53, hm⟩ := oLs hm
  refine oX_cost hm (fun qq53 hm => ?_)
  refine oX_newa0 (k := oPl qq53 k) 135 rfl q205 dX4_init_227 (by decide) (by decide) hAI53 hAN53 hC53 ?_
  obtain ⟨FR54, hFR54, hm⟩ := oLs hm
  refine oX_putF fX4_94 rfl (fun _ => rfl) oDs1 dX4_init_229 (by first | exact Or.inl ⟨_, rfl⟩ | exact Or.inr ⟨_, rfl⟩) hFR54 ?_
  refine oX_aload_n dX4_init_232 rfl rfl ?_
  refine oX_bipush (v := (64 : Int32)) dX4_init_233 (by decide) ?_
  obtain ⟨AI55, hAI55, hm⟩ := oLs hm
  obtain ⟨AN55, hAN55, hm⟩ := oLs hm
  obtain ⟨C55, hC55, hm⟩ := oLs hm
  refine oX_cost hm (fun qq55 hm => ?_)
  refine oX_newa0 (k := oPl qq55 k) 136 rfl q205 dX4_init_235 (by decide) (by decide) hAI55 hAN55 hC55 ?_
  obtain ⟨FR56, hFR56, hm⟩ := oLs hm
  refine oX_putF fX4_97 rfl (fun _ => rfl) oDs1 dX4_init_237 (by first | exact Or.inl ⟨_, rfl⟩ | exact Or.inr ⟨_, rfl⟩) hFR56 ?_
  refine oX_aload_n dX4_init_240 rfl rfl ?_
  refine oX_sipush (v := (200 : Int32)) dX4_init_241 (by decide) ?_
  obtain ⟨AI57, hAI57, hm⟩ := oLs hm
  obtain ⟨AN57, hAN57, hm⟩ := oLs hm
  obtain ⟨C57, hC57, hm⟩ := oLs hm
  refine oX_cost hm (fun qq57 hm => ?_)
  refine oX_newa0 (k := oPl qq57 k) 148 rfl q205 dX4_init_244 (by decide) (by decide) hAI57 hAN57 hC57 ?_
  obtain ⟨FR58, hFR58, hm⟩ := oLs hm
  refine oX_putF fX4_100 rfl (fun _ => rfl) oDs1 dX4_init_246 (by first | exact Or.inl ⟨_, rfl⟩ | exact Or.inr ⟨_, rfl⟩) hFR58 ?_
  refine oX_aload_n dX4_init_249 rfl rfl ?_
  refine oX_sipush (v := (200 : Int32)) dX4_init_250 (by decide) ?_
  obtain ⟨AI59, hAI59, hm⟩ := oLs hm
  obtain ⟨AN59, hAN59, hm⟩ := oLs hm
  obtain ⟨C59, hC59, hm⟩ := oLs hm
  refine oX_cost hm (fun qq59 hm => ?_)
  refine oX_newa0 (k := oPl qq59 k) 149 rfl q205 dX4_init_253 (by decide) (by decide) hAI59 hAN59 hC59 ?_
  obtain ⟨FR60, hFR60, hm⟩ := oLs hm
  refine oX_putF fX4_103 rfl (fun _ => rfl) oDs1 dX4_init_255 (by first | exact Or.inl ⟨_, rfl⟩ | exact Or.inr ⟨_, rfl⟩) hFR60 ?_
  refine oX_aload_n dX4_init_258 rfl rfl ?_
  refine oX_sipush (v := (200 : Int32)) dX4_init_259 (by decide) ?_
  obtain ⟨AI61, hAI61, hm⟩ := oLs hm
  obtain ⟨AN61, hAN61, hm⟩ := oLs hm
  obtain ⟨C61, hC61, hm⟩ := oLs hm
  refine oX_cost hm (fun qq61 hm => ?_)
  refine oX_newa0 (k := oPl qq61 k) 150 rfl q205 dX4_init_262 (by decide) (by decide) hAI61 hAN61 hC61 ?_
  obtain ⟨FR62, hFR62, hm⟩ := oLs hm
  refine oX_putF fX4_106 rfl (fun _ => rfl) oDs1 dX4_init_264 (by first | exact Or.inl ⟨_, rfl⟩ | exact Or.inr ⟨_, rfl⟩) hFR62 ?_
  refine oX_aload_n dX4_init_267 rfl rfl ?_
  refine oX_sipush (v := (200 : Int32)) dX4_init_268 (by decide) ?_
  obtain ⟨AI63, hAI63, hm⟩ := oLs hm
  obtain ⟨AN63, hAN63, hm⟩ := oLs hm
  obtain ⟨C63, hC63, hm⟩ := oLs hm
  refine oX_cost hm (fun qq63 hm => ?_)
  refine oX_newa0 (k := oPl qq63 k) 151 rfl q205 dX4_init_271 (by decide) (by decide) hAI63 hAN63 hC63 ?_
  obtain ⟨FR64, hFR64, hm⟩ := oLs hm
  refine oX_putF fX4_109 rfl (fun _ => rfl) oDs1 dX4_init_273 (by first | exact Or.inl ⟨_, rfl⟩ | exact Or.inr ⟨_, rfl⟩) hFR64 ?_
  refine oX_aload_n dX4_init_276 rfl rfl ?_
  refine oX_bipush (v := (60 : Int32)) dX4_init_277 (by decide) ?_
  obtain ⟨AI65, hAI65, hm⟩ := oLs hm
  obtain ⟨AN65, hAN65, hm⟩ := oLs hm
  obtain ⟨C65, hC65, hm⟩ := oLs hm
  refine oX_cost hm (fun qq65 hm => ?_)
  refine oX_newa0 (k := oPl qq65 k) 152 rfl q205 dX4_init_279 (by decide) (by decide) hAI65 hAN65 hC65 ?_
  obtain ⟨FR66, hFR66, hm⟩ := oLs hm
  refine oX_putF fX4_112 rfl (fun _ => rfl) oDs1 dX4_init_281 (by first | exact Or.inl ⟨_, rfl⟩ | exact Or.inr ⟨_, rfl⟩) hFR66 ?_
  refine oX_aload_n dX4_init_284 rfl rfl ?_
  refine oX_bipush (v := (60 : Int32)) dX4_init_285 (by decide) ?_
  obtain ⟨AI67, hAI67, hm⟩ := oLs hm
  obtain ⟨AN67, hAN67, hm⟩ := oLs hm
  obtain ⟨C67, hC67, hm⟩ := oLs hm
  refine oX_cost hm (fun qq67 hm => ?_)
  refine oX_newa0 (k := oPl qq67 k) 153 rfl q205 dX4_init_287 (by decide) (by decide) hAI67 hAN67 hC67 ?_
  obtain ⟨FR68, hFR68, hm⟩ := oLs hm
  refine oX_putF fX4_115 rfl (fun _ => rfl) oDs1 dX4_init_289 (by first | exact Or.inl ⟨_, rfl⟩ | exact Or.inr ⟨_, rfl⟩) hFR68 ?_
  refine oX_aload_n dX4_init_292 rfl rfl ?_
  refine oX_bipush (v := (60 : Int32)) dX4_init_293 (by decide) ?_
  obtain ⟨AI69, hAI69, hm⟩ := oLs hm
  obtain ⟨AN69, hAN69, hm⟩ := oLs hm
  obtain ⟨C69, hC69, hm⟩ := oLs hm
  refine oX_cost hm (fun qq69 hm => ?_)
  refine oX_newa0 (k := oPl qq69 k) 154 rfl q205 dX4_init_295 (by decide) (by decide) hAI69 hAN69 hC69 ?_
  obtain ⟨FR70, hFR70, hm⟩ := oLs hm
  refine oX_putF fX4_118 rfl (fun _ => rfl) oDs1 dX4_init_297 (by first | exact Or.inl ⟨_, rfl⟩ | exact Or.inr ⟨_, rfl⟩) hFR70 ?_
  refine oX_aload_n dX4_init_300 rfl rfl ?_
  refine oX_bipush (v := (60 : Int32)) dX4_init_301 (by decide) ?_
  obtain ⟨AI71, hAI71, hm⟩ := oLs hm
  obtain ⟨AN71, hAN71, hm⟩ := oLs hm
  obtain ⟨C71, hC71, hm⟩ := oLs hm
  refine oX_cost hm (fun qq71 hm => ?_)
  refine oX_newa0 (k := oPl qq71 k) 155 rfl q205 dX4_init_303 (by decide) (by decide) hAI71 hAN71 hC71 ?_
  obtain ⟨FR72, hFR72, hm⟩ := oLs hm
  refine oX_putF fX4_121 rfl (fun _ => rfl) oDs1 dX4_init_305 (by first | exact Or.inl ⟨_, rfl⟩ | exact Or.inr ⟨_, rfl⟩) hFR72 ?_
  refine oX_aload_n dX4_init_308 rfl rfl ?_
  refine oX_sipush (v := (400 : Int32)) dX4_init_309 (by decide) ?_
  obtain ⟨AI73, hAI73, hm⟩ := oLs hm
  obtain ⟨AN73, hAN73, hm⟩ := oLs hm
  obtain ⟨C73, hC73, hm⟩ := oLs hm
  refine oX_cost hm (fun qq73 hm => ?_)
  refine oX_newa0 (k := oPl qq73 k) 156 rfl q205 dX4_init_312 (by decide) (by decide) hAI73 hAN73 hC73 ?_
  obtain ⟨FR74, hFR74, hm⟩ := oLs hm
  refine oX_putF fX4_124 rfl (fun _ => rfl) oDs1 dX4_init_314 (by first | exact Or.inl ⟨_, rfl⟩ | exact Or.inr ⟨_, rfl⟩) hFR74 ?_
  refine oX_aload_n dX4_init_317 rfl rfl ?_
  refine oX_sipush (v := (400 : Int32)) dX4_init_318 (by decide) ?_
  obtain ⟨AI75, hAI75, hm⟩ := oLs hm
  obtain ⟨AN75, hAN75, hm⟩ := oLs hm
  obtain ⟨C75, hC75, hm⟩ := oLs hm
  refine oX_cost hm (fun qq75 hm => ?_)
  refine oX_newa0 (k := oPl qq75 k) 157 rfl q205 dX4_init_321 (by decide) (by decide) hAI75 hAN75 hC75 ?_
  obtain ⟨FR76, hFR76, hm⟩ := oLs hm
  refine oX_putF fX4_127 rfl (fun _ => rfl) oDs1 dX4_init_323 (by first | exact Or.inl ⟨_, rfl⟩ | exact Or.inr ⟨_, rfl⟩) hFR76 ?_
  refine oX_aload_n dX4_init_326 rfl rfl ?_
  refine oX_sipush (v := (400 : Int32)) dX4_init_327 (by decide) ?_
  obtain ⟨AI77, hAI77, hm⟩ := oLs hm
  obtain ⟨AN77, hAN77, hm⟩ := oLs hm
  obtain ⟨C77, hC77, hm⟩ := oLs hm
  refine oX_cost hm (fun qq77 hm => ?_)
  refine oX_newa0 (k := oPl qq77 k) 158 rfl q205 dX4_init_330 (by decide) (by decide) hAI77 hAN77 hC77 ?_
  obtain ⟨FR78, hFR78, hm⟩ := oLs hm
  refine oX_putF fX4_130 rfl (fun _ => rfl) oDs1 dX4_init_332 (by first | exact Or.inl ⟨_, rfl⟩ | exact Or.inr ⟨_, rfl⟩) hFR78 ?_
  refine oX_aload_n dX4_init_335 rfl rfl ?_
  refine oX_sipush (v := (400 : Int32)) dX4_init_336 (by decide) ?_
  obtain ⟨AI79, hAI79, hm⟩ := oLs hm
  obtain ⟨AN79, hAN79, hm⟩ := oLs hm
  obtain ⟨C79, hC79, hm⟩ := oLs hm
  refine oX_cost hm (fun qq79 hm => ?_)
  refine oX_newa0 (k := oPl qq79 k) 159 rfl q205 dX4_init_339 (by decide) (by decide) hAI79 hAN79 hC79 ?_
  obtain ⟨FR80, hFR80, hm⟩ := oLs hm
  refine oX_putF fX4_133 rfl (fun _ => rfl) oDs1 dX4_init_341 (by first | exact Or.inl ⟨_, rfl⟩ | exact Or.inr ⟨_, rfl⟩) hFR80 ?_
  refine oX_aload_n dX4_init_344 rfl rfl ?_
  refine oX_bipush (v := (66 : Int32)) dX4_init_345 (by decide) ?_
  obtain ⟨AI81, hAI81, hm⟩ := oLs hm
  obtain ⟨AN81, hAN81, hm⟩ := oLs hm
  obtain ⟨C81, hC81, hm⟩ := oLs hm
  refine oX_cost hm (fun qq81 hm => ?_)
  refine oX_newa0 (k := oPl qq81 k) 160 rfl q205 dX4_init_347 (by decide) (by decide) hAI81 hAN81 hC81 ?_
  obtain ⟨FR82, hFR82, hm⟩ := oLs hm
  refine oX_putF fX4_136 rfl (fun _ => rfl) oDs1 dX4_init_349 (by first | exact Or.inl ⟨_, rfl⟩ | exact Or.inr ⟨_, rfl⟩) hFR82 ?_
  refine oX_aload_n dX4_init_352 rfl rfl ?_
  refine oX_bipush (v := (66 : Int32)) dX4_init_353 (by decide) ?_
  obtain ⟨AI83, hAI83, hm⟩ := oLs hm
  obtain ⟨AN83, hAN83, hm⟩ := oLs hm
  obtain ⟨C83, hC83, hm⟩ := oLs hm
  refine oX_cost hm (fun qq83 hm => ?_)
  refine oX_newa0 (k := oPl qq83 k) 161 rfl q205 dX4_init_355 (by decide) (by decide) hAI83 hAN83 hC83 ?_
  obtain ⟨FR84, hFR84, hm⟩ := oLs hm
  refine oX_putF fX4_139 rfl (fun _ => rfl) oDs1 dX4_init_357 (by first | exact Or.inl ⟨_, rfl⟩ | exact Or.inr ⟨_, rfl⟩) hFR84 ?_
  refine oX_aload_n dX4_init_360 rfl rfl ?_
  refine oX_bipush (v := (66 : Int32)) dX4_init_361 (by decide) ?_
  obtain ⟨AI85, hAI85, hm⟩ := oLs hm
  obtain ⟨AN85, hAN85, hm⟩ := oLs hm
  obtain ⟨C85, hC85, hm⟩ := oLs hm
  refine oX_cost hm (fun qq85 hm => ?_)
  refine oX_newa0 (k := oPl qq85 k) 162 rfl q205 dX4_init_363 (by decide) (by decide) hAI85 hAN85 hC85 ?_
  obtain ⟨FR86, hFR86, hm⟩ := oLs hm
  refine oX_putF fX4_142 rfl (fun _ => rfl) oDs1 dX4_init_365 (by first | exact Or.inl ⟨_, rfl⟩ | exact Or.inr ⟨_, rfl⟩) hFR86 ?_
  refine oX_aload_n dX4_init_368 rfl rfl ?_
  refine oX_bipush (v := (66 : Int32)) dX4_init_369 (by decide) ?_
  obtain ⟨AI87, hAI87, hm⟩ := oLs hm
  obtain ⟨AN87, hAN87, hm⟩ := oLs hm
  obtain ⟨C87, hC87, hm⟩ := oLs hm
  refine oX_cost hm (fun qq87 hm => ?_)
  refine oX_newa0 (k := oPl qq87 k) 163 rfl q205 dX4_init_371 (by decide) (by decide) hAI87 hAN87 hC87 ?_
  obtain ⟨FR88, hFR88, hm⟩ := oLs hm
  refine oX_putF fX4_145 rfl (fun _ => rfl) oDs1 dX4_init_373 (by first | exact Or.inl ⟨_, rfl⟩ | exact Or.inr ⟨_, rfl⟩) hFR88 ?_
  refine oX_aload_n dX4_init_376 rfl rfl ?_
  refine oX_bipush (v := (66 : Int32)) dX4_init_377 (by decide) ?_
  obtain ⟨AI89, hAI89, hm⟩ := oLs hm
  obtain ⟨AN89, hAN89, hm⟩ := oLs hm
  obtain ⟨C89, hC89, hm⟩ := oLs hm
  refine oX_cost hm (fun qq89 hm => ?_)
  refine oX_newa0 (k := oPl qq89 k) 164 rfl q205 dX4_init_379 (by decide) (by decide) hAI89 hAN89 hC89 ?_
  obtain ⟨FR90, hFR90, hm⟩ := oLs hm
  refine oX_putF fX4_148 rfl (fun _ => rfl) oDs1 dX4_init_381 (by first | exact Or.inl ⟨_, rfl⟩ | exact Or.inr ⟨_, rfl⟩) hFR90 ?_
  refine oX_aload_n dX4_init_384 rfl rfl ?_
  refine oX_bipush (v := (66 : Int32)) dX4_init_385 (by decide) ?_
  obtain ⟨AI91, hAI91, hm⟩ := oLs hm
  obtain ⟨AN91, hAN91, hm⟩ := oLs hm
  obtain ⟨C91, hC91, hm⟩ := oLs hm
  refine oX_cost hm (fun qq91 hm => ?_)
  refine oX_newa0 (k := oPl qq91 k) 165 rfl q205 dX4_init_387 (by decide) (by decide) hAI91 hAN91 hC91 ?_
  obtain ⟨FR92, hFR92, hm⟩ := oLs hm
  refine oX_putF fX4_151 rfl (fun _ => rfl) oDs1 dX4_init_389 (by first | exact Or.inl ⟨_, rfl⟩ | exact Or.inr ⟨_, rfl⟩) hFR92 ?_
  refine oX_aload_n dX4_init_392 rfl rfl ?_
  refine oX_sipush (v := (400 : Int32)) dX4_init_393 (by decide) ?_
  obtain ⟨AI93, hAI93, hm⟩ := oLs hm
  obtain ⟨AN93, hAN93, hm⟩ := oLs hm
  obtain ⟨C93, hC93, hm⟩ := oLs hm
  refine oX_cost hm (fun qq93 hm => ?_)
  refine oX_newa1 (k := oPl qq93 k) 166 rfl q292 dX4_init_396 (by decide) (by decide) hAI93 hAN93 hC93 ?_
  obtain ⟨FR94, hFR94, hm⟩ := oLs hm
  refine oX_putF fX4_154 rfl (fun _ => rfl) oDs1 dX4_init_398 (by first | exact Or.inl ⟨_, rfl⟩ | exact Or.inr ⟨_, rfl⟩) hFR94 ?_
  refine oX_aload_n dX4_init_401 rfl rfl ?_
  refine oX_sipush (v := (528 : Int32)) dX4_init_402 (by decide) ?_
  obtain ⟨AI95, hAI95, hm⟩ := oLs hm
  obtain ⟨AN95, hAN95, hm⟩ := oLs hm
  obtain ⟨C95, hC95, hm⟩ := oLs hm
  refine oX_cost hm (fun qq95 hm => ?_)
  refine oX_newa0 (k := oPl qq95 k) 172 rfl q205 dX4_init_405 (by decide) (by decide) hAI95 hAN95 hC95 ?_
  obtain ⟨FR96, hFR96, hm⟩ := oLs hm
  refine oX_putF fX4_157 rfl (fun _ => rfl) oDs1 dX4_init_407 (by first | exact Or.inl ⟨_, rfl⟩ | exact Or.inr ⟨_, rfl⟩) hFR96 ?_
  refine oX_aload_n dX4_init_410 rfl rfl ?_
  refine oX_sipush (v := (528 : Int32)) dX4_init_411 (by decide) ?_
  obtain ⟨AI97, hAI97, hm⟩ := oLs hm
  obtain ⟨AN97, hAN97, hm⟩ := oLs hm
  obtain ⟨C97, hC97, hm⟩ := oLs hm
  refine oX_cost hm (fun qq97 hm => ?_)
  refine oX_newa0 (k := oPl qq97 k) 173 rfl q205 dX4_init_414 (by decide) (by decide) hAI97 hAN97 hC97 ?_
  obtain ⟨FR98, hFR98, hm⟩ := oLs hm
  refine oX_putF fX4_160 rfl (fun _ => rfl) oDs1 dX4_init_416 (by first | exact Or.inl ⟨_, rfl⟩ | exact Or.inr ⟨_, rfl⟩) hFR98 ?_
  refine oX_aload_n dX4_init_419 rfl rfl ?_
  refine oX_sipush (v := (528 : Int32)) dX4_init_420 (by decide) ?_
  obtain ⟨AI99, hAI99, hm⟩ := oLs hm
  obtain ⟨AN99, hAN99, hm⟩ := oLs hm
  obtain ⟨C99, hC99, hm⟩ := oLs hm
  refine oX_cost hm (fun qq99 hm => ?_)
  refine oX_newa0 (k := oPl qq99 k) 174 rfl q205 dX4_init_423 (by decide) (by decide) hAI99 hAN99 hC99 ?_
  obtain ⟨FR100, hFR100, hm⟩ := oLs hm
  refine oX_putF fX4_163 rfl (fun _ => rfl) oDs1 dX4_init_425 (by first | exact Or.inl ⟨_, rfl⟩ | exact Or.inr ⟨_, rfl⟩) hFR100 ?_
  refine oX_aload_n dX4_init_428 rfl rfl ?_
  refine oX_bipush (v := (66 : Int32)) dX4_init_429 (by decide) ?_
  obtain ⟨AI101, hAI101, hm⟩ := oLs hm
  obtain ⟨AN101, hAN101, hm⟩ := oLs hm
  obtain ⟨C101, hC101, hm⟩ := oLs hm
  refine oX_cost hm (fun qq101 hm => ?_)
  refine oX_newa0 (k := oPl qq101 k) 175 rfl q205 dX4_init_431 (by decide) (by decide) hAI101 hAN101 hC101 ?_
  obtain ⟨FR102, hFR102, hm⟩ := oLs hm
  refine oX_putF fX4_166 rfl (fun _ => rfl) oDs1 dX4_init_433 (by first | exact Or.inl ⟨_, rfl⟩ | exact Or.inr ⟨_, rfl⟩) hFR102 ?_
  refine oX_aload_n dX4_init_436 rfl rfl ?_
  refine oX_bipush (v := (66 : Int32)) dX4_init_437 (by decide) ?_
  obtain ⟨AI103, hAI103, hm⟩ := oLs hm
  obtain ⟨AN103, hAN103, hm⟩ := oLs hm
  obtain ⟨C103, hC103, hm⟩ := oLs hm
  refine oX_cost hm (fun qq103 hm => ?_)
  refine oX_newa0 (k := oPl qq103 k) 176 rfl q205 dX4_init_439 (by decide) (by decide) hAI103 hAN103 hC103 ?_
  obtain ⟨FR104, hFR104, hm⟩ := oLs hm
  refine oX_putF fX4_169 rfl (fun _ => rfl) oDs1 dX4_init_441 (by first | exact Or.inl ⟨_, rfl⟩ | exact Or.inr ⟨_, rfl⟩) hFR104 ?_
  refine oX_aload_n dX4_init_444 rfl rfl ?_
  refine oX_bipush (v := (66 : Int32)) dX4_init_445 (by decide) ?_
  obtain ⟨AI105, hAI105, hm⟩ := oLs hm
  obtain ⟨AN105, hAN105, hm⟩ := oLs hm
  obtain ⟨C105, hC105, hm⟩ := oLs hm
  refine oX_cost hm (fun qq105 hm => ?_)
  refine oX_newa0 (k := oPl qq105 k) 177 rfl q205 dX4_init_447 (by decide) (by decide) hAI105 hAN105 hC105 ?_
  obtain ⟨FR106, hFR106, hm⟩ := oLs hm
  refine oX_putF fX4_172 rfl (fun _ => rfl) oDs1 dX4_init_449 (by first | exact Or.inl ⟨_, rfl⟩ | exact Or.inr ⟨_, rfl⟩) hFR106 ?_
  refine oX_aload_n dX4_init_452 rfl rfl ?_
  refine oX_bipush (v := (64 : Int32)) dX4_init_453 (by decide) ?_
  obtain ⟨AI107, hAI107, hm⟩ := oLs hm
  obtain ⟨AN107, hAN107, hm⟩ := oLs hm
  obtain ⟨C107, hC107, hm⟩ := oLs hm
  refine oX_cost hm (fun qq107 hm => ?_)
  refine oX_newa1 (k := oPl qq107 k) 179 rfl q292 dX4_init_455 (by decide) (by decide) hAI107 hAN107 hC107 ?_
  obtain ⟨FR108, hFR108, hm⟩ := oLs hm
  refine oX_putF fX4_175 rfl (fun _ => rfl) oDs1 dX4_init_457 (by first | exact Or.inl ⟨_, rfl⟩ | exact Or.inr ⟨_, rfl⟩) hFR108 ?_
  refine oX_aload_n dX4_init_460 rfl rfl ?_
  refine oX_sipush (v := (625 : Int32)) dX4_init_461 (by decide) ?_
  obtain ⟨AI109, hAI109, hm⟩ := oLs hm
  obtain ⟨AN109, hAN109, hm⟩ := oLs hm
  obtain ⟨C109, hC109, hm⟩ := oLs hm
  refine oX_cost hm (fun qq109 hm => ?_)
  refine oX_newa1 (k := oPl qq109 k) 180 rfl q292 dX4_init_464 (by decide) (by decide) hAI109 hAN109 hC109 ?_
  obtain ⟨FR110, hFR110, hm⟩ := oLs hm
  refine oX_putF fX4_178 rfl (fun _ => rfl) oDs1 dX4_init_466 (by first | exact Or.inl ⟨_, rfl⟩ | exact Or.inr ⟨_, rfl⟩) hFR110 ?_
  refine oX_aload_n dX4_init_469 rfl rfl ?_
  refine oX_sipush (v := (625 : Int32)) dX4_init_470 (by decide) ?_
  obtain ⟨AI111, hAI111, hm⟩ := oLs hm
  obtain ⟨AN111, hAN111, hm⟩ := oLs hm
  obtain ⟨C111, hC111, hm⟩ := oLs hm
  refine oX_cost hm (fun qq111 hm => ?_)
  refine oX_newa1 (k := oPl qq111 k) 181 rfl q292 dX4_init_473 (by decide) (by decide) hAI111 hAN111 hC111 ?_
  obtain ⟨FR112, hFR112, hm⟩ := oLs hm
  refine oX_putF fX4_181 rfl (fun _ => rfl) oDs1 dX4_init_475 (by first | exact Or.inl ⟨_, rfl⟩ | exact Or.inr ⟨_, rfl⟩) hFR112 ?_
  refine oX_aload_n dX4_init_478 rfl rfl ?_
  refine oX_sipush (v := (721 : Int32)) dX4_init_479 (by decide) ?_
  obtain ⟨AI113, hAI113, hm⟩ := oLs hm
  obtain ⟨AN113, hAN113, hm⟩ := oLs hm
  obtain ⟨C113, hC113, hm⟩ := oLs hm
  refine oX_cost hm (fun qq113 hm => ?_)
  refine oX_newa1 (k := oPl qq113 k) 182 rfl q292 dX4_init_482 (by decide) (by decide) hAI113 hAN113 hC113 ?_
  obtain ⟨FR114, hFR114, hm⟩ := oLs hm
  refine oX_putF fX4_184 rfl (fun _ => rfl) oDs1 dX4_init_484 (by first | exact Or.inl ⟨_, rfl⟩ | exact Or.inr ⟨_, rfl⟩) hFR114 ?_
  refine oX_aload_n dX4_init_487 rfl rfl ?_
  refine oX_bipush (v := (66 : Int32)) dX4_init_488 (by decide) ?_
  obtain ⟨AI115, hAI115, hm⟩ := oLs hm
  obtain ⟨AN115, hAN115, hm⟩ := oLs hm
  obtain ⟨C115, hC115, hm⟩ := oLs hm
  refine oX_cost hm (fun qq115 hm => ?_)
  refine oX_newa1 (k := oPl qq115 k) 183 rfl q292 dX4_init_490 (by decide) (by decide) hAI115 hAN115 hC115 ?_
  obtain ⟨FR116, hFR116, hm⟩ := oLs hm
  refine oX_putF fX4_187 rfl (fun _ => rfl) oDs1 dX4_init_492 (by first | exact Or.inl ⟨_, rfl⟩ | exact Or.inr ⟨_, rfl⟩) hFR116 ?_
  refine oX_aload_n dX4_init_495 rfl rfl ?_
  refine oX_sipush (v := (5200 : Int32)) dX4_init_496 (by decide) ?_
  obtain ⟨AI117, hAI117, hm⟩ := oLs hm
  obtain ⟨AN117, hAN117, hm⟩ := oLs hm
  obtain ⟨C117, hC117, hm⟩ := oLs hm
  refine oX_cost hm (fun qq117 hm => ?_)
  refine oX_newa0 (k := oPl qq117 k) 184 rfl q205 dX4_init_499 (by decide) (by decide) hAI117 hAN117 hC117 ?_
  obtain ⟨FR118, hFR118, hm⟩ := oLs hm
  refine oX_putF fX4_190 rfl (fun _ => rfl) oDs1 dX4_init_501 (by first | exact Or.inl ⟨_, rfl⟩ | exact Or.inr ⟨_, rfl⟩) hFR118 ?_
  refine oX_aload_n dX4_init_504 rfl rfl ?_
  refine oX_sipush (v := (5200 : Int32)) dX4_init_505 (by decide) ?_
  obtain ⟨AI119, hAI119, hm⟩ := oLs hm
  obtain ⟨AN119, hAN119, hm⟩ := oLs hm
  obtain ⟨C119, hC119, hm⟩ := oLs hm
  refine oX_cost hm (fun qq119 hm => ?_)
  refine oX_newa0 (k := oPl qq119 k) 185 rfl q205 dX4_init_508 (by decide) (by decide) hAI119 hAN119 hC119 ?_
  obtain ⟨FR120, hFR120, hm⟩ := oLs hm
  refine oX_putF fX4_193 rfl (fun _ => rfl) oDs1 dX4_init_510 (by first | exact Or.inl ⟨_, rfl⟩ | exact Or.inr ⟨_, rfl⟩) hFR120 ?_
  refine oX_aload_n dX4_init_513 rfl rfl ?_
  refine oX_sipush (v := (5200 : Int32)) dX4_init_514 (by decide) ?_
  obtain ⟨AI121, hAI121, hm⟩ := oLs hm
  obtain ⟨AN121, hAN121, hm⟩ := oLs hm
  obtain ⟨C121, hC121, hm⟩ := oLs hm
  refine oX_cost hm (fun qq121 hm => ?_)
  refine oX_newa0 (k := oPl qq121 k) 186 rfl q205 dX4_init_517 (by decide) (by decide) hAI121 hAN121 hC121 ?_
  obtain ⟨FR122, hFR122, hm⟩ := oLs hm
  refine oX_putF fX4_196 rfl (fun _ => rfl) oDs1 dX4_init_519 (by first | exact Or.inl ⟨_, rfl⟩ | exact Or.inr ⟨_, rfl⟩) hFR122 ?_
  refine oX_aload_n dX4_init_522 rfl rfl ?_
  refine oX_sipush (v := (9504 : Int32)) dX4_init_523 (by decide) ?_
  obtain ⟨AI123, hAI123, hm⟩ := oLs hm
  obtain ⟨AN123, hAN123, hm⟩ := oLs hm
  obtain ⟨C123, hC123, hm⟩ := oLs hm
  refine oX_cost hm (fun qq123 hm => ?_)
  refine oX_newa1 (k := oPl qq123 k) 187 rfl q292 dX4_init_526 (by decide) (by decide) hAI123 hAN123 hC123 ?_
  obtain ⟨FR124, hFR124, hm⟩ := oLs hm
  refine oX_putF fX4_199 rfl (fun _ => rfl) oDs1 dX4_init_528 (by first | exact Or.inl ⟨_, rfl⟩ | exact Or.inr ⟨_, rfl⟩) hFR124 ?_
  refine oX_aload_n dX4_init_531 rfl rfl ?_
  refine oX_sipush (v := (5200 : Int32)) dX4_init_532 (by decide) ?_
  obtain ⟨AI125, hAI125, hm⟩ := oLs hm
  obtain ⟨AN125, hAN125, hm⟩ := oLs hm
  obtain ⟨C125, hC125, hm⟩ := oLs hm
  refine oX_cost hm (fun qq125 hm => ?_)
  refine oX_newa0 (k := oPl qq125 k) 190 rfl q205 dX4_init_535 (by decide) (by decide) hAI125 hAN125 hC125 ?_
  obtain ⟨FR126, hFR126, hm⟩ := oLs hm
  refine oX_putF fX4_202 rfl (fun _ => rfl) oDs1 dX4_init_537 (by first | exact Or.inl ⟨_, rfl⟩ | exact Or.inr ⟨_, rfl⟩) hFR126 ?_
  refine oX_aload_n dX4_init_540 rfl rfl ?_
  refine oX_sipush (v := (5200 : Int32)) dX4_init_541 (by decide) ?_
  obtain ⟨AI127, hAI127, hm⟩ := oLs hm
  obtain ⟨AN127, hAN127, hm⟩ := oLs hm
  obtain ⟨C127, hC127, hm⟩ := oLs hm
  refine oX_cost hm (fun qq127 hm => ?_)
  refine oX_newa0 (k := oPl qq127 k) 191 rfl q205 dX4_init_544 (by decide) (by decide) hAI127 hAN127 hC127 ?_
  obtain ⟨FR128, hFR128, hm⟩ := oLs hm
  refine oX_putF fX4_205 rfl (fun _ => rfl) oDs1 dX4_init_546 (by first | exact Or.inl ⟨_, rfl⟩ | exact Or.inr ⟨_, rfl⟩) hFR128 ?_
  refine oX_aload_n dX4_init_549 rfl rfl ?_
  refine oX_sipush (v := (5200 : Int32)) dX4_init_550 (by decide) ?_
  obtain ⟨AI129, hAI129, hm⟩ := oLs hm
  obtain ⟨AN129, hAN129, hm⟩ := oLs hm
  obtain ⟨C129, hC129, hm⟩ := oLs hm
  refine oX_cost hm (fun qq129 hm => ?_)
  refine oX_newa0 (k := oPl qq129 k) 192 rfl q205 dX4_init_553 (by decide) (by decide) hAI129 hAN129 hC129 ?_
  obtain ⟨FR130, hFR130, hm⟩ := oLs hm
  refine oX_putF fX4_208 rfl (fun _ => rfl) oDs1 dX4_init_555 (by first | exact Or.inl ⟨_, rfl⟩ | exact Or.inr ⟨_, rfl⟩) hFR130 ?_
  refine oX_aload_n dX4_init_558 rfl rfl ?_
  refine oX_bipush (v := (6 : Int32)) dX4_init_559 (by decide) ?_
  obtain ⟨AI131, hAI131, hm⟩ := oLs hm
  obtain ⟨AN131, hAN131, hm⟩ := oLs hm
  obtain ⟨C131, hC131, hm⟩ := oLs hm
  refine oX_cost hm (fun qq131 hm => ?_)
  refine oX_newa0 (k := oPl qq131 k) 193 rfl q205 dX4_init_561 (by decide) (by decide) hAI131 hAN131 hC131 ?_
  obtain ⟨FR132, hFR132, hm⟩ := oLs hm
  refine oX_putF fX4_211 rfl (fun _ => rfl) oDs1 dX4_init_563 (by first | exact Or.inl ⟨_, rfl⟩ | exact Or.inr ⟨_, rfl⟩) hFR132 ?_
  refine oX_aload_n dX4_init_566 rfl rfl ?_
  refine oX_bipush (v := (6 : Int32)) dX4_init_567 (by decide) ?_
  obtain ⟨AI133, hAI133, hm⟩ := oLs hm
  obtain ⟨AN133, hAN133, hm⟩ := oLs hm
  obtain ⟨C133, hC133, hm⟩ := oLs hm
  refine oX_cost hm (fun qq133 hm => ?_)
  refine oX_newa0 (k := oPl qq133 k) 194 rfl q205 dX4_init_569 (by decide) (by decide) hAI133 hAN133 hC133 ?_
  obtain ⟨FR134, hFR134, hm⟩ := oLs hm
  refine oX_putF fX4_214 rfl (fun _ => rfl) oDs1 dX4_init_571 (by first | exact Or.inl ⟨_, rfl⟩ | exact Or.inr ⟨_, rfl⟩) hFR134 ?_
  refine oX_aload_n dX4_init_574 rfl rfl ?_
  refine oX_bipush (v := (6 : Int32)) dX4_init_575 (by decide) ?_
  obtain ⟨AI135, hAI135, hm⟩ := oLs hm
  obtain ⟨AN135, hAN135, hm⟩ := oLs hm
  obtain ⟨C135, hC135, hm⟩ := oLs hm
  refine oX_cost hm (fun qq135 hm => ?_)
  refine oX_newa0 (k := oPl qq135 k) 195 rfl q205 dX4_init_577 (by decide) (by decide) hAI135 hAN135 hC135 ?_
  obtain ⟨FR136, hFR136, hm⟩ := oLs hm
  refine oX_putF fX4_217 rfl (fun _ => rfl) oDs1 dX4_init_579 (by first | exact Or.inl ⟨_, rfl⟩ | exact Or.inr ⟨_, rfl⟩) hFR136 ?_
  refine oX_aload_n dX4_init_582 rfl rfl ?_
  refine oX_bipush (v := (6 : Int32)) dX4_init_583 (by decide) ?_
  obtain ⟨AI137, hAI137, hm⟩ := oLs hm
  obtain ⟨AN137, hAN137, hm⟩ := oLs hm
  obtain ⟨C137, hC137, hm⟩ := oLs hm
  refine oX_cost hm (fun qq137 hm => ?_)
  refine oX_newa0 (k := oPl qq137 k) 196 rfl q205 dX4_init_585 (by decide) (by decide) hAI137 hAN137 hC137 ?_
  obtain ⟨FR138, hFR138, hm⟩ := oLs hm
  refine oX_putF fX4_220 rfl (fun _ => rfl) oDs1 dX4_init_587 (by first | exact Or.inl ⟨_, rfl⟩ | exact Or.inr ⟨_, rfl⟩) hFR138 ?_
  refine oX_aload_n dX4_init_590 rfl rfl ?_
  refine oX_iconst (v := (-1 : Int32)) dX4_init_591 (by decide) ?_
  obtain ⟨FI139, hFI139, hm⟩ := oLs hm
  refine oX_putI fX4_223 rfl (fun _ => rfl) oDs1 dX4_init_592 ⟨rfl, rfl⟩ hFI139 ?_
  obtain ⟨rfl, rfl⟩ := oEnd hm
  exact oX_vret dX4_init_595 rfl hK
set_option maxHeartbeats 4000000 in
set_option maxRecDepth 100000 in
theorem t_X4_init {G : OhG} {FI AI : OhI} {FL AL : OhL} {FR GR AR BR : OhQ} {AN : OhN} {C : OhC} {o : (OhI × OhQ × OhI × OhN × OhC) × (Nat × Nat)} (hm : mX4_init FI FR AI AN C = some o) : oT G 1 iX4_init [vR (some (1, 0))] (FI, FL, FR, GR, AI, AL, AR, BR, AN, C) o.2 (fun v h => v = none ∧ h = (o.1.1, FL, o.1.2.1, GR, o.1.2.2.1, AL, AR, BR, o.1.2.2.2.1, o.1.2.2.2.2)) ohNo :=
  oT_of (by decide) rfl (Nat.le_of_ble_eq_true rfl) (x_mX4_init (k := (0, 0)) hm ⟨rfl, rfl⟩)
