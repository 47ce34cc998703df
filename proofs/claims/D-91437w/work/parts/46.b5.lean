/-! MIRRORS of methods that make things: printed by gen/mk_alloc.py -/
abbrev iX13_holds : OhM := (yX13_holds, cX13_holds, 2, (some .boolean), [])
theorem ok_X13_holds : oOk iX13_holds 1 := ⟨by decide, by decide, by decide +kernel⟩
abbrev iX8_earns : OhM := (yX8_earns, cX8_earns, 4, (some .int), [])
theorem ok_X8_earns : oOk iX8_earns 1 := ⟨by decide, by decide, by decide +kernel⟩
abbrev iX1_feeOf : OhM := (yX1_feeOf, cX1_feeOf, 6, (some .int), [])
theorem ok_X1_feeOf : oOk iX1_feeOf 2 := ⟨by decide, by decide, by decide +kernel⟩
abbrev iX1_fee : OhM := (yX1_fee, cX1_fee, 6, (some .int), [])
theorem ok_X1_fee : oOk iX1_fee 3 := ⟨by decide, by decide, by decide +kernel⟩
abbrev iX1_pay : OhM := (yX1_pay, cX1_pay, 7, (some .int), [])
theorem ok_X1_pay : oOk iX1_pay 3 := ⟨by decide, by decide, by decide +kernel⟩
abbrev iX1_harmOf : OhM := (yX1_harmOf, cX1_harmOf, 8, (some .int), [])
theorem ok_X1_harmOf : oOk iX1_harmOf 3 := ⟨by decide, by decide, by decide +kernel⟩
abbrev iX1_harm : OhM := (yX1_harm, cX1_harm, 5, (some .int), [])
theorem ok_X1_harm : oOk iX1_harm 3 := ⟨by decide, by decide, by decide +kernel⟩
abbrev iX1_instead : OhM := (yX1_instead, cX1_instead, 8, (some .int), [])
theorem ok_X1_instead : oOk iX1_instead 2 := ⟨by decide, by decide, by decide +kernel⟩
abbrev iX1_tryFrom : OhM := (yX1_tryFrom, cX1_tryFrom, 4, (some .boolean), [])
theorem ok_X1_tryFrom : oOk iX1_tryFrom 2 := ⟨by decide, by decide, by decide +kernel⟩
abbrev iX1_lay : OhM := (yX1_lay, cX1_lay, 6, (some .int), [])
theorem ok_X1_lay : oOk iX1_lay 3 := ⟨by decide, by decide, by decide +kernel⟩
noncomputable def mX13_holds_j187 (rc : OhI → OhQ → Nat × Nat → OhR → Option (Int32)) (FI : OhI) (FR : OhQ) (t : Nat × Nat) (x1 : OhR) : Option (Int32) :=
  (oD 3 x1).bind fun a20 =>
  (if (FI a20.1 a20.2 0) = ((FI t.1 t.2 0) - (3 : Int32)) then
  some (1 : Int32)
else
  some (0 : Int32))
theorem x_mX13_holds_j187 {G : OhG} {FI AI : OhI} {FL AL : OhL} {FR GR AR BR : OhQ} {AN : OhN} {C : OhC} {k : Nat × Nat} {Φ : OhP} {Ψ : OhX} {d : Nat} (hd9 : 1 ≤ d) (rc : OhI → OhQ → Nat × Nat → OhR → Option (Int32)) (hrec : ∀ {FI AI : OhI} {FL AL : OhL} {FR GR AR BR : OhQ} {AN : OhN} {C : OhC} (t : Nat × Nat) (ht : ohKd t.1 = 12) (x1 : OhR) {o : Int32}, rc FI FR t x1 = some o → oT G d iX13_holds [vR (some t), vR x1] (FI, FL, FR, GR, AI, AL, AR, BR, AN, C) (0, 0) (fun v h => v = (some (vI o)) ∧ h = (FI, FL, FR, GR, AI, AL, AR, BR, AN, C)) ohNo) (t : Nat × Nat) (ht : ohKd t.1 = 12) (x1 : OhR) {r : Int32} (hm : mX13_holds_j187 rc FI FR t x1 = some r) (hK : Φ (some (vI r)) (FI, FL, FR, GR, AI, AL, AR, BR, AN, C)) : oX G (d + 1) iX13_holds 187 [(0, vR (some t)), (1, vR x1)] [] (FI, FL, FR, GR, AI, AL, AR, BR, AN, C) k Φ Ψ := by
  unfold mX13_holds_j187 at hm
  refine oX_aload_n dX13_holds_187 rfl rfl ?_
  obtain ⟨a20, e20, hm⟩ := bd_s hm
  refine oX_getI fX13_57 rfl e20 dX13_holds_188 ?_
  refine oX_aload_n dX13_holds_191 rfl rfl ?_
  refine oX_getI fX13_9 rfl (oD_t ht) dX13_holds_192 ?_
  refine oX_iconst (v := (3 : Int32)) dX13_holds_195 (by decide) ?_
  refine oX_isub dX13_holds_196 ?_
  refine oX_icmp_ne (tgt := 204) dX13_holds_197 (by decide) (fun c21 => ?_) (fun c21 => ?_)
  · have hm := ifp c21 hm
    refine oX_iconst (v := (1 : Int32)) dX13_holds_200 (by decide) ?_
    refine oX_goto (tgt := 205) dX13_holds_201 (by decide) ?_
    obtain rfl := Option.some.inj hm
    exact oX_iret dX13_holds_205 rfl (by decide) hK
  · have hm := ifn c21 hm
    refine oX_iconst (v := (0 : Int32)) dX13_holds_204 (by decide) ?_
    obtain rfl := Option.some.inj hm
    exact oX_iret dX13_holds_205 rfl (by decide) hK
noncomputable def mX13_holds_o (rc : OhI → OhQ → Nat × Nat → OhR → Option (Int32)) (FI : OhI) (FR : OhQ) (t : Nat × Nat) (x1 : OhR) : Option (Int32) :=
  (if (FI t.1 t.2 0) = (0 : Int32) then
  (oD 12 (FR t.1 t.2 3)).bind fun a2 =>
    (rc FI FR a2 x1).bind fun r3 =>
    (if r3 = 0 then
    some (1 : Int32)
  else
    some (0 : Int32))
else
if (FI t.1 t.2 0) = (1 : Int32) then
  (oD 12 (FR t.1 t.2 3)).bind fun a6 =>
    (rc FI FR a6 x1).bind fun r7 =>
    (if r7 = 0 then
    some (0 : Int32)
  else
    (oD 12 (FR t.1 t.2 4)).bind fun a9 =>
      (rc FI FR a9 x1).bind fun r10 =>
      (if r10 = 0 then
      some (0 : Int32)
    else
      some (1 : Int32)))
else
if (FI t.1 t.2 0) = (2 : Int32) then
  (oD 12 (FR t.1 t.2 3)).bind fun a13 =>
    (rc FI FR a13 x1).bind fun r14 =>
    (if r14 = 0 then
    (oD 12 (FR t.1 t.2 4)).bind fun a16 =>
      (rc FI FR a16 x1).bind fun r17 =>
      (if r17 = 0 then
      some (0 : Int32)
    else
      some (1 : Int32))
  else
    some (1 : Int32))
else
if (FI t.1 t.2 0) = (3 : Int32) then
  mX13_holds_j187 rc FI FR t x1
else
if (FI t.1 t.2 0) = (4 : Int32) then
  mX13_holds_j187 rc FI FR t x1
else
if (FI t.1 t.2 0) = (5 : Int32) then
  mX13_holds_j187 rc FI FR t x1
else
if (FI t.1 t.2 0) = (6 : Int32) then
  mX13_holds_j187 rc FI FR t x1
else
if (FI t.1 t.2 0) = (7 : Int32) then
  (oD 3 x1).bind fun a26 =>
    gd ((FI a26.1 a26.2 4) = 0 ∨ (FI a26.1 a26.2 4) = 1) <|
    some (FI a26.1 a26.2 4)
else
if (FI t.1 t.2 0) = (8 : Int32) then
  (oD 3 x1).bind fun a29 =>
    gd ((FI a29.1 a29.2 5) = 0 ∨ (FI a29.1 a29.2 5) = 1) <|
    some (FI a29.1 a29.2 5)
else
if (FI t.1 t.2 0) = (9 : Int32) then
  (oD 3 x1).bind fun a32 =>
    gd ((FI a32.1 a32.2 6) = 0 ∨ (FI a32.1 a32.2 6) = 1) <|
    some (FI a32.1 a32.2 6)
else
if (FI t.1 t.2 0) = (10 : Int32) then
  (oD 3 x1).bind fun a35 =>
    (mX13_measures FI t (FI a35.1 a35.2 1)).bind fun r36 =>
    gd (r36 = 0 ∨ r36 = 1) <|
    some r36
else
if (FI t.1 t.2 0) = (11 : Int32) then
  (oD 3 x1).bind fun a39 =>
    (mX13_measures FI t (FI a39.1 a39.2 2)).bind fun r40 =>
    gd (r40 = 0 ∨ r40 = 1) <|
    some r40
else
if (FI t.1 t.2 0) = (12 : Int32) then
  (oD 3 x1).bind fun a43 =>
    (mX13_measures FI t (FI a43.1 a43.2 3)).bind fun r44 =>
    gd (r44 = 0 ∨ r44 = 1) <|
    some r44
else
  mX13_holds_j187 rc FI FR t x1)
theorem x_mX13_holds_o {G : OhG} {FI AI : OhI} {FL AL : OhL} {FR GR AR BR : OhQ} {AN : OhN} {C : OhC} {k : Nat × Nat} {Φ : OhP} {Ψ : OhX} {d : Nat} (hd9 : 1 ≤ d) (rc : OhI → OhQ → Nat × Nat → OhR → Option (Int32)) (hrec : ∀ {FI AI : OhI} {FL AL : OhL} {FR GR AR BR : OhQ} {AN : OhN} {C : OhC} (t : Nat × Nat) (ht : ohKd t.1 = 12) (x1 : OhR) {o : Int32}, rc FI FR t x1 = some o → oT G d iX13_holds [vR (some t), vR x1] (FI, FL, FR, GR, AI, AL, AR, BR, AN, C) (0, 0) (fun v h => v = (some (vI o)) ∧ h = (FI, FL, FR, GR, AI, AL, AR, BR, AN, C)) ohNo) (t : Nat × Nat) (ht : ohKd t.1 = 12) (x1 : OhR) {r : Int32} (hm : mX13_holds_o rc FI FR t x1 = some r) (hK : Φ (some (vI r)) (FI, FL, FR, GR, AI, AL, AR, BR, AN, C)) : oX G (d + 1) iX13_holds 0 [(0, vR (some t)), (1, vR x1)] [] (FI, FL, FR, GR, AI, AL, AR, BR, AN, C) k Φ Ψ := by
  unfold mX13_holds_o at hm
  refine oX_aload_n dX13_holds_0 rfl rfl ?_
  refine oX_getI fX13_9 rfl (oD_t ht) dX13_holds_1 ?_
  by_cases c1 : (FI t.1 t.2 0) = (0 : Int32)
  · have hm := ifp c1 hm
    refine oX_tin (tgt := 72) dX13_holds_4 c1 (by decide) (by decide) rfl (by decide) ?_
    refine oX_aload_n dX13_holds_72 rfl rfl ?_
    refine oX_getF fX13_21 rfl (oD_t ht) dX13_holds_73 rfl ?_
    refine oX_aload_n dX13_holds_76 rfl rfl ?_
    obtain ⟨a2, e2, hm⟩ := bd_s hm
    obtain ⟨r3, g3, hm⟩ := bd_s hm
    refine oX_cV (as := [vR x1]) dX13_holds_77 rfl e2 rfl (by decide) rfl ok_X13_holds rfl rfl q1583 q1580 q1581 q163 q1582 ⟨by omega, by decide⟩ (Nat.le_of_ble_eq_true rfl) (hrec a2 ((oD_some e2).2) x1 g3) ?_
    refine oX_if_ne (tgt := 87) dX13_holds_80 (by decide) (fun c4 => ?_) (fun c4 => ?_)
    · have hm := ifp c4 hm
      refine oX_iconst (v := (1 : Int32)) dX13_holds_83 (by decide) ?_
      refine oX_goto (tgt := 88) dX13_holds_84 (by decide) ?_
      obtain rfl := Option.some.inj hm
      exact oX_iret dX13_holds_88 rfl (by decide) hK
    · have hm := ifn c4 hm
      refine oX_iconst (v := (0 : Int32)) dX13_holds_87 (by decide) ?_
      obtain rfl := Option.some.inj hm
      exact oX_iret dX13_holds_88 rfl (by decide) hK
  have hm := ifn c1 hm
  by_cases c5 : (FI t.1 t.2 0) = (1 : Int32)
  · have hm := ifp c5 hm
    refine oX_tin (tgt := 89) dX13_holds_4 c5 (by decide) (by decide) rfl (by decide) ?_
    refine oX_aload_n dX13_holds_89 rfl rfl ?_
    refine oX_getF fX13_21 rfl (oD_t ht) dX13_holds_90 rfl ?_
    refine oX_aload_n dX13_holds_93 rfl rfl ?_
    obtain ⟨a6, e6, hm⟩ := bd_s hm
    obtain ⟨r7, g7, hm⟩ := bd_s hm
    refine oX_cV (as := [vR x1]) dX13_holds_94 rfl e6 rfl (by decide) rfl ok_X13_holds rfl rfl q1583 q1580 q1581 q163 q1582 ⟨by omega, by decide⟩ (Nat.le_of_ble_eq_true rfl) (hrec a6 ((oD_some e6).2) x1 g7) ?_
    refine oX_if_eq (tgt := 115) dX13_holds_97 (by decide) (fun c8 => ?_) (fun c8 => ?_)
    · have hm := ifp c8 hm
      refine oX_iconst (v := (0 : Int32)) dX13_holds_115 (by decide) ?_
      obtain rfl := Option.some.inj hm
      exact oX_iret dX13_holds_116 rfl (by decide) hK
    · have hm := ifn c8 hm
      refine oX_aload_n dX13_holds_100 rfl rfl ?_
      refine oX_getF fX13_25 rfl (oD_t ht) dX13_holds_101 rfl ?_
      refine oX_aload_n dX13_holds_104 rfl rfl ?_
      obtain ⟨a9, e9, hm⟩ := bd_s hm
      obtain ⟨r10, g10, hm⟩ := bd_s hm
      refine oX_cV (as := [vR x1]) dX13_holds_105 rfl e9 rfl (by decide) rfl ok_X13_holds rfl rfl q1583 q1580 q1581 q163 q1582 ⟨by omega, by decide⟩ (Nat.le_of_ble_eq_true rfl) (hrec a9 ((oD_some e9).2) x1 g10) ?_
      refine oX_if_eq (tgt := 115) dX13_holds_108 (by decide) (fun c11 => ?_) (fun c11 => ?_)
      · have hm := ifp c11 hm
        refine oX_iconst (v := (0 : Int32)) dX13_holds_115 (by decide) ?_
        obtain rfl := Option.some.inj hm
        exact oX_iret dX13_holds_116 rfl (by decide) hK
      · have hm := ifn c11 hm
        refine oX_iconst (v := (1 : Int32)) dX13_holds_111 (by decide) ?_
        refine oX_goto (tgt := 116) dX13_holds_112 (by decide) ?_
        obtain rfl := Option.some.inj hm
        exact oX_iret dX13_holds_116 rfl (by decide) hK
  have hm := ifn c5 hm
  by_cases c12 : (FI t.1 t.2 0) = (2 : Int32)
  · have hm := ifp c12 hm
    refine oX_tin (tgt := 117) dX13_holds_4 c12 (by decide) (by decide) rfl (by decide) ?_
    refine oX_aload_n dX13_holds_117 rfl rfl ?_
    refine oX_getF fX13_21 rfl (oD_t ht) dX13_holds_118 rfl ?_
    refine oX_aload_n dX13_holds_121 rfl rfl ?_
    obtain ⟨a13, e13, hm⟩ := bd_s hm
    obtain ⟨r14, g14, hm⟩ := bd_s hm
    refine oX_cV (as := [vR x1]) dX13_holds_122 rfl e13 rfl (by decide) rfl ok_X13_holds rfl rfl q1583 q1580 q1581 q163 q1582 ⟨by omega, by decide⟩ (Nat.le_of_ble_eq_true rfl) (hrec a13 ((oD_some e13).2) x1 g14) ?_
    refine oX_if_ne (tgt := 139) dX13_holds_125 (by decide) (fun c15 => ?_) (fun c15 => ?_)
    · have hm := ifp c15 hm
      refine oX_aload_n dX13_holds_128 rfl rfl ?_
      refine oX_getF fX13_25 rfl (oD_t ht) dX13_holds_129 rfl ?_
      refine oX_aload_n dX13_holds_132 rfl rfl ?_
      obtain ⟨a16, e16, hm⟩ := bd_s hm
      obtain ⟨r17, g17, hm⟩ := bd_s hm
      refine oX_cV (as := [vR x1]) dX13_holds_133 rfl e16 rfl (by decide) rfl ok_X13_holds rfl rfl q1583 q1580 q1581 q163 q1582 ⟨by omega, by decide⟩ (Nat.le_of_ble_eq_true rfl) (hrec a16 ((oD_some e16).2) x1 g17) ?_
      refine oX_if_eq (tgt := 143) dX13_holds_136 (by decide) (fun c18 => ?_) (fun c18 => ?_)
      · have hm := ifp c18 hm
        refine oX_iconst (v := (0 : Int32)) dX13_holds_143 (by decide) ?_
        obtain rfl := Option.some.inj hm
        exact oX_iret dX13_holds_144 rfl (by decide) hK
      · have hm := ifn c18 hm
        refine oX_iconst (v := (1 : Int32)) dX13_holds_139 (by decide) ?_
        refine oX_goto (tgt := 144) dX13_holds_140 (by decide) ?_
        obtain rfl := Option.some.inj hm
        exact oX_iret dX13_holds_144 rfl (by decide) hK
    · have hm := ifn c15 hm
      refine oX_iconst (v := (1 : Int32)) dX13_holds_139 (by decide) ?_
      refine oX_goto (tgt := 144) dX13_holds_140 (by decide) ?_
      obtain rfl := Option.some.inj hm
      exact oX_iret dX13_holds_144 rfl (by decide) hK
  have hm := ifn c12 hm
  by_cases c19 : (FI t.1 t.2 0) = (3 : Int32)
  · have hm := ifp c19 hm
    refine oX_tin (tgt := 187) dX13_holds_4 c19 (by decide) (by decide) rfl (by decide) ?_
    exact oX_sub [0, 1] rfl (x_mX13_holds_j187 hd9 rc hrec t ht x1 hm hK)
  have hm := ifn c19 hm
  by_cases c22 : (FI t.1 t.2 0) = (4 : Int32)
  · have hm := ifp c22 hm
    refine oX_tin (tgt := 187) dX13_holds_4 c22 (by decide) (by decide) rfl (by decide) ?_
    exact oX_sub [0, 1] rfl (x_mX13_holds_j187 hd9 rc hrec t ht x1 hm hK)
  have hm := ifn c22 hm
  by_cases c23 : (FI t.1 t.2 0) = (5 : Int32)
  · have hm := ifp c23 hm
    refine oX_tin (tgt := 187) dX13_holds_4 c23 (by decide) (by decide) rfl (by decide) ?_
    exact oX_sub [0, 1] rfl (x_mX13_holds_j187 hd9 rc hrec t ht x1 hm hK)
  have hm := ifn c23 hm
  by_cases c24 : (FI t.1 t.2 0) = (6 : Int32)
  · have hm := ifp c24 hm
    refine oX_tin (tgt := 187) dX13_holds_4 c24 (by decide) (by decide) rfl (by decide) ?_
    exact oX_sub [0, 1] rfl (x_mX13_holds_j187 hd9 rc hrec t ht x1 hm hK)
  have hm := ifn c24 hm
  by_cases c25 : (FI t.1 t.2 0) = (7 : Int32)
  · have hm := ifp c25 hm
    refine oX_tin (tgt := 145) dX13_holds_4 c25 (by decide) (by decide) rfl (by decide) ?_
    refine oX_aload_n dX13_holds_145 rfl rfl ?_
    obtain ⟨a26, e26, hm⟩ := bd_s hm
    refine oX_getI fX13_32 rfl e26 dX13_holds_146 ?_
    obtain ⟨g27, hm⟩ := gd_s hm
    obtain rfl := Option.some.inj hm
    exact oX_iret dX13_holds_149 rfl (oNz g27) hK
  have hm := ifn c25 hm
  by_cases c28 : (FI t.1 t.2 0) = (8 : Int32)
  · have hm := ifp c28 hm
    refine oX_tin (tgt := 150) dX13_holds_4 c28 (by decide) (by decide) rfl (by decide) ?_
    refine oX_aload_n dX13_holds_150 rfl rfl ?_
    obtain ⟨a29, e29, hm⟩ := bd_s hm
    refine oX_getI fX13_38 rfl e29 dX13_holds_151 ?_
    obtain ⟨g30, hm⟩ := gd_s hm
    obtain rfl := Option.some.inj hm
    exact oX_iret dX13_holds_154 rfl (oNz g30) hK
  have hm := ifn c28 hm
  by_cases c31 : (FI t.1 t.2 0) = (9 : Int32)
  · have hm := ifp c31 hm
    refine oX_tin (tgt := 155) dX13_holds_4 c31 (by decide) (by decide) rfl (by decide) ?_
    refine oX_aload_n dX13_holds_155 rfl rfl ?_
    obtain ⟨a32, e32, hm⟩ := bd_s hm
    refine oX_getI fX13_41 rfl e32 dX13_holds_156 ?_
    obtain ⟨g33, hm⟩ := gd_s hm
    obtain rfl := Option.some.inj hm
    exact oX_iret dX13_holds_159 rfl (oNz g33) hK
  have hm := ifn c31 hm
  by_cases c34 : (FI t.1 t.2 0) = (10 : Int32)
  · have hm := ifp c34 hm
    refine oX_tin (tgt := 160) dX13_holds_4 c34 (by decide) (by decide) rfl (by decide) ?_
    refine oX_aload_n dX13_holds_160 rfl rfl ?_
    refine oX_aload_n dX13_holds_161 rfl rfl ?_
    obtain ⟨a35, e35, hm⟩ := bd_s hm
    refine oX_getI fX13_44 rfl e35 dX13_holds_162 ?_
    obtain ⟨r36, g36, hm⟩ := bd_s hm
    refine oX_cV (as := [vI (FI a35.1 a35.2 1)]) dX13_holds_165 rfl (oD_t ht) rfl (by decide) rfl ok_X13_measures rfl rfl q1584 q1586 qs46 q163 q1587 ⟨by omega, by decide⟩ (Nat.le_of_ble_eq_true rfl) (t_X13_measures t ht (FI a35.1 a35.2 1) g36) ?_
    obtain ⟨g37, hm⟩ := gd_s hm
    obtain rfl := Option.some.inj hm
    exact oX_iret dX13_holds_168 rfl (oNz g37) hK
  have hm := ifn c34 hm
  by_cases c38 : (FI t.1 t.2 0) = (11 : Int32)
  · have hm := ifp c38 hm
    refine oX_tin (tgt := 169) dX13_holds_4 c38 (by decide) (by decide) rfl (by decide) ?_
    refine oX_aload_n dX13_holds_169 rfl rfl ?_
    refine oX_aload_n dX13_holds_170 rfl rfl ?_
    obtain ⟨a39, e39, hm⟩ := bd_s hm
    refine oX_getI fX13_51 rfl e39 dX13_holds_171 ?_
    obtain ⟨r40, g40, hm⟩ := bd_s hm
    refine oX_cV (as := [vI (FI a39.1 a39.2 2)]) dX13_holds_174 rfl (oD_t ht) rfl (by decide) rfl ok_X13_measures rfl rfl q1584 q1586 qs46 q163 q1587 ⟨by omega, by decide⟩ (Nat.le_of_ble_eq_true rfl) (t_X13_measures t ht (FI a39.1 a39.2 2) g40) ?_
    obtain ⟨g41, hm⟩ := gd_s hm
    obtain rfl := Option.some.inj hm
    exact oX_iret dX13_holds_177 rfl (oNz g41) hK
  have hm := ifn c38 hm
  by_cases c42 : (FI t.1 t.2 0) = (12 : Int32)
  · have hm := ifp c42 hm
    refine oX_tin (tgt := 178) dX13_holds_4 c42 (by decide) (by decide) rfl (by decide) ?_
    refine oX_aload_n dX13_holds_178 rfl rfl ?_
    refine oX_aload_n dX13_holds_179 rfl rfl ?_
    obtain ⟨a43, e43, hm⟩ := bd_s hm
    refine oX_getI fX13_54 rfl e43 dX13_holds_180 ?_
    obtain ⟨r44, g44, hm⟩ := bd_s hm
    refine oX_cV (as := [vI (FI a43.1 a43.2 3)]) dX13_holds_183 rfl (oD_t ht) rfl (by decide) rfl ok_X13_measures rfl rfl q1584 q1586 qs46 q163 q1587 ⟨by omega, by decide⟩ (Nat.le_of_ble_eq_true rfl) (t_X13_measures t ht (FI a43.1 a43.2 3) g44) ?_
    obtain ⟨g45, hm⟩ := gd_s hm
    obtain rfl := Option.some.inj hm
    exact oX_iret dX13_holds_186 rfl (oNz g45) hK
  have hm := ifn c42 hm
  refine oX_tout (tgt := 187) 13 (l := [(0 : Int32), (1 : Int32), (2 : Int32), (3 : Int32), (4 : Int32), (5 : Int32), (6 : Int32), (7 : Int32), (8 : Int32), (9 : Int32), (10 : Int32), (11 : Int32), (12 : Int32)]) dX13_holds_4 (by decide) (fun c hc => by simp only [List.mem_cons, List.not_mem_nil, or_false] at hc; rcases hc with rfl | rfl | rfl | rfl | rfl | rfl | rfl | rfl | rfl | rfl | rfl | rfl | rfl <;> assumption) (by decide) (by decide) ?_
  exact oX_sub [0, 1] rfl (x_mX13_holds_j187 hd9 rc hrec t ht x1 hm hK)
theorem t_X13_holds_o {G : OhG} {FI AI : OhI} {FL AL : OhL} {FR GR AR BR : OhQ} {AN : OhN} {C : OhC} {d : Nat} (hd9 : 1 ≤ d) (rc : OhI → OhQ → Nat × Nat → OhR → Option (Int32)) (hrec : ∀ {FI AI : OhI} {FL AL : OhL} {FR GR AR BR : OhQ} {AN : OhN} {C : OhC} (t : Nat × Nat) (ht : ohKd t.1 = 12) (x1 : OhR) {o : Int32}, rc FI FR t x1 = some o → oT G d iX13_holds [vR (some t), vR x1] (FI, FL, FR, GR, AI, AL, AR, BR, AN, C) (0, 0) (fun v h => v = (some (vI o)) ∧ h = (FI, FL, FR, GR, AI, AL, AR, BR, AN, C)) ohNo) (t : Nat × Nat) (ht : ohKd t.1 = 12) (x1 : OhR) {o : Int32} (hm : mX13_holds_o rc FI FR t x1 = some o) : oT G (d + 1) iX13_holds [vR (some t), vR x1] (FI, FL, FR, GR, AI, AL, AR, BR, AN, C) (0, 0) (fun v h => v = (some (vI o)) ∧ h = (FI, FL, FR, GR, AI, AL, AR, BR, AN, C)) ohNo :=
  oT_of (by decide) rfl (Nat.le_of_ble_eq_true rfl) (x_mX13_holds_o hd9 rc hrec t ht x1 hm ⟨rfl, rfl⟩)
noncomputable def mX13_holds_f : Nat → OhI → OhQ → Nat × Nat → OhR → Option (Int32)
  | 0 => fun _ _ _ _ => none
  | f + 1 => mX13_holds_o (mX13_holds_f f)
theorem t_X13_holds_f {G : OhG} : ∀ (f : Nat) {FI AI : OhI} {FL AL : OhL} {FR GR AR BR : OhQ} {AN : OhN} {C : OhC} (t : Nat × Nat) (ht : ohKd t.1 = 12) (x1 : OhR) {o : Int32}, mX13_holds_f f FI FR t x1 = some o → oT G (1 + 1 * f) iX13_holds [vR (some t), vR x1] (FI, FL, FR, GR, AI, AL, AR, BR, AN, C) (0, 0) (fun v h => v = (some (vI o)) ∧ h = (FI, FL, FR, GR, AI, AL, AR, BR, AN, C)) ohNo := by
  intro f
  induction f with
  | zero =>
    intros
    rename_i hm
    cases hm
  | succ f ih =>
    intro FI AI FL AL FR GR AR BR AN C t ht x1 o hm
    rw [show 1 + 1 * (f + 1) = 1 + 1 * f + 1 from by omega]
    exact t_X13_holds_o (Nat.le_add_right _ _) (mX13_holds_f f) ih t ht x1 hm
noncomputable def mX13_holds (FI : OhI) (FR : OhQ) (t : Nat × Nat) (x1 : OhR) : Option (Int32) := mX13_holds_f 100 FI FR t x1
theorem t_X13_holds {G : OhG} {FI AI : OhI} {FL AL : OhL} {FR GR AR BR : OhQ} {AN : OhN} {C : OhC} (t : Nat × Nat) (ht : ohKd t.1 = 12) (x1 : OhR) {o : Int32} (hm : mX13_holds FI FR t x1 = some o) : oT G 101 iX13_holds [vR (some t), vR x1] (FI, FL, FR, GR, AI, AL, AR, BR, AN, C) (0, 0) (fun v h => v = (some (vI o)) ∧ h = (FI, FL, FR, GR, AI, AL, AR, BR, AN, C)) ohNo :=
  t_X13_holds_f 100 t ht x1 hm
noncomputable def mX8_earns_j53 (n : Nat) (FI : OhI) (FR : OhQ) (GR : OhQ) (AR : OhQ) (BR : OhQ) (AN : OhN) (t : Nat × Nat) (x1 : OhR) (x2 : Int32) (x3 : Int32) : Option ((Int32 × Int32) ⊕ (Int32)) :=
  (oD 17 (FR t.1 t.2 6)).bind fun a7 =>
  (mJ2_get FI GR AR BR AN a7 x3).bind fun r8 =>
  (oD 11 r8).bind fun a9 =>
  some (.inl (x2 + (FI a9.1 a9.2 0), x3 + (1 : Int32)))
theorem x_mX8_earns_j53 {G : OhG} {FI AI : OhI} {FL AL : OhL} {FR GR AR BR : OhQ} {AN : OhN} {C : OhC} {k : Nat × Nat} {Φ : OhP} {Ψ : OhX} (n : Nat) (t : Nat × Nat) (ht : ohKd t.1 = 7) (x1 : OhR) (x2 : Int32) (x3 : Int32) {r : (Int32 × Int32) ⊕ (Int32)} (hm : mX8_earns_j53 n FI FR GR AR BR AN t x1 x2 x3 = some r) (hk : ∀ v : Int32 × Int32, r = .inl v → oX G 102 iX8_earns 4 [(0, vR (some t)), (1, vR x1), (2, vI v.1), (3, vI v.2)] [] (FI, FL, FR, GR, AI, AL, AR, BR, AN, C) k Φ Ψ) (hx1 : ∀ v : Int32, r = .inr v → oX G 102 iX8_earns 76 [(2, vI v)] [] (FI, FL, FR, GR, AI, AL, AR, BR, AN, C) k Φ Ψ) : oX G 102 iX8_earns 53 [(0, vR (some t)), (1, vR x1), (2, vI x2), (3, vI x3)] [] (FI, FL, FR, GR, AI, AL, AR, BR, AN, C) k Φ Ψ := by
  unfold mX8_earns_j53 at hm
  refine oX_iload_n dX8_earns_53 rfl rfl ?_
  refine oX_aload_n dX8_earns_54 rfl rfl ?_
  refine oX_getF fX8_29 rfl (oD_t ht) dX8_earns_55 rfl ?_
  refine oX_iload_n dX8_earns_58 rfl rfl ?_
  obtain ⟨a7, e7, hm⟩ := bd_s hm
  obtain ⟨r8, g8, hm⟩ := bd_s hm
  refine oX_cV (as := [vI x3]) dX8_earns_59 rfl e7 rfl (by decide) rfl ok_J2_get rfl rfl q1512 q649 q650 q132 q651 (by decide) (Nat.le_of_ble_eq_true rfl) (t_J2_get a7 ((oD_some e7).2) x3 g8) ?_
  obtain ⟨a9, e9, hm⟩ := bd_s hm
  refine oX_cast e9 rfl (by decide) q1578 dX8_earns_62 ?_
  refine oX_getI fX8_66 rfl (oD_self e9) dX8_earns_65 ?_
  refine oX_iadd dX8_earns_68 ?_
  refine oX_istore_n (ls' := [(2, vI (x2 + (FI a9.1 a9.2 0))), (0, vR (some t)), (1, vR x1), (3, vI x3)]) dX8_earns_69 rfl (by decide) rfl ?_
  refine oX_iinc (v := x3 + (1 : Int32)) (ls' := [(3, vI (x3 + (1 : Int32))), (2, vI (x2 + (FI a9.1 a9.2 0))), (0, vR (some t)), (1, vR x1)]) dX8_earns_70 rfl rfl (by decide) rfl ?_
  refine oX_goto (tgt := 4) dX8_earns_73 (by decide) ?_
  exact oX_sub [2, 3, 1, 0] rfl (hk (x2 + (FI a9.1 a9.2 0), x3 + (1 : Int32)) (Option.some.inj hm).symm)
noncomputable def mX8_earns_b4 (n : Nat) (FI : OhI) (FR : OhQ) (GR : OhQ) (AR : OhQ) (BR : OhQ) (AN : OhN) (t : Nat × Nat) (x1 : OhR) (x2 : Int32) (x3 : Int32) : Option ((Int32 × Int32) ⊕ (Int32)) :=
  (oD 17 (FR t.1 t.2 6)).bind fun a1 =>
  (mJ2_size FI a1).bind fun r2 =>
  (if r2 ≤ x3 then
  some (.inr x2)
else
  (mJ2_get FI GR AR BR AN a1 x3).bind fun r4 =>
    (oD 11 r4).bind fun a5 =>
    (if (FR a5.1 a5.2 1) = none then
    mX8_earns_j53 n FI FR GR AR BR AN t x1 x2 x3
  else
    (mJ2_get FI GR AR BR AN a1 x3).bind fun r10 =>
      (oD 11 r10).bind fun a11 =>
      (oD 12 (FR a11.1 a11.2 1)).bind fun a12 =>
      (mX13_holds FI FR a12 x1).bind fun r13 =>
      (if r13 = 0 then
      some (.inl (x2, x3 + (1 : Int32)))
    else
      mX8_earns_j53 n FI FR GR AR BR AN t x1 x2 x3)))
theorem x_mX8_earns_b4 {G : OhG} {FI AI : OhI} {FL AL : OhL} {FR GR AR BR : OhQ} {AN : OhN} {C : OhC} {k : Nat × Nat} {Φ : OhP} {Ψ : OhX} (n : Nat) (t : Nat × Nat) (ht : ohKd t.1 = 7) (x1 : OhR) (x2 : Int32) (x3 : Int32) {r : (Int32 × Int32) ⊕ (Int32)} (hm : mX8_earns_b4 n FI FR GR AR BR AN t x1 x2 x3 = some r) (hk : ∀ v : Int32 × Int32, r = .inl v → oX G 102 iX8_earns 4 [(0, vR (some t)), (1, vR x1), (2, vI v.1), (3, vI v.2)] [] (FI, FL, FR, GR, AI, AL, AR, BR, AN, C) k Φ Ψ) (hx1 : ∀ v : Int32, r = .inr v → oX G 102 iX8_earns 76 [(2, vI v)] [] (FI, FL, FR, GR, AI, AL, AR, BR, AN, C) k Φ Ψ) : oX G 102 iX8_earns 4 [(0, vR (some t)), (1, vR x1), (2, vI x2), (3, vI x3)] [] (FI, FL, FR, GR, AI, AL, AR, BR, AN, C) k Φ Ψ := by
  unfold mX8_earns_b4 at hm
  refine oX_iload_n dX8_earns_4 rfl rfl ?_
  refine oX_aload_n dX8_earns_5 rfl rfl ?_
  refine oX_getF fX8_29 rfl (oD_t ht) dX8_earns_6 rfl ?_
  obtain ⟨a1, e1, hm⟩ := bd_s hm
  obtain ⟨r2, g2, hm⟩ := bd_s hm
  refine oX_cV (as := []) dX8_earns_9 rfl e1 rfl (by decide) rfl ok_J2_size rfl rfl q1511 q431 q432 q132 q433 (by decide) (Nat.le_of_ble_eq_true rfl) (t_J2_size a1 ((oD_some e1).2) g2) ?_
  refine oX_icmp_ge (tgt := 76) dX8_earns_12 (by decide) (fun c3 => ?_) (fun c3 => ?_)
  · have hm := ifp c3 hm
    exact oX_sub [2] rfl (hx1 x2 (Option.some.inj hm).symm)
  · have hm := ifn c3 hm
    refine oX_aload_n dX8_earns_15 rfl rfl ?_
    refine oX_getF fX8_29 rfl (oD_t ht) dX8_earns_16 rfl ?_
    refine oX_iload_n dX8_earns_19 rfl rfl ?_
    obtain ⟨r4, g4, hm⟩ := bd_s hm
    refine oX_cV (as := [vI x3]) dX8_earns_20 rfl e1 rfl (by decide) rfl ok_J2_get rfl rfl q1512 q649 q650 q132 q651 (by decide) (Nat.le_of_ble_eq_true rfl) (t_J2_get a1 ((oD_some e1).2) x3 g4) ?_
    obtain ⟨a5, e5, hm⟩ := bd_s hm
    refine oX_cast e5 rfl (by decide) q1578 dX8_earns_23 ?_
    refine oX_getF fX8_56 rfl (oD_self e5) dX8_earns_26 rfl ?_
    refine oX_ifnull (tgt := 53) dX8_earns_29 (by decide) (fun c6 => ?_) (fun c6 => ?_)
    · have hm := ifp c6 hm
      exact oX_sub [0, 1, 2, 3] rfl (x_mX8_earns_j53 n t ht x1 x2 x3 hm hk hx1)
    · have hm := ifn c6 hm
      refine oX_aload_n dX8_earns_32 rfl rfl ?_
      refine oX_getF fX8_29 rfl (oD_t ht) dX8_earns_33 rfl ?_
      refine oX_iload_n dX8_earns_36 rfl rfl ?_
      obtain ⟨r10, g10, hm⟩ := bd_s hm
      refine oX_cV (as := [vI x3]) dX8_earns_37 rfl e1 rfl (by decide) rfl ok_J2_get rfl rfl q1512 q649 q650 q132 q651 (by decide) (Nat.le_of_ble_eq_true rfl) (t_J2_get a1 ((oD_some e1).2) x3 g10) ?_
      obtain ⟨a11, e11, hm⟩ := bd_s hm
      refine oX_cast e11 rfl (by decide) q1578 dX8_earns_40 ?_
      refine oX_getF fX8_56 rfl (oD_self e11) dX8_earns_43 rfl ?_
      refine oX_aload_n dX8_earns_46 rfl rfl ?_
      obtain ⟨a12, e12, hm⟩ := bd_s hm
      obtain ⟨r13, g13, hm⟩ := bd_s hm
      refine oX_cV (as := [vR x1]) dX8_earns_47 rfl e12 rfl (by decide) rfl ok_X13_holds rfl rfl q1579 q1580 q1581 q163 q1582 (by decide) (Nat.le_of_ble_eq_true rfl) (t_X13_holds a12 ((oD_some e12).2) x1 g13) ?_
      refine oX_if_eq (tgt := 70) dX8_earns_50 (by decide) (fun c14 => ?_) (fun c14 => ?_)
      · have hm := ifp c14 hm
        refine oX_iinc (v := x3 + (1 : Int32)) (ls' := [(3, vI (x3 + (1 : Int32))), (0, vR (some t)), (1, vR x1), (2, vI x2)]) dX8_earns_70 rfl rfl (by decide) rfl ?_
        refine oX_goto (tgt := 4) dX8_earns_73 (by decide) ?_
        exact oX_sub [1, 2, 3, 0] rfl (hk (x2, x3 + (1 : Int32)) (Option.some.inj hm).symm)
      · have hm := ifn c14 hm
        exact oX_sub [0, 1, 2, 3] rfl (x_mX8_earns_j53 n t ht x1 x2 x3 hm hk hx1)
theorem l_mX8_earns_b4 {G : OhG} {FI : OhI} {FL : OhL} {FR : OhQ} {GR : OhQ} {AI : OhI} {AL : OhL} {AR : OhQ} {BR : OhQ} {AN : OhN} {C : OhC} {k : Nat × Nat} {Φ : OhP} {Ψ : OhX} (n : Nat) (t : Nat × Nat) (ht : ohKd t.1 = 7) (x1 : OhR) : ∀ (f : Nat) (x2 : Int32) (x3 : Int32) (b : (Int32)), lpF (fun v => mX8_earns_b4 n FI FR GR AR BR AN t x1 v.1 v.2) f (x2, x3) = some b → (oX G 102 iX8_earns 76 [(2, vI b)] [] (FI, FL, FR, GR, AI, AL, AR, BR, AN, C) k Φ Ψ) → oX G 102 iX8_earns 4 [(0, vR (some t)), (1, vR x1), (2, vI x2), (3, vI x3)] [] (FI, FL, FR, GR, AI, AL, AR, BR, AN, C) k Φ Ψ := by
  intro f
  induction f with
  | zero =>
    intro x2 x3 b hm
    cases hm
  | succ f ih =>
    intro x2 x3 b hm hx1
    obtain ⟨r, hr, hm⟩ := lp_s hm
    refine x_mX8_earns_b4 n t ht x1 x2 x3 hr (fun v e => ?_) (fun v e => ?_)
    · subst e; exact ih v.1 v.2 _ hm hx1
    · subst e; cases (show v = b from hm); exact hx1
noncomputable def mX8_earns (n : Nat) (FI : OhI) (FR : OhQ) (GR : OhQ) (AR : OhQ) (BR : OhQ) (AN : OhN) (t : Nat × Nat) (x1 : OhR) : Option (Int32) :=
  (lpF (fun v => mX8_earns_b4 n FI FR GR AR BR AN t x1 v.1 v.2) n ((0 : Int32), (0 : Int32))).bind fun v15 =>
  some v15
theorem x_mX8_earns {G : OhG} {FI AI : OhI} {FL AL : OhL} {FR GR AR BR : OhQ} {AN : OhN} {C : OhC} {k : Nat × Nat} {Φ : OhP} {Ψ : OhX} (n : Nat) (t : Nat × Nat) (ht : ohKd t.1 = 7) (x1 : OhR) {r : Int32} (hm : mX8_earns n FI FR GR AR BR AN t x1 = some r) (hK : Φ (some (vI r)) (FI, FL, FR, GR, AI, AL, AR, BR, AN, C)) : oX G 102 iX8_earns 0 [(0, vR (some t)), (1, vR x1)] [] (FI, FL, FR, GR, AI, AL, AR, BR, AN, C) k Φ Ψ := by
  unfold mX8_earns at hm
  refine oX_iconst (v := (0 : Int32)) dX8_earns_0 (by decide) ?_
  refine oX_istore_n (ls' := [(2, vI (0 : Int32)), (0, vR (some t)), (1, vR x1)]) dX8_earns_1 rfl (by decide) rfl ?_
  refine oX_iconst (v := (0 : Int32)) dX8_earns_2 (by decide) ?_
  refine oX_istore_n (ls' := [(3, vI (0 : Int32)), (2, vI (0 : Int32)), (0, vR (some t)), (1, vR x1)]) dX8_earns_3 rfl (by decide) rfl ?_
  obtain ⟨v15, g15, hm⟩ := bd_s hm
  refine oX_sub [2, 3, 1, 0] rfl (l_mX8_earns_b4 n t ht x1 n (0 : Int32) (0 : Int32) _ g15 ?_)
  refine oX_iload_n dX8_earns_76 rfl rfl ?_
  obtain rfl := Option.some.inj hm
  exact oX_iret dX8_earns_77 rfl rfl hK
theorem t_X8_earns {G : OhG} {FI AI : OhI} {FL AL : OhL} {FR GR AR BR : OhQ} {AN : OhN} {C : OhC} (n : Nat) (t : Nat × Nat) (ht : ohKd t.1 = 7) (x1 : OhR) {o : Int32} (hm : mX8_earns n FI FR GR AR BR AN t x1 = some o) : oT G 102 iX8_earns [vR (some t), vR x1] (FI, FL, FR, GR, AI, AL, AR, BR, AN, C) (0, 0) (fun v h => v = (some (vI o)) ∧ h = (FI, FL, FR, GR, AI, AL, AR, BR, AN, C)) ohNo :=
  oT_of (by decide) rfl (Nat.le_of_ble_eq_true rfl) (x_mX8_earns n t ht x1 hm ⟨rfl, rfl⟩)
noncomputable def mX1_feeOf_j45 (n : Nat) (FI : OhI) (FR : OhQ) (GR : OhQ) (AI : OhI) (AR : OhQ) (BR : OhQ) (AN : OhN) (x1 : OhR) (x2 : OhR) (x4 : Int32) (x5 : Int32) (y0 : Int32) : Option ((Int32 × Int32 × Int32) ⊕ (Int32 × Int32)) :=
  (if x4 = 0 then
  (oD 14 x2).bind fun a10 =>
    gd (vp_in (FI a10.1 a10.2 0) 66) <|
    gd (vp_in x5 8) <|
    (oD 6 x1).bind fun a13 =>
    (if (AI 419 ((FI a10.1 a10.2 0).toNatClampNeg) x5.toNatClampNeg) = (FI a13.1 a13.2 0) then
    gd (vp_in (FI a10.1 a10.2 0) 66) <|
      gd (vp_in x5 8) <|
      (if (AI 420 ((FI a10.1 a10.2 0).toNatClampNeg) x5.toNatClampNeg) = (-1 : Int32) then
      some (.inl (y0, (0 : Int32), x5 + (1 : Int32)))
    else
      gd (vp_in (FI a10.1 a10.2 0) 66) <|
        gd (vp_in x5 8) <|
        (if (AI 420 ((FI a10.1 a10.2 0).toNatClampNeg) x5.toNatClampNeg) = (FI a13.1 a13.2 0) then
        some (.inl (y0, (0 : Int32), x5 + (1 : Int32)))
      else
        some (.inl (y0, (1 : Int32), x5 + (1 : Int32)))))
  else
    some (.inl (y0, (0 : Int32), x5 + (1 : Int32))))
else
  some (.inl (y0, (1 : Int32), x5 + (1 : Int32))))
theorem x_mX1_feeOf_j45 {G : OhG} {FI AI : OhI} {FL AL : OhL} {FR GR AR BR : OhQ} {AN : OhN} {C : OhC} {k : Nat × Nat} {Φ : OhP} {Ψ : OhX} (hH : ohShH FR AR AN) (n : Nat) (x1 : OhR) (x2 : OhR) (x4 : Int32) (x5 : Int32) (y0 : Int32) {r : (Int32 × Int32 × Int32) ⊕ (Int32 × Int32)} (hm : mX1_feeOf_j45 n FI FR GR AI AR BR AN x1 x2 x4 x5 y0 = some r) (hk : ∀ v : Int32 × Int32 × Int32, r = .inl v → oX G 103 iX1_feeOf 8 [(0, vR (some (0, 0))), (1, vR x1), (2, vR x2), (3, vI v.1), (4, vI v.2.1), (5, vI v.2.2)] [] (FI, FL, FR, GR, AI, AL, AR, BR, AN, C) k Φ Ψ) (hx1 : ∀ v : Int32 × Int32, r = .inr v → oX G 103 iX1_feeOf 118 [(0, vR (some (0, 0))), (1, vR x1), (2, vR x2), (3, vI v.1), (4, vI v.2)] [] (FI, FL, FR, GR, AI, AL, AR, BR, AN, C) k Φ Ψ) : oX G 103 iX1_feeOf 45 [(0, vR (some (0, 0))), (1, vR x1), (2, vR x2), (4, vI x4), (5, vI x5)] [vI y0] (FI, FL, FR, GR, AI, AL, AR, BR, AN, C) k Φ Ψ := by
  unfold mX1_feeOf_j45 at hm
  refine oX_istore_n (ls' := [(3, vI y0), (0, vR (some (0, 0))), (1, vR x1), (2, vR x2), (4, vI x4), (5, vI x5)]) dX1_feeOf_45 rfl (by decide) rfl ?_
  refine oX_iload dX1_feeOf_46 rfl ?_
  refine oX_if_ne (tgt := 105) dX1_feeOf_48 (by decide) (fun c9 => ?_) (fun c9 => ?_)
  · have hm := ifp c9 hm
    refine oX_aload_n dX1_feeOf_51 rfl rfl ?_
    refine oX_getF fX1_64 rfl oDs0 dX1_feeOf_52 (ohF319 hH) ?_
    refine oX_aload_n dX1_feeOf_55 rfl rfl ?_
    obtain ⟨a10, e10, hm⟩ := bd_s hm
    refine oX_getI fX1_233 rfl e10 dX1_feeOf_56 ?_
    obtain ⟨g11, hm⟩ := gd_s hm
    refine oX_aaldR oDs319 (oIn (ohN319 hH) g11) dX1_feeOf_59 (ohA319 hH (oLt g11)) ?_
    refine oX_iload dX1_feeOf_60 rfl ?_
    obtain ⟨g12, hm⟩ := gd_s hm
    refine oX_iald oDs419 (oIn (ohM419 hH (oLt g11)) g12) dX1_feeOf_62 ?_
    refine oX_aload_n dX1_feeOf_63 rfl rfl ?_
    obtain ⟨a13, e13, hm⟩ := bd_s hm
    refine oX_getI fX1_356 rfl e13 dX1_feeOf_64 ?_
    refine oX_icmp_ne (tgt := 109) dX1_feeOf_67 (by decide) (fun c14 => ?_) (fun c14 => ?_)
    · have hm := ifp c14 hm
      refine oX_aload_n dX1_feeOf_70 rfl rfl ?_
      refine oX_getF fX1_67 rfl oDs0 dX1_feeOf_71 (ohF320 hH) ?_
      refine oX_aload_n dX1_feeOf_74 rfl rfl ?_
      refine oX_getI fX1_233 rfl e10 dX1_feeOf_75 ?_
      obtain ⟨g15, hm⟩ := gd_s hm
      refine oX_aaldR oDs320 (oIn (ohN320 hH) g15) dX1_feeOf_78 (ohA320 hH (oLt g15)) ?_
      refine oX_iload dX1_feeOf_79 rfl ?_
      obtain ⟨g16, hm⟩ := gd_s hm
      refine oX_iald oDs420 (oIn (ohM420 hH (oLt g15)) g16) dX1_feeOf_81 ?_
      refine oX_iconst (v := (-1 : Int32)) dX1_feeOf_82 (by decide) ?_
      refine oX_icmp_eq (tgt := 109) dX1_feeOf_83 (by decide) (fun c17 => ?_) (fun c17 => ?_)
      · have hm := ifp c17 hm
        refine oX_iconst (v := (0 : Int32)) dX1_feeOf_109 (by decide) ?_
        refine oX_istore (ls' := [(4, vI (0 : Int32)), (3, vI y0), (0, vR (some (0, 0))), (1, vR x1), (2, vR x2), (5, vI x5)]) dX1_feeOf_110 (by decide) rfl ?_
        refine oX_iinc (v := x5 + (1 : Int32)) (ls' := [(5, vI (x5 + (1 : Int32))), (4, vI (0 : Int32)), (3, vI y0), (0, vR (some (0, 0))), (1, vR x1), (2, vR x2)]) dX1_feeOf_112 rfl rfl (by decide) rfl ?_
        refine oX_goto (tgt := 8) dX1_feeOf_115 (by decide) ?_
        exact oX_sub [3, 4, 5, 2, 1, 0] rfl (hk (y0, (0 : Int32), x5 + (1 : Int32)) (Option.some.inj hm).symm)
      · have hm := ifn c17 hm
        refine oX_aload_n dX1_feeOf_86 rfl rfl ?_
        refine oX_getF fX1_67 rfl oDs0 dX1_feeOf_87 (ohF320 hH) ?_
        refine oX_aload_n dX1_feeOf_90 rfl rfl ?_
        refine oX_getI fX1_233 rfl e10 dX1_feeOf_91 ?_
        obtain ⟨g18, hm⟩ := gd_s hm
        refine oX_aaldR oDs320 (oIn (ohN320 hH) g18) dX1_feeOf_94 (ohA320 hH (oLt g18)) ?_
        refine oX_iload dX1_feeOf_95 rfl ?_
        obtain ⟨g19, hm⟩ := gd_s hm
        refine oX_iald oDs420 (oIn (ohM420 hH (oLt g18)) g19) dX1_feeOf_97 ?_
        refine oX_aload_n dX1_feeOf_98 rfl rfl ?_
        refine oX_getI fX1_356 rfl e13 dX1_feeOf_99 ?_
        refine oX_icmp_eq (tgt := 109) dX1_feeOf_102 (by decide) (fun c20 => ?_) (fun c20 => ?_)
        · have hm := ifp c20 hm
          refine oX_iconst (v := (0 : Int32)) dX1_feeOf_109 (by decide) ?_
          refine oX_istore (ls' := [(4, vI (0 : Int32)), (3, vI y0), (0, vR (some (0, 0))), (1, vR x1), (2, vR x2), (5, vI x5)]) dX1_feeOf_110 (by decide) rfl ?_
          refine oX_iinc (v := x5 + (1 : Int32)) (ls' := [(5, vI (x5 + (1 : Int32))), (4, vI (0 : Int32)), (3, vI y0), (0, vR (some (0, 0))), (1, vR x1), (2, vR x2)]) dX1_feeOf_112 rfl rfl (by decide) rfl ?_
          refine oX_goto (tgt := 8) dX1_feeOf_115 (by decide) ?_
          exact oX_sub [3, 4, 5, 2, 1, 0] rfl (hk (y0, (0 : Int32), x5 + (1 : Int32)) (Option.some.inj hm).symm)
        · have hm := ifn c20 hm
          refine oX_iconst (v := (1 : Int32)) dX1_feeOf_105 (by decide) ?_
          refine oX_goto (tgt := 110) dX1_feeOf_106 (by decide) ?_
          refine oX_istore (ls' := [(4, vI (1 : Int32)), (3, vI y0), (0, vR (some (0, 0))), (1, vR x1), (2, vR x2), (5, vI x5)]) dX1_feeOf_110 (by decide) rfl ?_
          refine oX_iinc (v := x5 + (1 : Int32)) (ls' := [(5, vI (x5 + (1 : Int32))), (4, vI (1 : Int32)), (3, vI y0), (0, vR (some (0, 0))), (1, vR x1), (2, vR x2)]) dX1_feeOf_112 rfl rfl (by decide) rfl ?_
          refine oX_goto (tgt := 8) dX1_feeOf_115 (by decide) ?_
          exact oX_sub [3, 4, 5, 2, 1, 0] rfl (hk (y0, (1 : Int32), x5 + (1 : Int32)) (Option.some.inj hm).symm)
    · have hm := ifn c14 hm
      refine oX_iconst (v := (0 : Int32)) dX1_feeOf_109 (by decide) ?_
      refine oX_istore (ls' := [(4, vI (0 : Int32)), (3, vI y0), (0, vR (some (0, 0))), (1, vR x1), (2, vR x2), (5, vI x5)]) dX1_feeOf_110 (by decide) rfl ?_
      refine oX_iinc (v := x5 + (1 : Int32)) (ls' := [(5, vI (x5 + (1 : Int32))), (4, vI (0 : Int32)), (3, vI y0), (0, vR (some (0, 0))), (1, vR x1), (2, vR x2)]) dX1_feeOf_112 rfl rfl (by decide) rfl ?_
      refine oX_goto (tgt := 8) dX1_feeOf_115 (by decide) ?_
      exact oX_sub [3, 4, 5, 2, 1, 0] rfl (hk (y0, (0 : Int32), x5 + (1 : Int32)) (Option.some.inj hm).symm)
  · have hm := ifn c9 hm
    refine oX_iconst (v := (1 : Int32)) dX1_feeOf_105 (by decide) ?_
    refine oX_goto (tgt := 110) dX1_feeOf_106 (by decide) ?_
    refine oX_istore (ls' := [(4, vI (1 : Int32)), (3, vI y0), (0, vR (some (0, 0))), (1, vR x1), (2, vR x2), (5, vI x5)]) dX1_feeOf_110 (by decide) rfl ?_
    refine oX_iinc (v := x5 + (1 : Int32)) (ls' := [(5, vI (x5 + (1 : Int32))), (4, vI (1 : Int32)), (3, vI y0), (0, vR (some (0, 0))), (1, vR x1), (2, vR x2)]) dX1_feeOf_112 rfl rfl (by decide) rfl ?_
    refine oX_goto (tgt := 8) dX1_feeOf_115 (by decide) ?_
    exact oX_sub [3, 4, 5, 2, 1, 0] rfl (hk (y0, (1 : Int32), x5 + (1 : Int32)) (Option.some.inj hm).symm)
noncomputable def mX1_feeOf_j40 (n : Nat) (FI : OhI) (FR : OhQ) (GR : OhQ) (AI : OhI) (AR : OhQ) (BR : OhQ) (AN : OhN) (x1 : OhR) (x2 : OhR) (x4 : Int32) (x5 : Int32) : Option ((Int32 × Int32 × Int32) ⊕ (Int32 × Int32)) :=
  mX1_feeOf_j45 n FI FR GR AI AR BR AN x1 x2 x4 x5 (1 : Int32)
theorem x_mX1_feeOf_j40 {G : OhG} {FI AI : OhI} {FL AL : OhL} {FR GR AR BR : OhQ} {AN : OhN} {C : OhC} {k : Nat × Nat} {Φ : OhP} {Ψ : OhX} (hH : ohShH FR AR AN) (n : Nat) (x1 : OhR) (x2 : OhR) (x4 : Int32) (x5 : Int32) {r : (Int32 × Int32 × Int32) ⊕ (Int32 × Int32)} (hm : mX1_feeOf_j40 n FI FR GR AI AR BR AN x1 x2 x4 x5 = some r) (hk : ∀ v : Int32 × Int32 × Int32, r = .inl v → oX G 103 iX1_feeOf 8 [(0, vR (some (0, 0))), (1, vR x1), (2, vR x2), (3, vI v.1), (4, vI v.2.1), (5, vI v.2.2)] [] (FI, FL, FR, GR, AI, AL, AR, BR, AN, C) k Φ Ψ) (hx1 : ∀ v : Int32 × Int32, r = .inr v → oX G 103 iX1_feeOf 118 [(0, vR (some (0, 0))), (1, vR x1), (2, vR x2), (3, vI v.1), (4, vI v.2)] [] (FI, FL, FR, GR, AI, AL, AR, BR, AN, C) k Φ Ψ) : oX G 103 iX1_feeOf 40 [(0, vR (some (0, 0))), (1, vR x1), (2, vR x2), (4, vI x4), (5, vI x5)] [] (FI, FL, FR, GR, AI, AL, AR, BR, AN, C) k Φ Ψ := by
  unfold mX1_feeOf_j40 at hm
  refine oX_iconst (v := (1 : Int32)) dX1_feeOf_40 (by decide) ?_
  refine oX_goto (tgt := 45) dX1_feeOf_41 (by decide) ?_
  exact oX_sub [0, 1, 2, 3, 4] rfl (x_mX1_feeOf_j45 hH n x1 x2 x4 x5 (1 : Int32) hm hk hx1)
noncomputable def mX1_feeOf_b8 (n : Nat) (FI : OhI) (FR : OhQ) (GR : OhQ) (AI : OhI) (AR : OhQ) (BR : OhQ) (AN : OhN) (x1 : OhR) (x2 : OhR) (x3 : Int32) (x4 : Int32) (x5 : Int32) : Option ((Int32 × Int32 × Int32) ⊕ (Int32 × Int32)) :=
  (oD 14 x2).bind fun a1 =>
  (mX15_roles FI FR a1).bind fun r2 =>
  (if r2 ≤ x5 then
  some (.inr (x3, x4))
else
  (if x3 = 0 then
    gd (vp_in (FI a1.1 a1.2 0) 66) <|
      gd (vp_in x5 8) <|
      (oD 6 x1).bind fun a7 =>
      (if (AI 421 ((FI a1.1 a1.2 0).toNatClampNeg) x5.toNatClampNeg) = (FI a7.1 a7.2 0) then
      mX1_feeOf_j40 n FI FR GR AI AR BR AN x1 x2 x4 x5
    else
      mX1_feeOf_j45 n FI FR GR AI AR BR AN x1 x2 x4 x5 (0 : Int32))
  else
    mX1_feeOf_j40 n FI FR GR AI AR BR AN x1 x2 x4 x5))
theorem x_mX1_feeOf_b8 {G : OhG} {FI AI : OhI} {FL AL : OhL} {FR GR AR BR : OhQ} {AN : OhN} {C : OhC} {k : Nat × Nat} {Φ : OhP} {Ψ : OhX} (hH : ohShH FR AR AN) (n : Nat) (x1 : OhR) (x2 : OhR) (x3 : Int32) (x4 : Int32) (x5 : Int32) {r : (Int32 × Int32 × Int32) ⊕ (Int32 × Int32)} (hm : mX1_feeOf_b8 n FI FR GR AI AR BR AN x1 x2 x3 x4 x5 = some r) (hk : ∀ v : Int32 × Int32 × Int32, r = .inl v → oX G 103 iX1_feeOf 8 [(0, vR (some (0, 0))), (1, vR x1), (2, vR x2), (3, vI v.1), (4, vI v.2.1), (5, vI v.2.2)] [] (FI, FL, FR, GR, AI, AL, AR, BR, AN, C) k Φ Ψ) (hx1 : ∀ v : Int32 × Int32, r = .inr v → oX G 103 iX1_feeOf 118 [(0, vR (some (0, 0))), (1, vR x1), (2, vR x2), (3, vI v.1), (4, vI v.2)] [] (FI, FL, FR, GR, AI, AL, AR, BR, AN, C) k Φ Ψ) : oX G 103 iX1_feeOf 8 [(0, vR (some (0, 0))), (1, vR x1), (2, vR x2), (3, vI x3), (4, vI x4), (5, vI x5)] [] (FI, FL, FR, GR, AI, AL, AR, BR, AN, C) k Φ Ψ := by
  unfold mX1_feeOf_b8 at hm
  refine oX_iload dX1_feeOf_8 rfl ?_
  refine oX_aload_n dX1_feeOf_10 rfl rfl ?_
  obtain ⟨a1, e1, hm⟩ := bd_s hm
  obtain ⟨r2, g2, hm⟩ := bd_s hm
  refine oX_cV (as := []) dX1_feeOf_11 rfl e1 rfl (by decide) rfl ok_X15_roles rfl rfl q1352 q1353 q1354 q165 q1355 (by decide) (Nat.le_of_ble_eq_true rfl) (t_X15_roles a1 ((oD_some e1).2) g2) ?_
  refine oX_icmp_ge (tgt := 118) dX1_feeOf_14 (by decide) (fun c3 => ?_) (fun c3 => ?_)
  · have hm := ifp c3 hm
    exact oX_sub [0, 1, 2, 3, 4] rfl (hx1 (x3, x4) (Option.some.inj hm).symm)
  · have hm := ifn c3 hm
    refine oX_iload_n dX1_feeOf_17 rfl rfl ?_
    refine oX_if_ne (tgt := 40) dX1_feeOf_18 (by decide) (fun c4 => ?_) (fun c4 => ?_)
    · have hm := ifp c4 hm
      refine oX_aload_n dX1_feeOf_21 rfl rfl ?_
      refine oX_getF fX1_70 rfl oDs0 dX1_feeOf_22 (ohF321 hH) ?_
      refine oX_aload_n dX1_feeOf_25 rfl rfl ?_
      refine oX_getI fX1_233 rfl e1 dX1_feeOf_26 ?_
      obtain ⟨g5, hm⟩ := gd_s hm
      refine oX_aaldR oDs321 (oIn (ohN321 hH) g5) dX1_feeOf_29 (ohA321 hH (oLt g5)) ?_
      refine oX_iload dX1_feeOf_30 rfl ?_
      obtain ⟨g6, hm⟩ := gd_s hm
      refine oX_iald oDs421 (oIn (ohM421 hH (oLt g5)) g6) dX1_feeOf_32 ?_
      refine oX_aload_n dX1_feeOf_33 rfl rfl ?_
      obtain ⟨a7, e7, hm⟩ := bd_s hm
      refine oX_getI fX1_356 rfl e7 dX1_feeOf_34 ?_
      refine oX_icmp_ne (tgt := 44) dX1_feeOf_37 (by decide) (fun c8 => ?_) (fun c8 => ?_)
      · have hm := ifp c8 hm
        exact oX_sub [0, 1, 2, 4, 5] rfl (x_mX1_feeOf_j40 hH n x1 x2 x4 x5 hm hk hx1)
      · have hm := ifn c8 hm
        refine oX_iconst (v := (0 : Int32)) dX1_feeOf_44 (by decide) ?_
        exact oX_sub [0, 1, 2, 4, 5] rfl (x_mX1_feeOf_j45 hH n x1 x2 x4 x5 (0 : Int32) hm hk hx1)
    · have hm := ifn c4 hm
      exact oX_sub [0, 1, 2, 4, 5] rfl (x_mX1_feeOf_j40 hH n x1 x2 x4 x5 hm hk hx1)
theorem l_mX1_feeOf_b8 {G : OhG} {FI : OhI} {FL : OhL} {FR : OhQ} {GR : OhQ} {AI : OhI} {AL : OhL} {AR : OhQ} {BR : OhQ} {AN : OhN} {C : OhC} {k : Nat × Nat} {Φ : OhP} {Ψ : OhX} (hH : ohShH FR AR AN) (n : Nat) (x1 : OhR) (x2 : OhR) : ∀ (f : Nat) (x3 : Int32) (x4 : Int32) (x5 : Int32) (b : (Int32 × Int32)), lpF (fun v => mX1_feeOf_b8 n FI FR GR AI AR BR AN x1 x2 v.1 v.2.1 v.2.2) f (x3, x4, x5) = some b → (oX G 103 iX1_feeOf 118 [(0, vR (some (0, 0))), (1, vR x1), (2, vR x2), (3, vI b.1), (4, vI b.2)] [] (FI, FL, FR, GR, AI, AL, AR, BR, AN, C) k Φ Ψ) → oX G 103 iX1_feeOf 8 [(0, vR (some (0, 0))), (1, vR x1), (2, vR x2), (3, vI x3), (4, vI x4), (5, vI x5)] [] (FI, FL, FR, GR, AI, AL, AR, BR, AN, C) k Φ Ψ := by
  intro f
  induction f with
  | zero =>
    intro x3 x4 x5 b hm
    cases hm
  | succ f ih =>
    intro x3 x4 x5 b hm hx1
    obtain ⟨r, hr, hm⟩ := lp_s hm
    refine x_mX1_feeOf_b8 hH n x1 x2 x3 x4 x5 hr (fun v e => ?_) (fun v e => ?_)
    · subst e; exact ih v.1 v.2.1 v.2.2 _ hm hx1
    · subst e; cases (show v = b from hm); exact hx1
noncomputable def mX1_feeOf_j292 (n : Nat) (FI : OhI) (FR : OhQ) (GR : OhQ) (AI : OhI) (AR : OhQ) (BR : OhQ) (AN : OhN) (x1 : OhR) (y1 : Int32) : Option (Int32 × OhI) :=
  oLet (sA FI 327 0 (uA (FI 327 0) 3 y1)) fun FI40 =>
  (oD 6 x1).bind fun a41 =>
  (oD 7 (GR a41.1 a41.2 4)).bind fun a42 =>
  (mX8_earns n FI40 FR GR AR BR AN a42 (some (327, 0))).bind fun r43 =>
  some (r43, FI40)
theorem x_mX1_feeOf_j292 {G : OhG} {FI AI : OhI} {FL AL : OhL} {FR GR AR BR : OhQ} {AN : OhN} {C : OhC} {k : Nat × Nat} {Φ : OhP} {Ψ : OhX} (hH : ohShH FR AR AN) (n : Nat) (x1 : OhR) (y1 : Int32) {r : Int32 × OhI} (hm : mX1_feeOf_j292 n FI FR GR AI AR BR AN x1 y1 = some r) (hK : Φ (some (vI r.1)) (r.2, FL, FR, GR, AI, AL, AR, BR, AN, C)) : oX G 103 iX1_feeOf 292 [(0, vR (some (0, 0))), (1, vR x1)] [vI y1, vR (some (327, 0))] (FI, FL, FR, GR, AI, AL, AR, BR, AN, C) k Φ Ψ := by
  unfold mX1_feeOf_j292 at hm
  obtain ⟨FI40, hFI40, hm⟩ := oLs hm
  refine oX_putI fX1_432 rfl (fun h9 => by cases h9) oDs327 dX1_feeOf_292 ⟨rfl, rfl⟩ hFI40 ?_
  refine oX_aload_n dX1_feeOf_295 rfl rfl ?_
  obtain ⟨a41, e41, hm⟩ := bd_s hm
  refine oX_getG fX1_175 rfl e41 dX1_feeOf_296 ?_
  refine oX_aload_n dX1_feeOf_299 rfl rfl ?_
  refine oX_getF fX1_92 rfl oDs0 dX1_feeOf_300 (ohF327 hH) ?_
  obtain ⟨a42, e42, hm⟩ := bd_s hm
  obtain ⟨r43, g43, hm⟩ := bd_s hm
  refine oX_cV (as := [vR (some (327, 0))]) dX1_feeOf_303 rfl e42 rfl (by decide) rfl ok_X8_earns rfl rfl q1574 q1575 q1576 q143 q1577 (by decide) (Nat.le_of_ble_eq_true rfl) (t_X8_earns n a42 ((oD_some e42).2) (some (327, 0)) g43) ?_
  obtain rfl := Option.some.inj hm
  exact oX_iret dX1_feeOf_306 rfl rfl hK
noncomputable def mX1_feeOf_j255 (n : Nat) (FI : OhI) (FR : OhQ) (GR : OhQ) (AI : OhI) (AR : OhQ) (BR : OhQ) (AN : OhN) (x1 : OhR) (x2 : OhR) (x5 : Int32) (y1 : Int32) : Option (Int32 × OhI) :=
  oLet (sA FI 327 0 (uA (FI 327 0) 2 y1)) fun FI38 =>
  (if x5 = 0 then
  mX1_feeOf_j292 n FI38 FR GR AI AR BR AN x1 (0 : Int32)
else
  (oD 6 x1).bind fun a44 =>
    (mX1_hoursOn n FI38 FR AI AR BR AN (FI38 a44.1 a44.2 0) x2).bind fun r45 =>
    (oD 7 (GR a44.1 a44.2 4)).bind fun a46 =>
    (mJ3_max (0 : Int32) (r45 - (FI38 a46.1 a46.2 1))).bind fun r47 =>
    mX1_feeOf_j292 n FI38 FR GR AI AR BR AN x1 r47)
theorem x_mX1_feeOf_j255 {G : OhG} {FI AI : OhI} {FL AL : OhL} {FR GR AR BR : OhQ} {AN : OhN} {C : OhC} {k : Nat × Nat} {Φ : OhP} {Ψ : OhX} (hH : ohShH FR AR AN) (n : Nat) (x1 : OhR) (x2 : OhR) (x5 : Int32) (y1 : Int32) {r : Int32 × OhI} (hm : mX1_feeOf_j255 n FI FR GR AI AR BR AN x1 x2 x5 y1 = some r) (hK : Φ (some (vI r.1)) (r.2, FL, FR, GR, AI, AL, AR, BR, AN, C)) : oX G 103 iX1_feeOf 255 [(0, vR (some (0, 0))), (1, vR x1), (2, vR x2), (5, vI x5)] [vI y1, vR (some (327, 0))] (FI, FL, FR, GR, AI, AL, AR, BR, AN, C) k Φ Ψ := by
  unfold mX1_feeOf_j255 at hm
  obtain ⟨FI38, hFI38, hm⟩ := oLs hm
  refine oX_putI fX1_429 rfl (fun h9 => by cases h9) oDs327 dX1_feeOf_255 ⟨rfl, rfl⟩ hFI38 ?_
  refine oX_aload_n dX1_feeOf_258 rfl rfl ?_
  refine oX_getF fX1_92 rfl oDs0 dX1_feeOf_259 (ohF327 hH) ?_
  refine oX_iload dX1_feeOf_262 rfl ?_
  refine oX_if_eq (tgt := 291) dX1_feeOf_264 (by decide) (fun c39 => ?_) (fun c39 => ?_)
  · have hm := ifp c39 hm
    refine oX_iconst (v := (0 : Int32)) dX1_feeOf_291 (by decide) ?_
    exact oX_sub [0, 1] rfl (x_mX1_feeOf_j292 hH n x1 (0 : Int32) hm hK)
  · have hm := ifn c39 hm
    refine oX_iconst (v := (0 : Int32)) dX1_feeOf_267 (by decide) ?_
    refine oX_aload_n dX1_feeOf_268 rfl rfl ?_
    refine oX_aload_n dX1_feeOf_269 rfl rfl ?_
    obtain ⟨a44, e44, hm⟩ := bd_s hm
    refine oX_getI fX1_356 rfl e44 dX1_feeOf_270 ?_
    refine oX_aload_n dX1_feeOf_273 rfl rfl ?_
    obtain ⟨r45, g45, hm⟩ := bd_s hm
    refine oX_cV (as := [vI (FI38 a44.1 a44.2 0), vR x2]) dX1_feeOf_274 rfl oDs0 rfl (by decide) rfl ok_X1_hoursOn rfl rfl q1531 q1533 qs41 q129 q1534 (by decide) (Nat.le_of_ble_eq_true rfl) (t_X1_hoursOn hH n (FI38 a44.1 a44.2 0) x2 g45) ?_
    refine oX_aload_n dX1_feeOf_277 rfl rfl ?_
    refine oX_getG fX1_175 rfl e44 dX1_feeOf_278 ?_
    obtain ⟨a46, e46, hm⟩ := bd_s hm
    refine oX_getI fX1_383 rfl e46 dX1_feeOf_281 ?_
    refine oX_isub dX1_feeOf_284 ?_
    obtain ⟨r47, g47, hm⟩ := bd_s hm
    refine oX_cS (as := [vI (0 : Int32), vI (r45 - (FI38 a46.1 a46.2 1))]) dX1_feeOf_285 rfl ok_J3_max rfl rfl q1551 q235 q134 q236 (by decide) (Nat.le_of_ble_eq_true rfl) (t_J3_max (0 : Int32) (r45 - (FI38 a46.1 a46.2 1)) g47) ?_
    refine oX_goto (tgt := 292) dX1_feeOf_288 (by decide) ?_
    exact oX_sub [0, 1] rfl (x_mX1_feeOf_j292 hH n x1 r47 hm hK)
noncomputable def mX1_feeOf_j254 (n : Nat) (FI : OhI) (FR : OhQ) (GR : OhQ) (AI : OhI) (AR : OhQ) (BR : OhQ) (AN : OhN) (x1 : OhR) (x2 : OhR) (x5 : Int32) : Option (Int32 × OhI) :=
  mX1_feeOf_j255 n FI FR GR AI AR BR AN x1 x2 x5 (0 : Int32)
theorem x_mX1_feeOf_j254 {G : OhG} {FI AI : OhI} {FL AL : OhL} {FR GR AR BR : OhQ} {AN : OhN} {C : OhC} {k : Nat × Nat} {Φ : OhP} {Ψ : OhX} (hH : ohShH FR AR AN) (n : Nat) (x1 : OhR) (x2 : OhR) (x5 : Int32) {r : Int32 × OhI} (hm : mX1_feeOf_j254 n FI FR GR AI AR BR AN x1 x2 x5 = some r) (hK : Φ (some (vI r.1)) (r.2, FL, FR, GR, AI, AL, AR, BR, AN, C)) : oX G 103 iX1_feeOf 254 [(0, vR (some (0, 0))), (1, vR x1), (2, vR x2), (5, vI x5)] [vR (some (327, 0))] (FI, FL, FR, GR, AI, AL, AR, BR, AN, C) k Φ Ψ := by
  unfold mX1_feeOf_j254 at hm
  refine oX_iconst (v := (0 : Int32)) dX1_feeOf_254 (by decide) ?_
  exact oX_sub [0, 1, 2, 3] rfl (x_mX1_feeOf_j255 hH n x1 x2 x5 (0 : Int32) hm hK)
noncomputable def mX1_feeOf_j203 (n : Nat) (FI : OhI) (FR : OhQ) (GR : OhQ) (AI : OhI) (AR : OhQ) (BR : OhQ) (AN : OhN) (x1 : OhR) (x2 : OhR) (x3 : Int32) (x4 : Int32) (x5 : Int32) (y1 : Int32) : Option (Int32 × OhI) :=
  gd (y1 = 0 ∨ y1 = 1) <|
  oLet (sA FI 327 0 (uA (FI 327 0) 4 y1)) fun FI34 =>
  gd (x3 = 0 ∨ x3 = 1) <|
  oLet (sA FI34 327 0 (uA (FI34 327 0) 5 x3)) fun FI35 =>
  gd (x4 = 0 ∨ x4 = 1) <|
  oLet (sA FI35 327 0 (uA (FI35 327 0) 6 x4)) fun FI36 =>
  (if x5 = 0 then
  mX1_feeOf_j254 n FI36 FR GR AI AR BR AN x1 x2 x5
else
  (oD 14 x2).bind fun a48 =>
    (if (FI36 a48.1 a48.2 2) = (3 : Int32) then
    (oD 6 x1).bind fun a50 =>
      (mX1_nightsOf n FI36 FR AI AR BR AN (FI36 a50.1 a50.2 0) x2 (30 : Int32)).bind fun r51 =>
      mX1_feeOf_j255 n FI36 FR GR AI AR BR AN x1 x2 x5 r51
  else
    mX1_feeOf_j254 n FI36 FR GR AI AR BR AN x1 x2 x5))
theorem x_mX1_feeOf_j203 {G : OhG} {FI AI : OhI} {FL AL : OhL} {FR GR AR BR : OhQ} {AN : OhN} {C : OhC} {k : Nat × Nat} {Φ : OhP} {Ψ : OhX} (hH : ohShH FR AR AN) (n : Nat) (x1 : OhR) (x2 : OhR) (x3 : Int32) (x4 : Int32) (x5 : Int32) (y1 : Int32) {r : Int32 × OhI} (hm : mX1_feeOf_j203 n FI FR GR AI AR BR AN x1 x2 x3 x4 x5 y1 = some r) (hK : Φ (some (vI r.1)) (r.2, FL, FR, GR, AI, AL, AR, BR, AN, C)) : oX G 103 iX1_feeOf 203 [(0, vR (some (0, 0))), (1, vR x1), (2, vR x2), (3, vI x3), (4, vI x4), (5, vI x5)] [vI y1, vR (some (327, 0))] (FI, FL, FR, GR, AI, AL, AR, BR, AN, C) k Φ Ψ := by
  unfold mX1_feeOf_j203 at hm
  obtain ⟨g34, hm⟩ := gd_s hm
  obtain ⟨FI34, hFI34, hm⟩ := oLs hm
  refine oX_putI fX1_422 rfl (fun h9 => by cases h9) oDs327 dX1_feeOf_203 (oNf g34) hFI34 ?_
  refine oX_aload_n dX1_feeOf_206 rfl rfl ?_
  refine oX_getF fX1_92 rfl oDs0 dX1_feeOf_207 (ohF327 hH) ?_
  refine oX_iload_n dX1_feeOf_210 rfl rfl ?_
  obtain ⟨g35, hm⟩ := gd_s hm
  obtain ⟨FI35, hFI35, hm⟩ := oLs hm
  refine oX_putI fX1_425 rfl (fun h9 => by cases h9) oDs327 dX1_feeOf_211 (oNf g35) hFI35 ?_
  refine oX_aload_n dX1_feeOf_214 rfl rfl ?_
  refine oX_getF fX1_92 rfl oDs0 dX1_feeOf_215 (ohF327 hH) ?_
  refine oX_iload dX1_feeOf_218 rfl ?_
  obtain ⟨g36, hm⟩ := gd_s hm
  obtain ⟨FI36, hFI36, hm⟩ := oLs hm
  refine oX_putI fX1_426 rfl (fun h9 => by cases h9) oDs327 dX1_feeOf_220 (oNf g36) hFI36 ?_
  refine oX_aload_n dX1_feeOf_223 rfl rfl ?_
  refine oX_getF fX1_92 rfl oDs0 dX1_feeOf_224 (ohF327 hH) ?_
  refine oX_iload dX1_feeOf_227 rfl ?_
  refine oX_if_eq (tgt := 254) dX1_feeOf_229 (by decide) (fun c37 => ?_) (fun c37 => ?_)
  · have hm := ifp c37 hm
    exact oX_sub [0, 1, 2, 5] rfl (x_mX1_feeOf_j254 hH n x1 x2 x5 hm hK)
  · have hm := ifn c37 hm
    refine oX_aload_n dX1_feeOf_232 rfl rfl ?_
    obtain ⟨a48, e48, hm⟩ := bd_s hm
    refine oX_getI fX1_281 rfl e48 dX1_feeOf_233 ?_
    refine oX_iconst (v := (3 : Int32)) dX1_feeOf_236 (by decide) ?_
    refine oX_icmp_ne (tgt := 254) dX1_feeOf_237 (by decide) (fun c49 => ?_) (fun c49 => ?_)
    · have hm := ifp c49 hm
      refine oX_aload_n dX1_feeOf_240 rfl rfl ?_
      refine oX_aload_n dX1_feeOf_241 rfl rfl ?_
      obtain ⟨a50, e50, hm⟩ := bd_s hm
      refine oX_getI fX1_356 rfl e50 dX1_feeOf_242 ?_
      refine oX_aload_n dX1_feeOf_245 rfl rfl ?_
      refine oX_bipush (v := (30 : Int32)) dX1_feeOf_246 (by decide) ?_
      obtain ⟨r51, g51, hm⟩ := bd_s hm
      refine oX_cV (as := [vI (FI36 a50.1 a50.2 0), vR x2, vI (30 : Int32)]) dX1_feeOf_248 rfl oDs0 rfl (by decide) rfl ok_X1_nightsOf rfl rfl q1535 q1537 qs42 q129 q1538 (by decide) (Nat.le_of_ble_eq_true rfl) (t_X1_nightsOf hH n (FI36 a50.1 a50.2 0) x2 (30 : Int32) g51) ?_
      refine oX_goto (tgt := 255) dX1_feeOf_251 (by decide) ?_
      exact oX_sub [0, 1, 2, 5] rfl (x_mX1_feeOf_j255 hH n x1 x2 x5 r51 hm hK)
    · have hm := ifn c49 hm
      exact oX_sub [0, 1, 2, 5] rfl (x_mX1_feeOf_j254 hH n x1 x2 x5 hm hK)
noncomputable def mX1_feeOf_j138 (n : Nat) (FI : OhI) (FR : OhQ) (GR : OhQ) (AI : OhI) (AR : OhQ) (BR : OhQ) (AN : OhN) (x1 : OhR) (x2 : OhR) (x3 : Int32) (x4 : Int32) (x5 : Int32) : Option (Int32 × OhI) :=
  (oD 6 x1).bind fun a26 =>
  (oD 14 x2).bind fun a27 =>
  (mX1_isIll n FI FR GR AR BR AN (FI a26.1 a26.2 0) (FI a27.1 a27.2 1)).bind fun r28 =>
  (if r28 = 0 then
  oLet (sA FI 327 0 (uA (FI 327 0) 0 (FI a27.1 a27.2 2))) fun FI30 =>
    (mX15_hours FI30 a27).bind fun r31 =>
    oLet (sA FI30 327 0 (uA (FI30 327 0) 1 r31)) fun FI32 =>
    (if (FI32 a27.1 a27.2 5) ≤ (((24 : Int32) * (FI32 a27.1 a27.2 1)) + (22 : Int32)) then
    mX1_feeOf_j203 n FI32 FR GR AI AR BR AN x1 x2 x3 x4 x5 (0 : Int32)
  else
    mX1_feeOf_j203 n FI32 FR GR AI AR BR AN x1 x2 x3 x4 x5 (1 : Int32))
else
  some ((0 : Int32), FI))
theorem x_mX1_feeOf_j138 {G : OhG} {FI AI : OhI} {FL AL : OhL} {FR GR AR BR : OhQ} {AN : OhN} {C : OhC} {k : Nat × Nat} {Φ : OhP} {Ψ : OhX} (hH : ohShH FR AR AN) (n : Nat) (x1 : OhR) (x2 : OhR) (x3 : Int32) (x4 : Int32) (x5 : Int32) {r : Int32 × OhI} (hm : mX1_feeOf_j138 n FI FR GR AI AR BR AN x1 x2 x3 x4 x5 = some r) (hK : Φ (some (vI r.1)) (r.2, FL, FR, GR, AI, AL, AR, BR, AN, C)) : oX G 103 iX1_feeOf 138 [(0, vR (some (0, 0))), (1, vR x1), (2, vR x2), (3, vI x3), (4, vI x4), (5, vI x5)] [] (FI, FL, FR, GR, AI, AL, AR, BR, AN, C) k Φ Ψ := by
  unfold mX1_feeOf_j138 at hm
  refine oX_aload_n dX1_feeOf_138 rfl rfl ?_
  refine oX_aload_n dX1_feeOf_139 rfl rfl ?_
  obtain ⟨a26, e26, hm⟩ := bd_s hm
  refine oX_getI fX1_356 rfl e26 dX1_feeOf_140 ?_
  refine oX_aload_n dX1_feeOf_143 rfl rfl ?_
  obtain ⟨a27, e27, hm⟩ := bd_s hm
  refine oX_getI fX1_214 rfl e27 dX1_feeOf_144 ?_
  obtain ⟨r28, g28, hm⟩ := bd_s hm
  refine oX_cV (as := [vI (FI a26.1 a26.2 0), vI (FI a27.1 a27.2 1)]) dX1_feeOf_147 rfl oDs0 rfl (by decide) rfl ok_X1_isIll rfl rfl q1515 q1517 qs38 q129 q1518 (by decide) (Nat.le_of_ble_eq_true rfl) (t_X1_isIll hH n (FI a26.1 a26.2 0) (FI a27.1 a27.2 1) g28) ?_
  refine oX_if_eq (tgt := 155) dX1_feeOf_150 (by decide) (fun c29 => ?_) (fun c29 => ?_)
  · have hm := ifp c29 hm
    refine oX_aload_n dX1_feeOf_155 rfl rfl ?_
    refine oX_getF fX1_92 rfl oDs0 dX1_feeOf_156 (ohF327 hH) ?_
    refine oX_aload_n dX1_feeOf_159 rfl rfl ?_
    refine oX_getI fX1_281 rfl e27 dX1_feeOf_160 ?_
    obtain ⟨FI30, hFI30, hm⟩ := oLs hm
    refine oX_putI fX1_420 rfl (fun h9 => by cases h9) oDs327 dX1_feeOf_163 ⟨rfl, rfl⟩ hFI30 ?_
    refine oX_aload_n dX1_feeOf_166 rfl rfl ?_
    refine oX_getF fX1_92 rfl oDs0 dX1_feeOf_167 (ohF327 hH) ?_
    refine oX_aload_n dX1_feeOf_170 rfl rfl ?_
    obtain ⟨r31, g31, hm⟩ := bd_s hm
    refine oX_cV (as := []) dX1_feeOf_171 rfl e27 rfl (by decide) rfl ok_X15_hours rfl rfl q1488 q1489 q1490 q165 q1491 (by decide) (Nat.le_of_ble_eq_true rfl) (t_X15_hours a27 ((oD_some e27).2) g31) ?_
    obtain ⟨FI32, hFI32, hm⟩ := oLs hm
    refine oX_putI fX1_421 rfl (fun h9 => by cases h9) oDs327 dX1_feeOf_174 ⟨rfl, rfl⟩ hFI32 ?_
    refine oX_aload_n dX1_feeOf_177 rfl rfl ?_
    refine oX_getF fX1_92 rfl oDs0 dX1_feeOf_178 (ohF327 hH) ?_
    refine oX_aload_n dX1_feeOf_181 rfl rfl ?_
    refine oX_getI fX1_282 rfl e27 dX1_feeOf_182 ?_
    refine oX_bipush (v := (24 : Int32)) dX1_feeOf_185 (by decide) ?_
    refine oX_aload_n dX1_feeOf_187 rfl rfl ?_
    refine oX_getI fX1_214 rfl e27 dX1_feeOf_188 ?_
    refine oX_imul dX1_feeOf_191 ?_
    refine oX_bipush (v := (22 : Int32)) dX1_feeOf_192 (by decide) ?_
    refine oX_iadd dX1_feeOf_194 ?_
    refine oX_icmp_le (tgt := 202) dX1_feeOf_195 (by decide) (fun c33 => ?_) (fun c33 => ?_)
    · have hm := ifp c33 hm
      refine oX_iconst (v := (0 : Int32)) dX1_feeOf_202 (by decide) ?_
      exact oX_sub [0, 1, 2, 3, 4, 5] rfl (x_mX1_feeOf_j203 hH n x1 x2 x3 x4 x5 (0 : Int32) hm hK)
    · have hm := ifn c33 hm
      refine oX_iconst (v := (1 : Int32)) dX1_feeOf_198 (by decide) ?_
      refine oX_goto (tgt := 203) dX1_feeOf_199 (by decide) ?_
      exact oX_sub [0, 1, 2, 3, 4, 5] rfl (x_mX1_feeOf_j203 hH n x1 x2 x3 x4 x5 (1 : Int32) hm hK)
  · have hm := ifn c29 hm
    refine oX_iconst (v := (0 : Int32)) dX1_feeOf_153 (by decide) ?_
    obtain rfl := Option.some.inj hm
    exact oX_iret dX1_feeOf_154 rfl rfl hK
noncomputable def mX1_feeOf (n : Nat) (FI : OhI) (FR : OhQ) (GR : OhQ) (AI : OhI) (AR : OhQ) (BR : OhQ) (AN : OhN) (x1 : OhR) (x2 : OhR) : Option (Int32 × OhI) :=
  (lpF (fun v => mX1_feeOf_b8 n FI FR GR AI AR BR AN x1 x2 v.1 v.2.1 v.2.2) n ((0 : Int32), (0 : Int32), (0 : Int32))).bind fun v21 =>
  (oD 6 x1).bind fun a22 =>
  (mX1_isCast n FI FR AI AR BR AN (FI a22.1 a22.2 0) x2).bind fun r23 =>
  (if r23 = 0 then
  (if v21.1 = 0 then
    some ((0 : Int32), FI)
  else
    mX1_feeOf_j138 n FI FR GR AI AR BR AN x1 x2 v21.1 v21.2 r23)
else
  mX1_feeOf_j138 n FI FR GR AI AR BR AN x1 x2 v21.1 v21.2 r23)
theorem x_mX1_feeOf {G : OhG} {FI AI : OhI} {FL AL : OhL} {FR GR AR BR : OhQ} {AN : OhN} {C : OhC} {k : Nat × Nat} {Φ : OhP} {Ψ : OhX} (hH : ohShH FR AR AN) (n : Nat) (x1 : OhR) (x2 : OhR) {r : Int32 × OhI} (hm : mX1_feeOf n FI FR GR AI AR BR AN x1 x2 = some r) (hK : Φ (some (vI r.1)) (r.2, FL, FR, GR, AI, AL, AR, BR, AN, C)) : oX G 103 iX1_feeOf 0 [(0, vR (some (0, 0))), (1, vR x1), (2, vR x2)] [] (FI, FL, FR, GR, AI, AL, AR, BR, AN, C) k Φ Ψ := by
  unfold mX1_feeOf at hm
  refine oX_iconst (v := (0 : Int32)) dX1_feeOf_0 (by decide) ?_
  refine oX_istore_n (ls' := [(3, vI (0 : Int32)), (0, vR (some (0, 0))), (1, vR x1), (2, vR x2)]) dX1_feeOf_1 rfl (by decide) rfl ?_
  refine oX_iconst (v := (0 : Int32)) dX1_feeOf_2 (by decide) ?_
  refine oX_istore (ls' := [(4, vI (0 : Int32)), (3, vI (0 : Int32)), (0, vR (some (0, 0))), (1, vR x1), (2, vR x2)]) dX1_feeOf_3 (by decide) rfl ?_
  refine oX_iconst (v := (0 : Int32)) dX1_feeOf_5 (by decide) ?_
  refine oX_istore (ls' := [(5, vI (0 : Int32)), (4, vI (0 : Int32)), (3, vI (0 : Int32)), (0, vR (some (0, 0))), (1, vR x1), (2, vR x2)]) dX1_feeOf_6 (by decide) rfl ?_
  obtain ⟨v21, g21, hm⟩ := bd_s hm
  refine oX_sub [3, 4, 5, 2, 1, 0] rfl (l_mX1_feeOf_b8 hH n x1 x2 n (0 : Int32) (0 : Int32) (0 : Int32) _ g21 ?_)
  refine oX_aload_n dX1_feeOf_118 rfl rfl ?_
  refine oX_aload_n dX1_feeOf_119 rfl rfl ?_
  obtain ⟨a22, e22, hm⟩ := bd_s hm
  refine oX_getI fX1_356 rfl e22 dX1_feeOf_120 ?_
  refine oX_aload_n dX1_feeOf_123 rfl rfl ?_
  obtain ⟨r23, g23, hm⟩ := bd_s hm
  refine oX_cV (as := [vI (FI a22.1 a22.2 0), vR x2]) dX1_feeOf_124 rfl oDs0 rfl (by decide) rfl ok_X1_isCast rfl rfl q1523 q1525 qs40 q129 q1526 (by decide) (Nat.le_of_ble_eq_true rfl) (t_X1_isCast hH n (FI a22.1 a22.2 0) x2 g23) ?_
  refine oX_istore (ls' := [(5, vI r23), (0, vR (some (0, 0))), (1, vR x1), (2, vR x2), (3, vI v21.1), (4, vI v21.2)]) dX1_feeOf_127 (by decide) rfl ?_
  refine oX_iload dX1_feeOf_129 rfl ?_
  refine oX_if_ne (tgt := 138) dX1_feeOf_131 (by decide) (fun c24 => ?_) (fun c24 => ?_)
  · have hm := ifp c24 hm
    refine oX_iload_n dX1_feeOf_134 rfl rfl ?_
    refine oX_if_eq (tgt := 153) dX1_feeOf_135 (by decide) (fun c25 => ?_) (fun c25 => ?_)
    · have hm := ifp c25 hm
      refine oX_iconst (v := (0 : Int32)) dX1_feeOf_153 (by decide) ?_
      obtain rfl := Option.some.inj hm
      exact oX_iret dX1_feeOf_154 rfl rfl hK
    · have hm := ifn c25 hm
      exact oX_sub [1, 2, 3, 4, 5, 0] rfl (x_mX1_feeOf_j138 hH n x1 x2 v21.1 v21.2 r23 hm hK)
  · have hm := ifn c24 hm
    exact oX_sub [1, 2, 3, 4, 5, 0] rfl (x_mX1_feeOf_j138 hH n x1 x2 v21.1 v21.2 r23 hm hK)
theorem t_X1_feeOf {G : OhG} {FI AI : OhI} {FL AL : OhL} {FR GR AR BR : OhQ} {AN : OhN} {C : OhC} (hH : ohShH FR AR AN) (n : Nat) (x1 : OhR) (x2 : OhR) {o : Int32 × OhI} (hm : mX1_feeOf n FI FR GR AI AR BR AN x1 x2 = some o) : oT G 103 iX1_feeOf [vR (some (0, 0)), vR x1, vR x2] (FI, FL, FR, GR, AI, AL, AR, BR, AN, C) (0, 0) (fun v h => v = (some (vI o.1)) ∧ h = (o.2, FL, FR, GR, AI, AL, AR, BR, AN, C)) ohNo :=
  oT_of (by decide) rfl (Nat.le_of_ble_eq_true rfl) (x_mX1_feeOf hH n x1 x2 hm ⟨rfl, rfl⟩)
noncomputable def mX1_fee (n : Nat) (FI : OhI) (FR : OhQ) (GR : OhQ) (AI : OhI) (AR : OhQ) (BR : OhQ) (AN : OhN) (x1 : Int32) (x2 : Int32) (x3 : Int32) : Option (Int32 × OhI × OhI × OhQ) :=
  (mX1_callOf FI FR GR AR BR AN x2).bind fun r1 =>
  (mX1_singerOf FI FR GR AR BR AN x1).bind fun r2 =>
  (if r2 = none then
  some ((-1 : Int32), FI, AI, BR)
else
  (if r1 = none then
    some ((-1 : Int32), FI, AI, BR)
  else
    (mX1_layOut n FI FR GR AI AR BR AN x3).bind fun r5 =>
      (mX1_feeOf n r5.1 FR GR r5.2.1 AR r5.2.2 AN r2 r1).bind fun r6 =>
      some (r6.1, r6.2, r5.2.1, r5.2.2)))
theorem x_mX1_fee {G : OhG} {FI AI : OhI} {FL AL : OhL} {FR GR AR BR : OhQ} {AN : OhN} {C : OhC} {k : Nat × Nat} {Φ : OhP} {Ψ : OhX} (hH : ohShH FR AR AN) (n : Nat) (x1 : Int32) (x2 : Int32) (x3 : Int32) {r : Int32 × OhI × OhI × OhQ} (hm : mX1_fee n FI FR GR AI AR BR AN x1 x2 x3 = some r) (hK : Φ (some (vI r.1)) (r.2.1, FL, FR, GR, r.2.2.1, AL, AR, r.2.2.2, AN, C)) : oX G 104 iX1_fee 0 [(0, vR (some (0, 0))), (1, vI x1), (2, vI x2), (3, vI x3)] [] (FI, FL, FR, GR, AI, AL, AR, BR, AN, C) k Φ Ψ := by
  unfold mX1_fee at hm
  refine oX_aload_n dX1_fee_0 rfl rfl ?_
  refine oX_iload_n dX1_fee_1 rfl rfl ?_
  obtain ⟨r1, g1, hm⟩ := bd_s hm
  refine oX_cV (as := [vI x2]) dX1_fee_2 rfl oDs0 rfl (by decide) rfl ok_X1_callOf rfl rfl q1348 q1350 qs24 q129 q1351 (by decide) (Nat.le_of_ble_eq_true rfl) (t_X1_callOf hH x2 g1) ?_
  refine oX_astore (ls' := [(4, vR r1), (0, vR (some (0, 0))), (1, vI x1), (2, vI x2), (3, vI x3)]) dX1_fee_5 (by decide) rfl ?_
  refine oX_aload_n dX1_fee_7 rfl rfl ?_
  refine oX_iload_n dX1_fee_8 rfl rfl ?_
  obtain ⟨r2, g2, hm⟩ := bd_s hm
  refine oX_cV (as := [vI x1]) dX1_fee_9 rfl oDs0 rfl (by decide) rfl ok_X1_singerOf rfl rfl q644 q646 qs7 q129 q647 (by decide) (Nat.le_of_ble_eq_true rfl) (t_X1_singerOf hH x1 g2) ?_
  refine oX_astore (ls' := [(5, vR r2), (4, vR r1), (0, vR (some (0, 0))), (1, vI x1), (2, vI x2), (3, vI x3)]) dX1_fee_12 (by decide) rfl ?_
  refine oX_aload dX1_fee_14 rfl ?_
  refine oX_ifnull (tgt := 24) dX1_fee_16 (by decide) (fun c3 => ?_) (fun c3 => ?_)
  · have hm := ifp c3 hm
    refine oX_iconst (v := (-1 : Int32)) dX1_fee_24 (by decide) ?_
    obtain rfl := Option.some.inj hm
    exact oX_iret dX1_fee_25 rfl rfl hK
  · have hm := ifn c3 hm
    refine oX_aload dX1_fee_19 rfl ?_
    refine oX_ifnonnull (tgt := 26) dX1_fee_21 (by decide) (fun c4 => ?_) (fun c4 => ?_)
    · have hm := ifp c4 hm
      refine oX_iconst (v := (-1 : Int32)) dX1_fee_24 (by decide) ?_
      obtain rfl := Option.some.inj hm
      exact oX_iret dX1_fee_25 rfl rfl hK
    · have hm := ifn c4 hm
      refine oX_aload_n dX1_fee_26 rfl rfl ?_
      refine oX_iload_n dX1_fee_27 rfl rfl ?_
      obtain ⟨r5, g5, hm⟩ := bd_s hm
      refine oX_cV_ (as := [vI x3]) dX1_fee_28 rfl oDs0 rfl (by decide) rfl ok_X1_layOut rfl rfl q1418 q1420 qs25 q129 q1421 (by decide) (Nat.le_of_ble_eq_true rfl) (t_X1_layOut hH n x3 g5) ?_
      refine oX_aload_n dX1_fee_31 rfl rfl ?_
      refine oX_aload dX1_fee_32 rfl ?_
      refine oX_aload dX1_fee_34 rfl ?_
      obtain ⟨r6, g6, hm⟩ := bd_s hm
      refine oX_cV (as := [vR r2, vR r1]) dX1_fee_36 rfl oDs0 rfl (by decide) rfl ok_X1_feeOf rfl rfl q1570 q1572 qs45 q129 q1573 (by decide) (Nat.le_of_ble_eq_true rfl) (t_X1_feeOf hH n r2 r1 g6) ?_
      obtain rfl := Option.some.inj hm
      exact oX_iret dX1_fee_39 rfl rfl hK
theorem t_X1_fee {G : OhG} {FI AI : OhI} {FL AL : OhL} {FR GR AR BR : OhQ} {AN : OhN} {C : OhC} (hH : ohShH FR AR AN) (n : Nat) (x1 : Int32) (x2 : Int32) (x3 : Int32) {o : Int32 × OhI × OhI × OhQ} (hm : mX1_fee n FI FR GR AI AR BR AN x1 x2 x3 = some o) : oT G 104 iX1_fee [vR (some (0, 0)), vI x1, vI x2, vI x3] (FI, FL, FR, GR, AI, AL, AR, BR, AN, C) (0, 0) (fun v h => v = (some (vI o.1)) ∧ h = (o.2.1, FL, FR, GR, o.2.2.1, AL, AR, o.2.2.2, AN, C)) ohNo :=
  oT_of (by decide) rfl (Nat.le_of_ble_eq_true rfl) (x_mX1_fee hH n x1 x2 x3 hm ⟨rfl, rfl⟩)
noncomputable def mX1_pay_b32 (n : Nat) (FI : OhI) (FR : OhQ) (GR : OhQ) (AI : OhI) (AR : OhQ) (BR : OhQ) (AN : OhN) (x2 : Int32) (x4 : OhR) (x5 : Int32) (x6 : Int32) : Option ((Int32 × Int32 × OhI) ⊕ (Int32 × OhI)) :=
  (if (FI 0 0 17) ≤ x6 then
  some (.inr (x5, FI))
else
  gd (vp_in x6 66) <|
    (oD 14 (BR 316 0 x6.toNatClampNeg)).bind fun a8 =>
    (if x2 < (FI a8.1 a8.2 1) then
    some (.inl (x5, x6 + (1 : Int32), FI))
  else
    gd (vp_in x6 66) <|
      (mX1_feeOf n FI FR GR AI AR BR AN x4 (BR 316 0 x6.toNatClampNeg)).bind fun r11 =>
      some (.inl (x5 + r11.1, x6 + (1 : Int32), r11.2))))
theorem x_mX1_pay_b32 {G : OhG} {FI AI : OhI} {FL AL : OhL} {FR GR AR BR : OhQ} {AN : OhN} {C : OhC} {k : Nat × Nat} {Φ : OhP} {Ψ : OhX} (hH : ohShH FR AR AN) (n : Nat) (x2 : Int32) (x4 : OhR) (x5 : Int32) (x6 : Int32) {r : (Int32 × Int32 × OhI) ⊕ (Int32 × OhI)} (hm : mX1_pay_b32 n FI FR GR AI AR BR AN x2 x4 x5 x6 = some r) (hk : ∀ v : Int32 × Int32 × OhI, r = .inl v → oX G 104 iX1_pay 32 [(0, vR (some (0, 0))), (2, vI x2), (4, vR x4), (5, vI v.1), (6, vI v.2.1)] [] (v.2.2, FL, FR, GR, AI, AL, AR, BR, AN, C) k Φ Ψ) (hx1 : ∀ v : Int32 × OhI, r = .inr v → oX G 104 iX1_pay 79 [(5, vI v.1)] [] (v.2, FL, FR, GR, AI, AL, AR, BR, AN, C) k Φ Ψ) : oX G 104 iX1_pay 32 [(0, vR (some (0, 0))), (2, vI x2), (4, vR x4), (5, vI x5), (6, vI x6)] [] (FI, FL, FR, GR, AI, AL, AR, BR, AN, C) k Φ Ψ := by
  unfold mX1_pay_b32 at hm
  refine oX_iload dX1_pay_32 rfl ?_
  refine oX_aload_n dX1_pay_34 rfl rfl ?_
  refine oX_getI fX1_227 rfl oDs0 dX1_pay_35 ?_
  refine oX_icmp_ge (tgt := 79) dX1_pay_38 (by decide) (fun c6 => ?_) (fun c6 => ?_)
  · have hm := ifp c6 hm
    exact oX_sub [3] rfl (hx1 (x5, FI) (Option.some.inj hm).symm)
  · have hm := ifn c6 hm
    refine oX_aload_n dX1_pay_41 rfl rfl ?_
    refine oX_getF fX1_58 rfl oDs0 dX1_pay_42 (ohF316 hH) ?_
    refine oX_iload dX1_pay_45 rfl ?_
    obtain ⟨g7, hm⟩ := gd_s hm
    refine oX_aaldC oDs316 (oIn (ohN316 hH) g7) dX1_pay_47 rfl ?_
    obtain ⟨a8, e8, hm⟩ := bd_s hm
    refine oX_getI fX1_214 rfl e8 dX1_pay_48 ?_
    refine oX_iload_n dX1_pay_51 rfl rfl ?_
    refine oX_icmp_gt (tgt := 73) dX1_pay_52 (by decide) (fun c9 => ?_) (fun c9 => ?_)
    · have hm := ifp c9 hm
      refine oX_iinc (v := x6 + (1 : Int32)) (ls' := [(6, vI (x6 + (1 : Int32))), (0, vR (some (0, 0))), (2, vI x2), (4, vR x4), (5, vI x5)]) dX1_pay_73 rfl rfl (by decide) rfl ?_
      refine oX_goto (tgt := 32) dX1_pay_76 (by decide) ?_
      exact oX_sub [1, 2, 3, 4, 0] rfl (hk (x5, x6 + (1 : Int32), FI) (Option.some.inj hm).symm)
    · have hm := ifn c9 hm
      refine oX_iload dX1_pay_55 rfl ?_
      refine oX_aload_n dX1_pay_57 rfl rfl ?_
      refine oX_aload dX1_pay_58 rfl ?_
      refine oX_aload_n dX1_pay_60 rfl rfl ?_
      refine oX_getF fX1_58 rfl oDs0 dX1_pay_61 (ohF316 hH) ?_
      refine oX_iload dX1_pay_64 rfl ?_
      obtain ⟨g10, hm⟩ := gd_s hm
      refine oX_aaldC oDs316 (oIn (ohN316 hH) g10) dX1_pay_66 rfl ?_
      obtain ⟨r11, g11, hm⟩ := bd_s hm
      refine oX_cV (as := [vR x4, vR (BR 316 0 x6.toNatClampNeg)]) dX1_pay_67 rfl oDs0 rfl (by decide) rfl ok_X1_feeOf rfl rfl q1570 q1572 qs45 q129 q1573 (by decide) (Nat.le_of_ble_eq_true rfl) (t_X1_feeOf hH n x4 (BR 316 0 x6.toNatClampNeg) g11) ?_
      refine oX_iadd dX1_pay_70 ?_
      refine oX_istore (ls' := [(5, vI (x5 + r11.1)), (0, vR (some (0, 0))), (2, vI x2), (4, vR x4), (6, vI x6)]) dX1_pay_71 (by decide) rfl ?_
      refine oX_iinc (v := x6 + (1 : Int32)) (ls' := [(6, vI (x6 + (1 : Int32))), (5, vI (x5 + r11.1)), (0, vR (some (0, 0))), (2, vI x2), (4, vR x4)]) dX1_pay_73 rfl rfl (by decide) rfl ?_
      refine oX_goto (tgt := 32) dX1_pay_76 (by decide) ?_
      exact oX_sub [2, 3, 4, 1, 0] rfl (hk (x5 + r11.1, x6 + (1 : Int32), r11.2) (Option.some.inj hm).symm)
theorem l_mX1_pay_b32 {G : OhG} {FL : OhL} {FR : OhQ} {GR : OhQ} {AI : OhI} {AL : OhL} {AR : OhQ} {BR : OhQ} {AN : OhN} {C : OhC} {k : Nat × Nat} {Φ : OhP} {Ψ : OhX} (hH : ohShH FR AR AN) (n : Nat) (x2 : Int32) (x4 : OhR) : ∀ (f : Nat) (x5 : Int32) (x6 : Int32) (FI : OhI) (b : (Int32 × OhI)), lpF (fun v => mX1_pay_b32 n v.2.2 FR GR AI AR BR AN x2 x4 v.1 v.2.1) f (x5, x6, FI) = some b → (oX G 104 iX1_pay 79 [(5, vI b.1)] [] (b.2, FL, FR, GR, AI, AL, AR, BR, AN, C) k Φ Ψ) → oX G 104 iX1_pay 32 [(0, vR (some (0, 0))), (2, vI x2), (4, vR x4), (5, vI x5), (6, vI x6)] [] (FI, FL, FR, GR, AI, AL, AR, BR, AN, C) k Φ Ψ := by
  intro f
  induction f with
  | zero =>
    intro x5 x6 FI b hm
    cases hm
  | succ f ih =>
    intro x5 x6 FI b hm hx1
    obtain ⟨r, hr, hm⟩ := lp_s hm
    refine x_mX1_pay_b32 hH n x2 x4 x5 x6 hr (fun v e => ?_) (fun v e => ?_)
    · subst e; exact ih v.1 v.2.1 v.2.2 _ hm hx1
    · subst e; cases (show v = b from hm); exact hx1
noncomputable def mX1_pay (n : Nat) (FI : OhI) (FR : OhQ) (GR : OhQ) (AI : OhI) (AR : OhQ) (BR : OhQ) (AN : OhN) (x1 : Int32) (x2 : Int32) (x3 : Int32) : Option (Int32 × OhI × OhI × OhQ) :=
  (mX1_singerOf FI FR GR AR BR AN x1).bind fun r1 =>
  (if r1 = none then
  some ((-1 : Int32), FI, AI, BR)
else
  (mX1_isDay x2).bind fun r3 =>
    (if r3 = 0 then
    some ((-1 : Int32), FI, AI, BR)
  else
    (mX1_layOut n FI FR GR AI AR BR AN x3).bind fun r5 =>
      (lpF (fun v => mX1_pay_b32 n v.2.2 FR GR r5.2.1 AR r5.2.2 AN x2 r1 v.1 v.2.1) n ((0 : Int32), (0 : Int32), r5.1)).bind fun v12 =>
      some (v12.1, v12.2, r5.2.1, r5.2.2)))
theorem x_mX1_pay {G : OhG} {FI AI : OhI} {FL AL : OhL} {FR GR AR BR : OhQ} {AN : OhN} {C : OhC} {k : Nat × Nat} {Φ : OhP} {Ψ : OhX} (hH : ohShH FR AR AN) (n : Nat) (x1 : Int32) (x2 : Int32) (x3 : Int32) {r : Int32 × OhI × OhI × OhQ} (hm : mX1_pay n FI FR GR AI AR BR AN x1 x2 x3 = some r) (hK : Φ (some (vI r.1)) (r.2.1, FL, FR, GR, r.2.2.1, AL, AR, r.2.2.2, AN, C)) : oX G 104 iX1_pay 0 [(0, vR (some (0, 0))), (1, vI x1), (2, vI x2), (3, vI x3)] [] (FI, FL, FR, GR, AI, AL, AR, BR, AN, C) k Φ Ψ := by
  unfold mX1_pay at hm
  refine oX_aload_n dX1_pay_0 rfl rfl ?_
  refine oX_iload_n dX1_pay_1 rfl rfl ?_
  obtain ⟨r1, g1, hm⟩ := bd_s hm
  refine oX_cV (as := [vI x1]) dX1_pay_2 rfl oDs0 rfl (by decide) rfl ok_X1_singerOf rfl rfl q644 q646 qs7 q129 q647 (by decide) (Nat.le_of_ble_eq_true rfl) (t_X1_singerOf hH x1 g1) ?_
  refine oX_astore (ls' := [(4, vR r1), (0, vR (some (0, 0))), (1, vI x1), (2, vI x2), (3, vI x3)]) dX1_pay_5 (by decide) rfl ?_
  refine oX_aload dX1_pay_7 rfl ?_
  refine oX_ifnull (tgt := 19) dX1_pay_9 (by decide) (fun c2 => ?_) (fun c2 => ?_)
  · have hm := ifp c2 hm
    refine oX_iconst (v := (-1 : Int32)) dX1_pay_19 (by decide) ?_
    obtain rfl := Option.some.inj hm
    exact oX_iret dX1_pay_20 rfl rfl hK
  · have hm := ifn c2 hm
    refine oX_iload_n dX1_pay_12 rfl rfl ?_
    obtain ⟨r3, g3, hm⟩ := bd_s hm
    refine oX_cS (as := [vI x2]) dX1_pay_13 rfl ok_X1_isDay rfl rfl q1388 q1389 q129 q1390 (by decide) (Nat.le_of_ble_eq_true rfl) (t_X1_isDay x2 g3) ?_
    refine oX_if_ne (tgt := 21) dX1_pay_16 (by decide) (fun c4 => ?_) (fun c4 => ?_)
    · have hm := ifp c4 hm
      refine oX_iconst (v := (-1 : Int32)) dX1_pay_19 (by decide) ?_
      obtain rfl := Option.some.inj hm
      exact oX_iret dX1_pay_20 rfl rfl hK
    · have hm := ifn c4 hm
      refine oX_aload_n dX1_pay_21 rfl rfl ?_
      refine oX_iload_n dX1_pay_22 rfl rfl ?_
      obtain ⟨r5, g5, hm⟩ := bd_s hm
      refine oX_cV_ (as := [vI x3]) dX1_pay_23 rfl oDs0 rfl (by decide) rfl ok_X1_layOut rfl rfl q1418 q1420 qs25 q129 q1421 (by decide) (Nat.le_of_ble_eq_true rfl) (t_X1_layOut hH n x3 g5) ?_
      refine oX_iconst (v := (0 : Int32)) dX1_pay_26 (by decide) ?_
      refine oX_istore (ls' := [(5, vI (0 : Int32)), (4, vR r1), (0, vR (some (0, 0))), (1, vI x1), (2, vI x2), (3, vI x3)]) dX1_pay_27 (by decide) rfl ?_
      refine oX_iconst (v := (0 : Int32)) dX1_pay_29 (by decide) ?_
      refine oX_istore (ls' := [(6, vI (0 : Int32)), (5, vI (0 : Int32)), (4, vR r1), (0, vR (some (0, 0))), (1, vI x1), (2, vI x2), (3, vI x3)]) dX1_pay_30 (by decide) rfl ?_
      obtain ⟨v12, g12, hm⟩ := bd_s hm
      refine oX_sub [3, 5, 2, 1, 0] rfl (l_mX1_pay_b32 hH n x2 r1 n (0 : Int32) (0 : Int32) r5.1 _ g12 ?_)
      refine oX_iload dX1_pay_79 rfl ?_
      obtain rfl := Option.some.inj hm
      exact oX_iret dX1_pay_81 rfl rfl hK
theorem t_X1_pay {G : OhG} {FI AI : OhI} {FL AL : OhL} {FR GR AR BR : OhQ} {AN : OhN} {C : OhC} (hH : ohShH FR AR AN) (n : Nat) (x1 : Int32) (x2 : Int32) (x3 : Int32) {o : Int32 × OhI × OhI × OhQ} (hm : mX1_pay n FI FR GR AI AR BR AN x1 x2 x3 = some o) : oT G 104 iX1_pay [vR (some (0, 0)), vI x1, vI x2, vI x3] (FI, FL, FR, GR, AI, AL, AR, BR, AN, C) (0, 0) (fun v h => v = (some (vI o.1)) ∧ h = (o.2.1, FL, FR, GR, o.2.2.1, AL, AR, o.2.2.2, AN, C)) ohNo :=
  oT_of (by decide) rfl (Nat.le_of_ble_eq_true rfl) (x_mX1_pay hH n x1 x2 x3 hm ⟨rfl, rfl⟩)
noncomputable def mX1_harmOf_j40 (n : Nat) (FI : OhI) (FR : OhQ) (GR : OhQ) (AI : OhI) (AR : OhQ) (BR : OhQ) (AN : OhN) (x1 : OhR) (x2 : OhR) (x3 : Int32) (x4 : OhR) (y0 : Int32) : Option (Int32 × OhI × OhI) :=
  (oD 14 x2).bind fun a10 =>
  (oD 4 (FR a10.1 a10.2 6)).bind fun a11 =>
  (oD 6 x1).bind fun a12 =>
  (mX1_learnedOf n FI FR GR AI AR BR AN (FI a12.1 a12.2 0) (FR a10.1 a10.2 6) x3 (FI a10.1 a10.2 4)).bind fun r13 =>
  (mJ3_max (0 : Int32) ((FI a11.1 a11.2 3) - r13)).bind fun r14 =>
  (oD 5 x4).bind fun a15 =>
  (mJ3_abs ((FI a12.1 a12.2 3) - (FI a15.1 a15.2 3))).bind fun r16 =>
  gd (vp_in (FI a10.1 a10.2 0) 66) <|
  gd (vp_in x3 8) <|
  gd (vp_in (FI a10.1 a10.2 0) 66) <|
  gd (vp_in x3 8) <|
  (mX1_give FR AI AR BR AN (FI a10.1 a10.2 0) x3 (FI a12.1 a12.2 0)).bind fun r21 =>
  (mX1_feeOf n FI FR GR r21 AR BR AN x1 x2).bind fun r22 =>
  gd (vp_in (r22.2 a10.1 a10.2 0) 66) <|
  gd (vp_in x3 8) <|
  oLet (sA r21 419 ((r22.2 a10.1 a10.2 0).toNatClampNeg) (uA (r21 419 ((r22.2 a10.1 a10.2 0).toNatClampNeg)) x3.toNatClampNeg (AI 419 ((FI a10.1 a10.2 0).toNatClampNeg) x3.toNatClampNeg))) fun AI24 =>
  gd (vp_in (r22.2 a10.1 a10.2 0) 66) <|
  gd (vp_in x3 8) <|
  oLet (sA AI24 420 ((r22.2 a10.1 a10.2 0).toNatClampNeg) (uA (AI24 420 ((r22.2 a10.1 a10.2 0).toNatClampNeg)) x3.toNatClampNeg (AI 420 ((FI a10.1 a10.2 0).toNatClampNeg) x3.toNatClampNeg))) fun AI26 =>
  some ((y0 + (((10 : Int32) * r14) + ((3 : Int32) * r16))) + (r22.1 / (100 : Int32)), r22.2, AI26)
theorem x_mX1_harmOf_j40 {G : OhG} {FI AI : OhI} {FL AL : OhL} {FR GR AR BR : OhQ} {AN : OhN} {C : OhC} {k : Nat × Nat} {Φ : OhP} {Ψ : OhX} (hH : ohShH FR AR AN) (n : Nat) (x1 : OhR) (x2 : OhR) (x3 : Int32) (x4 : OhR) (y0 : Int32) {r : Int32 × OhI × OhI} (hm : mX1_harmOf_j40 n FI FR GR AI AR BR AN x1 x2 x3 x4 y0 = some r) (hK : Φ (some (vI r.1)) (r.2.1, FL, FR, GR, r.2.2, AL, AR, BR, AN, C)) : oX G 104 iX1_harmOf 40 [(0, vR (some (0, 0))), (1, vR x1), (2, vR x2), (3, vI x3), (4, vR x4)] [vI y0] (FI, FL, FR, GR, AI, AL, AR, BR, AN, C) k Φ Ψ := by
  unfold mX1_harmOf_j40 at hm
  refine oX_istore (ls' := [(5, vI y0), (0, vR (some (0, 0))), (1, vR x1), (2, vR x2), (3, vI x3), (4, vR x4)]) dX1_harmOf_40 (by decide) rfl ?_
  refine oX_iload dX1_harmOf_42 rfl ?_
  refine oX_bipush (v := (10 : Int32)) dX1_harmOf_44 (by decide) ?_
  refine oX_iconst (v := (0 : Int32)) dX1_harmOf_46 (by decide) ?_
  refine oX_aload_n dX1_harmOf_47 rfl rfl ?_
  obtain ⟨a10, e10, hm⟩ := bd_s hm
  refine oX_getF fX1_258 rfl e10 dX1_harmOf_48 rfl ?_
  obtain ⟨a11, e11, hm⟩ := bd_s hm
  refine oX_getI fX1_361 rfl e11 dX1_harmOf_51 ?_
  refine oX_aload_n dX1_harmOf_54 rfl rfl ?_
  refine oX_aload_n dX1_harmOf_55 rfl rfl ?_
  obtain ⟨a12, e12, hm⟩ := bd_s hm
  refine oX_getI fX1_356 rfl e12 dX1_harmOf_56 ?_
  refine oX_aload_n dX1_harmOf_59 rfl rfl ?_
  refine oX_getF fX1_258 rfl e10 dX1_harmOf_60 rfl ?_
  refine oX_iload_n dX1_harmOf_63 rfl rfl ?_
  refine oX_aload_n dX1_harmOf_64 rfl rfl ?_
  refine oX_getI fX1_230 rfl e10 dX1_harmOf_65 ?_
  obtain ⟨r13, g13, hm⟩ := bd_s hm
  refine oX_cV (as := [vI (FI a12.1 a12.2 0), vR (FR a10.1 a10.2 6), vI x3, vI (FI a10.1 a10.2 4)]) dX1_harmOf_68 rfl oDs0 rfl (by decide) rfl ok_X1_learnedOf rfl rfl q1503 q1505 qs37 q129 q1506 (by decide) (Nat.le_of_ble_eq_true rfl) (t_X1_learnedOf hH n (FI a12.1 a12.2 0) (FR a10.1 a10.2 6) x3 (FI a10.1 a10.2 4) g13) ?_
  refine oX_isub dX1_harmOf_71 ?_
  obtain ⟨r14, g14, hm⟩ := bd_s hm
  refine oX_cS (as := [vI (0 : Int32), vI ((FI a11.1 a11.2 3) - r13)]) dX1_harmOf_72 rfl ok_J3_max rfl rfl q1551 q235 q134 q236 (by decide) (Nat.le_of_ble_eq_true rfl) (t_J3_max (0 : Int32) ((FI a11.1 a11.2 3) - r13) g14) ?_
  refine oX_imul dX1_harmOf_75 ?_
  refine oX_iconst (v := (3 : Int32)) dX1_harmOf_76 (by decide) ?_
  refine oX_aload_n dX1_harmOf_77 rfl rfl ?_
  refine oX_getI fX1_458 rfl e12 dX1_harmOf_78 ?_
  refine oX_aload dX1_harmOf_81 rfl ?_
  obtain ⟨a15, e15, hm⟩ := bd_s hm
  refine oX_getI fX1_460 rfl e15 dX1_harmOf_83 ?_
  refine oX_isub dX1_harmOf_86 ?_
  obtain ⟨r16, g16, hm⟩ := bd_s hm
  refine oX_cS (as := [vI ((FI a12.1 a12.2 3) - (FI a15.1 a15.2 3))]) dX1_harmOf_87 rfl ok_J3_abs rfl rfl q1625 q1501 q134 q1502 (by decide) (Nat.le_of_ble_eq_true rfl) (t_J3_abs ((FI a12.1 a12.2 3) - (FI a15.1 a15.2 3)) g16) ?_
  refine oX_imul dX1_harmOf_90 ?_
  refine oX_iadd dX1_harmOf_91 ?_
  refine oX_iadd dX1_harmOf_92 ?_
  refine oX_istore (ls' := [(5, vI (y0 + (((10 : Int32) * r14) + ((3 : Int32) * r16)))), (0, vR (some (0, 0))), (1, vR x1), (2, vR x2), (3, vI x3), (4, vR x4)]) dX1_harmOf_93 (by decide) rfl ?_
  refine oX_aload_n dX1_harmOf_95 rfl rfl ?_
  refine oX_getF fX1_64 rfl oDs0 dX1_harmOf_96 (ohF319 hH) ?_
  refine oX_aload_n dX1_harmOf_99 rfl rfl ?_
  refine oX_getI fX1_233 rfl e10 dX1_harmOf_100 ?_
  obtain ⟨g17, hm⟩ := gd_s hm
  refine oX_aaldR oDs319 (oIn (ohN319 hH) g17) dX1_harmOf_103 (ohA319 hH (oLt g17)) ?_
  refine oX_iload_n dX1_harmOf_104 rfl rfl ?_
  obtain ⟨g18, hm⟩ := gd_s hm
  refine oX_iald oDs419 (oIn (ohM419 hH (oLt g17)) g18) dX1_harmOf_105 ?_
  refine oX_istore (ls' := [(6, vI (AI 419 ((FI a10.1 a10.2 0).toNatClampNeg) x3.toNatClampNeg)), (5, vI (y0 + (((10 : Int32) * r14) + ((3 : Int32) * r16)))), (0, vR (some (0, 0))), (1, vR x1), (2, vR x2), (3, vI x3), (4, vR x4)]) dX1_harmOf_106 (by decide) rfl ?_
  refine oX_aload_n dX1_harmOf_108 rfl rfl ?_
  refine oX_getF fX1_67 rfl oDs0 dX1_harmOf_109 (ohF320 hH) ?_
  refine oX_aload_n dX1_harmOf_112 rfl rfl ?_
  refine oX_getI fX1_233 rfl e10 dX1_harmOf_113 ?_
  obtain ⟨g19, hm⟩ := gd_s hm
  refine oX_aaldR oDs320 (oIn (ohN320 hH) g19) dX1_harmOf_116 (ohA320 hH (oLt g19)) ?_
  refine oX_iload_n dX1_harmOf_117 rfl rfl ?_
  obtain ⟨g20, hm⟩ := gd_s hm
  refine oX_iald oDs420 (oIn (ohM420 hH (oLt g19)) g20) dX1_harmOf_118 ?_
  refine oX_istore (ls' := [(7, vI (AI 420 ((FI a10.1 a10.2 0).toNatClampNeg) x3.toNatClampNeg)), (6, vI (AI 419 ((FI a10.1 a10.2 0).toNatClampNeg) x3.toNatClampNeg)), (5, vI (y0 + (((10 : Int32) * r14) + ((3 : Int32) * r16)))), (0, vR (some (0, 0))), (1, vR x1), (2, vR x2), (3, vI x3), (4, vR x4)]) dX1_harmOf_119 (by decide) rfl ?_
  refine oX_aload_n dX1_harmOf_121 rfl rfl ?_
  refine oX_aload_n dX1_harmOf_122 rfl rfl ?_
  refine oX_getI fX1_233 rfl e10 dX1_harmOf_123 ?_
  refine oX_iload_n dX1_harmOf_126 rfl rfl ?_
  refine oX_aload_n dX1_harmOf_127 rfl rfl ?_
  refine oX_getI fX1_356 rfl e12 dX1_harmOf_128 ?_
  obtain ⟨r21, g21, hm⟩ := bd_s hm
  refine oX_cV_ (as := [vI (FI a10.1 a10.2 0), vI x3, vI (FI a12.1 a12.2 0)]) dX1_harmOf_131 rfl oDs0 rfl (by decide) rfl ok_X1_give rfl rfl q1426 q1428 qs27 q129 q1429 (by decide) (Nat.le_of_ble_eq_true rfl) (t_X1_give hH (FI a10.1 a10.2 0) x3 (FI a12.1 a12.2 0) g21) ?_
  refine oX_iload dX1_harmOf_134 rfl ?_
  refine oX_aload_n dX1_harmOf_136 rfl rfl ?_
  refine oX_aload_n dX1_harmOf_137 rfl rfl ?_
  refine oX_aload_n dX1_harmOf_138 rfl rfl ?_
  obtain ⟨r22, g22, hm⟩ := bd_s hm
  refine oX_cV (as := [vR x1, vR x2]) dX1_harmOf_139 rfl oDs0 rfl (by decide) rfl ok_X1_feeOf rfl rfl q1570 q1572 qs45 q129 q1573 (by decide) (Nat.le_of_ble_eq_true rfl) (t_X1_feeOf hH n x1 x2 g22) ?_
  refine oX_bipush (v := (100 : Int32)) dX1_harmOf_142 (by decide) ?_
  refine oX_idiv dX1_harmOf_144 (by decide) ?_
  refine oX_iadd dX1_harmOf_145 ?_
  refine oX_istore (ls' := [(5, vI ((y0 + (((10 : Int32) * r14) + ((3 : Int32) * r16))) + (r22.1 / (100 : Int32)))), (7, vI (AI 420 ((FI a10.1 a10.2 0).toNatClampNeg) x3.toNatClampNeg)), (6, vI (AI 419 ((FI a10.1 a10.2 0).toNatClampNeg) x3.toNatClampNeg)), (0, vR (some (0, 0))), (1, vR x1), (2, vR x2), (3, vI x3), (4, vR x4)]) dX1_harmOf_146 (by decide) rfl ?_
  refine oX_aload_n dX1_harmOf_148 rfl rfl ?_
  refine oX_getF fX1_64 rfl oDs0 dX1_harmOf_149 (ohF319 hH) ?_
  refine oX_aload_n dX1_harmOf_152 rfl rfl ?_
  refine oX_getI fX1_233 rfl e10 dX1_harmOf_153 ?_
  obtain ⟨g23, hm⟩ := gd_s hm
  refine oX_aaldR oDs319 (oIn (ohN319 hH) g23) dX1_harmOf_156 (ohA319 hH (oLt g23)) ?_
  refine oX_iload_n dX1_harmOf_157 rfl rfl ?_
  refine oX_iload dX1_harmOf_158 rfl ?_
  obtain ⟨g24, hm⟩ := gd_s hm
  obtain ⟨AI24, hAI24, hm⟩ := oLs hm
  refine oX_iast oDs419 (oIn (ohM419 hH (oLt g23)) g24) dX1_harmOf_160 hAI24 ?_
  refine oX_aload_n dX1_harmOf_161 rfl rfl ?_
  refine oX_getF fX1_67 rfl oDs0 dX1_harmOf_162 (ohF320 hH) ?_
  refine oX_aload_n dX1_harmOf_165 rfl rfl ?_
  refine oX_getI fX1_233 rfl e10 dX1_harmOf_166 ?_
  obtain ⟨g25, hm⟩ := gd_s hm
  refine oX_aaldR oDs320 (oIn (ohN320 hH) g25) dX1_harmOf_169 (ohA320 hH (oLt g25)) ?_
  refine oX_iload_n dX1_harmOf_170 rfl rfl ?_
  refine oX_iload dX1_harmOf_171 rfl ?_
  obtain ⟨g26, hm⟩ := gd_s hm
  obtain ⟨AI26, hAI26, hm⟩ := oLs hm
  refine oX_iast oDs420 (oIn (ohM420 hH (oLt g25)) g26) dX1_harmOf_173 hAI26 ?_
  refine oX_iload dX1_harmOf_174 rfl ?_
  obtain rfl := Option.some.inj hm
  exact oX_iret dX1_harmOf_176 rfl rfl hK
noncomputable def mX1_harmOf (n : Nat) (FI : OhI) (FR : OhQ) (GR : OhQ) (AI : OhI) (AR : OhQ) (BR : OhQ) (AN : OhN) (x1 : OhR) (x2 : OhR) (x3 : Int32) : Option (Int32 × OhI × OhI) :=
  (oD 14 x2).bind fun a1 =>
  (oD 4 (FR a1.1 a1.2 6)).bind fun a2 =>
  (oD 17 (FR a2.1 a2.2 6)).bind fun a3 =>
  (mJ2_get FI GR AR BR AN a3 x3).bind fun r4 =>
  (oD 5 r4).bind fun a5 =>
  gd (vp_in (FI a1.1 a1.2 0) 66) <|
  gd (vp_in x3 8) <|
  (oD 6 x1).bind fun a8 =>
  (if (AI 421 ((FI a1.1 a1.2 0).toNatClampNeg) x3.toNatClampNeg) = (FI a8.1 a8.2 0) then
  mX1_harmOf_j40 n FI FR GR AI AR BR AN x1 x2 x3 (some a5) (0 : Int32)
else
  mX1_harmOf_j40 n FI FR GR AI AR BR AN x1 x2 x3 (some a5) (100 : Int32))
theorem x_mX1_harmOf {G : OhG} {FI AI : OhI} {FL AL : OhL} {FR GR AR BR : OhQ} {AN : OhN} {C : OhC} {k : Nat × Nat} {Φ : OhP} {Ψ : OhX} (hH : ohShH FR AR AN) (n : Nat) (x1 : OhR) (x2 : OhR) (x3 : Int32) {r : Int32 × OhI × OhI} (hm : mX1_harmOf n FI FR GR AI AR BR AN x1 x2 x3 = some r) (hK : Φ (some (vI r.1)) (r.2.1, FL, FR, GR, r.2.2, AL, AR, BR, AN, C)) : oX G 104 iX1_harmOf 0 [(0, vR (some (0, 0))), (1, vR x1), (2, vR x2), (3, vI x3)] [] (FI, FL, FR, GR, AI, AL, AR, BR, AN, C) k Φ Ψ := by
  unfold mX1_harmOf at hm
  refine oX_aload_n dX1_harmOf_0 rfl rfl ?_
  obtain ⟨a1, e1, hm⟩ := bd_s hm
  refine oX_getF fX1_258 rfl e1 dX1_harmOf_1 rfl ?_
  obtain ⟨a2, e2, hm⟩ := bd_s hm
  refine oX_getF fX1_137 rfl e2 dX1_harmOf_4 rfl ?_
  refine oX_iload_n dX1_harmOf_7 rfl rfl ?_
  obtain ⟨a3, e3, hm⟩ := bd_s hm
  obtain ⟨r4, g4, hm⟩ := bd_s hm
  refine oX_cV (as := [vI x3]) dX1_harmOf_8 rfl e3 rfl (by decide) rfl ok_J2_get rfl rfl q648 q649 q650 q132 q651 (by decide) (Nat.le_of_ble_eq_true rfl) (t_J2_get a3 ((oD_some e3).2) x3 g4) ?_
  obtain ⟨a5, e5, hm⟩ := bd_s hm
  refine oX_cast e5 rfl (by decide) q472 dX1_harmOf_11 ?_
  refine oX_astore (ls' := [(4, vR (some a5)), (0, vR (some (0, 0))), (1, vR x1), (2, vR x2), (3, vI x3)]) dX1_harmOf_14 (by decide) rfl ?_
  refine oX_aload_n dX1_harmOf_16 rfl rfl ?_
  refine oX_getF fX1_70 rfl oDs0 dX1_harmOf_17 (ohF321 hH) ?_
  refine oX_aload_n dX1_harmOf_20 rfl rfl ?_
  refine oX_getI fX1_233 rfl e1 dX1_harmOf_21 ?_
  obtain ⟨g6, hm⟩ := gd_s hm
  refine oX_aaldR oDs321 (oIn (ohN321 hH) g6) dX1_harmOf_24 (ohA321 hH (oLt g6)) ?_
  refine oX_iload_n dX1_harmOf_25 rfl rfl ?_
  obtain ⟨g7, hm⟩ := gd_s hm
  refine oX_iald oDs421 (oIn (ohM421 hH (oLt g6)) g7) dX1_harmOf_26 ?_
  refine oX_aload_n dX1_harmOf_27 rfl rfl ?_
  obtain ⟨a8, e8, hm⟩ := bd_s hm
  refine oX_getI fX1_356 rfl e8 dX1_harmOf_28 ?_
  refine oX_icmp_ne (tgt := 38) dX1_harmOf_31 (by decide) (fun c9 => ?_) (fun c9 => ?_)
  · have hm := ifp c9 hm
    refine oX_iconst (v := (0 : Int32)) dX1_harmOf_34 (by decide) ?_
    refine oX_goto (tgt := 40) dX1_harmOf_35 (by decide) ?_
    exact oX_sub [1, 2, 3, 4, 0] rfl (x_mX1_harmOf_j40 hH n x1 x2 x3 (some a5) (0 : Int32) hm hK)
  · have hm := ifn c9 hm
    refine oX_bipush (v := (100 : Int32)) dX1_harmOf_38 (by decide) ?_
    exact oX_sub [1, 2, 3, 4, 0] rfl (x_mX1_harmOf_j40 hH n x1 x2 x3 (some a5) (100 : Int32) hm hK)
theorem t_X1_harmOf {G : OhG} {FI AI : OhI} {FL AL : OhL} {FR GR AR BR : OhQ} {AN : OhN} {C : OhC} (hH : ohShH FR AR AN) (n : Nat) (x1 : OhR) (x2 : OhR) (x3 : Int32) {o : Int32 × OhI × OhI} (hm : mX1_harmOf n FI FR GR AI AR BR AN x1 x2 x3 = some o) : oT G 104 iX1_harmOf [vR (some (0, 0)), vR x1, vR x2, vI x3] (FI, FL, FR, GR, AI, AL, AR, BR, AN, C) (0, 0) (fun v h => v = (some (vI o.1)) ∧ h = (o.2.1, FL, FR, GR, o.2.2, AL, AR, BR, AN, C)) ohNo :=
  oT_of (by decide) rfl (Nat.le_of_ble_eq_true rfl) (x_mX1_harmOf hH n x1 x2 x3 hm ⟨rfl, rfl⟩)
noncomputable def mX1_harm (n : Nat) (FI : OhI) (FR : OhQ) (GR : OhQ) (AI : OhI) (AR : OhQ) (BR : OhQ) (AN : OhN) (x1 : Int32) (x2 : Int32) (x3 : Int32) : Option (Int32 × OhI × OhI × OhQ) :=
  (mX1_callOf FI FR GR AR BR AN x2).bind fun r1 =>
  (mX1_singerOf FI FR GR AR BR AN x1).bind fun r2 =>
  (if r2 = none then
  some ((-1 : Int32), FI, AI, BR)
else
  (mX1_isRole FI FR r1 x3).bind fun r4 =>
    (if r4 = 0 then
    some ((-1 : Int32), FI, AI, BR)
  else
    (mX1_layOut n FI FR GR AI AR BR AN (FI 0 0 3)).bind fun r6 =>
      (mX1_isCast n r6.1 FR r6.2.1 AR r6.2.2 AN x1 r1).bind fun r7 =>
      (if r7 = 0 then
      (mJ2_get r6.1 GR AR r6.2.2 AN (310, 0) x1).bind fun r9 =>
        (oD 6 r9).bind fun a10 =>
        (mX1_harmOf n r6.1 FR GR r6.2.1 AR r6.2.2 AN (some a10) r1 x3).bind fun r11 =>
        some (r11.1, r11.2.1, r11.2.2, r6.2.2)
    else
      some ((-1 : Int32), r6.1, r6.2.1, r6.2.2))))
theorem x_mX1_harm {G : OhG} {FI AI : OhI} {FL AL : OhL} {FR GR AR BR : OhQ} {AN : OhN} {C : OhC} {k : Nat × Nat} {Φ : OhP} {Ψ : OhX} (hH : ohShH FR AR AN) (n : Nat) (x1 : Int32) (x2 : Int32) (x3 : Int32) {r : Int32 × OhI × OhI × OhQ} (hm : mX1_harm n FI FR GR AI AR BR AN x1 x2 x3 = some r) (hK : Φ (some (vI r.1)) (r.2.1, FL, FR, GR, r.2.2.1, AL, AR, r.2.2.2, AN, C)) : oX G 105 iX1_harm 0 [(0, vR (some (0, 0))), (1, vI x1), (2, vI x2), (3, vI x3)] [] (FI, FL, FR, GR, AI, AL, AR, BR, AN, C) k Φ Ψ := by
  unfold mX1_harm at hm
  refine oX_aload_n dX1_harm_0 rfl rfl ?_
  refine oX_iload_n dX1_harm_1 rfl rfl ?_
  obtain ⟨r1, g1, hm⟩ := bd_s hm
  refine oX_cV (as := [vI x2]) dX1_harm_2 rfl oDs0 rfl (by decide) rfl ok_X1_callOf rfl rfl q1348 q1350 qs24 q129 q1351 (by decide) (Nat.le_of_ble_eq_true rfl) (t_X1_callOf hH x2 g1) ?_
  refine oX_astore (ls' := [(4, vR r1), (0, vR (some (0, 0))), (1, vI x1), (2, vI x2), (3, vI x3)]) dX1_harm_5 (by decide) rfl ?_
  refine oX_aload_n dX1_harm_7 rfl rfl ?_
  refine oX_iload_n dX1_harm_8 rfl rfl ?_
  obtain ⟨r2, g2, hm⟩ := bd_s hm
  refine oX_cV (as := [vI x1]) dX1_harm_9 rfl oDs0 rfl (by decide) rfl ok_X1_singerOf rfl rfl q644 q646 qs7 q129 q647 (by decide) (Nat.le_of_ble_eq_true rfl) (t_X1_singerOf hH x1 g2) ?_
  refine oX_ifnull (tgt := 25) dX1_harm_12 (by decide) (fun c3 => ?_) (fun c3 => ?_)
  · have hm := ifp c3 hm
    refine oX_iconst (v := (-1 : Int32)) dX1_harm_25 (by decide) ?_
    obtain rfl := Option.some.inj hm
    exact oX_iret dX1_harm_26 rfl rfl hK
  · have hm := ifn c3 hm
    refine oX_aload_n dX1_harm_15 rfl rfl ?_
    refine oX_aload dX1_harm_16 rfl ?_
    refine oX_iload_n dX1_harm_18 rfl rfl ?_
    obtain ⟨r4, g4, hm⟩ := bd_s hm
    refine oX_cV (as := [vR r1, vI x3]) dX1_harm_19 rfl oDs0 rfl (by decide) rfl ok_X1_isRole rfl rfl q1600 q1602 qs47 q129 q1603 (by decide) (Nat.le_of_ble_eq_true rfl) (t_X1_isRole r1 x3 g4) ?_
    refine oX_if_ne (tgt := 27) dX1_harm_22 (by decide) (fun c5 => ?_) (fun c5 => ?_)
    · have hm := ifp c5 hm
      refine oX_iconst (v := (-1 : Int32)) dX1_harm_25 (by decide) ?_
      obtain rfl := Option.some.inj hm
      exact oX_iret dX1_harm_26 rfl rfl hK
    · have hm := ifn c5 hm
      refine oX_aload_n dX1_harm_27 rfl rfl ?_
      refine oX_aload_n dX1_harm_28 rfl rfl ?_
      refine oX_getI fX1_116 rfl oDs0 dX1_harm_29 ?_
      obtain ⟨r6, g6, hm⟩ := bd_s hm
      refine oX_cV_ (as := [vI (FI 0 0 3)]) dX1_harm_32 rfl oDs0 rfl (by decide) rfl ok_X1_layOut rfl rfl q1418 q1420 qs25 q129 q1421 (by decide) (Nat.le_of_ble_eq_true rfl) (t_X1_layOut hH n (FI 0 0 3) g6) ?_
      refine oX_aload_n dX1_harm_35 rfl rfl ?_
      refine oX_iload_n dX1_harm_36 rfl rfl ?_
      refine oX_aload dX1_harm_37 rfl ?_
      obtain ⟨r7, g7, hm⟩ := bd_s hm
      refine oX_cV (as := [vI x1, vR r1]) dX1_harm_39 rfl oDs0 rfl (by decide) rfl ok_X1_isCast rfl rfl q1523 q1525 qs40 q129 q1526 (by decide) (Nat.le_of_ble_eq_true rfl) (t_X1_isCast hH n x1 r1 g7) ?_
      refine oX_if_eq (tgt := 49) dX1_harm_42 (by decide) (fun c8 => ?_) (fun c8 => ?_)
      · have hm := ifp c8 hm
        refine oX_aload_n dX1_harm_49 rfl rfl ?_
        refine oX_aload_n dX1_harm_50 rfl rfl ?_
        refine oX_getF fX1_34 rfl oDs0 dX1_harm_51 (ohF310 hH) ?_
        refine oX_iload_n dX1_harm_54 rfl rfl ?_
        obtain ⟨r9, g9, hm⟩ := bd_s hm
        refine oX_cV (as := [vI x1]) dX1_harm_55 rfl oDs310 rfl (by decide) rfl ok_J2_get rfl rfl q648 q649 q650 q132 q651 (by decide) (Nat.le_of_ble_eq_true rfl) (t_J2_get (310, 0) rfl x1 g9) ?_
        obtain ⟨a10, e10, hm⟩ := bd_s hm
        refine oX_cast e10 rfl (by decide) q565 dX1_harm_58 ?_
        refine oX_aload dX1_harm_61 rfl ?_
        refine oX_iload_n dX1_harm_63 rfl rfl ?_
        obtain ⟨r11, g11, hm⟩ := bd_s hm
        refine oX_cV (as := [vR (some a10), vR r1, vI x3]) dX1_harm_64 rfl oDs0 rfl (by decide) rfl ok_X1_harmOf rfl rfl q1621 q1623 qs51 q129 q1624 (by decide) (Nat.le_of_ble_eq_true rfl) (t_X1_harmOf hH n (some a10) r1 x3 g11) ?_
        obtain rfl := Option.some.inj hm
        exact oX_iret dX1_harm_67 rfl rfl hK
      · have hm := ifn c8 hm
        refine oX_iconst (v := (-1 : Int32)) dX1_harm_45 (by decide) ?_
        refine oX_goto (tgt := 67) dX1_harm_46 (by decide) ?_
        obtain rfl := Option.some.inj hm
        exact oX_iret dX1_harm_67 rfl rfl hK
theorem t_X1_harm {G : OhG} {FI AI : OhI} {FL AL : OhL} {FR GR AR BR : OhQ} {AN : OhN} {C : OhC} (hH : ohShH FR AR AN) (n : Nat) (x1 : Int32) (x2 : Int32) (x3 : Int32) {o : Int32 × OhI × OhI × OhQ} (hm : mX1_harm n FI FR GR AI AR BR AN x1 x2 x3 = some o) : oT G 105 iX1_harm [vR (some (0, 0)), vI x1, vI x2, vI x3] (FI, FL, FR, GR, AI, AL, AR, BR, AN, C) (0, 0) (fun v h => v = (some (vI o.1)) ∧ h = (o.2.1, FL, FR, GR, o.2.2.1, AL, AR, o.2.2.2, AN, C)) ohNo :=
  oT_of (by decide) rfl (Nat.le_of_ble_eq_true rfl) (x_mX1_harm hH n x1 x2 x3 hm ⟨rfl, rfl⟩)
noncomputable def mX1_instead_b34 (n : Nat) (FI : OhI) (FR : OhQ) (GR : OhQ) (AI : OhI) (AR : OhQ) (BR : OhQ) (AN : OhN) (x2 : Int32) (x3 : OhR) (x4 : Int32) (x5 : Int32) (x6 : Int32) : Option ((Int32 × Int32 × Int32 × OhI × OhI) ⊕ (Int32 × OhI × OhI)) :=
  (mJ2_size FI (310, 0)).bind fun r5 =>
  (if r5 ≤ x6 then
  some (.inr (x4, FI, AI))
else
  (mX1_mayHave n FI FR GR AI AR BR AN x6 x3 x2).bind fun r7 =>
    (if r7.1 = 0 then
    some (.inl (x4, x5, x6 + (1 : Int32), FI, r7.2))
  else
    (mJ2_get FI GR AR BR AN (310, 0) x6).bind fun r9 =>
      (oD 6 r9).bind fun a10 =>
      (mX1_harmOf n FI FR GR r7.2 AR BR AN (some a10) x3 x2).bind fun r11 =>
      (if x4 = (-1 : Int32) then
      some (.inl (x6, r11.1, x6 + (1 : Int32), r11.2.1, r11.2.2))
    else
      (if r11.1 < x5 then
        some (.inl (x6, r11.1, x6 + (1 : Int32), r11.2.1, r11.2.2))
      else
        some (.inl (x4, x5, x6 + (1 : Int32), r11.2.1, r11.2.2))))))
theorem x_mX1_instead_b34 {G : OhG} {FI AI : OhI} {FL AL : OhL} {FR GR AR BR : OhQ} {AN : OhN} {C : OhC} {k : Nat × Nat} {Φ : OhP} {Ψ : OhX} (hH : ohShH FR AR AN) (n : Nat) (x2 : Int32) (x3 : OhR) (x4 : Int32) (x5 : Int32) (x6 : Int32) {r : (Int32 × Int32 × Int32 × OhI × OhI) ⊕ (Int32 × OhI × OhI)} (hm : mX1_instead_b34 n FI FR GR AI AR BR AN x2 x3 x4 x5 x6 = some r) (hk : ∀ v : Int32 × Int32 × Int32 × OhI × OhI, r = .inl v → oX G 105 iX1_instead 34 [(0, vR (some (0, 0))), (2, vI x2), (3, vR x3), (4, vI v.1), (5, vI v.2.1), (6, vI v.2.2.1)] [] (v.2.2.2.1, FL, FR, GR, v.2.2.2.2, AL, AR, BR, AN, C) k Φ Ψ) (hx1 : ∀ v : Int32 × OhI × OhI, r = .inr v → oX G 105 iX1_instead 110 [(4, vI v.1)] [] (v.2.1, FL, FR, GR, v.2.2, AL, AR, BR, AN, C) k Φ Ψ) : oX G 105 iX1_instead 34 [(0, vR (some (0, 0))), (2, vI x2), (3, vR x3), (4, vI x4), (5, vI x5), (6, vI x6)] [] (FI, FL, FR, GR, AI, AL, AR, BR, AN, C) k Φ Ψ := by
  unfold mX1_instead_b34 at hm
  refine oX_iload dX1_instead_34 rfl ?_
  refine oX_aload_n dX1_instead_36 rfl rfl ?_
  refine oX_getF fX1_34 rfl oDs0 dX1_instead_37 (ohF310 hH) ?_
  obtain ⟨r5, g5, hm⟩ := bd_s hm
  refine oX_cV (as := []) dX1_instead_40 rfl oDs310 rfl (by decide) rfl ok_J2_size rfl rfl q430 q431 q432 q132 q433 (by decide) (Nat.le_of_ble_eq_true rfl) (t_J2_size (310, 0) rfl g5) ?_
  refine oX_icmp_ge (tgt := 110) dX1_instead_43 (by decide) (fun c6 => ?_) (fun c6 => ?_)
  · have hm := ifp c6 hm
    exact oX_sub [3] rfl (hx1 (x4, FI, AI) (Option.some.inj hm).symm)
  · have hm := ifn c6 hm
    refine oX_aload_n dX1_instead_46 rfl rfl ?_
    refine oX_iload dX1_instead_47 rfl ?_
    refine oX_aload_n dX1_instead_49 rfl rfl ?_
    refine oX_iload_n dX1_instead_50 rfl rfl ?_
    obtain ⟨r7, g7, hm⟩ := bd_s hm
    refine oX_cV (as := [vI x6, vR x3, vI x2]) dX1_instead_51 rfl oDs0 rfl (by decide) rfl ok_X1_mayHave rfl rfl q1604 q1606 qs48 q129 q1607 (by decide) (Nat.le_of_ble_eq_true rfl) (t_X1_mayHave hH n x6 x3 x2 g7) ?_
    refine oX_if_ne (tgt := 60) dX1_instead_54 (by decide) (fun c8 => ?_) (fun c8 => ?_)
    · have hm := ifp c8 hm
      refine oX_goto (tgt := 104) dX1_instead_57 (by decide) ?_
      refine oX_iinc (v := x6 + (1 : Int32)) (ls' := [(6, vI (x6 + (1 : Int32))), (0, vR (some (0, 0))), (2, vI x2), (3, vR x3), (4, vI x4), (5, vI x5)]) dX1_instead_104 rfl rfl (by decide) rfl ?_
      refine oX_goto (tgt := 34) dX1_instead_107 (by decide) ?_
      exact oX_sub [1, 2, 3, 4, 5, 0] rfl (hk (x4, x5, x6 + (1 : Int32), FI, r7.2) (Option.some.inj hm).symm)
    · have hm := ifn c8 hm
      refine oX_aload_n dX1_instead_60 rfl rfl ?_
      refine oX_aload_n dX1_instead_61 rfl rfl ?_
      refine oX_getF fX1_34 rfl oDs0 dX1_instead_62 (ohF310 hH) ?_
      refine oX_iload dX1_instead_65 rfl ?_
      obtain ⟨r9, g9, hm⟩ := bd_s hm
      refine oX_cV (as := [vI x6]) dX1_instead_67 rfl oDs310 rfl (by decide) rfl ok_J2_get rfl rfl q648 q649 q650 q132 q651 (by decide) (Nat.le_of_ble_eq_true rfl) (t_J2_get (310, 0) rfl x6 g9) ?_
      obtain ⟨a10, e10, hm⟩ := bd_s hm
      refine oX_cast e10 rfl (by decide) q565 dX1_instead_70 ?_
      refine oX_aload_n dX1_instead_73 rfl rfl ?_
      refine oX_iload_n dX1_instead_74 rfl rfl ?_
      obtain ⟨r11, g11, hm⟩ := bd_s hm
      refine oX_cV (as := [vR (some a10), vR x3, vI x2]) dX1_instead_75 rfl oDs0 rfl (by decide) rfl ok_X1_harmOf rfl rfl q1621 q1623 qs51 q129 q1624 (by decide) (Nat.le_of_ble_eq_true rfl) (t_X1_harmOf hH n (some a10) x3 x2 g11) ?_
      refine oX_istore (ls' := [(7, vI r11.1), (0, vR (some (0, 0))), (2, vI x2), (3, vR x3), (4, vI x4), (5, vI x5), (6, vI x6)]) dX1_instead_78 (by decide) rfl ?_
      refine oX_iload dX1_instead_80 rfl ?_
      refine oX_iconst (v := (-1 : Int32)) dX1_instead_82 (by decide) ?_
      refine oX_icmp_eq (tgt := 96) dX1_instead_83 (by decide) (fun c12 => ?_) (fun c12 => ?_)
      · have hm := ifp c12 hm
        refine oX_iload dX1_instead_96 rfl ?_
        refine oX_istore (ls' := [(4, vI x6), (7, vI r11.1), (0, vR (some (0, 0))), (2, vI x2), (3, vR x3), (5, vI x5), (6, vI x6)]) dX1_instead_98 (by decide) rfl ?_
        refine oX_iload dX1_instead_100 rfl ?_
        refine oX_istore (ls' := [(5, vI r11.1), (4, vI x6), (7, vI r11.1), (0, vR (some (0, 0))), (2, vI x2), (3, vR x3), (6, vI x6)]) dX1_instead_102 (by decide) rfl ?_
        refine oX_iinc (v := x6 + (1 : Int32)) (ls' := [(6, vI (x6 + (1 : Int32))), (5, vI r11.1), (4, vI x6), (7, vI r11.1), (0, vR (some (0, 0))), (2, vI x2), (3, vR x3)]) dX1_instead_104 rfl rfl (by decide) rfl ?_
        refine oX_goto (tgt := 34) dX1_instead_107 (by decide) ?_
        exact oX_sub [4, 5, 6, 2, 1, 0] rfl (hk (x6, r11.1, x6 + (1 : Int32), r11.2.1, r11.2.2) (Option.some.inj hm).symm)
      · have hm := ifn c12 hm
        refine oX_iload dX1_instead_86 rfl ?_
        refine oX_iload dX1_instead_88 rfl ?_
        refine oX_icmp_lt (tgt := 96) dX1_instead_90 (by decide) (fun c13 => ?_) (fun c13 => ?_)
        · have hm := ifp c13 hm
          refine oX_iload dX1_instead_96 rfl ?_
          refine oX_istore (ls' := [(4, vI x6), (7, vI r11.1), (0, vR (some (0, 0))), (2, vI x2), (3, vR x3), (5, vI x5), (6, vI x6)]) dX1_instead_98 (by decide) rfl ?_
          refine oX_iload dX1_instead_100 rfl ?_
          refine oX_istore (ls' := [(5, vI r11.1), (4, vI x6), (7, vI r11.1), (0, vR (some (0, 0))), (2, vI x2), (3, vR x3), (6, vI x6)]) dX1_instead_102 (by decide) rfl ?_
          refine oX_iinc (v := x6 + (1 : Int32)) (ls' := [(6, vI (x6 + (1 : Int32))), (5, vI r11.1), (4, vI x6), (7, vI r11.1), (0, vR (some (0, 0))), (2, vI x2), (3, vR x3)]) dX1_instead_104 rfl rfl (by decide) rfl ?_
          refine oX_goto (tgt := 34) dX1_instead_107 (by decide) ?_
          exact oX_sub [4, 5, 6, 2, 1, 0] rfl (hk (x6, r11.1, x6 + (1 : Int32), r11.2.1, r11.2.2) (Option.some.inj hm).symm)
        · have hm := ifn c13 hm
          refine oX_goto (tgt := 104) dX1_instead_93 (by decide) ?_
          refine oX_iinc (v := x6 + (1 : Int32)) (ls' := [(6, vI (x6 + (1 : Int32))), (7, vI r11.1), (0, vR (some (0, 0))), (2, vI x2), (3, vR x3), (4, vI x4), (5, vI x5)]) dX1_instead_104 rfl rfl (by decide) rfl ?_
          refine oX_goto (tgt := 34) dX1_instead_107 (by decide) ?_
          exact oX_sub [2, 3, 4, 5, 6, 0] rfl (hk (x4, x5, x6 + (1 : Int32), r11.2.1, r11.2.2) (Option.some.inj hm).symm)
theorem l_mX1_instead_b34 {G : OhG} {FL : OhL} {FR : OhQ} {GR : OhQ} {AL : OhL} {AR : OhQ} {BR : OhQ} {AN : OhN} {C : OhC} {k : Nat × Nat} {Φ : OhP} {Ψ : OhX} (hH : ohShH FR AR AN) (n : Nat) (x2 : Int32) (x3 : OhR) : ∀ (f : Nat) (x4 : Int32) (x5 : Int32) (x6 : Int32) (FI : OhI) (AI : OhI) (b : (Int32 × OhI × OhI)), lpF (fun v => mX1_instead_b34 n v.2.2.2.1 FR GR v.2.2.2.2 AR BR AN x2 x3 v.1 v.2.1 v.2.2.1) f (x4, x5, x6, FI, AI) = some b → (oX G 105 iX1_instead 110 [(4, vI b.1)] [] (b.2.1, FL, FR, GR, b.2.2, AL, AR, BR, AN, C) k Φ Ψ) → oX G 105 iX1_instead 34 [(0, vR (some (0, 0))), (2, vI x2), (3, vR x3), (4, vI x4), (5, vI x5), (6, vI x6)] [] (FI, FL, FR, GR, AI, AL, AR, BR, AN, C) k Φ Ψ := by
  intro f
  induction f with
  | zero =>
    intro x4 x5 x6 FI AI b hm
    cases hm
  | succ f ih =>
    intro x4 x5 x6 FI AI b hm hx1
    obtain ⟨r, hr, hm⟩ := lp_s hm
    refine x_mX1_instead_b34 hH n x2 x3 x4 x5 x6 hr (fun v e => ?_) (fun v e => ?_)
    · subst e; exact ih v.1 v.2.1 v.2.2.1 v.2.2.2.1 v.2.2.2.2 _ hm hx1
    · subst e; cases (show v = b from hm); exact hx1
noncomputable def mX1_instead (n : Nat) (FI : OhI) (FR : OhQ) (GR : OhQ) (AI : OhI) (AR : OhQ) (BR : OhQ) (AN : OhN) (x1 : Int32) (x2 : Int32) : Option (Int32 × OhI × OhI × OhQ) :=
  (mX1_callOf FI FR GR AR BR AN x1).bind fun r1 =>
  (mX1_isRole FI FR r1 x2).bind fun r2 =>
  (if r2 = 0 then
  some ((-1 : Int32), FI, AI, BR)
else
  (mX1_layOut n FI FR GR AI AR BR AN (FI 0 0 3)).bind fun r4 =>
    (lpF (fun v => mX1_instead_b34 n v.2.2.2.1 FR GR v.2.2.2.2 AR r4.2.2 AN x2 r1 v.1 v.2.1 v.2.2.1) n ((-1 : Int32), (0 : Int32), (0 : Int32), r4.1, r4.2.1)).bind fun v14 =>
    some (v14.1, v14.2.1, v14.2.2, r4.2.2))
theorem x_mX1_instead {G : OhG} {FI AI : OhI} {FL AL : OhL} {FR GR AR BR : OhQ} {AN : OhN} {C : OhC} {k : Nat × Nat} {Φ : OhP} {Ψ : OhX} (hH : ohShH FR AR AN) (n : Nat) (x1 : Int32) (x2 : Int32) {r : Int32 × OhI × OhI × OhQ} (hm : mX1_instead n FI FR GR AI AR BR AN x1 x2 = some r) (hK : Φ (some (vI r.1)) (r.2.1, FL, FR, GR, r.2.2.1, AL, AR, r.2.2.2, AN, C)) : oX G 105 iX1_instead 0 [(0, vR (some (0, 0))), (1, vI x1), (2, vI x2)] [] (FI, FL, FR, GR, AI, AL, AR, BR, AN, C) k Φ Ψ := by
  unfold mX1_instead at hm
  refine oX_aload_n dX1_instead_0 rfl rfl ?_
  refine oX_iload_n dX1_instead_1 rfl rfl ?_
  obtain ⟨r1, g1, hm⟩ := bd_s hm
  refine oX_cV (as := [vI x1]) dX1_instead_2 rfl oDs0 rfl (by decide) rfl ok_X1_callOf rfl rfl q1348 q1350 qs24 q129 q1351 (by decide) (Nat.le_of_ble_eq_true rfl) (t_X1_callOf hH x1 g1) ?_
  refine oX_astore_n (ls' := [(3, vR r1), (0, vR (some (0, 0))), (1, vI x1), (2, vI x2)]) dX1_instead_5 rfl (by decide) rfl ?_
  refine oX_aload_n dX1_instead_6 rfl rfl ?_
  refine oX_aload_n dX1_instead_7 rfl rfl ?_
  refine oX_iload_n dX1_instead_8 rfl rfl ?_
  obtain ⟨r2, g2, hm⟩ := bd_s hm
  refine oX_cV (as := [vR r1, vI x2]) dX1_instead_9 rfl oDs0 rfl (by decide) rfl ok_X1_isRole rfl rfl q1600 q1602 qs47 q129 q1603 (by decide) (Nat.le_of_ble_eq_true rfl) (t_X1_isRole r1 x2 g2) ?_
  refine oX_if_ne (tgt := 17) dX1_instead_12 (by decide) (fun c3 => ?_) (fun c3 => ?_)
  · have hm := ifp c3 hm
    refine oX_iconst (v := (-1 : Int32)) dX1_instead_15 (by decide) ?_
    obtain rfl := Option.some.inj hm
    exact oX_iret dX1_instead_16 rfl rfl hK
  · have hm := ifn c3 hm
    refine oX_aload_n dX1_instead_17 rfl rfl ?_
    refine oX_aload_n dX1_instead_18 rfl rfl ?_
    refine oX_getI fX1_116 rfl oDs0 dX1_instead_19 ?_
    obtain ⟨r4, g4, hm⟩ := bd_s hm
    refine oX_cV_ (as := [vI (FI 0 0 3)]) dX1_instead_22 rfl oDs0 rfl (by decide) rfl ok_X1_layOut rfl rfl q1418 q1420 qs25 q129 q1421 (by decide) (Nat.le_of_ble_eq_true rfl) (t_X1_layOut hH n (FI 0 0 3) g4) ?_
    refine oX_iconst (v := (-1 : Int32)) dX1_instead_25 (by decide) ?_
    refine oX_istore (ls' := [(4, vI (-1 : Int32)), (3, vR r1), (0, vR (some (0, 0))), (1, vI x1), (2, vI x2)]) dX1_instead_26 (by decide) rfl ?_
    refine oX_iconst (v := (0 : Int32)) dX1_instead_28 (by decide) ?_
    refine oX_istore (ls' := [(5, vI (0 : Int32)), (4, vI (-1 : Int32)), (3, vR r1), (0, vR (some (0, 0))), (1, vI x1), (2, vI x2)]) dX1_instead_29 (by decide) rfl ?_
    refine oX_iconst (v := (0 : Int32)) dX1_instead_31 (by decide) ?_
    refine oX_istore (ls' := [(6, vI (0 : Int32)), (5, vI (0 : Int32)), (4, vI (-1 : Int32)), (3, vR r1), (0, vR (some (0, 0))), (1, vI x1), (2, vI x2)]) dX1_instead_32 (by decide) rfl ?_
    obtain ⟨v14, g14, hm⟩ := bd_s hm
    refine oX_sub [4, 6, 3, 2, 1, 0] rfl (l_mX1_instead_b34 hH n x2 r1 n (-1 : Int32) (0 : Int32) (0 : Int32) r4.1 r4.2.1 _ g14 ?_)
    refine oX_iload dX1_instead_110 rfl ?_
    obtain rfl := Option.some.inj hm
    exact oX_iret dX1_instead_112 rfl rfl hK
theorem t_X1_instead {G : OhG} {FI AI : OhI} {FL AL : OhL} {FR GR AR BR : OhQ} {AN : OhN} {C : OhC} (hH : ohShH FR AR AN) (n : Nat) (x1 : Int32) (x2 : Int32) {o : Int32 × OhI × OhI × OhQ} (hm : mX1_instead n FI FR GR AI AR BR AN x1 x2 = some o) : oT G 105 iX1_instead [vR (some (0, 0)), vI x1, vI x2] (FI, FL, FR, GR, AI, AL, AR, BR, AN, C) (0, 0) (fun v h => v = (some (vI o.1)) ∧ h = (o.2.1, FL, FR, GR, o.2.2.1, AL, AR, o.2.2.2, AN, C)) ohNo :=
  oT_of (by decide) rfl (Nat.le_of_ble_eq_true rfl) (x_mX1_instead hH n x1 x2 hm ⟨rfl, rfl⟩)
noncomputable def mX1_tryFrom_j83 (rc : Nat → OhI → OhQ → OhQ → OhI → OhQ → OhQ → OhN → OhC → Int32 → Int32 → Option ((Int32 × OhI × OhQ × OhI × OhQ × OhC) × (Nat × Nat))) (n : Nat) (FI : OhI) (FR : OhQ) (GR : OhQ) (AI : OhI) (AR : OhQ) (BR : OhQ) (AN : OhN) (C : OhC) (x1 : Int32) (x3 : Int32) : Option (((Int32 × OhI × OhQ × OhI × OhQ × OhC) ⊕ ((OhI × OhQ × OhI × OhQ × OhC) ⊕ ((OhI × OhQ × OhI × OhQ × OhC) ⊕ (OhI × OhQ × OhI × OhQ × OhC)))) × (Nat × Nat)) :=
  gd (ohShH FR AR AN) <|
  gd (vp_in x1 6) <|
  (mX1_leave n FI FR AR BR AN (BR 329 0 x1.toNatClampNeg)).bind fun r12 =>
  some (.inl (x3 + (1 : Int32), r12.1, FR, AI, r12.2, C), (0, 0))
theorem x_mX1_tryFrom_j83 {G : OhG} {FI AI : OhI} {FL AL : OhL} {FR GR AR BR : OhQ} {AN : OhN} {C : OhC} {k : Nat × Nat} {Φ : OhP} {Ψ : OhX} {d : Nat} (hd9 : 8 ≤ d) (rc : Nat → OhI → OhQ → OhQ → OhI → OhQ → OhQ → OhN → OhC → Int32 → Int32 → Option ((Int32 × OhI × OhQ × OhI × OhQ × OhC) × (Nat × Nat))) (hrec : ∀ {FI AI : OhI} {FL AL : OhL} {FR GR AR BR : OhQ} {AN : OhN} {C : OhC} (n : Nat) (x1 : Int32) (x2 : Int32) {o : (Int32 × OhI × OhQ × OhI × OhQ × OhC) × (Nat × Nat)}, rc n FI FR GR AI AR BR AN C x1 x2 = some o → oT G d iX1_tryFrom [vR (some (0, 0)), vI x1, vI x2] (FI, FL, FR, GR, AI, AL, AR, BR, AN, C) o.2 (fun v h => v = (some (vI o.1.1)) ∧ h = (o.1.2.1, FL, o.1.2.2.1, GR, o.1.2.2.2.1, AL, AR, o.1.2.2.2.2.1, AN, o.1.2.2.2.2.2)) ohNo) (n : Nat) (x1 : Int32) (x3 : Int32) {r : ((Int32 × OhI × OhQ × OhI × OhQ × OhC) ⊕ ((OhI × OhQ × OhI × OhQ × OhC) ⊕ ((OhI × OhQ × OhI × OhQ × OhC) ⊕ (OhI × OhQ × OhI × OhQ × OhC)))) × (Nat × Nat)} (hm : mX1_tryFrom_j83 rc n FI FR GR AI AR BR AN C x1 x3 = some r) (hk : ∀ v : Int32 × OhI × OhQ × OhI × OhQ × OhC, r.1 = .inl v → oX G (d + 1) iX1_tryFrom 12 [(0, vR (some (0, 0))), (1, vI x1), (3, vI v.1)] [] (v.2.1, FL, v.2.2.1, GR, v.2.2.2.1, AL, AR, v.2.2.2.2.1, AN, v.2.2.2.2.2) k Φ Ψ) (hx1 : ∀ v : OhI × OhQ × OhI × OhQ × OhC, r.1 = .inr (.inl v) → oX G (d + 1) iX1_tryFrom 99 [] [] (v.1, FL, v.2.1, GR, v.2.2.1, AL, AR, v.2.2.2.1, AN, v.2.2.2.2) k Φ Ψ) (hx2 : ∀ v : OhI × OhQ × OhI × OhQ × OhC, r.1 = .inr (.inr (.inl v)) → oX G (d + 1) iX1_tryFrom 50 [] [] (v.1, FL, v.2.1, GR, v.2.2.1, AL, AR, v.2.2.2.1, AN, v.2.2.2.2) k Φ Ψ) (hx3 : ∀ v : OhI × OhQ × OhI × OhQ × OhC, r.1 = .inr (.inr (.inr v)) → oX G (d + 1) iX1_tryFrom 81 [] [] (v.1, FL, v.2.1, GR, v.2.2.1, AL, AR, v.2.2.2.1, AN, v.2.2.2.2) k Φ Ψ) : oX G (d + 1) iX1_tryFrom 83 [(0, vR (some (0, 0))), (1, vI x1), (3, vI x3)] [] (FI, FL, FR, GR, AI, AL, AR, BR, AN, C) (oPl r.2 k) Φ Ψ := by
  obtain ⟨r, q0⟩ := r
  unfold mX1_tryFrom_j83 at hm
  refine oX_aload_n dX1_tryFrom_83 rfl rfl ?_
  refine oX_aload_n dX1_tryFrom_84 rfl rfl ?_
  obtain ⟨s10, hm⟩ := gd_s hm
  refine oX_getF fX1_99 rfl oDs0 dX1_tryFrom_85 (ohF329 s10) ?_
  refine oX_iload_n dX1_tryFrom_88 rfl rfl ?_
  obtain ⟨g11, hm⟩ := gd_s hm
  refine oX_aaldC oDs329 (oIn (ohN329 s10) g11) dX1_tryFrom_89 rfl ?_
  obtain ⟨r12, g12, hm⟩ := bd_s hm
  refine oX_cV_ (as := [vR (BR 329 0 x1.toNatClampNeg)]) dX1_tryFrom_90 rfl oDs0 rfl (by decide) rfl ok_X1_leave rfl rfl q1654 q1656 qs57 q129 q1657 ⟨by omega, by decide⟩ (Nat.le_of_ble_eq_true rfl) (t_X1_leave s10 n (BR 329 0 x1.toNatClampNeg) g12) ?_
  refine oX_iinc (v := x3 + (1 : Int32)) (ls' := [(3, vI (x3 + (1 : Int32))), (0, vR (some (0, 0))), (1, vI x1)]) dX1_tryFrom_93 rfl rfl (by decide) rfl ?_
  refine oX_goto (tgt := 12) dX1_tryFrom_96 (by decide) ?_
  obtain ⟨hr, rfl⟩ := oEnd hm
  exact oX_sub [1, 2, 0] rfl (oX_z (hk (x3 + (1 : Int32), r12.1, FR, AI, r12.2, C) hr))
noncomputable def mX1_tryFrom_b12 (rc : Nat → OhI → OhQ → OhQ → OhI → OhQ → OhQ → OhN → OhC → Int32 → Int32 → Option ((Int32 × OhI × OhQ × OhI × OhQ × OhC) × (Nat × Nat))) (n : Nat) (FI : OhI) (FR : OhQ) (GR : OhQ) (AI : OhI) (AR : OhQ) (BR : OhQ) (AN : OhN) (C : OhC) (x1 : Int32) (x3 : Int32) : Option (((Int32 × OhI × OhQ × OhI × OhQ × OhC) ⊕ ((OhI × OhQ × OhI × OhQ × OhC) ⊕ ((OhI × OhQ × OhI × OhQ × OhC) ⊕ (OhI × OhQ × OhI × OhQ × OhC)))) × (Nat × Nat)) :=
  (if (FI 0 0 34) < x3 then
  some (.inr (.inl (FI, FR, AI, BR, C)), (0, 0))
else
  (if (400 : Int32) < (FI 0 0 32) then
    some (.inr (.inl (FI, FR, AI, BR, C)), (0, 0))
  else
    oLet (sA FI 0 0 (uA (FI 0 0) 32 ((FI 0 0 32) + (1 : Int32)))) fun FI4 =>
      (if (FI4 0 0 32) ≤ (400 : Int32) then
      (mX1_putIn n FI4 FR GR AI AR BR AN C x1 x3).bind fun r6 =>
        oCost r6.2 <|
        gd (ohShH r6.1.2.1 AR AN) <|
        (mX1_holds n r6.1.1 r6.1.2.1 GR r6.1.2.2.1 AR r6.1.2.2.2.1 AN (x1 + (1 : Int32))).bind fun r8 =>
        (if r8.1 = 0 then
        mX1_tryFrom_j83 rc n r6.1.1 r6.1.2.1 GR r8.2 AR r6.1.2.2.2.1 AN r6.1.2.2.2.2 x1 x3
      else
        (rc n r6.1.1 r6.1.2.1 GR r8.2 AR r6.1.2.2.2.1 AN r6.1.2.2.2.2 (x1 + (1 : Int32)) (x3 + (1 : Int32))).bind fun r13 =>
          oCost r13.2 <|
          (if r13.1.1 = 0 then
          mX1_tryFrom_j83 rc n r13.1.2.1 r13.1.2.2.1 GR r13.1.2.2.2.1 AR r13.1.2.2.2.2.1 AN r13.1.2.2.2.2.2 x1 x3
        else
          some (.inr (.inr (.inr (r13.1.2.1, r13.1.2.2.1, r13.1.2.2.2.1, r13.1.2.2.2.2.1, r13.1.2.2.2.2.2))), (0, 0))))
    else
      some (.inr (.inr (.inl (FI4, FR, AI, BR, C))), (0, 0)))))
theorem x_mX1_tryFrom_b12 {G : OhG} {FI AI : OhI} {FL AL : OhL} {FR GR AR BR : OhQ} {AN : OhN} {C : OhC} {k : Nat × Nat} {Φ : OhP} {Ψ : OhX} {d : Nat} (hd9 : 8 ≤ d) (rc : Nat → OhI → OhQ → OhQ → OhI → OhQ → OhQ → OhN → OhC → Int32 → Int32 → Option ((Int32 × OhI × OhQ × OhI × OhQ × OhC) × (Nat × Nat))) (hrec : ∀ {FI AI : OhI} {FL AL : OhL} {FR GR AR BR : OhQ} {AN : OhN} {C : OhC} (n : Nat) (x1 : Int32) (x2 : Int32) {o : (Int32 × OhI × OhQ × OhI × OhQ × OhC) × (Nat × Nat)}, rc n FI FR GR AI AR BR AN C x1 x2 = some o → oT G d iX1_tryFrom [vR (some (0, 0)), vI x1, vI x2] (FI, FL, FR, GR, AI, AL, AR, BR, AN, C) o.2 (fun v h => v = (some (vI o.1.1)) ∧ h = (o.1.2.1, FL, o.1.2.2.1, GR, o.1.2.2.2.1, AL, AR, o.1.2.2.2.2.1, AN, o.1.2.2.2.2.2)) ohNo) (n : Nat) (x1 : Int32) (x3 : Int32) {r : ((Int32 × OhI × OhQ × OhI × OhQ × OhC) ⊕ ((OhI × OhQ × OhI × OhQ × OhC) ⊕ ((OhI × OhQ × OhI × OhQ × OhC) ⊕ (OhI × OhQ × OhI × OhQ × OhC)))) × (Nat × Nat)} (hm : mX1_tryFrom_b12 rc n FI FR GR AI AR BR AN C x1 x3 = some r) (hk : ∀ v : Int32 × OhI × OhQ × OhI × OhQ × OhC, r.1 = .inl v → oX G (d + 1) iX1_tryFrom 12 [(0, vR (some (0, 0))), (1, vI x1), (3, vI v.1)] [] (v.2.1, FL, v.2.2.1, GR, v.2.2.2.1, AL, AR, v.2.2.2.2.1, AN, v.2.2.2.2.2) k Φ Ψ) (hx1 : ∀ v : OhI × OhQ × OhI × OhQ × OhC, r.1 = .inr (.inl v) → oX G (d + 1) iX1_tryFrom 99 [] [] (v.1, FL, v.2.1, GR, v.2.2.1, AL, AR, v.2.2.2.1, AN, v.2.2.2.2) k Φ Ψ) (hx2 : ∀ v : OhI × OhQ × OhI × OhQ × OhC, r.1 = .inr (.inr (.inl v)) → oX G (d + 1) iX1_tryFrom 50 [] [] (v.1, FL, v.2.1, GR, v.2.2.1, AL, AR, v.2.2.2.1, AN, v.2.2.2.2) k Φ Ψ) (hx3 : ∀ v : OhI × OhQ × OhI × OhQ × OhC, r.1 = .inr (.inr (.inr v)) → oX G (d + 1) iX1_tryFrom 81 [] [] (v.1, FL, v.2.1, GR, v.2.2.1, AL, AR, v.2.2.2.1, AN, v.2.2.2.2) k Φ Ψ) : oX G (d + 1) iX1_tryFrom 12 [(0, vR (some (0, 0))), (1, vI x1), (3, vI x3)] [] (FI, FL, FR, GR, AI, AL, AR, BR, AN, C) (oPl r.2 k) Φ Ψ := by
  obtain ⟨r, q0⟩ := r
  unfold mX1_tryFrom_b12 at hm
  refine oX_iload_n dX1_tryFrom_12 rfl rfl ?_
  refine oX_aload_n dX1_tryFrom_13 rfl rfl ?_
  refine oX_getI fX1_478 rfl oDs0 dX1_tryFrom_14 ?_
  refine oX_icmp_gt (tgt := 99) dX1_tryFrom_17 (by decide) (fun c2 => ?_) (fun c2 => ?_)
  · have hm := ifp c2 hm
    obtain ⟨hr, rfl⟩ := oEnd hm
    exact oX_sub [] rfl (oX_z (hx1 (FI, FR, AI, BR, C) hr))
  · have hm := ifn c2 hm
    refine oX_aload_n dX1_tryFrom_20 rfl rfl ?_
    refine oX_getI fX1_481 rfl oDs0 dX1_tryFrom_21 ?_
    refine oX_sipush (v := (400 : Int32)) dX1_tryFrom_24 (by decide) ?_
    refine oX_icmp_gt (tgt := 99) dX1_tryFrom_27 (by decide) (fun c3 => ?_) (fun c3 => ?_)
    · have hm := ifp c3 hm
      obtain ⟨hr, rfl⟩ := oEnd hm
      exact oX_sub [] rfl (oX_z (hx1 (FI, FR, AI, BR, C) hr))
    · have hm := ifn c3 hm
      refine oX_aload_n dX1_tryFrom_30 rfl rfl ?_
      refine oX_dup dX1_tryFrom_31 trivial ?_
      refine oX_getI fX1_481 rfl oDs0 dX1_tryFrom_32 ?_
      refine oX_iconst (v := (1 : Int32)) dX1_tryFrom_35 (by decide) ?_
      refine oX_iadd dX1_tryFrom_36 ?_
      obtain ⟨FI4, hFI4, hm⟩ := oLs hm
      refine oX_putI fX1_481 rfl (fun h9 => by cases h9) oDs0 dX1_tryFrom_37 ⟨rfl, rfl⟩ hFI4 ?_
      refine oX_aload_n dX1_tryFrom_40 rfl rfl ?_
      refine oX_getI fX1_481 rfl oDs0 dX1_tryFrom_41 ?_
      refine oX_sipush (v := (400 : Int32)) dX1_tryFrom_44 (by decide) ?_
      refine oX_icmp_le (tgt := 52) dX1_tryFrom_47 (by decide) (fun c5 => ?_) (fun c5 => ?_)
      · have hm := ifp c5 hm
        refine oX_aload_n dX1_tryFrom_52 rfl rfl ?_
        refine oX_iload_n dX1_tryFrom_53 rfl rfl ?_
        refine oX_iload_n dX1_tryFrom_54 rfl rfl ?_
        obtain ⟨r6, g6, hm⟩ := bd_s hm
        refine oX_cost hm (fun qq6 hm => ?_)
        refine oX_cVK_ (as := [vI x1, vI x3]) dX1_tryFrom_55 rfl oDs0 rfl (by decide) rfl ok_X1_putIn rfl rfl q1642 q1644 qs54 q129 q1645 ⟨by omega, by decide⟩ (Nat.le_of_ble_eq_true rfl) (t_X1_putIn n x1 x3 g6) (Nat.le_refl _) (Nat.le_refl _) ?_
        refine oX_aload_n dX1_tryFrom_58 rfl rfl ?_
        refine oX_iload_n dX1_tryFrom_59 rfl rfl ?_
        refine oX_iconst (v := (1 : Int32)) dX1_tryFrom_60 (by decide) ?_
        refine oX_iadd dX1_tryFrom_61 ?_
        obtain ⟨s7, hm⟩ := gd_s hm
        obtain ⟨r8, g8, hm⟩ := bd_s hm
        refine oX_cV (as := [vI (x1 + (1 : Int32))]) dX1_tryFrom_62 rfl oDs0 rfl (by decide) rfl ok_X1_holds rfl rfl q1650 q1652 qs56 q129 q1653 ⟨by omega, by decide⟩ (Nat.le_of_ble_eq_true rfl) (t_X1_holds s7 n (x1 + (1 : Int32)) g8) ?_
        refine oX_if_eq (tgt := 83) dX1_tryFrom_65 (by decide) (fun c9 => ?_) (fun c9 => ?_)
        · have hm := ifp c9 hm
          exact oX_sub [0, 1, 2] rfl (x_mX1_tryFrom_j83 hd9 rc hrec n x1 x3 hm hk hx1 hx2 hx3)
        · have hm := ifn c9 hm
          refine oX_aload_n dX1_tryFrom_68 rfl rfl ?_
          refine oX_iload_n dX1_tryFrom_69 rfl rfl ?_
          refine oX_iconst (v := (1 : Int32)) dX1_tryFrom_70 (by decide) ?_
          refine oX_iadd dX1_tryFrom_71 ?_
          refine oX_iload_n dX1_tryFrom_72 rfl rfl ?_
          refine oX_iconst (v := (1 : Int32)) dX1_tryFrom_73 (by decide) ?_
          refine oX_iadd dX1_tryFrom_74 ?_
          obtain ⟨r13, g13, hm⟩ := bd_s hm
          refine oX_cost hm (fun qq13 hm => ?_)
          refine oX_cVK (as := [vI (x1 + (1 : Int32)), vI (x3 + (1 : Int32))]) dX1_tryFrom_75 rfl oDs0 rfl (by decide) rfl ok_X1_tryFrom rfl rfl q1638 q1640 qs53 q129 q1641 ⟨by omega, by decide⟩ (Nat.le_of_ble_eq_true rfl) (hrec n (x1 + (1 : Int32)) (x3 + (1 : Int32)) g13) (Nat.le_refl _) (Nat.le_refl _) ?_
          refine oX_if_eq (tgt := 83) dX1_tryFrom_78 (by decide) (fun c14 => ?_) (fun c14 => ?_)
          · have hm := ifp c14 hm
            exact oX_sub [0, 1, 2] rfl (x_mX1_tryFrom_j83 hd9 rc hrec n x1 x3 hm hk hx1 hx2 hx3)
          · have hm := ifn c14 hm
            obtain ⟨hr, rfl⟩ := oEnd hm
            exact oX_sub [] rfl (oX_z (hx3 (r13.1.2.1, r13.1.2.2.1, r13.1.2.2.2.1, r13.1.2.2.2.2.1, r13.1.2.2.2.2.2) hr))
      · have hm := ifn c5 hm
        obtain ⟨hr, rfl⟩ := oEnd hm
        exact oX_sub [] rfl (oX_z (hx2 (FI4, FR, AI, BR, C) hr))
theorem l_mX1_tryFrom_b12 {G : OhG} {FL : OhL} {GR : OhQ} {AL : OhL} {AR : OhQ} {AN : OhN} {k : Nat × Nat} {Φ : OhP} {Ψ : OhX} {d : Nat} (hd9 : 8 ≤ d) (rc : Nat → OhI → OhQ → OhQ → OhI → OhQ → OhQ → OhN → OhC → Int32 → Int32 → Option ((Int32 × OhI × OhQ × OhI × OhQ × OhC) × (Nat × Nat))) (hrec : ∀ {FI AI : OhI} {FL AL : OhL} {FR GR AR BR : OhQ} {AN : OhN} {C : OhC} (n : Nat) (x1 : Int32) (x2 : Int32) {o : (Int32 × OhI × OhQ × OhI × OhQ × OhC) × (Nat × Nat)}, rc n FI FR GR AI AR BR AN C x1 x2 = some o → oT G d iX1_tryFrom [vR (some (0, 0)), vI x1, vI x2] (FI, FL, FR, GR, AI, AL, AR, BR, AN, C) o.2 (fun v h => v = (some (vI o.1.1)) ∧ h = (o.1.2.1, FL, o.1.2.2.1, GR, o.1.2.2.2.1, AL, AR, o.1.2.2.2.2.1, AN, o.1.2.2.2.2.2)) ohNo) (n : Nat) (x1 : Int32) : ∀ (f : Nat) (x3 : Int32) (FI : OhI) (FR : OhQ) (AI : OhI) (BR : OhQ) (C : OhC) (b : (((OhI × OhQ × OhI × OhQ × OhC) ⊕ ((OhI × OhQ × OhI × OhQ × OhC) ⊕ (OhI × OhQ × OhI × OhQ × OhC)))) × (Nat × Nat)), lpK (fun v => mX1_tryFrom_b12 rc n v.2.1 v.2.2.1 GR v.2.2.2.1 AR v.2.2.2.2.1 AN v.2.2.2.2.2 x1 v.1) f (x3, FI, FR, AI, BR, C) = some b → (∀ v : OhI × OhQ × OhI × OhQ × OhC, b.1 = (.inl v) → oX G (d + 1) iX1_tryFrom 99 [] [] (v.1, FL, v.2.1, GR, v.2.2.1, AL, AR, v.2.2.2.1, AN, v.2.2.2.2) k Φ Ψ) → (∀ v : OhI × OhQ × OhI × OhQ × OhC, b.1 = (.inr (.inl v)) → oX G (d + 1) iX1_tryFrom 50 [] [] (v.1, FL, v.2.1, GR, v.2.2.1, AL, AR, v.2.2.2.1, AN, v.2.2.2.2) k Φ Ψ) → (∀ v : OhI × OhQ × OhI × OhQ × OhC, b.1 = (.inr (.inr v)) → oX G (d + 1) iX1_tryFrom 81 [] [] (v.1, FL, v.2.1, GR, v.2.2.1, AL, AR, v.2.2.2.1, AN, v.2.2.2.2) k Φ Ψ) → oX G (d + 1) iX1_tryFrom 12 [(0, vR (some (0, 0))), (1, vI x1), (3, vI x3)] [] (FI, FL, FR, GR, AI, AL, AR, BR, AN, C) (oPl b.2 k) Φ Ψ := by
  intro f
  induction f with
  | zero =>
    intro x3 FI FR AI BR C b hm
    cases hm
  | succ f ih =>
    intro x3 FI FR AI BR C b hm hx1 hx2 hx3
    obtain ⟨⟨r, q⟩, hr, hm⟩ := lk_s hm
    rcases r with v | v
    · obtain ⟨c, hm, hb⟩ := hm
      rw [hb, oPl_assoc]
      refine x_mX1_tryFrom_b12 hd9 rc hrec n x1 x3 hr (fun v9 e => ?_) (fun v9 e => by cases e) (fun v9 e => by cases e) (fun v9 e => by cases e)
      cases e; exact ih v.1 v.2.1 v.2.2.1 v.2.2.2.1 v.2.2.2.2.1 v.2.2.2.2.2 (b.1, c) hm hx1 hx2 hx3
    · cases (show b = (v, q) from hm)
      refine x_mX1_tryFrom_b12 hd9 rc hrec n x1 x3 hr (fun v9 e => by cases e) (fun v9 e => ?_) (fun v9 e => ?_) (fun v9 e => ?_)
      · cases e; exact hx1 v9 rfl
      · cases e; exact hx2 v9 rfl
      · cases e; exact hx3 v9 rfl
noncomputable def mX1_tryFrom_o (rc : Nat → OhI → OhQ → OhQ → OhI → OhQ → OhQ → OhN → OhC → Int32 → Int32 → Option ((Int32 × OhI × OhQ × OhI × OhQ × OhC) × (Nat × Nat))) (n : Nat) (FI : OhI) (FR : OhQ) (GR : OhQ) (AI : OhI) (AR : OhQ) (BR : OhQ) (AN : OhN) (C : OhC) (x1 : Int32) (x2 : Int32) : Option ((Int32 × OhI × OhQ × OhI × OhQ × OhC) × (Nat × Nat)) :=
  (if x1 = (FI 0 0 31) then
  some (((1 : Int32), FI, FR, AI, BR, C), (0, 0))
else
  (lpK (fun v => mX1_tryFrom_b12 rc n v.2.1 v.2.2.1 GR v.2.2.2.1 AR v.2.2.2.2.1 AN v.2.2.2.2.2 x1 v.1) n (x2, FI, FR, AI, BR, C)).bind fun b15 => oCost b15.2 <| (Sum.elim (fun v15 => some (((0 : Int32), v15.1, v15.2.1, v15.2.2.1, v15.2.2.2.1, v15.2.2.2.2), (0, 0))) (Sum.elim (fun v15 => some (((0 : Int32), v15.1, v15.2.1, v15.2.2.1, v15.2.2.2.1, v15.2.2.2.2), (0, 0))) (fun v15 => some (((1 : Int32), v15.1, v15.2.1, v15.2.2.1, v15.2.2.2.1, v15.2.2.2.2), (0, 0))))) b15.1)
theorem x_mX1_tryFrom_o {G : OhG} {FI AI : OhI} {FL AL : OhL} {FR GR AR BR : OhQ} {AN : OhN} {C : OhC} {k : Nat × Nat} {Φ : OhP} {Ψ : OhX} {d : Nat} (hd9 : 8 ≤ d) (rc : Nat → OhI → OhQ → OhQ → OhI → OhQ → OhQ → OhN → OhC → Int32 → Int32 → Option ((Int32 × OhI × OhQ × OhI × OhQ × OhC) × (Nat × Nat))) (hrec : ∀ {FI AI : OhI} {FL AL : OhL} {FR GR AR BR : OhQ} {AN : OhN} {C : OhC} (n : Nat) (x1 : Int32) (x2 : Int32) {o : (Int32 × OhI × OhQ × OhI × OhQ × OhC) × (Nat × Nat)}, rc n FI FR GR AI AR BR AN C x1 x2 = some o → oT G d iX1_tryFrom [vR (some (0, 0)), vI x1, vI x2] (FI, FL, FR, GR, AI, AL, AR, BR, AN, C) o.2 (fun v h => v = (some (vI o.1.1)) ∧ h = (o.1.2.1, FL, o.1.2.2.1, GR, o.1.2.2.2.1, AL, AR, o.1.2.2.2.2.1, AN, o.1.2.2.2.2.2)) ohNo) (n : Nat) (x1 : Int32) (x2 : Int32) {r : (Int32 × OhI × OhQ × OhI × OhQ × OhC) × (Nat × Nat)} (hm : mX1_tryFrom_o rc n FI FR GR AI AR BR AN C x1 x2 = some r) (hK : Φ (some (vI r.1.1)) (r.1.2.1, FL, r.1.2.2.1, GR, r.1.2.2.2.1, AL, AR, r.1.2.2.2.2.1, AN, r.1.2.2.2.2.2)) : oX G (d + 1) iX1_tryFrom 0 [(0, vR (some (0, 0))), (1, vI x1), (2, vI x2)] [] (FI, FL, FR, GR, AI, AL, AR, BR, AN, C) (oPl r.2 k) Φ Ψ := by
  obtain ⟨r, q0⟩ := r
  unfold mX1_tryFrom_o at hm
  refine oX_iload_n dX1_tryFrom_0 rfl rfl ?_
  refine oX_aload_n dX1_tryFrom_1 rfl rfl ?_
  refine oX_getI fX1_475 rfl oDs0 dX1_tryFrom_2 ?_
  refine oX_icmp_ne (tgt := 10) dX1_tryFrom_5 (by decide) (fun c1 => ?_) (fun c1 => ?_)
  · have hm := ifp c1 hm
    refine oX_iconst (v := (1 : Int32)) dX1_tryFrom_8 (by decide) ?_
    obtain ⟨rfl, rfl⟩ := oEnd hm
    exact oX_iret dX1_tryFrom_9 rfl (by decide) hK
  · have hm := ifn c1 hm
    refine oX_iload_n dX1_tryFrom_10 rfl rfl ?_
    refine oX_istore_n (ls' := [(3, vI x2), (0, vR (some (0, 0))), (1, vI x1), (2, vI x2)]) dX1_tryFrom_11 rfl (by decide) rfl ?_
    obtain ⟨b15, g15, hm⟩ := bd_s hm
    refine oX_cost hm (fun qq15 hm => ?_)
    refine oX_sub [1, 2, 0] rfl (l_mX1_tryFrom_b12 hd9 rc hrec n x1 n x2 FI FR AI BR C _ g15 (fun v15 e15 => ?_) (fun v15 e15 => ?_) (fun v15 e15 => ?_))
    · skip
      rw [e15] at hm
      have hm := el1 hm
      refine oX_iconst (v := (0 : Int32)) dX1_tryFrom_99 (by decide) ?_
      obtain ⟨rfl, rfl⟩ := oEnd hm
      exact oX_iret dX1_tryFrom_100 rfl (by decide) hK
    · skip
      rw [e15] at hm
      have hm := el2 hm
      have hm := el1 hm
      refine oX_iconst (v := (0 : Int32)) dX1_tryFrom_50 (by decide) ?_
      obtain ⟨rfl, rfl⟩ := oEnd hm
      exact oX_iret dX1_tryFrom_51 rfl (by decide) hK
    · skip
      rw [e15] at hm
      have hm := el2 hm
      have hm := el2 hm
      refine oX_iconst (v := (1 : Int32)) dX1_tryFrom_81 (by decide) ?_
      obtain ⟨rfl, rfl⟩ := oEnd hm
      exact oX_iret dX1_tryFrom_82 rfl (by decide) hK
theorem t_X1_tryFrom_o {G : OhG} {FI AI : OhI} {FL AL : OhL} {FR GR AR BR : OhQ} {AN : OhN} {C : OhC} {d : Nat} (hd9 : 8 ≤ d) (rc : Nat → OhI → OhQ → OhQ → OhI → OhQ → OhQ → OhN → OhC → Int32 → Int32 → Option ((Int32 × OhI × OhQ × OhI × OhQ × OhC) × (Nat × Nat))) (hrec : ∀ {FI AI : OhI} {FL AL : OhL} {FR GR AR BR : OhQ} {AN : OhN} {C : OhC} (n : Nat) (x1 : Int32) (x2 : Int32) {o : (Int32 × OhI × OhQ × OhI × OhQ × OhC) × (Nat × Nat)}, rc n FI FR GR AI AR BR AN C x1 x2 = some o → oT G d iX1_tryFrom [vR (some (0, 0)), vI x1, vI x2] (FI, FL, FR, GR, AI, AL, AR, BR, AN, C) o.2 (fun v h => v = (some (vI o.1.1)) ∧ h = (o.1.2.1, FL, o.1.2.2.1, GR, o.1.2.2.2.1, AL, AR, o.1.2.2.2.2.1, AN, o.1.2.2.2.2.2)) ohNo) (n : Nat) (x1 : Int32) (x2 : Int32) {o : (Int32 × OhI × OhQ × OhI × OhQ × OhC) × (Nat × Nat)} (hm : mX1_tryFrom_o rc n FI FR GR AI AR BR AN C x1 x2 = some o) : oT G (d + 1) iX1_tryFrom [vR (some (0, 0)), vI x1, vI x2] (FI, FL, FR, GR, AI, AL, AR, BR, AN, C) o.2 (fun v h => v = (some (vI o.1.1)) ∧ h = (o.1.2.1, FL, o.1.2.2.1, GR, o.1.2.2.2.1, AL, AR, o.1.2.2.2.2.1, AN, o.1.2.2.2.2.2)) ohNo :=
  oT_of (by decide) rfl (Nat.le_of_ble_eq_true rfl) (x_mX1_tryFrom_o (k := (0, 0)) hd9 rc hrec n x1 x2 hm ⟨rfl, rfl⟩)
noncomputable def mX1_tryFrom_f : Nat → Nat → OhI → OhQ → OhQ → OhI → OhQ → OhQ → OhN → OhC → Int32 → Int32 → Option ((Int32 × OhI × OhQ × OhI × OhQ × OhC) × (Nat × Nat))
  | 0 => fun _ _ _ _ _ _ _ _ _ _ _ => none
  | f + 1 => mX1_tryFrom_o (mX1_tryFrom_f f)
theorem t_X1_tryFrom_f {G : OhG} : ∀ (f : Nat) {FI AI : OhI} {FL AL : OhL} {FR GR AR BR : OhQ} {AN : OhN} {C : OhC} (n : Nat) (x1 : Int32) (x2 : Int32) {o : (Int32 × OhI × OhQ × OhI × OhQ × OhC) × (Nat × Nat)}, mX1_tryFrom_f f n FI FR GR AI AR BR AN C x1 x2 = some o → oT G (8 + 1 * f) iX1_tryFrom [vR (some (0, 0)), vI x1, vI x2] (FI, FL, FR, GR, AI, AL, AR, BR, AN, C) o.2 (fun v h => v = (some (vI o.1.1)) ∧ h = (o.1.2.1, FL, o.1.2.2.1, GR, o.1.2.2.2.1, AL, AR, o.1.2.2.2.2.1, AN, o.1.2.2.2.2.2)) ohNo := by
  intro f
  induction f with
  | zero =>
    intros
    rename_i hm
    cases hm
  | succ f ih =>
    intro FI AI FL AL FR GR AR BR AN C n x1 x2 o hm
    rw [show 8 + 1 * (f + 1) = 8 + 1 * f + 1 from by omega]
    exact t_X1_tryFrom_o (Nat.le_add_right _ _) (mX1_tryFrom_f f) ih n x1 x2 hm
noncomputable def mX1_tryFrom (n : Nat) (FI : OhI) (FR : OhQ) (GR : OhQ) (AI : OhI) (AR : OhQ) (BR : OhQ) (AN : OhN) (C : OhC) (x1 : Int32) (x2 : Int32) : Option ((Int32 × OhI × OhQ × OhI × OhQ × OhC) × (Nat × Nat)) := mX1_tryFrom_f 10 n FI FR GR AI AR BR AN C x1 x2
theorem t_X1_tryFrom {G : OhG} {FI AI : OhI} {FL AL : OhL} {FR GR AR BR : OhQ} {AN : OhN} {C : OhC} (n : Nat) (x1 : Int32) (x2 : Int32) {o : (Int32 × OhI × OhQ × OhI × OhQ × OhC) × (Nat × Nat)} (hm : mX1_tryFrom n FI FR GR AI AR BR AN C x1 x2 = some o) : oT G 18 iX1_tryFrom [vR (some (0, 0)), vI x1, vI x2] (FI, FL, FR, GR, AI, AL, AR, BR, AN, C) o.2 (fun v h => v = (some (vI o.1.1)) ∧ h = (o.1.2.1, FL, o.1.2.2.1, GR, o.1.2.2.2.1, AL, AR, o.1.2.2.2.2.1, AN, o.1.2.2.2.2.2)) ohNo :=
  t_X1_tryFrom_f 10 n x1 x2 hm
noncomputable def mX1_lay_b65 (n : Nat) (FI : OhI) (FR : OhQ) (GR : OhQ) (AI : OhI) (AR : OhQ) (BR : OhQ) (AN : OhN) (C : OhC) (x1 : Int32) (x2 : Int32) (x3 : Int32) (x4 : Int32) (x5 : Int32) : Option (((Int32 × OhI) ⊕ ((OhI) ⊕ (OhI))) × (Nat × Nat)) :=
  (if x4 ≤ x5 then
  some (.inr (.inl AI), (0, 0))
else
  gd (ohShH FR AR AN) <|
    gd (vp_in x5 340) <|
    (mX1_mayBe FI FR GR AR BR AN x1 x3 (3 : Int32) (AI 300 0 x5.toNatClampNeg) (3 : Int32)).bind fun r15 =>
    (if r15 = 0 then
    some (.inr (.inr AI), (0, 0))
  else
    gd (vp_in x5 340) <|
      gd (vp_in x5 6) <|
      oLet (sA AI 330 0 (uA (AI 330 0) x5.toNatClampNeg (AI 300 0 x5.toNatClampNeg))) fun AI18 =>
      some (.inl (x5 + (1 : Int32), AI18), (0, 0))))
theorem x_mX1_lay_b65 {G : OhG} {FI AI : OhI} {FL AL : OhL} {FR GR AR BR : OhQ} {AN : OhN} {C : OhC} {k : Nat × Nat} {Φ : OhP} {Ψ : OhX} (n : Nat) (x1 : Int32) (x2 : Int32) (x3 : Int32) (x4 : Int32) (x5 : Int32) {r : ((Int32 × OhI) ⊕ ((OhI) ⊕ (OhI))) × (Nat × Nat)} (hm : mX1_lay_b65 n FI FR GR AI AR BR AN C x1 x2 x3 x4 x5 = some r) (hk : ∀ v : Int32 × OhI, r.1 = .inl v → oX G 19 iX1_lay 65 [(0, vR (some (0, 0))), (1, vI x1), (2, vI x2), (3, vI x3), (4, vI x4), (5, vI v.1)] [] (FI, FL, FR, GR, v.2, AL, AR, BR, AN, C) k Φ Ψ) (hx1 : ∀ v : OhI, r.1 = .inr (.inl v) → oX G 19 iX1_lay 112 [(0, vR (some (0, 0))), (1, vI x1), (2, vI x2), (3, vI x3), (4, vI x4)] [] (FI, FL, FR, GR, v, AL, AR, BR, AN, C) k Φ Ψ) (hx2 : ∀ v : OhI, r.1 = .inr (.inr v) → oX G 19 iX1_lay 90 [] [] (FI, FL, FR, GR, v, AL, AR, BR, AN, C) k Φ Ψ) : oX G 19 iX1_lay 65 [(0, vR (some (0, 0))), (1, vI x1), (2, vI x2), (3, vI x3), (4, vI x4), (5, vI x5)] [] (FI, FL, FR, GR, AI, AL, AR, BR, AN, C) (oPl r.2 k) Φ Ψ := by
  obtain ⟨r, q0⟩ := r
  unfold mX1_lay_b65 at hm
  refine oX_iload dX1_lay_65 rfl ?_
  refine oX_iload dX1_lay_67 rfl ?_
  refine oX_icmp_ge (tgt := 112) dX1_lay_69 (by decide) (fun c12 => ?_) (fun c12 => ?_)
  · have hm := ifp c12 hm
    obtain ⟨hr, rfl⟩ := oEnd hm
    exact oX_sub [0, 1, 2, 3, 4] rfl (oX_z (hx1 AI hr))
  · have hm := ifn c12 hm
    refine oX_aload_n dX1_lay_72 rfl rfl ?_
    refine oX_iload_n dX1_lay_73 rfl rfl ?_
    refine oX_iload_n dX1_lay_74 rfl rfl ?_
    refine oX_iconst (v := (3 : Int32)) dX1_lay_75 (by decide) ?_
    refine oX_aload_n dX1_lay_76 rfl rfl ?_
    obtain ⟨s13, hm⟩ := gd_s hm
    refine oX_getF fX1_9 rfl oDs0 dX1_lay_77 (ohF300 s13) ?_
    refine oX_iload dX1_lay_80 rfl ?_
    obtain ⟨g14, hm⟩ := gd_s hm
    refine oX_bald oDs300 (oIn (ohN300 s13) g14) dX1_lay_82 ?_
    refine oX_iconst (v := (3 : Int32)) dX1_lay_83 (by decide) ?_
    obtain ⟨r15, g15, hm⟩ := bd_s hm
    refine oX_cV (as := [vI x1, vI x3, vI (3 : Int32), vI (AI 300 0 x5.toNatClampNeg), vI (3 : Int32)]) dX1_lay_84 rfl oDs0 rfl (by decide) rfl ok_X1_mayBe rfl rfl q1302 q1304 qs23 q129 q1305 (by decide) (Nat.le_of_ble_eq_true rfl) (t_X1_mayBe s13 x1 x3 (3 : Int32) (AI 300 0 x5.toNatClampNeg) (3 : Int32) g15) ?_
    refine oX_if_ne (tgt := 92) dX1_lay_87 (by decide) (fun c16 => ?_) (fun c16 => ?_)
    · have hm := ifp c16 hm
      obtain ⟨hr, rfl⟩ := oEnd hm
      exact oX_sub [] rfl (oX_z (hx2 AI hr))
    · have hm := ifn c16 hm
      refine oX_aload_n dX1_lay_92 rfl rfl ?_
      refine oX_getF fX1_102 rfl oDs0 dX1_lay_93 (ohF330 s13) ?_
      refine oX_iload dX1_lay_96 rfl ?_
      refine oX_aload_n dX1_lay_98 rfl rfl ?_
      refine oX_getF fX1_9 rfl oDs0 dX1_lay_99 (ohF300 s13) ?_
      refine oX_iload dX1_lay_102 rfl ?_
      obtain ⟨g17, hm⟩ := gd_s hm
      refine oX_bald oDs300 (oIn (ohN300 s13) g17) dX1_lay_104 ?_
      obtain ⟨g18, hm⟩ := gd_s hm
      obtain ⟨AI18, hAI18, hm⟩ := oLs hm
      refine oX_iast oDs330 (oIn (ohN330 s13) g18) dX1_lay_105 hAI18 ?_
      refine oX_iinc (v := x5 + (1 : Int32)) (ls' := [(5, vI (x5 + (1 : Int32))), (0, vR (some (0, 0))), (1, vI x1), (2, vI x2), (3, vI x3), (4, vI x4)]) dX1_lay_106 rfl rfl (by decide) rfl ?_
      refine oX_goto (tgt := 65) dX1_lay_109 (by decide) ?_
      obtain ⟨hr, rfl⟩ := oEnd hm
      exact oX_sub [1, 2, 3, 4, 5, 0] rfl (oX_z (hk (x5 + (1 : Int32), AI18) hr))
theorem l_mX1_lay_b65 {G : OhG} {FI : OhI} {FL : OhL} {FR : OhQ} {GR : OhQ} {AL : OhL} {AR : OhQ} {BR : OhQ} {AN : OhN} {C : OhC} {k : Nat × Nat} {Φ : OhP} {Ψ : OhX} (n : Nat) (x1 : Int32) (x2 : Int32) (x3 : Int32) (x4 : Int32) : ∀ (f : Nat) (x5 : Int32) (AI : OhI) (b : (((OhI) ⊕ (OhI))) × (Nat × Nat)), lpK (fun v => mX1_lay_b65 n FI FR GR v.2 AR BR AN C x1 x2 x3 x4 v.1) f (x5, AI) = some b → (∀ v : OhI, b.1 = (.inl v) → oX G 19 iX1_lay 112 [(0, vR (some (0, 0))), (1, vI x1), (2, vI x2), (3, vI x3), (4, vI x4)] [] (FI, FL, FR, GR, v, AL, AR, BR, AN, C) k Φ Ψ) → (∀ v : OhI, b.1 = (.inr v) → oX G 19 iX1_lay 90 [] [] (FI, FL, FR, GR, v, AL, AR, BR, AN, C) k Φ Ψ) → oX G 19 iX1_lay 65 [(0, vR (some (0, 0))), (1, vI x1), (2, vI x2), (3, vI x3), (4, vI x4), (5, vI x5)] [] (FI, FL, FR, GR, AI, AL, AR, BR, AN, C) (oPl b.2 k) Φ Ψ := by
  intro f
  induction f with
  | zero =>
    intro x5 AI b hm
    cases hm
  | succ f ih =>
    intro x5 AI b hm hx1 hx2
    obtain ⟨⟨r, q⟩, hr, hm⟩ := lk_s hm
    rcases r with v | v
    · obtain ⟨c, hm, hb⟩ := hm
      rw [hb, oPl_assoc]
      refine x_mX1_lay_b65 n x1 x2 x3 x4 x5 hr (fun v9 e => ?_) (fun v9 e => by cases e) (fun v9 e => by cases e)
      cases e; exact ih v.1 v.2 (b.1, c) hm hx1 hx2
    · cases (show b = (v, q) from hm)
      refine x_mX1_lay_b65 n x1 x2 x3 x4 x5 hr (fun v9 e => by cases e) (fun v9 e => ?_) (fun v9 e => ?_)
      · cases e; exact hx1 v9 rfl
      · cases e; exact hx2 v9 rfl
noncomputable def mX1_lay (n : Nat) (FI : OhI) (FR : OhQ) (GR : OhQ) (AI : OhI) (AR : OhQ) (BR : OhQ) (AN : OhN) (C : OhC) (x1 : Int32) (x2 : Int32) (x3 : Int32) : Option ((Int32 × OhI × OhQ × OhI × OhQ × OhC) × (Nat × Nat)) :=
  (mX1_take FI).bind fun r1 =>
  oLet (sA r1.2 0 0 (uA (r1.2 0 0) 35 (0 : Int32))) fun FI2 =>
  (mX1_isIn r1.1 (1 : Int32) (6 : Int32)).bind fun r3 =>
  (if r3 = 0 then
  some (((-1 : Int32), FI2, FR, AI, BR, C), (0, 0))
else
  (mX1_isIn x1 (FI2 0 0 3) (29 : Int32)).bind fun r5 =>
    (if r5 = 0 then
    some (((-1 : Int32), FI2, FR, AI, BR, C), (0, 0))
  else
    (mX1_isIn x2 x1 (29 : Int32)).bind fun r7 =>
      (if r7 = 0 then
      some (((-1 : Int32), FI2, FR, AI, BR, C), (0, 0))
    else
      gd (ohShH FR AR AN) <|
        (mJ2_size FI2 (311, 0)).bind fun r10 =>
        (if (r10 + r1.1) ≤ (60 : Int32) then
        (lpK (fun v => mX1_lay_b65 n FI2 FR GR v.2 AR BR AN C x1 x2 x3 r1.1 v.1) n ((0 : Int32), AI)).bind fun b19 => oCost b19.2 <| (Sum.elim (fun v19 => oLet (sA FI2 0 0 (uA (FI2 0 0) 31 r1.1)) fun FI20 =>
          oLet (sA FI20 0 0 (uA (FI20 0 0) 32 (0 : Int32))) fun FI21 =>
          oLet (sA FI21 0 0 (uA (FI21 0 0) 33 x3)) fun FI22 =>
          oLet (sA FI22 0 0 (uA (FI22 0 0) 34 x2)) fun FI23 =>
          (mX1_layOut n FI23 FR GR v19 AR BR AN (FI23 0 0 3)).bind fun r24 =>
          (mX1_judge n r24.1 FR GR r24.2.1 AR r24.2.2 AN).bind fun r25 =>
          (mX1_keepAllWrongs n r24.1 FR r25 AR r24.2.2 AN).bind fun r26 =>
          (mX1_tryFrom n r24.1 FR GR r26 AR r24.2.2 AN C (0 : Int32) x1).bind fun r27 =>
          oCost r27.2 <|
          (if r27.1.1 = 0 then
          (if (r27.1.2.1 0 0 32) ≤ (400 : Int32) then
            some (((0 : Int32), r27.1.2.1, r27.1.2.2.1, r27.1.2.2.2.1, r27.1.2.2.2.2.1, r27.1.2.2.2.2.2), (0, 0))
          else
            some (((-2 : Int32), r27.1.2.1, r27.1.2.2.1, r27.1.2.2.2.1, r27.1.2.2.2.2.1, r27.1.2.2.2.2.2), (0, 0)))
        else
          oLet (sA r27.1.2.1 0 0 (uA (r27.1.2.1 0 0) 35 r1.1)) fun FI30 =>
            oLet (sA FI30 0 0 (uA (FI30 0 0) 36 (FI30 0 0 6))) fun FI31 =>
            some ((FI31 0 0 32, FI31, r27.1.2.2.1, r27.1.2.2.2.1, r27.1.2.2.2.2.1, r27.1.2.2.2.2.2), (0, 0)))) (fun v19 => some (((-1 : Int32), FI2, FR, v19, BR, C), (0, 0)))) b19.1
      else
        some (((-1 : Int32), FI2, FR, AI, BR, C), (0, 0))))))
theorem x_mX1_lay {G : OhG} {FI AI : OhI} {FL AL : OhL} {FR GR AR BR : OhQ} {AN : OhN} {C : OhC} {k : Nat × Nat} {Φ : OhP} {Ψ : OhX} (n : Nat) (x1 : Int32) (x2 : Int32) (x3 : Int32) {r : (Int32 × OhI × OhQ × OhI × OhQ × OhC) × (Nat × Nat)} (hm : mX1_lay n FI FR GR AI AR BR AN C x1 x2 x3 = some r) (hK : Φ (some (vI r.1.1)) (r.1.2.1, FL, r.1.2.2.1, GR, r.1.2.2.2.1, AL, AR, r.1.2.2.2.2.1, AN, r.1.2.2.2.2.2)) : oX G 19 iX1_lay 0 [(0, vR (some (0, 0))), (1, vI x1), (2, vI x2), (3, vI x3)] [] (FI, FL, FR, GR, AI, AL, AR, BR, AN, C) (oPl r.2 k) Φ Ψ := by
  obtain ⟨r, q0⟩ := r
  unfold mX1_lay at hm
  refine oX_aload_n dX1_lay_0 rfl rfl ?_
  obtain ⟨r1, g1, hm⟩ := bd_s hm
  refine oX_cV (as := []) dX1_lay_1 rfl oDs0 rfl (by decide) rfl ok_X1_take rfl rfl q426 q428 qs3 q129 q429 (by decide) (Nat.le_of_ble_eq_true rfl) (t_X1_take g1) ?_
  refine oX_istore (ls' := [(4, vI r1.1), (0, vR (some (0, 0))), (1, vI x1), (2, vI x2), (3, vI x3)]) dX1_lay_4 (by decide) rfl ?_
  refine oX_aload_n dX1_lay_6 rfl rfl ?_
  refine oX_iconst (v := (0 : Int32)) dX1_lay_7 (by decide) ?_
  obtain ⟨FI2, hFI2, hm⟩ := oLs hm
  refine oX_putI fX1_497 rfl (fun h9 => by cases h9) oDs0 dX1_lay_8 ⟨rfl, rfl⟩ hFI2 ?_
  refine oX_iload dX1_lay_11 rfl ?_
  refine oX_iconst (v := (1 : Int32)) dX1_lay_13 (by decide) ?_
  refine oX_bipush (v := (6 : Int32)) dX1_lay_14 (by decide) ?_
  obtain ⟨r3, g3, hm⟩ := bd_s hm
  refine oX_cS (as := [vI r1.1, vI (1 : Int32), vI (6 : Int32)]) dX1_lay_16 rfl ok_X1_isIn rfl rfl q421 q238 q129 q239 (by decide) (Nat.le_of_ble_eq_true rfl) (t_X1_isIn r1.1 (1 : Int32) (6 : Int32) g3) ?_
  refine oX_if_eq (tgt := 60) dX1_lay_19 (by decide) (fun c4 => ?_) (fun c4 => ?_)
  · have hm := ifp c4 hm
    refine oX_iconst (v := (-1 : Int32)) dX1_lay_60 (by decide) ?_
    obtain ⟨rfl, rfl⟩ := oEnd hm
    exact oX_iret dX1_lay_61 rfl rfl hK
  · have hm := ifn c4 hm
    refine oX_iload_n dX1_lay_22 rfl rfl ?_
    refine oX_aload_n dX1_lay_23 rfl rfl ?_
    refine oX_getI fX1_116 rfl oDs0 dX1_lay_24 ?_
    refine oX_bipush (v := (29 : Int32)) dX1_lay_27 (by decide) ?_
    obtain ⟨r5, g5, hm⟩ := bd_s hm
    refine oX_cS (as := [vI x1, vI (FI2 0 0 3), vI (29 : Int32)]) dX1_lay_29 rfl ok_X1_isIn rfl rfl q421 q238 q129 q239 (by decide) (Nat.le_of_ble_eq_true rfl) (t_X1_isIn x1 (FI2 0 0 3) (29 : Int32) g5) ?_
    refine oX_if_eq (tgt := 60) dX1_lay_32 (by decide) (fun c6 => ?_) (fun c6 => ?_)
    · have hm := ifp c6 hm
      refine oX_iconst (v := (-1 : Int32)) dX1_lay_60 (by decide) ?_
      obtain ⟨rfl, rfl⟩ := oEnd hm
      exact oX_iret dX1_lay_61 rfl rfl hK
    · have hm := ifn c6 hm
      refine oX_iload_n dX1_lay_35 rfl rfl ?_
      refine oX_iload_n dX1_lay_36 rfl rfl ?_
      refine oX_bipush (v := (29 : Int32)) dX1_lay_37 (by decide) ?_
      obtain ⟨r7, g7, hm⟩ := bd_s hm
      refine oX_cS (as := [vI x2, vI x1, vI (29 : Int32)]) dX1_lay_39 rfl ok_X1_isIn rfl rfl q421 q238 q129 q239 (by decide) (Nat.le_of_ble_eq_true rfl) (t_X1_isIn x2 x1 (29 : Int32) g7) ?_
      refine oX_if_eq (tgt := 60) dX1_lay_42 (by decide) (fun c8 => ?_) (fun c8 => ?_)
      · have hm := ifp c8 hm
        refine oX_iconst (v := (-1 : Int32)) dX1_lay_60 (by decide) ?_
        obtain ⟨rfl, rfl⟩ := oEnd hm
        exact oX_iret dX1_lay_61 rfl rfl hK
      · have hm := ifn c8 hm
        refine oX_aload_n dX1_lay_45 rfl rfl ?_
        obtain ⟨s9, hm⟩ := gd_s hm
        refine oX_getF fX1_37 rfl oDs0 dX1_lay_46 (ohF311 s9) ?_
        obtain ⟨r10, g10, hm⟩ := bd_s hm
        refine oX_cV (as := []) dX1_lay_49 rfl oDs311 rfl (by decide) rfl ok_J2_size rfl rfl q430 q431 q432 q132 q433 (by decide) (Nat.le_of_ble_eq_true rfl) (t_J2_size (311, 0) rfl g10) ?_
        refine oX_iload dX1_lay_52 rfl ?_
        refine oX_iadd dX1_lay_54 ?_
        refine oX_bipush (v := (60 : Int32)) dX1_lay_55 (by decide) ?_
        refine oX_icmp_le (tgt := 62) dX1_lay_57 (by decide) (fun c11 => ?_) (fun c11 => ?_)
        · have hm := ifp c11 hm
          refine oX_iconst (v := (0 : Int32)) dX1_lay_62 (by decide) ?_
          refine oX_istore (ls' := [(5, vI (0 : Int32)), (4, vI r1.1), (0, vR (some (0, 0))), (1, vI x1), (2, vI x2), (3, vI x3)]) dX1_lay_63 (by decide) rfl ?_
          obtain ⟨b19, g19, hm⟩ := bd_s hm
          refine oX_cost hm (fun qq19 hm => ?_)
          refine oX_sub [2, 3, 4, 5, 1, 0] rfl (l_mX1_lay_b65 n x1 x2 x3 r1.1 n (0 : Int32) AI _ g19 (fun v19 e19 => ?_) (fun v19 e19 => ?_))
          · skip
            rw [e19] at hm
            have hm := el1 hm
            refine oX_aload_n dX1_lay_112 rfl rfl ?_
            refine oX_iload dX1_lay_113 rfl ?_
            obtain ⟨FI20, hFI20, hm⟩ := oLs hm
            refine oX_putI fX1_475 rfl (fun h9 => by cases h9) oDs0 dX1_lay_115 ⟨rfl, rfl⟩ hFI20 ?_
            refine oX_aload_n dX1_lay_118 rfl rfl ?_
            refine oX_iconst (v := (0 : Int32)) dX1_lay_119 (by decide) ?_
            obtain ⟨FI21, hFI21, hm⟩ := oLs hm
            refine oX_putI fX1_481 rfl (fun h9 => by cases h9) oDs0 dX1_lay_120 ⟨rfl, rfl⟩ hFI21 ?_
            refine oX_aload_n dX1_lay_123 rfl rfl ?_
            refine oX_iload_n dX1_lay_124 rfl rfl ?_
            obtain ⟨FI22, hFI22, hm⟩ := oLs hm
            refine oX_putI fX1_472 rfl (fun h9 => by cases h9) oDs0 dX1_lay_125 ⟨rfl, rfl⟩ hFI22 ?_
            refine oX_aload_n dX1_lay_128 rfl rfl ?_
            refine oX_iload_n dX1_lay_129 rfl rfl ?_
            obtain ⟨FI23, hFI23, hm⟩ := oLs hm
            refine oX_putI fX1_478 rfl (fun h9 => by cases h9) oDs0 dX1_lay_130 ⟨rfl, rfl⟩ hFI23 ?_
            refine oX_aload_n dX1_lay_133 rfl rfl ?_
            refine oX_aload_n dX1_lay_134 rfl rfl ?_
            refine oX_getI fX1_116 rfl oDs0 dX1_lay_135 ?_
            obtain ⟨r24, g24, hm⟩ := bd_s hm
            refine oX_cV_ (as := [vI (FI23 0 0 3)]) dX1_lay_138 rfl oDs0 rfl (by decide) rfl ok_X1_layOut rfl rfl q1418 q1420 qs25 q129 q1421 (by decide) (Nat.le_of_ble_eq_true rfl) (t_X1_layOut s9 n (FI23 0 0 3) g24) ?_
            refine oX_aload_n dX1_lay_141 rfl rfl ?_
            obtain ⟨r25, g25, hm⟩ := bd_s hm
            refine oX_cV_ (as := []) dX1_lay_142 rfl oDs0 rfl (by decide) rfl ok_X1_judge rfl rfl q1434 q1436 qs28 q129 q1437 (by decide) (Nat.le_of_ble_eq_true rfl) (t_X1_judge s9 n g25) ?_
            refine oX_aload_n dX1_lay_145 rfl rfl ?_
            obtain ⟨r26, g26, hm⟩ := bd_s hm
            refine oX_cV_ (as := []) dX1_lay_146 rfl oDs0 rfl (by decide) rfl ok_X1_keepAllWrongs rfl rfl q1634 q1636 qs52 q129 q1637 (by decide) (Nat.le_of_ble_eq_true rfl) (t_X1_keepAllWrongs s9 n g26) ?_
            refine oX_aload_n dX1_lay_149 rfl rfl ?_
            refine oX_iconst (v := (0 : Int32)) dX1_lay_150 (by decide) ?_
            refine oX_iload_n dX1_lay_151 rfl rfl ?_
            obtain ⟨r27, g27, hm⟩ := bd_s hm
            refine oX_cost hm (fun qq27 hm => ?_)
            refine oX_cVK (as := [vI (0 : Int32), vI x1]) dX1_lay_152 rfl oDs0 rfl (by decide) rfl ok_X1_tryFrom rfl rfl q1638 q1640 qs53 q129 q1641 (by decide) (Nat.le_of_ble_eq_true rfl) (t_X1_tryFrom n (0 : Int32) x1 g27) (Nat.le_refl _) (Nat.le_refl _) ?_
            refine oX_if_ne (tgt := 175) dX1_lay_155 (by decide) (fun c28 => ?_) (fun c28 => ?_)
            · have hm := ifp c28 hm
              refine oX_aload_n dX1_lay_158 rfl rfl ?_
              refine oX_getI fX1_481 rfl oDs0 dX1_lay_159 ?_
              refine oX_sipush (v := (400 : Int32)) dX1_lay_162 (by decide) ?_
              refine oX_icmp_le (tgt := 173) dX1_lay_165 (by decide) (fun c29 => ?_) (fun c29 => ?_)
              · have hm := ifp c29 hm
                refine oX_iconst (v := (0 : Int32)) dX1_lay_173 (by decide) ?_
                obtain ⟨rfl, rfl⟩ := oEnd hm
                exact oX_iret dX1_lay_174 rfl rfl hK
              · have hm := ifn c29 hm
                refine oX_bipush (v := (-2 : Int32)) dX1_lay_168 (by decide) ?_
                refine oX_goto (tgt := 174) dX1_lay_170 (by decide) ?_
                obtain ⟨rfl, rfl⟩ := oEnd hm
                exact oX_iret dX1_lay_174 rfl rfl hK
            · have hm := ifn c28 hm
              refine oX_aload_n dX1_lay_175 rfl rfl ?_
              refine oX_iload dX1_lay_176 rfl ?_
              obtain ⟨FI30, hFI30, hm⟩ := oLs hm
              refine oX_putI fX1_497 rfl (fun h9 => by cases h9) oDs0 dX1_lay_178 ⟨rfl, rfl⟩ hFI30 ?_
              refine oX_aload_n dX1_lay_181 rfl rfl ?_
              refine oX_aload_n dX1_lay_182 rfl rfl ?_
              refine oX_getI fX1_119 rfl oDs0 dX1_lay_183 ?_
              obtain ⟨FI31, hFI31, hm⟩ := oLs hm
              refine oX_putI fX1_503 rfl (fun h9 => by cases h9) oDs0 dX1_lay_186 ⟨rfl, rfl⟩ hFI31 ?_
              refine oX_aload_n dX1_lay_189 rfl rfl ?_
              refine oX_getI fX1_481 rfl oDs0 dX1_lay_190 ?_
              obtain ⟨rfl, rfl⟩ := oEnd hm
              exact oX_iret dX1_lay_193 rfl rfl hK
          · skip
            rw [e19] at hm
            have hm := el2 hm
            refine oX_iconst (v := (-1 : Int32)) dX1_lay_90 (by decide) ?_
            obtain ⟨rfl, rfl⟩ := oEnd hm
            exact oX_iret dX1_lay_91 rfl rfl hK
        · have hm := ifn c11 hm
          refine oX_iconst (v := (-1 : Int32)) dX1_lay_60 (by decide) ?_
          obtain ⟨rfl, rfl⟩ := oEnd hm
          exact oX_iret dX1_lay_61 rfl rfl hK
theorem t_X1_lay {G : OhG} {FI AI : OhI} {FL AL : OhL} {FR GR AR BR : OhQ} {AN : OhN} {C : OhC} (n : Nat) (x1 : Int32) (x2 : Int32) (x3 : Int32) {o : (Int32 × OhI × OhQ × OhI × OhQ × OhC) × (Nat × Nat)} (hm : mX1_lay n FI FR GR AI AR BR AN C x1 x2 x3 = some o) : oT G 19 iX1_lay [vR (some (0, 0)), vI x1, vI x2, vI x3] (FI, FL, FR, GR, AI, AL, AR, BR, AN, C) o.2 (fun v h => v = (some (vI o.1.1)) ∧ h = (o.1.2.1, FL, o.1.2.2.1, GR, o.1.2.2.2.1, AL, AR, o.1.2.2.2.2.1, AN, o.1.2.2.2.2.2)) ohNo :=
  oT_of (by decide) rfl (Nat.le_of_ble_eq_true rfl) (x_mX1_lay (k := (0, 0)) n x1 x2 x3 hm ⟨rfl, rfl⟩)
