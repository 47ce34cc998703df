/-! MIRRORS of the component and what it calls, 45 to 100: printed by gen/mk_house.py -/
abbrev iX1_players : OhM := (yX1_players, cX1_players, 4, (some .boolean), [])
theorem ok_X1_players : oOk iX1_players 3 := ⟨by decide, by decide, by decide +kernel⟩
noncomputable def mX1_players (FI : OhI) (FR : OhQ) (AI : OhI) (AN : OhN) (x1 : Int32) (x2 : Int32) (x3 : Int32) : Option (Int32 × OhI × OhI) :=
  (mX1_isIn x1 (0 : Int32) (3 : Int32)).bind fun r1 =>
  (if r1 = 0 then
  some ((0 : Int32), FI, AI)
else
  (mX1_isIn x2 (0 : Int32) (60 : Int32)).bind fun r3 =>
    (if r3 = 0 then
    some ((0 : Int32), FI, AI)
  else
    (mX1_isIn x3 (0 : Int32) (60 : Int32)).bind fun r5 =>
      (if r5 = 0 then
      some ((0 : Int32), FI, AI)
    else
      gd (vp_in x1 4) <|
        oLet (sA AI 307 0 (uA (AI 307 0) x1.toNatClampNeg x2)) fun AI7 =>
        gd (vp_in x1 4) <|
        oLet (sA AI7 308 0 (uA (AI7 308 0) x1.toNatClampNeg x3)) fun AI8 =>
        oLet (sA FI 0 0 (uA (FI 0 0) 6 ((FI 0 0 6) + (1 : Int32)))) fun FI9 =>
        some ((1 : Int32), FI9, AI8))))
theorem x_mX1_players {G : OhG} {FI AI : OhI} {FL AL : OhL} {FR GR AR BR : OhQ} {AN : OhN} {C : OhC} {k : Nat × Nat} {Φ : OhP} {Ψ : OhX} (hH : ohShH FR AR AN) (x1 : Int32) (x2 : Int32) (x3 : Int32) {r : Int32 × OhI × OhI} (hm : mX1_players FI FR AI AN x1 x2 x3 = some r) (hK : Φ (some (vI r.1)) (r.2.1, FL, FR, GR, r.2.2, AL, AR, BR, AN, C)) : oX G 2 iX1_players 0 [(0, vR (some (0, 0))), (1, vI x1), (2, vI x2), (3, vI x3)] [] (FI, FL, FR, GR, AI, AL, AR, BR, AN, C) k Φ Ψ := by
  unfold mX1_players at hm
  refine oX_iload_n dX1_players_0 rfl rfl ?_
  refine oX_iconst (v := (0 : Int32)) dX1_players_1 (by decide) ?_
  refine oX_iconst (v := (3 : Int32)) dX1_players_2 (by decide) ?_
  obtain ⟨r1, g1, hm⟩ := bd_s hm
  refine oX_cS (as := [vI x1, vI (0 : Int32), vI (3 : Int32)]) dX1_players_3 rfl ok_X1_isIn rfl rfl q421 q238 q129 q239 (by decide) (Nat.le_of_ble_eq_true rfl) (t_X1_isIn x1 (0 : Int32) (3 : Int32) g1) ?_
  refine oX_if_eq (tgt := 29) dX1_players_6 (by decide) (fun c2 => ?_) (fun c2 => ?_)
  · have hm := ifp c2 hm
    refine oX_iconst (v := (0 : Int32)) dX1_players_29 (by decide) ?_
    obtain rfl := Option.some.inj hm
    exact oX_iret dX1_players_30 rfl (by decide) hK
  · have hm := ifn c2 hm
    refine oX_iload_n dX1_players_9 rfl rfl ?_
    refine oX_iconst (v := (0 : Int32)) dX1_players_10 (by decide) ?_
    refine oX_bipush (v := (60 : Int32)) dX1_players_11 (by decide) ?_
    obtain ⟨r3, g3, hm⟩ := bd_s hm
    refine oX_cS (as := [vI x2, vI (0 : Int32), vI (60 : Int32)]) dX1_players_13 rfl ok_X1_isIn rfl rfl q421 q238 q129 q239 (by decide) (Nat.le_of_ble_eq_true rfl) (t_X1_isIn x2 (0 : Int32) (60 : Int32) g3) ?_
    refine oX_if_eq (tgt := 29) dX1_players_16 (by decide) (fun c4 => ?_) (fun c4 => ?_)
    · have hm := ifp c4 hm
      refine oX_iconst (v := (0 : Int32)) dX1_players_29 (by decide) ?_
      obtain rfl := Option.some.inj hm
      exact oX_iret dX1_players_30 rfl (by decide) hK
    · have hm := ifn c4 hm
      refine oX_iload_n dX1_players_19 rfl rfl ?_
      refine oX_iconst (v := (0 : Int32)) dX1_players_20 (by decide) ?_
      refine oX_bipush (v := (60 : Int32)) dX1_players_21 (by decide) ?_
      obtain ⟨r5, g5, hm⟩ := bd_s hm
      refine oX_cS (as := [vI x3, vI (0 : Int32), vI (60 : Int32)]) dX1_players_23 rfl ok_X1_isIn rfl rfl q421 q238 q129 q239 (by decide) (Nat.le_of_ble_eq_true rfl) (t_X1_isIn x3 (0 : Int32) (60 : Int32) g5) ?_
      refine oX_if_ne (tgt := 31) dX1_players_26 (by decide) (fun c6 => ?_) (fun c6 => ?_)
      · have hm := ifp c6 hm
        refine oX_iconst (v := (0 : Int32)) dX1_players_29 (by decide) ?_
        obtain rfl := Option.some.inj hm
        exact oX_iret dX1_players_30 rfl (by decide) hK
      · have hm := ifn c6 hm
        refine oX_aload_n dX1_players_31 rfl rfl ?_
        refine oX_getF fX1_20 rfl oDs0 dX1_players_32 (ohF307 hH) ?_
        refine oX_iload_n dX1_players_35 rfl rfl ?_
        refine oX_iload_n dX1_players_36 rfl rfl ?_
        obtain ⟨g7, hm⟩ := gd_s hm
        obtain ⟨AI7, hAI7, hm⟩ := oLs hm
        refine oX_iast oDs307 (oIn (ohN307 hH) g7) dX1_players_37 hAI7 ?_
        refine oX_aload_n dX1_players_38 rfl rfl ?_
        refine oX_getF fX1_24 rfl oDs0 dX1_players_39 (ohF308 hH) ?_
        refine oX_iload_n dX1_players_42 rfl rfl ?_
        refine oX_iload_n dX1_players_43 rfl rfl ?_
        obtain ⟨g8, hm⟩ := gd_s hm
        obtain ⟨AI8, hAI8, hm⟩ := oLs hm
        refine oX_iast oDs308 (oIn (ohN308 hH) g8) dX1_players_44 hAI8 ?_
        refine oX_aload_n dX1_players_45 rfl rfl ?_
        refine oX_dup dX1_players_46 trivial ?_
        refine oX_getI fX1_119 rfl oDs0 dX1_players_47 ?_
        refine oX_iconst (v := (1 : Int32)) dX1_players_50 (by decide) ?_
        refine oX_iadd dX1_players_51 ?_
        obtain ⟨FI9, hFI9, hm⟩ := oLs hm
        refine oX_putI fX1_119 rfl (fun h9 => by cases h9) oDs0 dX1_players_52 ⟨rfl, rfl⟩ hFI9 ?_
        refine oX_iconst (v := (1 : Int32)) dX1_players_55 (by decide) ?_
        obtain rfl := Option.some.inj hm
        exact oX_iret dX1_players_56 rfl (by decide) hK
theorem t_X1_players {G : OhG} {FI AI : OhI} {FL AL : OhL} {FR GR AR BR : OhQ} {AN : OhN} {C : OhC} (hH : ohShH FR AR AN) (x1 : Int32) (x2 : Int32) (x3 : Int32) {o : Int32 × OhI × OhI} (hm : mX1_players FI FR AI AN x1 x2 x3 = some o) : oT G 2 iX1_players [vR (some (0, 0)), vI x1, vI x2, vI x3] (FI, FL, FR, GR, AI, AL, AR, BR, AN, C) (0, 0) (fun v h => v = (some (vI o.1)) ∧ h = (o.2.1, FL, FR, GR, o.2.2, AL, AR, BR, AN, C)) ohNo :=
  oT_of (by decide) rfl (Nat.le_of_ble_eq_true rfl) (x_mX1_players hH x1 x2 x3 hm ⟨rfl, rfl⟩)
abbrev iX1_chorus : OhM := (yX1_chorus, cX1_chorus, 3, (some .boolean), [])
theorem ok_X1_chorus : oOk iX1_chorus 2 := ⟨by decide, by decide, by decide +kernel⟩
noncomputable def mX1_chorus (FI : OhI) (x1 : Int32) (x2 : Int32) : Option (Int32 × OhI) :=
  (mX1_isIn x1 (0 : Int32) (24 : Int32)).bind fun r1 =>
  (if r1 = 0 then
  some ((0 : Int32), FI)
else
  (mX1_isIn x2 (0 : Int32) (168 : Int32)).bind fun r3 =>
    (if r3 = 0 then
    some ((0 : Int32), FI)
  else
    oLet (sA FI 0 0 (uA (FI 0 0) 4 x1)) fun FI5 =>
      oLet (sA FI5 0 0 (uA (FI5 0 0) 5 x2)) fun FI6 =>
      oLet (sA FI6 0 0 (uA (FI6 0 0) 6 ((FI6 0 0 6) + (1 : Int32)))) fun FI7 =>
      some ((1 : Int32), FI7)))
theorem x_mX1_chorus {G : OhG} {FI AI : OhI} {FL AL : OhL} {FR GR AR BR : OhQ} {AN : OhN} {C : OhC} {k : Nat × Nat} {Φ : OhP} {Ψ : OhX} (x1 : Int32) (x2 : Int32) {r : Int32 × OhI} (hm : mX1_chorus FI x1 x2 = some r) (hK : Φ (some (vI r.1)) (r.2, FL, FR, GR, AI, AL, AR, BR, AN, C)) : oX G 2 iX1_chorus 0 [(0, vR (some (0, 0))), (1, vI x1), (2, vI x2)] [] (FI, FL, FR, GR, AI, AL, AR, BR, AN, C) k Φ Ψ := by
  unfold mX1_chorus at hm
  refine oX_iload_n dX1_chorus_0 rfl rfl ?_
  refine oX_iconst (v := (0 : Int32)) dX1_chorus_1 (by decide) ?_
  refine oX_bipush (v := (24 : Int32)) dX1_chorus_2 (by decide) ?_
  obtain ⟨r1, g1, hm⟩ := bd_s hm
  refine oX_cS (as := [vI x1, vI (0 : Int32), vI (24 : Int32)]) dX1_chorus_4 rfl ok_X1_isIn rfl rfl q421 q238 q129 q239 (by decide) (Nat.le_of_ble_eq_true rfl) (t_X1_isIn x1 (0 : Int32) (24 : Int32) g1) ?_
  refine oX_if_eq (tgt := 21) dX1_chorus_7 (by decide) (fun c2 => ?_) (fun c2 => ?_)
  · have hm := ifp c2 hm
    refine oX_iconst (v := (0 : Int32)) dX1_chorus_21 (by decide) ?_
    obtain rfl := Option.some.inj hm
    exact oX_iret dX1_chorus_22 rfl (by decide) hK
  · have hm := ifn c2 hm
    refine oX_iload_n dX1_chorus_10 rfl rfl ?_
    refine oX_iconst (v := (0 : Int32)) dX1_chorus_11 (by decide) ?_
    refine oX_sipush (v := (168 : Int32)) dX1_chorus_12 (by decide) ?_
    obtain ⟨r3, g3, hm⟩ := bd_s hm
    refine oX_cS (as := [vI x2, vI (0 : Int32), vI (168 : Int32)]) dX1_chorus_15 rfl ok_X1_isIn rfl rfl q421 q238 q129 q239 (by decide) (Nat.le_of_ble_eq_true rfl) (t_X1_isIn x2 (0 : Int32) (168 : Int32) g3) ?_
    refine oX_if_ne (tgt := 23) dX1_chorus_18 (by decide) (fun c4 => ?_) (fun c4 => ?_)
    · have hm := ifp c4 hm
      refine oX_iconst (v := (0 : Int32)) dX1_chorus_21 (by decide) ?_
      obtain rfl := Option.some.inj hm
      exact oX_iret dX1_chorus_22 rfl (by decide) hK
    · have hm := ifn c4 hm
      refine oX_aload_n dX1_chorus_23 rfl rfl ?_
      refine oX_iload_n dX1_chorus_24 rfl rfl ?_
      obtain ⟨FI5, hFI5, hm⟩ := oLs hm
      refine oX_putI fX1_13 rfl (fun h9 => by cases h9) oDs0 dX1_chorus_25 ⟨rfl, rfl⟩ hFI5 ?_
      refine oX_aload_n dX1_chorus_28 rfl rfl ?_
      refine oX_iload_n dX1_chorus_29 rfl rfl ?_
      obtain ⟨FI6, hFI6, hm⟩ := oLs hm
      refine oX_putI fX1_17 rfl (fun h9 => by cases h9) oDs0 dX1_chorus_30 ⟨rfl, rfl⟩ hFI6 ?_
      refine oX_aload_n dX1_chorus_33 rfl rfl ?_
      refine oX_dup dX1_chorus_34 trivial ?_
      refine oX_getI fX1_119 rfl oDs0 dX1_chorus_35 ?_
      refine oX_iconst (v := (1 : Int32)) dX1_chorus_38 (by decide) ?_
      refine oX_iadd dX1_chorus_39 ?_
      obtain ⟨FI7, hFI7, hm⟩ := oLs hm
      refine oX_putI fX1_119 rfl (fun h9 => by cases h9) oDs0 dX1_chorus_40 ⟨rfl, rfl⟩ hFI7 ?_
      refine oX_iconst (v := (1 : Int32)) dX1_chorus_43 (by decide) ?_
      obtain rfl := Option.some.inj hm
      exact oX_iret dX1_chorus_44 rfl (by decide) hK
theorem t_X1_chorus {G : OhG} {FI AI : OhI} {FL AL : OhL} {FR GR AR BR : OhQ} {AN : OhN} {C : OhC} (x1 : Int32) (x2 : Int32) {o : Int32 × OhI} (hm : mX1_chorus FI x1 x2 = some o) : oT G 2 iX1_chorus [vR (some (0, 0)), vI x1, vI x2] (FI, FL, FR, GR, AI, AL, AR, BR, AN, C) (0, 0) (fun v h => v = (some (vI o.1)) ∧ h = (o.2, FL, FR, GR, AI, AL, AR, BR, AN, C)) ohNo :=
  oT_of (by decide) rfl (Nat.le_of_ble_eq_true rfl) (x_mX1_chorus x1 x2 hm ⟨rfl, rfl⟩)
abbrev iX1_singerOf : OhM := (yX1_singerOf, cX1_singerOf, 2, (some (FieldType.object "OperaHouse$Singer")), [])
theorem ok_X1_singerOf : oOk iX1_singerOf 1 := ⟨by decide, by decide, by decide +kernel⟩
noncomputable def mX1_singerOf (FI : OhI) (FR : OhQ) (GR : OhQ) (AR : OhQ) (BR : OhQ) (AN : OhN) (x1 : Int32) : Option (OhR) :=
  (mJ2_size FI (310, 0)).bind fun r1 =>
  (mX1_isIn x1 (0 : Int32) (r1 - (1 : Int32))).bind fun r2 =>
  (if r2 = 0 then
  some none
else
  (mJ2_get FI GR AR BR AN (310, 0) x1).bind fun r4 =>
    (oD 6 r4).bind fun a5 =>
    some (some a5))
theorem x_mX1_singerOf {G : OhG} {FI AI : OhI} {FL AL : OhL} {FR GR AR BR : OhQ} {AN : OhN} {C : OhC} {k : Nat × Nat} {Φ : OhP} {Ψ : OhX} (hH : ohShH FR AR AN) (x1 : Int32) {r : OhR} (hm : mX1_singerOf FI FR GR AR BR AN x1 = some r) (hK : Φ (some (vR r)) (FI, FL, FR, GR, AI, AL, AR, BR, AN, C)) : oX G 4 iX1_singerOf 0 [(0, vR (some (0, 0))), (1, vI x1)] [] (FI, FL, FR, GR, AI, AL, AR, BR, AN, C) k Φ Ψ := by
  unfold mX1_singerOf at hm
  refine oX_iload_n dX1_singerOf_0 rfl rfl ?_
  refine oX_iconst (v := (0 : Int32)) dX1_singerOf_1 (by decide) ?_
  refine oX_aload_n dX1_singerOf_2 rfl rfl ?_
  refine oX_getF fX1_34 rfl oDs0 dX1_singerOf_3 (ohF310 hH) ?_
  obtain ⟨r1, g1, hm⟩ := bd_s hm
  refine oX_cV (as := []) dX1_singerOf_6 rfl oDs310 rfl (by decide) rfl ok_J2_size rfl rfl q430 q431 q432 q132 q433 (by decide) (Nat.le_of_ble_eq_true rfl) (t_J2_size (310, 0) rfl g1) ?_
  refine oX_iconst (v := (1 : Int32)) dX1_singerOf_9 (by decide) ?_
  refine oX_isub dX1_singerOf_10 ?_
  obtain ⟨r2, g2, hm⟩ := bd_s hm
  refine oX_cS (as := [vI x1, vI (0 : Int32), vI (r1 - (1 : Int32))]) dX1_singerOf_11 rfl ok_X1_isIn rfl rfl q421 q238 q129 q239 (by decide) (Nat.le_of_ble_eq_true rfl) (t_X1_isIn x1 (0 : Int32) (r1 - (1 : Int32)) g2) ?_
  refine oX_if_eq (tgt := 31) dX1_singerOf_14 (by decide) (fun c3 => ?_) (fun c3 => ?_)
  · have hm := ifp c3 hm
    refine oX_null dX1_singerOf_31 ?_
    obtain rfl := Option.some.inj hm
    exact oX_aret dX1_singerOf_32 rfl (by first | exact Or.inl ⟨_, rfl⟩ | exact Or.inr ⟨_, rfl⟩) hK
  · have hm := ifn c3 hm
    refine oX_aload_n dX1_singerOf_17 rfl rfl ?_
    refine oX_getF fX1_34 rfl oDs0 dX1_singerOf_18 (ohF310 hH) ?_
    refine oX_iload_n dX1_singerOf_21 rfl rfl ?_
    obtain ⟨r4, g4, hm⟩ := bd_s hm
    refine oX_cV (as := [vI x1]) dX1_singerOf_22 rfl oDs310 rfl (by decide) rfl ok_J2_get rfl rfl q648 q649 q650 q132 q651 (by decide) (Nat.le_of_ble_eq_true rfl) (t_J2_get (310, 0) rfl x1 g4) ?_
    obtain ⟨a5, e5, hm⟩ := bd_s hm
    refine oX_cast e5 rfl (by decide) q565 dX1_singerOf_25 ?_
    refine oX_goto (tgt := 32) dX1_singerOf_28 (by decide) ?_
    obtain rfl := Option.some.inj hm
    exact oX_aret dX1_singerOf_32 rfl (by first | exact Or.inl ⟨_, rfl⟩ | exact Or.inr ⟨_, rfl⟩) hK
theorem t_X1_singerOf {G : OhG} {FI AI : OhI} {FL AL : OhL} {FR GR AR BR : OhQ} {AN : OhN} {C : OhC} (hH : ohShH FR AR AN) (x1 : Int32) {o : OhR} (hm : mX1_singerOf FI FR GR AR BR AN x1 = some o) : oT G 4 iX1_singerOf [vR (some (0, 0)), vI x1] (FI, FL, FR, GR, AI, AL, AR, BR, AN, C) (0, 0) (fun v h => v = (some (vR o)) ∧ h = (FI, FL, FR, GR, AI, AL, AR, BR, AN, C)) ohNo :=
  oT_of (by decide) rfl (Nat.le_of_ble_eq_true rfl) (x_mX1_singerOf hH x1 hm ⟨rfl, rfl⟩)
abbrev iX1_fault : OhM := (yX1_fault, cX1_fault, 1, (some .int), [])
theorem ok_X1_fault : oOk iX1_fault 0 := ⟨by decide, by decide, by decide +kernel⟩
noncomputable def mX1_fault (FI : OhI) : Option (Int32) :=
  some (FI 0 0 2)
theorem x_mX1_fault {G : OhG} {FI AI : OhI} {FL AL : OhL} {FR GR AR BR : OhQ} {AN : OhN} {C : OhC} {k : Nat × Nat} {Φ : OhP} {Ψ : OhX} {r : Int32} (hm : mX1_fault FI = some r) (hK : Φ (some (vI r)) (FI, FL, FR, GR, AI, AL, AR, BR, AN, C)) : oX G 1 iX1_fault 0 [(0, vR (some (0, 0)))] [] (FI, FL, FR, GR, AI, AL, AR, BR, AN, C) k Φ Ψ := by
  unfold mX1_fault at hm
  refine oX_aload_n dX1_fault_0 rfl rfl ?_
  refine oX_getI fX1_163 rfl oDs0 dX1_fault_1 ?_
  obtain rfl := Option.some.inj hm
  exact oX_iret dX1_fault_4 rfl rfl hK
theorem t_X1_fault {G : OhG} {FI AI : OhI} {FL AL : OhL} {FR GR AR BR : OhQ} {AN : OhN} {C : OhC} {o : Int32} (hm : mX1_fault FI = some o) : oT G 1 iX1_fault [vR (some (0, 0))] (FI, FL, FR, GR, AI, AL, AR, BR, AN, C) (0, 0) (fun v h => v = (some (vI o)) ∧ h = (FI, FL, FR, GR, AI, AL, AR, BR, AN, C)) ohNo :=
  oT_of (by decide) rfl (Nat.le_of_ble_eq_true rfl) (x_mX1_fault hm ⟨rfl, rfl⟩)
abbrev iX1_mayBe : OhM := (yX1_mayBe, cX1_mayBe, 6, (some .boolean), [])
theorem ok_X1_mayBe : oOk iX1_mayBe 5 := ⟨by decide, by decide, by decide +kernel⟩
noncomputable def mX1_mayBe (FI : OhI) (FR : OhQ) (GR : OhQ) (AR : OhQ) (BR : OhQ) (AN : OhN) (x1 : Int32) (x2 : Int32) (x3 : Int32) (x4 : Int32) (x5 : Int32) : Option (Int32) :=
  (mX1_isIn x1 (FI 0 0 3) (29 : Int32)).bind fun r1 =>
  (if r1 = 0 then
  some (0 : Int32)
else
  (mX1_isIn x2 (0 : Int32) (23 : Int32)).bind fun r3 =>
    (if r3 = 0 then
    some (0 : Int32)
  else
    (mX1_isIn x3 (0 : Int32) (3 : Int32)).bind fun r5 =>
      (if r5 = 0 then
      some (0 : Int32)
    else
      (mJ2_size FI (309, 0)).bind fun r7 =>
        (mX1_isIn x4 (0 : Int32) (r7 - (1 : Int32))).bind fun r8 =>
        (if r8 = 0 then
        some (0 : Int32)
      else
        (mX1_isIn x5 (0 : Int32) (3 : Int32)).bind fun r10 =>
          (if r10 = 0 then
          some (0 : Int32)
        else
          (mJ2_get FI GR AR BR AN (309, 0) x4).bind fun r12 =>
            (oD 4 r12).bind fun a13 =>
            (mX15_hoursOf FI x3 (some a13)).bind fun r14 =>
            (if (24 : Int32) < (x2 + r14) then
            some (0 : Int32)
          else
            some (1 : Int32)))))))
theorem x_mX1_mayBe {G : OhG} {FI AI : OhI} {FL AL : OhL} {FR GR AR BR : OhQ} {AN : OhN} {C : OhC} {k : Nat × Nat} {Φ : OhP} {Ψ : OhX} (hH : ohShH FR AR AN) (x1 : Int32) (x2 : Int32) (x3 : Int32) (x4 : Int32) (x5 : Int32) {r : Int32} (hm : mX1_mayBe FI FR GR AR BR AN x1 x2 x3 x4 x5 = some r) (hK : Φ (some (vI r)) (FI, FL, FR, GR, AI, AL, AR, BR, AN, C)) : oX G 4 iX1_mayBe 0 [(0, vR (some (0, 0))), (1, vI x1), (2, vI x2), (3, vI x3), (4, vI x4), (5, vI x5)] [] (FI, FL, FR, GR, AI, AL, AR, BR, AN, C) k Φ Ψ := by
  unfold mX1_mayBe at hm
  refine oX_iload_n dX1_mayBe_0 rfl rfl ?_
  refine oX_aload_n dX1_mayBe_1 rfl rfl ?_
  refine oX_getI fX1_116 rfl oDs0 dX1_mayBe_2 ?_
  refine oX_bipush (v := (29 : Int32)) dX1_mayBe_5 (by decide) ?_
  obtain ⟨r1, g1, hm⟩ := bd_s hm
  refine oX_cS (as := [vI x1, vI (FI 0 0 3), vI (29 : Int32)]) dX1_mayBe_7 rfl ok_X1_isIn rfl rfl q421 q238 q129 q239 (by decide) (Nat.le_of_ble_eq_true rfl) (t_X1_isIn x1 (FI 0 0 3) (29 : Int32) g1) ?_
  refine oX_if_eq (tgt := 87) dX1_mayBe_10 (by decide) (fun c2 => ?_) (fun c2 => ?_)
  · have hm := ifp c2 hm
    refine oX_iconst (v := (0 : Int32)) dX1_mayBe_87 (by decide) ?_
    obtain rfl := Option.some.inj hm
    exact oX_iret dX1_mayBe_88 rfl (by decide) hK
  · have hm := ifn c2 hm
    refine oX_iload_n dX1_mayBe_13 rfl rfl ?_
    refine oX_iconst (v := (0 : Int32)) dX1_mayBe_14 (by decide) ?_
    refine oX_bipush (v := (23 : Int32)) dX1_mayBe_15 (by decide) ?_
    obtain ⟨r3, g3, hm⟩ := bd_s hm
    refine oX_cS (as := [vI x2, vI (0 : Int32), vI (23 : Int32)]) dX1_mayBe_17 rfl ok_X1_isIn rfl rfl q421 q238 q129 q239 (by decide) (Nat.le_of_ble_eq_true rfl) (t_X1_isIn x2 (0 : Int32) (23 : Int32) g3) ?_
    refine oX_if_eq (tgt := 87) dX1_mayBe_20 (by decide) (fun c4 => ?_) (fun c4 => ?_)
    · have hm := ifp c4 hm
      refine oX_iconst (v := (0 : Int32)) dX1_mayBe_87 (by decide) ?_
      obtain rfl := Option.some.inj hm
      exact oX_iret dX1_mayBe_88 rfl (by decide) hK
    · have hm := ifn c4 hm
      refine oX_iload_n dX1_mayBe_23 rfl rfl ?_
      refine oX_iconst (v := (0 : Int32)) dX1_mayBe_24 (by decide) ?_
      refine oX_iconst (v := (3 : Int32)) dX1_mayBe_25 (by decide) ?_
      obtain ⟨r5, g5, hm⟩ := bd_s hm
      refine oX_cS (as := [vI x3, vI (0 : Int32), vI (3 : Int32)]) dX1_mayBe_26 rfl ok_X1_isIn rfl rfl q421 q238 q129 q239 (by decide) (Nat.le_of_ble_eq_true rfl) (t_X1_isIn x3 (0 : Int32) (3 : Int32) g5) ?_
      refine oX_if_eq (tgt := 87) dX1_mayBe_29 (by decide) (fun c6 => ?_) (fun c6 => ?_)
      · have hm := ifp c6 hm
        refine oX_iconst (v := (0 : Int32)) dX1_mayBe_87 (by decide) ?_
        obtain rfl := Option.some.inj hm
        exact oX_iret dX1_mayBe_88 rfl (by decide) hK
      · have hm := ifn c6 hm
        refine oX_iload dX1_mayBe_32 rfl ?_
        refine oX_iconst (v := (0 : Int32)) dX1_mayBe_34 (by decide) ?_
        refine oX_aload_n dX1_mayBe_35 rfl rfl ?_
        refine oX_getF fX1_30 rfl oDs0 dX1_mayBe_36 (ohF309 hH) ?_
        obtain ⟨r7, g7, hm⟩ := bd_s hm
        refine oX_cV (as := []) dX1_mayBe_39 rfl oDs309 rfl (by decide) rfl ok_J2_size rfl rfl q430 q431 q432 q132 q433 (by decide) (Nat.le_of_ble_eq_true rfl) (t_J2_size (309, 0) rfl g7) ?_
        refine oX_iconst (v := (1 : Int32)) dX1_mayBe_42 (by decide) ?_
        refine oX_isub dX1_mayBe_43 ?_
        obtain ⟨r8, g8, hm⟩ := bd_s hm
        refine oX_cS (as := [vI x4, vI (0 : Int32), vI (r7 - (1 : Int32))]) dX1_mayBe_44 rfl ok_X1_isIn rfl rfl q421 q238 q129 q239 (by decide) (Nat.le_of_ble_eq_true rfl) (t_X1_isIn x4 (0 : Int32) (r7 - (1 : Int32)) g8) ?_
        refine oX_if_eq (tgt := 87) dX1_mayBe_47 (by decide) (fun c9 => ?_) (fun c9 => ?_)
        · have hm := ifp c9 hm
          refine oX_iconst (v := (0 : Int32)) dX1_mayBe_87 (by decide) ?_
          obtain rfl := Option.some.inj hm
          exact oX_iret dX1_mayBe_88 rfl (by decide) hK
        · have hm := ifn c9 hm
          refine oX_iload dX1_mayBe_50 rfl ?_
          refine oX_iconst (v := (0 : Int32)) dX1_mayBe_52 (by decide) ?_
          refine oX_iconst (v := (3 : Int32)) dX1_mayBe_53 (by decide) ?_
          obtain ⟨r10, g10, hm⟩ := bd_s hm
          refine oX_cS (as := [vI x5, vI (0 : Int32), vI (3 : Int32)]) dX1_mayBe_54 rfl ok_X1_isIn rfl rfl q421 q238 q129 q239 (by decide) (Nat.le_of_ble_eq_true rfl) (t_X1_isIn x5 (0 : Int32) (3 : Int32) g10) ?_
          refine oX_if_eq (tgt := 87) dX1_mayBe_57 (by decide) (fun c11 => ?_) (fun c11 => ?_)
          · have hm := ifp c11 hm
            refine oX_iconst (v := (0 : Int32)) dX1_mayBe_87 (by decide) ?_
            obtain rfl := Option.some.inj hm
            exact oX_iret dX1_mayBe_88 rfl (by decide) hK
          · have hm := ifn c11 hm
            refine oX_iload_n dX1_mayBe_60 rfl rfl ?_
            refine oX_iload_n dX1_mayBe_61 rfl rfl ?_
            refine oX_aload_n dX1_mayBe_62 rfl rfl ?_
            refine oX_getF fX1_30 rfl oDs0 dX1_mayBe_63 (ohF309 hH) ?_
            refine oX_iload dX1_mayBe_66 rfl ?_
            obtain ⟨r12, g12, hm⟩ := bd_s hm
            refine oX_cV (as := [vI x4]) dX1_mayBe_68 rfl oDs309 rfl (by decide) rfl ok_J2_get rfl rfl q648 q649 q650 q132 q651 (by decide) (Nat.le_of_ble_eq_true rfl) (t_J2_get (309, 0) rfl x4 g12) ?_
            obtain ⟨a13, e13, hm⟩ := bd_s hm
            refine oX_cast e13 rfl (by decide) q434 dX1_mayBe_71 ?_
            obtain ⟨r14, g14, hm⟩ := bd_s hm
            refine oX_cS (as := [vI x3, vR (some a13)]) dX1_mayBe_74 rfl ok_X15_hoursOf rfl rfl q1306 q1307 q165 q1308 (by decide) (Nat.le_of_ble_eq_true rfl) (t_X15_hoursOf x3 (some a13) g14) ?_
            refine oX_iadd dX1_mayBe_77 ?_
            refine oX_bipush (v := (24 : Int32)) dX1_mayBe_78 (by decide) ?_
            refine oX_icmp_gt (tgt := 87) dX1_mayBe_80 (by decide) (fun c15 => ?_) (fun c15 => ?_)
            · have hm := ifp c15 hm
              refine oX_iconst (v := (0 : Int32)) dX1_mayBe_87 (by decide) ?_
              obtain rfl := Option.some.inj hm
              exact oX_iret dX1_mayBe_88 rfl (by decide) hK
            · have hm := ifn c15 hm
              refine oX_iconst (v := (1 : Int32)) dX1_mayBe_83 (by decide) ?_
              refine oX_goto (tgt := 88) dX1_mayBe_84 (by decide) ?_
              obtain rfl := Option.some.inj hm
              exact oX_iret dX1_mayBe_88 rfl (by decide) hK
theorem t_X1_mayBe {G : OhG} {FI AI : OhI} {FL AL : OhL} {FR GR AR BR : OhQ} {AN : OhN} {C : OhC} (hH : ohShH FR AR AN) (x1 : Int32) (x2 : Int32) (x3 : Int32) (x4 : Int32) (x5 : Int32) {o : Int32} (hm : mX1_mayBe FI FR GR AR BR AN x1 x2 x3 x4 x5 = some o) : oT G 4 iX1_mayBe [vR (some (0, 0)), vI x1, vI x2, vI x3, vI x4, vI x5] (FI, FL, FR, GR, AI, AL, AR, BR, AN, C) (0, 0) (fun v h => v = (some (vI o)) ∧ h = (FI, FL, FR, GR, AI, AL, AR, BR, AN, C)) ohNo :=
  oT_of (by decide) rfl (Nat.le_of_ble_eq_true rfl) (x_mX1_mayBe hH x1 x2 x3 x4 x5 hm ⟨rfl, rfl⟩)
abbrev iX1_callOf : OhM := (yX1_callOf, cX1_callOf, 2, (some (FieldType.object "OperaHouse$Call")), [])
theorem ok_X1_callOf : oOk iX1_callOf 1 := ⟨by decide, by decide, by decide +kernel⟩
noncomputable def mX1_callOf (FI : OhI) (FR : OhQ) (GR : OhQ) (AR : OhQ) (BR : OhQ) (AN : OhN) (x1 : Int32) : Option (OhR) :=
  (mJ2_size FI (311, 0)).bind fun r1 =>
  (mX1_isIn x1 (0 : Int32) (r1 - (1 : Int32))).bind fun r2 =>
  (if r2 = 0 then
  some none
else
  (mJ2_get FI GR AR BR AN (311, 0) x1).bind fun r4 =>
    (oD 14 r4).bind fun a5 =>
    some (some a5))
theorem x_mX1_callOf {G : OhG} {FI AI : OhI} {FL AL : OhL} {FR GR AR BR : OhQ} {AN : OhN} {C : OhC} {k : Nat × Nat} {Φ : OhP} {Ψ : OhX} (hH : ohShH FR AR AN) (x1 : Int32) {r : OhR} (hm : mX1_callOf FI FR GR AR BR AN x1 = some r) (hK : Φ (some (vR r)) (FI, FL, FR, GR, AI, AL, AR, BR, AN, C)) : oX G 4 iX1_callOf 0 [(0, vR (some (0, 0))), (1, vI x1)] [] (FI, FL, FR, GR, AI, AL, AR, BR, AN, C) k Φ Ψ := by
  unfold mX1_callOf at hm
  refine oX_iload_n dX1_callOf_0 rfl rfl ?_
  refine oX_iconst (v := (0 : Int32)) dX1_callOf_1 (by decide) ?_
  refine oX_aload_n dX1_callOf_2 rfl rfl ?_
  refine oX_getF fX1_37 rfl oDs0 dX1_callOf_3 (ohF311 hH) ?_
  obtain ⟨r1, g1, hm⟩ := bd_s hm
  refine oX_cV (as := []) dX1_callOf_6 rfl oDs311 rfl (by decide) rfl ok_J2_size rfl rfl q430 q431 q432 q132 q433 (by decide) (Nat.le_of_ble_eq_true rfl) (t_J2_size (311, 0) rfl g1) ?_
  refine oX_iconst (v := (1 : Int32)) dX1_callOf_9 (by decide) ?_
  refine oX_isub dX1_callOf_10 ?_
  obtain ⟨r2, g2, hm⟩ := bd_s hm
  refine oX_cS (as := [vI x1, vI (0 : Int32), vI (r1 - (1 : Int32))]) dX1_callOf_11 rfl ok_X1_isIn rfl rfl q421 q238 q129 q239 (by decide) (Nat.le_of_ble_eq_true rfl) (t_X1_isIn x1 (0 : Int32) (r1 - (1 : Int32)) g2) ?_
  refine oX_if_eq (tgt := 31) dX1_callOf_14 (by decide) (fun c3 => ?_) (fun c3 => ?_)
  · have hm := ifp c3 hm
    refine oX_null dX1_callOf_31 ?_
    obtain rfl := Option.some.inj hm
    exact oX_aret dX1_callOf_32 rfl (by first | exact Or.inl ⟨_, rfl⟩ | exact Or.inr ⟨_, rfl⟩) hK
  · have hm := ifn c3 hm
    refine oX_aload_n dX1_callOf_17 rfl rfl ?_
    refine oX_getF fX1_37 rfl oDs0 dX1_callOf_18 (ohF311 hH) ?_
    refine oX_iload_n dX1_callOf_21 rfl rfl ?_
    obtain ⟨r4, g4, hm⟩ := bd_s hm
    refine oX_cV (as := [vI x1]) dX1_callOf_22 rfl oDs311 rfl (by decide) rfl ok_J2_get rfl rfl q648 q649 q650 q132 q651 (by decide) (Nat.le_of_ble_eq_true rfl) (t_J2_get (311, 0) rfl x1 g4) ?_
    obtain ⟨a5, e5, hm⟩ := bd_s hm
    refine oX_cast e5 rfl (by decide) q254 dX1_callOf_25 ?_
    refine oX_goto (tgt := 32) dX1_callOf_28 (by decide) ?_
    obtain rfl := Option.some.inj hm
    exact oX_aret dX1_callOf_32 rfl (by first | exact Or.inl ⟨_, rfl⟩ | exact Or.inr ⟨_, rfl⟩) hK
theorem t_X1_callOf {G : OhG} {FI AI : OhI} {FL AL : OhL} {FR GR AR BR : OhQ} {AN : OhN} {C : OhC} (hH : ohShH FR AR AN) (x1 : Int32) {o : OhR} (hm : mX1_callOf FI FR GR AR BR AN x1 = some o) : oT G 4 iX1_callOf [vR (some (0, 0)), vI x1] (FI, FL, FR, GR, AI, AL, AR, BR, AN, C) (0, 0) (fun v h => v = (some (vR o)) ∧ h = (FI, FL, FR, GR, AI, AL, AR, BR, AN, C)) ohNo :=
  oT_of (by decide) rfl (Nat.le_of_ble_eq_true rfl) (x_mX1_callOf hH x1 hm ⟨rfl, rfl⟩)
abbrev iX1_isDay : OhM := (yX1_isDay, cX1_isDay, 1, (some .boolean), [])
theorem ok_X1_isDay : oOk iX1_isDay 1 := ⟨by decide, by decide, by decide +kernel⟩
noncomputable def mX1_isDay (x0 : Int32) : Option (Int32) :=
  (mX1_isIn x0 (0 : Int32) (29 : Int32)).bind fun r1 =>
  gd (r1 = 0 ∨ r1 = 1) <|
  some r1
theorem x_mX1_isDay {G : OhG} {FI AI : OhI} {FL AL : OhL} {FR GR AR BR : OhQ} {AN : OhN} {C : OhC} {k : Nat × Nat} {Φ : OhP} {Ψ : OhX} (x0 : Int32) {r : Int32} (hm : mX1_isDay x0 = some r) (hK : Φ (some (vI r)) (FI, FL, FR, GR, AI, AL, AR, BR, AN, C)) : oX G 2 iX1_isDay 0 [(0, vI x0)] [] (FI, FL, FR, GR, AI, AL, AR, BR, AN, C) k Φ Ψ := by
  unfold mX1_isDay at hm
  refine oX_iload_n dX1_isDay_0 rfl rfl ?_
  refine oX_iconst (v := (0 : Int32)) dX1_isDay_1 (by decide) ?_
  refine oX_bipush (v := (29 : Int32)) dX1_isDay_2 (by decide) ?_
  obtain ⟨r1, g1, hm⟩ := bd_s hm
  refine oX_cS (as := [vI x0, vI (0 : Int32), vI (29 : Int32)]) dX1_isDay_4 rfl ok_X1_isIn rfl rfl q421 q238 q129 q239 (by decide) (Nat.le_of_ble_eq_true rfl) (t_X1_isIn x0 (0 : Int32) (29 : Int32) g1) ?_
  obtain ⟨g2, hm⟩ := gd_s hm
  obtain rfl := Option.some.inj hm
  exact oX_iret dX1_isDay_7 rfl (oNz g2) hK
theorem t_X1_isDay {G : OhG} {FI AI : OhI} {FL AL : OhL} {FR GR AR BR : OhQ} {AN : OhN} {C : OhC} (x0 : Int32) {o : Int32} (hm : mX1_isDay x0 = some o) : oT G 2 iX1_isDay [vI x0] (FI, FL, FR, GR, AI, AL, AR, BR, AN, C) (0, 0) (fun v h => v = (some (vI o)) ∧ h = (FI, FL, FR, GR, AI, AL, AR, BR, AN, C)) ohNo :=
  oT_of (by decide) rfl (Nat.le_of_ble_eq_true rfl) (x_mX1_isDay x0 hm ⟨rfl, rfl⟩)
abbrev iX1_enter : OhM := (yX1_enter, cX1_enter, 4, none, [])
theorem ok_X1_enter : oOk iX1_enter 1 := ⟨by decide, by decide, by decide +kernel⟩
noncomputable def mX1_enter_b5 (n : Nat) (FI : OhI) (FR : OhQ) (AI : OhI) (AR : OhQ) (BR : OhQ) (AN : OhN) (x1 : OhR) (x2 : Int32) : Option ((Int32 × OhQ) ⊕ (Int32 × OhQ)) :=
  (if x2 ≤ 0 then
  some (.inr (x2, BR))
else
  gd (vp_in (x2 - (1 : Int32)) 66) <|
    (oD 14 (BR 316 0 (x2 - (1 : Int32)).toNatClampNeg)).bind fun a3 =>
    (oD 14 x1).bind fun a4 =>
    (if (FI a3.1 a3.2 4) ≤ (FI a4.1 a4.2 4) then
    some (.inr (x2, BR))
  else
    gd (vp_in (x2 - (1 : Int32)) 66) <|
      gd (vp_in x2 66) <|
      oLet (sA BR 316 0 (uA (BR 316 0) x2.toNatClampNeg (BR 316 0 (x2 - (1 : Int32)).toNatClampNeg))) fun BR7 =>
      some (.inl (x2 + (-1 : Int32), BR7))))
theorem x_mX1_enter_b5 {G : OhG} {FI AI : OhI} {FL AL : OhL} {FR GR AR BR : OhQ} {AN : OhN} {C : OhC} {k : Nat × Nat} {Φ : OhP} {Ψ : OhX} (hH : ohShH FR AR AN) (n : Nat) (x1 : OhR) (x2 : Int32) {r : (Int32 × OhQ) ⊕ (Int32 × OhQ)} (hm : mX1_enter_b5 n FI FR AI AR BR AN x1 x2 = some r) (hk : ∀ v : Int32 × OhQ, r = .inl v → oX G 1 iX1_enter 5 [(0, vR (some (0, 0))), (1, vR x1), (2, vI v.1)] [] (FI, FL, FR, GR, AI, AL, AR, v.2, AN, C) k Φ Ψ) (hx1 : ∀ v : Int32 × OhQ, r = .inr v → oX G 1 iX1_enter 47 [(0, vR (some (0, 0))), (1, vR x1), (2, vI v.1)] [] (FI, FL, FR, GR, AI, AL, AR, v.2, AN, C) k Φ Ψ) : oX G 1 iX1_enter 5 [(0, vR (some (0, 0))), (1, vR x1), (2, vI x2)] [] (FI, FL, FR, GR, AI, AL, AR, BR, AN, C) k Φ Ψ := by
  unfold mX1_enter_b5 at hm
  refine oX_iload_n dX1_enter_5 rfl rfl ?_
  refine oX_if_le (tgt := 47) dX1_enter_6 (by decide) (fun c1 => ?_) (fun c1 => ?_)
  · have hm := ifp c1 hm
    exact oX_sub [0, 1, 2] rfl (hx1 (x2, BR) (Option.some.inj hm).symm)
  · have hm := ifn c1 hm
    refine oX_aload_n dX1_enter_9 rfl rfl ?_
    refine oX_getF fX1_58 rfl oDs0 dX1_enter_10 (ohF316 hH) ?_
    refine oX_iload_n dX1_enter_13 rfl rfl ?_
    refine oX_iconst (v := (1 : Int32)) dX1_enter_14 (by decide) ?_
    refine oX_isub dX1_enter_15 ?_
    obtain ⟨g2, hm⟩ := gd_s hm
    refine oX_aaldC oDs316 (oIn (ohN316 hH) g2) dX1_enter_16 rfl ?_
    obtain ⟨a3, e3, hm⟩ := bd_s hm
    refine oX_getI fX1_230 rfl e3 dX1_enter_17 ?_
    refine oX_aload_n dX1_enter_20 rfl rfl ?_
    obtain ⟨a4, e4, hm⟩ := bd_s hm
    refine oX_getI fX1_230 rfl e4 dX1_enter_21 ?_
    refine oX_icmp_le (tgt := 47) dX1_enter_24 (by decide) (fun c5 => ?_) (fun c5 => ?_)
    · have hm := ifp c5 hm
      exact oX_sub [0, 1, 2] rfl (hx1 (x2, BR) (Option.some.inj hm).symm)
    · have hm := ifn c5 hm
      refine oX_aload_n dX1_enter_27 rfl rfl ?_
      refine oX_getF fX1_58 rfl oDs0 dX1_enter_28 (ohF316 hH) ?_
      refine oX_iload_n dX1_enter_31 rfl rfl ?_
      refine oX_aload_n dX1_enter_32 rfl rfl ?_
      refine oX_getF fX1_58 rfl oDs0 dX1_enter_33 (ohF316 hH) ?_
      refine oX_iload_n dX1_enter_36 rfl rfl ?_
      refine oX_iconst (v := (1 : Int32)) dX1_enter_37 (by decide) ?_
      refine oX_isub dX1_enter_38 ?_
      obtain ⟨g6, hm⟩ := gd_s hm
      refine oX_aaldC oDs316 (oIn (ohN316 hH) g6) dX1_enter_39 rfl ?_
      obtain ⟨g7, hm⟩ := gd_s hm
      obtain ⟨BR7, hBR7, hm⟩ := oLs hm
      refine oX_aast5 oDs316 (oIn (ohN316 hH) g7) (Or.inr ⟨_, e3⟩) dX1_enter_40 hBR7 ?_
      refine oX_iinc (v := x2 + (-1 : Int32)) (ls' := [(2, vI (x2 + (-1 : Int32))), (0, vR (some (0, 0))), (1, vR x1)]) dX1_enter_41 rfl rfl (by decide) rfl ?_
      refine oX_goto (tgt := 5) dX1_enter_44 (by decide) ?_
      exact oX_sub [1, 2, 0] rfl (hk (x2 + (-1 : Int32), BR7) (Option.some.inj hm).symm)
theorem l_mX1_enter_b5 {G : OhG} {FI : OhI} {FL : OhL} {FR : OhQ} {GR : OhQ} {AI : OhI} {AL : OhL} {AR : OhQ} {AN : OhN} {C : OhC} {k : Nat × Nat} {Φ : OhP} {Ψ : OhX} (hH : ohShH FR AR AN) (n : Nat) (x1 : OhR) : ∀ (f : Nat) (x2 : Int32) (BR : OhQ) (b : (Int32 × OhQ)), lpF (fun v => mX1_enter_b5 n FI FR AI AR v.2 AN x1 v.1) f (x2, BR) = some b → (oX G 1 iX1_enter 47 [(0, vR (some (0, 0))), (1, vR x1), (2, vI b.1)] [] (FI, FL, FR, GR, AI, AL, AR, b.2, AN, C) k Φ Ψ) → oX G 1 iX1_enter 5 [(0, vR (some (0, 0))), (1, vR x1), (2, vI x2)] [] (FI, FL, FR, GR, AI, AL, AR, BR, AN, C) k Φ Ψ := by
  intro f
  induction f with
  | zero =>
    intro x2 BR b hm
    cases hm
  | succ f ih =>
    intro x2 BR b hm hx1
    obtain ⟨r, hr, hm⟩ := lp_s hm
    refine x_mX1_enter_b5 hH n x1 x2 hr (fun v e => ?_) (fun v e => ?_)
    · subst e; exact ih v.1 v.2 _ hm hx1
    · subst e; cases (show v = b from hm); exact hx1
noncomputable def mX1_enter_b66 (n : Nat) (FI : OhI) (FR : OhQ) (AI : OhI) (AR : OhQ) (BR : OhQ) (AN : OhN) (x1 : OhR) (x3 : Int32) : Option ((Int32 × OhI) ⊕ (OhI)) :=
  (if (8 : Int32) ≤ x3 then
  some (.inr AI)
else
  (oD 14 x1).bind fun a13 =>
    gd (vp_in (FI a13.1 a13.2 0) 66) <|
    gd (vp_in x3 8) <|
    oLet (sA AI 419 ((FI a13.1 a13.2 0).toNatClampNeg) (uA (AI 419 ((FI a13.1 a13.2 0).toNatClampNeg)) x3.toNatClampNeg (-1 : Int32))) fun AI15 =>
    gd (vp_in (FI a13.1 a13.2 0) 66) <|
    gd (vp_in x3 8) <|
    oLet (sA AI15 420 ((FI a13.1 a13.2 0).toNatClampNeg) (uA (AI15 420 ((FI a13.1 a13.2 0).toNatClampNeg)) x3.toNatClampNeg (-1 : Int32))) fun AI17 =>
    gd (vp_in (FI a13.1 a13.2 0) 66) <|
    gd (vp_in x3 8) <|
    oLet (sA AI17 421 ((FI a13.1 a13.2 0).toNatClampNeg) (uA (AI17 421 ((FI a13.1 a13.2 0).toNatClampNeg)) x3.toNatClampNeg (-1 : Int32))) fun AI19 =>
    some (.inl (x3 + (1 : Int32), AI19)))
theorem x_mX1_enter_b66 {G : OhG} {FI AI : OhI} {FL AL : OhL} {FR GR AR BR : OhQ} {AN : OhN} {C : OhC} {k : Nat × Nat} {Φ : OhP} {Ψ : OhX} (hH : ohShH FR AR AN) (n : Nat) (x1 : OhR) (x3 : Int32) {r : (Int32 × OhI) ⊕ (OhI)} (hm : mX1_enter_b66 n FI FR AI AR BR AN x1 x3 = some r) (hk : ∀ v : Int32 × OhI, r = .inl v → oX G 1 iX1_enter 66 [(0, vR (some (0, 0))), (1, vR x1), (3, vI v.1)] [] (FI, FL, FR, GR, v.2, AL, AR, BR, AN, C) k Φ Ψ) (hx1 : ∀ v : OhI, r = .inr v → oX G 1 iX1_enter 114 [] [] (FI, FL, FR, GR, v, AL, AR, BR, AN, C) k Φ Ψ) : oX G 1 iX1_enter 66 [(0, vR (some (0, 0))), (1, vR x1), (3, vI x3)] [] (FI, FL, FR, GR, AI, AL, AR, BR, AN, C) k Φ Ψ := by
  unfold mX1_enter_b66 at hm
  refine oX_iload_n dX1_enter_66 rfl rfl ?_
  refine oX_bipush (v := (8 : Int32)) dX1_enter_67 (by decide) ?_
  refine oX_icmp_ge (tgt := 114) dX1_enter_69 (by decide) (fun c12 => ?_) (fun c12 => ?_)
  · have hm := ifp c12 hm
    exact oX_sub [] rfl (hx1 AI (Option.some.inj hm).symm)
  · have hm := ifn c12 hm
    refine oX_aload_n dX1_enter_72 rfl rfl ?_
    refine oX_getF fX1_64 rfl oDs0 dX1_enter_73 (ohF319 hH) ?_
    refine oX_aload_n dX1_enter_76 rfl rfl ?_
    obtain ⟨a13, e13, hm⟩ := bd_s hm
    refine oX_getI fX1_233 rfl e13 dX1_enter_77 ?_
    obtain ⟨g14, hm⟩ := gd_s hm
    refine oX_aaldR oDs319 (oIn (ohN319 hH) g14) dX1_enter_80 (ohA319 hH (oLt g14)) ?_
    refine oX_iload_n dX1_enter_81 rfl rfl ?_
    refine oX_iconst (v := (-1 : Int32)) dX1_enter_82 (by decide) ?_
    obtain ⟨g15, hm⟩ := gd_s hm
    obtain ⟨AI15, hAI15, hm⟩ := oLs hm
    refine oX_iast oDs419 (oIn (ohM419 hH (oLt g14)) g15) dX1_enter_83 hAI15 ?_
    refine oX_aload_n dX1_enter_84 rfl rfl ?_
    refine oX_getF fX1_67 rfl oDs0 dX1_enter_85 (ohF320 hH) ?_
    refine oX_aload_n dX1_enter_88 rfl rfl ?_
    refine oX_getI fX1_233 rfl e13 dX1_enter_89 ?_
    obtain ⟨g16, hm⟩ := gd_s hm
    refine oX_aaldR oDs320 (oIn (ohN320 hH) g16) dX1_enter_92 (ohA320 hH (oLt g16)) ?_
    refine oX_iload_n dX1_enter_93 rfl rfl ?_
    refine oX_iconst (v := (-1 : Int32)) dX1_enter_94 (by decide) ?_
    obtain ⟨g17, hm⟩ := gd_s hm
    obtain ⟨AI17, hAI17, hm⟩ := oLs hm
    refine oX_iast oDs420 (oIn (ohM420 hH (oLt g16)) g17) dX1_enter_95 hAI17 ?_
    refine oX_aload_n dX1_enter_96 rfl rfl ?_
    refine oX_getF fX1_70 rfl oDs0 dX1_enter_97 (ohF321 hH) ?_
    refine oX_aload_n dX1_enter_100 rfl rfl ?_
    refine oX_getI fX1_233 rfl e13 dX1_enter_101 ?_
    obtain ⟨g18, hm⟩ := gd_s hm
    refine oX_aaldR oDs321 (oIn (ohN321 hH) g18) dX1_enter_104 (ohA321 hH (oLt g18)) ?_
    refine oX_iload_n dX1_enter_105 rfl rfl ?_
    refine oX_iconst (v := (-1 : Int32)) dX1_enter_106 (by decide) ?_
    obtain ⟨g19, hm⟩ := gd_s hm
    obtain ⟨AI19, hAI19, hm⟩ := oLs hm
    refine oX_iast oDs421 (oIn (ohM421 hH (oLt g18)) g19) dX1_enter_107 hAI19 ?_
    refine oX_iinc (v := x3 + (1 : Int32)) (ls' := [(3, vI (x3 + (1 : Int32))), (0, vR (some (0, 0))), (1, vR x1)]) dX1_enter_108 rfl rfl (by decide) rfl ?_
    refine oX_goto (tgt := 66) dX1_enter_111 (by decide) ?_
    exact oX_sub [1, 2, 0] rfl (hk (x3 + (1 : Int32), AI19) (Option.some.inj hm).symm)
theorem l_mX1_enter_b66 {G : OhG} {FI : OhI} {FL : OhL} {FR : OhQ} {GR : OhQ} {AL : OhL} {AR : OhQ} {BR : OhQ} {AN : OhN} {C : OhC} {k : Nat × Nat} {Φ : OhP} {Ψ : OhX} (hH : ohShH FR AR AN) (n : Nat) (x1 : OhR) : ∀ (f : Nat) (x3 : Int32) (AI : OhI) (b : (OhI)), lpF (fun v => mX1_enter_b66 n FI FR v.2 AR BR AN x1 v.1) f (x3, AI) = some b → (oX G 1 iX1_enter 114 [] [] (FI, FL, FR, GR, b, AL, AR, BR, AN, C) k Φ Ψ) → oX G 1 iX1_enter 66 [(0, vR (some (0, 0))), (1, vR x1), (3, vI x3)] [] (FI, FL, FR, GR, AI, AL, AR, BR, AN, C) k Φ Ψ := by
  intro f
  induction f with
  | zero =>
    intro x3 AI b hm
    cases hm
  | succ f ih =>
    intro x3 AI b hm hx1
    obtain ⟨r, hr, hm⟩ := lp_s hm
    refine x_mX1_enter_b66 hH n x1 x3 hr (fun v e => ?_) (fun v e => ?_)
    · subst e; exact ih v.1 v.2 _ hm hx1
    · subst e; cases (show v = b from hm); exact hx1
noncomputable def mX1_enter_j47 (n : Nat) (FI : OhI) (FR : OhQ) (AI : OhI) (AR : OhQ) (BR : OhQ) (AN : OhN) (x1 : OhR) (x2 : Int32) : Option (OhI × OhI × OhQ) :=
  gd (vp_in x2 66) <|
  gd (x1 = none ∨ ∃ b, oD 14 x1 = some b) <|
  oLet (sA BR 316 0 (uA (BR 316 0) x2.toNatClampNeg x1)) fun BR9 =>
  oLet (sA FI 0 0 (uA (FI 0 0) 17 ((FI 0 0 17) + (1 : Int32)))) fun FI11 =>
  (lpF (fun v => mX1_enter_b66 n FI11 FR v.2 AR BR9 AN x1 v.1) n ((0 : Int32), AI)).bind fun v20 =>
  some (FI11, v20, BR9)
theorem x_mX1_enter_j47 {G : OhG} {FI AI : OhI} {FL AL : OhL} {FR GR AR BR : OhQ} {AN : OhN} {C : OhC} {k : Nat × Nat} {Φ : OhP} {Ψ : OhX} (hH : ohShH FR AR AN) (n : Nat) (x1 : OhR) (x2 : Int32) {r : OhI × OhI × OhQ} (hm : mX1_enter_j47 n FI FR AI AR BR AN x1 x2 = some r) (hK : Φ none (r.1, FL, FR, GR, r.2.1, AL, AR, r.2.2, AN, C)) : oX G 1 iX1_enter 47 [(0, vR (some (0, 0))), (1, vR x1), (2, vI x2)] [] (FI, FL, FR, GR, AI, AL, AR, BR, AN, C) k Φ Ψ := by
  unfold mX1_enter_j47 at hm
  refine oX_aload_n dX1_enter_47 rfl rfl ?_
  refine oX_getF fX1_58 rfl oDs0 dX1_enter_48 (ohF316 hH) ?_
  refine oX_iload_n dX1_enter_51 rfl rfl ?_
  refine oX_aload_n dX1_enter_52 rfl rfl ?_
  obtain ⟨g9, hm⟩ := gd_s hm
  obtain ⟨g10, hm⟩ := gd_s hm
  obtain ⟨BR9, hBR9, hm⟩ := oLs hm
  refine oX_aast5 oDs316 (oIn (ohN316 hH) g9) g10 dX1_enter_53 hBR9 ?_
  refine oX_aload_n dX1_enter_54 rfl rfl ?_
  refine oX_dup dX1_enter_55 trivial ?_
  refine oX_getI fX1_227 rfl oDs0 dX1_enter_56 ?_
  refine oX_iconst (v := (1 : Int32)) dX1_enter_59 (by decide) ?_
  refine oX_iadd dX1_enter_60 ?_
  obtain ⟨FI11, hFI11, hm⟩ := oLs hm
  refine oX_putI fX1_227 rfl (fun h9 => by cases h9) oDs0 dX1_enter_61 ⟨rfl, rfl⟩ hFI11 ?_
  refine oX_iconst (v := (0 : Int32)) dX1_enter_64 (by decide) ?_
  refine oX_istore_n (ls' := [(3, vI (0 : Int32)), (0, vR (some (0, 0))), (1, vR x1), (2, vI x2)]) dX1_enter_65 rfl (by decide) rfl ?_
  obtain ⟨v20, g20, hm⟩ := bd_s hm
  refine oX_sub [1, 2, 0] rfl (l_mX1_enter_b66 hH n x1 n (0 : Int32) AI _ g20 ?_)
  obtain rfl := Option.some.inj hm
  exact oX_vret dX1_enter_114 rfl hK
noncomputable def mX1_enter (n : Nat) (FI : OhI) (FR : OhQ) (AI : OhI) (AR : OhQ) (BR : OhQ) (AN : OhN) (x1 : OhR) : Option (OhI × OhI × OhQ) :=
  (lpF (fun v => mX1_enter_b5 n FI FR AI AR v.2 AN x1 v.1) n (FI 0 0 17, BR)).bind fun v8 =>
  mX1_enter_j47 n FI FR AI AR v8.2 AN x1 v8.1
theorem x_mX1_enter {G : OhG} {FI AI : OhI} {FL AL : OhL} {FR GR AR BR : OhQ} {AN : OhN} {C : OhC} {k : Nat × Nat} {Φ : OhP} {Ψ : OhX} (hH : ohShH FR AR AN) (n : Nat) (x1 : OhR) {r : OhI × OhI × OhQ} (hm : mX1_enter n FI FR AI AR BR AN x1 = some r) (hK : Φ none (r.1, FL, FR, GR, r.2.1, AL, AR, r.2.2, AN, C)) : oX G 1 iX1_enter 0 [(0, vR (some (0, 0))), (1, vR x1)] [] (FI, FL, FR, GR, AI, AL, AR, BR, AN, C) k Φ Ψ := by
  unfold mX1_enter at hm
  refine oX_aload_n dX1_enter_0 rfl rfl ?_
  refine oX_getI fX1_227 rfl oDs0 dX1_enter_1 ?_
  refine oX_istore_n (ls' := [(2, vI (FI 0 0 17)), (0, vR (some (0, 0))), (1, vR x1)]) dX1_enter_4 rfl (by decide) rfl ?_
  obtain ⟨v8, g8, hm⟩ := bd_s hm
  refine oX_sub [1, 2, 0] rfl (l_mX1_enter_b5 hH n x1 n (FI 0 0 17) BR _ g8 ?_)
  exact oX_sub [0, 1, 2] rfl (x_mX1_enter_j47 hH n x1 v8.1 hm hK)
theorem t_X1_enter {G : OhG} {FI AI : OhI} {FL AL : OhL} {FR GR AR BR : OhQ} {AN : OhN} {C : OhC} (hH : ohShH FR AR AN) (n : Nat) (x1 : OhR) {o : OhI × OhI × OhQ} (hm : mX1_enter n FI FR AI AR BR AN x1 = some o) : oT G 1 iX1_enter [vR (some (0, 0)), vR x1] (FI, FL, FR, GR, AI, AL, AR, BR, AN, C) (0, 0) (fun v h => v = none ∧ h = (o.1, FL, FR, GR, o.2.1, AL, AR, o.2.2, AN, C)) ohNo :=
  oT_of (by decide) rfl (Nat.le_of_ble_eq_true rfl) (x_mX1_enter hH n x1 hm ⟨rfl, rfl⟩)
abbrev iX1_give : OhM := (yX1_give, cX1_give, 4, none, [])
theorem ok_X1_give : oOk iX1_give 3 := ⟨by decide, by decide, by decide +kernel⟩
noncomputable def mX1_give (FR : OhQ) (AI : OhI) (AR : OhQ) (BR : OhQ) (AN : OhN) (x1 : Int32) (x2 : Int32) (x3 : Int32) : Option (OhI) :=
  gd (vp_in x1 66) <|
  gd (vp_in x1 66) <|
  gd (vp_in x2 8) <|
  gd (vp_in x2 8) <|
  oLet (sA AI 420 x1.toNatClampNeg (uA (AI 420 x1.toNatClampNeg) x2.toNatClampNeg (AI 419 x1.toNatClampNeg x2.toNatClampNeg))) fun AI4 =>
  gd (vp_in x1 66) <|
  gd (vp_in x2 8) <|
  oLet (sA AI4 419 x1.toNatClampNeg (uA (AI4 419 x1.toNatClampNeg) x2.toNatClampNeg x3)) fun AI6 =>
  some AI6
theorem x_mX1_give {G : OhG} {FI AI : OhI} {FL AL : OhL} {FR GR AR BR : OhQ} {AN : OhN} {C : OhC} {k : Nat × Nat} {Φ : OhP} {Ψ : OhX} (hH : ohShH FR AR AN) (x1 : Int32) (x2 : Int32) (x3 : Int32) {r : OhI} (hm : mX1_give FR AI AR BR AN x1 x2 x3 = some r) (hK : Φ none (FI, FL, FR, GR, r, AL, AR, BR, AN, C)) : oX G 1 iX1_give 0 [(0, vR (some (0, 0))), (1, vI x1), (2, vI x2), (3, vI x3)] [] (FI, FL, FR, GR, AI, AL, AR, BR, AN, C) k Φ Ψ := by
  unfold mX1_give at hm
  refine oX_aload_n dX1_give_0 rfl rfl ?_
  refine oX_getF fX1_67 rfl oDs0 dX1_give_1 (ohF320 hH) ?_
  refine oX_iload_n dX1_give_4 rfl rfl ?_
  obtain ⟨g1, hm⟩ := gd_s hm
  refine oX_aaldR oDs320 (oIn (ohN320 hH) g1) dX1_give_5 (ohA320 hH (oLt g1)) ?_
  refine oX_iload_n dX1_give_6 rfl rfl ?_
  refine oX_aload_n dX1_give_7 rfl rfl ?_
  refine oX_getF fX1_64 rfl oDs0 dX1_give_8 (ohF319 hH) ?_
  refine oX_iload_n dX1_give_11 rfl rfl ?_
  obtain ⟨g2, hm⟩ := gd_s hm
  refine oX_aaldR oDs319 (oIn (ohN319 hH) g2) dX1_give_12 (ohA319 hH (oLt g2)) ?_
  refine oX_iload_n dX1_give_13 rfl rfl ?_
  obtain ⟨g3, hm⟩ := gd_s hm
  refine oX_iald oDs419 (oIn (ohM419 hH (oLt g2)) g3) dX1_give_14 ?_
  obtain ⟨g4, hm⟩ := gd_s hm
  obtain ⟨AI4, hAI4, hm⟩ := oLs hm
  refine oX_iast oDs420 (oIn (ohM420 hH (oLt g1)) g4) dX1_give_15 hAI4 ?_
  refine oX_aload_n dX1_give_16 rfl rfl ?_
  refine oX_getF fX1_64 rfl oDs0 dX1_give_17 (ohF319 hH) ?_
  refine oX_iload_n dX1_give_20 rfl rfl ?_
  obtain ⟨g5, hm⟩ := gd_s hm
  refine oX_aaldR oDs319 (oIn (ohN319 hH) g5) dX1_give_21 (ohA319 hH (oLt g5)) ?_
  refine oX_iload_n dX1_give_22 rfl rfl ?_
  refine oX_iload_n dX1_give_23 rfl rfl ?_
  obtain ⟨g6, hm⟩ := gd_s hm
  obtain ⟨AI6, hAI6, hm⟩ := oLs hm
  refine oX_iast oDs419 (oIn (ohM419 hH (oLt g5)) g6) dX1_give_24 hAI6 ?_
  obtain rfl := Option.some.inj hm
  exact oX_vret dX1_give_25 rfl hK
theorem t_X1_give {G : OhG} {FI AI : OhI} {FL AL : OhL} {FR GR AR BR : OhQ} {AN : OhN} {C : OhC} (hH : ohShH FR AR AN) (x1 : Int32) (x2 : Int32) (x3 : Int32) {o : OhI} (hm : mX1_give FR AI AR BR AN x1 x2 x3 = some o) : oT G 1 iX1_give [vR (some (0, 0)), vI x1, vI x2, vI x3] (FI, FL, FR, GR, AI, AL, AR, BR, AN, C) (0, 0) (fun v h => v = none ∧ h = (FI, FL, FR, GR, o, AL, AR, BR, AN, C)) ohNo :=
  oT_of (by decide) rfl (Nat.le_of_ble_eq_true rfl) (x_mX1_give hH x1 x2 x3 hm ⟨rfl, rfl⟩)
abbrev iX1_layOut : OhM := (yX1_layOut, cX1_layOut, 4, none, [])
theorem ok_X1_layOut : oOk iX1_layOut 1 := ⟨by decide, by decide, by decide +kernel⟩
noncomputable def mX1_layOut_b12 (n : Nat) (FI : OhI) (FR : OhQ) (GR : OhQ) (AI : OhI) (AR : OhQ) (BR : OhQ) (AN : OhN) (x1 : Int32) (x2 : Int32) : Option ((Int32 × OhI × OhI × OhQ) ⊕ (OhI × OhI × OhQ)) :=
  (mJ2_size FI (311, 0)).bind fun r3 =>
  (if r3 ≤ x2 then
  some (.inr (FI, AI, BR))
else
  (mJ2_get FI GR AR BR AN (311, 0) x2).bind fun r5 =>
    (oD 14 r5).bind fun a6 =>
    (mX1_enter n FI FR AI AR BR AN (some a6)).bind fun r7 =>
    some (.inl (x2 + (1 : Int32), r7.1, r7.2.1, r7.2.2)))
theorem x_mX1_layOut_b12 {G : OhG} {FI AI : OhI} {FL AL : OhL} {FR GR AR BR : OhQ} {AN : OhN} {C : OhC} {k : Nat × Nat} {Φ : OhP} {Ψ : OhX} (hH : ohShH FR AR AN) (n : Nat) (x1 : Int32) (x2 : Int32) {r : (Int32 × OhI × OhI × OhQ) ⊕ (OhI × OhI × OhQ)} (hm : mX1_layOut_b12 n FI FR GR AI AR BR AN x1 x2 = some r) (hk : ∀ v : Int32 × OhI × OhI × OhQ, r = .inl v → oX G 4 iX1_layOut 12 [(0, vR (some (0, 0))), (1, vI x1), (2, vI v.1)] [] (v.2.1, FL, FR, GR, v.2.2.1, AL, AR, v.2.2.2, AN, C) k Φ Ψ) (hx1 : ∀ v : OhI × OhI × OhQ, r = .inr v → oX G 4 iX1_layOut 44 [(0, vR (some (0, 0))), (1, vI x1)] [] (v.1, FL, FR, GR, v.2.1, AL, AR, v.2.2, AN, C) k Φ Ψ) : oX G 4 iX1_layOut 12 [(0, vR (some (0, 0))), (1, vI x1), (2, vI x2)] [] (FI, FL, FR, GR, AI, AL, AR, BR, AN, C) k Φ Ψ := by
  unfold mX1_layOut_b12 at hm
  refine oX_iload_n dX1_layOut_12 rfl rfl ?_
  refine oX_aload_n dX1_layOut_13 rfl rfl ?_
  refine oX_getF fX1_37 rfl oDs0 dX1_layOut_14 (ohF311 hH) ?_
  obtain ⟨r3, g3, hm⟩ := bd_s hm
  refine oX_cV (as := []) dX1_layOut_17 rfl oDs311 rfl (by decide) rfl ok_J2_size rfl rfl q430 q431 q432 q132 q433 (by decide) (Nat.le_of_ble_eq_true rfl) (t_J2_size (311, 0) rfl g3) ?_
  refine oX_icmp_ge (tgt := 44) dX1_layOut_20 (by decide) (fun c4 => ?_) (fun c4 => ?_)
  · have hm := ifp c4 hm
    exact oX_sub [0, 1] rfl (hx1 (FI, AI, BR) (Option.some.inj hm).symm)
  · have hm := ifn c4 hm
    refine oX_aload_n dX1_layOut_23 rfl rfl ?_
    refine oX_aload_n dX1_layOut_24 rfl rfl ?_
    refine oX_getF fX1_37 rfl oDs0 dX1_layOut_25 (ohF311 hH) ?_
    refine oX_iload_n dX1_layOut_28 rfl rfl ?_
    obtain ⟨r5, g5, hm⟩ := bd_s hm
    refine oX_cV (as := [vI x2]) dX1_layOut_29 rfl oDs311 rfl (by decide) rfl ok_J2_get rfl rfl q648 q649 q650 q132 q651 (by decide) (Nat.le_of_ble_eq_true rfl) (t_J2_get (311, 0) rfl x2 g5) ?_
    obtain ⟨a6, e6, hm⟩ := bd_s hm
    refine oX_cast e6 rfl (by decide) q254 dX1_layOut_32 ?_
    obtain ⟨r7, g7, hm⟩ := bd_s hm
    refine oX_cV_ (as := [vR (some a6)]) dX1_layOut_35 rfl oDs0 rfl (by decide) rfl ok_X1_enter rfl rfl q1422 q1424 qs26 q129 q1425 (by decide) (Nat.le_of_ble_eq_true rfl) (t_X1_enter hH n (some a6) g7) ?_
    refine oX_iinc (v := x2 + (1 : Int32)) (ls' := [(2, vI (x2 + (1 : Int32))), (0, vR (some (0, 0))), (1, vI x1)]) dX1_layOut_38 rfl rfl (by decide) rfl ?_
    refine oX_goto (tgt := 12) dX1_layOut_41 (by decide) ?_
    exact oX_sub [1, 2, 0] rfl (hk (x2 + (1 : Int32), r7.1, r7.2.1, r7.2.2) (Option.some.inj hm).symm)
theorem l_mX1_layOut_b12 {G : OhG} {FL : OhL} {FR : OhQ} {GR : OhQ} {AL : OhL} {AR : OhQ} {AN : OhN} {C : OhC} {k : Nat × Nat} {Φ : OhP} {Ψ : OhX} (hH : ohShH FR AR AN) (n : Nat) (x1 : Int32) : ∀ (f : Nat) (x2 : Int32) (FI : OhI) (AI : OhI) (BR : OhQ) (b : (OhI × OhI × OhQ)), lpF (fun v => mX1_layOut_b12 n v.2.1 FR GR v.2.2.1 AR v.2.2.2 AN x1 v.1) f (x2, FI, AI, BR) = some b → (oX G 4 iX1_layOut 44 [(0, vR (some (0, 0))), (1, vI x1)] [] (b.1, FL, FR, GR, b.2.1, AL, AR, b.2.2, AN, C) k Φ Ψ) → oX G 4 iX1_layOut 12 [(0, vR (some (0, 0))), (1, vI x1), (2, vI x2)] [] (FI, FL, FR, GR, AI, AL, AR, BR, AN, C) k Φ Ψ := by
  intro f
  induction f with
  | zero =>
    intro x2 FI AI BR b hm
    cases hm
  | succ f ih =>
    intro x2 FI AI BR b hm hx1
    obtain ⟨r, hr, hm⟩ := lp_s hm
    refine x_mX1_layOut_b12 hH n x1 x2 hr (fun v e => ?_) (fun v e => ?_)
    · subst e; exact ih v.1 v.2.1 v.2.2.1 v.2.2.2 _ hm hx1
    · subst e; cases (show v = b from hm); exact hx1
noncomputable def mX1_layOut_b46 (n : Nat) (FI : OhI) (FR : OhQ) (GR : OhQ) (AI : OhI) (AR : OhQ) (BR : OhQ) (AN : OhN) (x1 : Int32) (x2 : Int32) : Option ((Int32 × OhI) ⊕ (OhI)) :=
  (mJ2_size FI (312, 0)).bind fun r9 =>
  (if r9 ≤ x2 then
  some (.inr AI)
else
  (mJ2_get FI GR AR BR AN (312, 0) x2).bind fun r11 =>
    (oD 15 r11).bind fun a12 =>
    (if (FI a12.1 a12.2 3) ≤ x1 then
    (if (FI a12.1 a12.2 4) = 0 then
      (mX1_give FR AI AR BR AN (FI a12.1 a12.2 0) (FI a12.1 a12.2 1) (FI a12.1 a12.2 2)).bind fun r15 =>
        some (.inl (x2 + (1 : Int32), r15))
    else
      gd (vp_in (FI a12.1 a12.2 0) 66) <|
        gd (vp_in (FI a12.1 a12.2 1) 8) <|
        oLet (sA AI 421 ((FI a12.1 a12.2 0).toNatClampNeg) (uA (AI 421 ((FI a12.1 a12.2 0).toNatClampNeg)) (FI a12.1 a12.2 1).toNatClampNeg (FI a12.1 a12.2 2))) fun AI17 =>
        some (.inl (x2 + (1 : Int32), AI17)))
  else
    some (.inl (x2 + (1 : Int32), AI))))
theorem x_mX1_layOut_b46 {G : OhG} {FI AI : OhI} {FL AL : OhL} {FR GR AR BR : OhQ} {AN : OhN} {C : OhC} {k : Nat × Nat} {Φ : OhP} {Ψ : OhX} (hH : ohShH FR AR AN) (n : Nat) (x1 : Int32) (x2 : Int32) {r : (Int32 × OhI) ⊕ (OhI)} (hm : mX1_layOut_b46 n FI FR GR AI AR BR AN x1 x2 = some r) (hk : ∀ v : Int32 × OhI, r = .inl v → oX G 4 iX1_layOut 46 [(0, vR (some (0, 0))), (1, vI x1), (2, vI v.1)] [] (FI, FL, FR, GR, v.2, AL, AR, BR, AN, C) k Φ Ψ) (hx1 : ∀ v : OhI, r = .inr v → oX G 4 iX1_layOut 130 [] [] (FI, FL, FR, GR, v, AL, AR, BR, AN, C) k Φ Ψ) : oX G 4 iX1_layOut 46 [(0, vR (some (0, 0))), (1, vI x1), (2, vI x2)] [] (FI, FL, FR, GR, AI, AL, AR, BR, AN, C) k Φ Ψ := by
  unfold mX1_layOut_b46 at hm
  refine oX_iload_n dX1_layOut_46 rfl rfl ?_
  refine oX_aload_n dX1_layOut_47 rfl rfl ?_
  refine oX_getF fX1_40 rfl oDs0 dX1_layOut_48 (ohF312 hH) ?_
  obtain ⟨r9, g9, hm⟩ := bd_s hm
  refine oX_cV (as := []) dX1_layOut_51 rfl oDs312 rfl (by decide) rfl ok_J2_size rfl rfl q430 q431 q432 q132 q433 (by decide) (Nat.le_of_ble_eq_true rfl) (t_J2_size (312, 0) rfl g9) ?_
  refine oX_icmp_ge (tgt := 130) dX1_layOut_54 (by decide) (fun c10 => ?_) (fun c10 => ?_)
  · have hm := ifp c10 hm
    exact oX_sub [] rfl (hx1 AI (Option.some.inj hm).symm)
  · have hm := ifn c10 hm
    refine oX_aload_n dX1_layOut_57 rfl rfl ?_
    refine oX_getF fX1_40 rfl oDs0 dX1_layOut_58 (ohF312 hH) ?_
    refine oX_iload_n dX1_layOut_61 rfl rfl ?_
    obtain ⟨r11, g11, hm⟩ := bd_s hm
    refine oX_cV (as := [vI x2]) dX1_layOut_62 rfl oDs312 rfl (by decide) rfl ok_J2_get rfl rfl q648 q649 q650 q132 q651 (by decide) (Nat.le_of_ble_eq_true rfl) (t_J2_get (312, 0) rfl x2 g11) ?_
    obtain ⟨a12, e12, hm⟩ := bd_s hm
    refine oX_cast e12 rfl (by decide) q1357 dX1_layOut_65 ?_
    refine oX_astore_n (ls' := [(3, vR (some a12)), (0, vR (some (0, 0))), (1, vI x1), (2, vI x2)]) dX1_layOut_68 rfl (by decide) rfl ?_
    refine oX_aload_n dX1_layOut_69 rfl rfl ?_
    refine oX_getI fX1_241 rfl (oD_self e12) dX1_layOut_70 ?_
    refine oX_iload_n dX1_layOut_73 rfl rfl ?_
    refine oX_icmp_le (tgt := 80) dX1_layOut_74 (by decide) (fun c13 => ?_) (fun c13 => ?_)
    · have hm := ifp c13 hm
      refine oX_aload_n dX1_layOut_80 rfl rfl ?_
      refine oX_getI fX1_242 rfl (oD_self e12) dX1_layOut_81 ?_
      refine oX_if_eq (tgt := 108) dX1_layOut_84 (by decide) (fun c14 => ?_) (fun c14 => ?_)
      · have hm := ifp c14 hm
        refine oX_aload_n dX1_layOut_108 rfl rfl ?_
        refine oX_aload_n dX1_layOut_109 rfl rfl ?_
        refine oX_getI fX1_245 rfl (oD_self e12) dX1_layOut_110 ?_
        refine oX_aload_n dX1_layOut_113 rfl rfl ?_
        refine oX_getI fX1_248 rfl (oD_self e12) dX1_layOut_114 ?_
        refine oX_aload_n dX1_layOut_117 rfl rfl ?_
        refine oX_getI fX1_251 rfl (oD_self e12) dX1_layOut_118 ?_
        obtain ⟨r15, g15, hm⟩ := bd_s hm
        refine oX_cV_ (as := [vI (FI a12.1 a12.2 0), vI (FI a12.1 a12.2 1), vI (FI a12.1 a12.2 2)]) dX1_layOut_121 rfl oDs0 rfl (by decide) rfl ok_X1_give rfl rfl q1426 q1428 qs27 q129 q1429 (by decide) (Nat.le_of_ble_eq_true rfl) (t_X1_give hH (FI a12.1 a12.2 0) (FI a12.1 a12.2 1) (FI a12.1 a12.2 2) g15) ?_
        refine oX_iinc (v := x2 + (1 : Int32)) (ls' := [(2, vI (x2 + (1 : Int32))), (3, vR (some a12)), (0, vR (some (0, 0))), (1, vI x1)]) dX1_layOut_124 rfl rfl (by decide) rfl ?_
        refine oX_goto (tgt := 46) dX1_layOut_127 (by decide) ?_
        exact oX_sub [2, 3, 0] rfl (hk (x2 + (1 : Int32), r15) (Option.some.inj hm).symm)
      · have hm := ifn c14 hm
        refine oX_aload_n dX1_layOut_87 rfl rfl ?_
        refine oX_getF fX1_70 rfl oDs0 dX1_layOut_88 (ohF321 hH) ?_
        refine oX_aload_n dX1_layOut_91 rfl rfl ?_
        refine oX_getI fX1_245 rfl (oD_self e12) dX1_layOut_92 ?_
        obtain ⟨g16, hm⟩ := gd_s hm
        refine oX_aaldR oDs321 (oIn (ohN321 hH) g16) dX1_layOut_95 (ohA321 hH (oLt g16)) ?_
        refine oX_aload_n dX1_layOut_96 rfl rfl ?_
        refine oX_getI fX1_248 rfl (oD_self e12) dX1_layOut_97 ?_
        refine oX_aload_n dX1_layOut_100 rfl rfl ?_
        refine oX_getI fX1_251 rfl (oD_self e12) dX1_layOut_101 ?_
        obtain ⟨g17, hm⟩ := gd_s hm
        obtain ⟨AI17, hAI17, hm⟩ := oLs hm
        refine oX_iast oDs421 (oIn (ohM421 hH (oLt g16)) g17) dX1_layOut_104 hAI17 ?_
        refine oX_goto (tgt := 124) dX1_layOut_105 (by decide) ?_
        refine oX_iinc (v := x2 + (1 : Int32)) (ls' := [(2, vI (x2 + (1 : Int32))), (3, vR (some a12)), (0, vR (some (0, 0))), (1, vI x1)]) dX1_layOut_124 rfl rfl (by decide) rfl ?_
        refine oX_goto (tgt := 46) dX1_layOut_127 (by decide) ?_
        exact oX_sub [2, 3, 0] rfl (hk (x2 + (1 : Int32), AI17) (Option.some.inj hm).symm)
    · have hm := ifn c13 hm
      refine oX_goto (tgt := 124) dX1_layOut_77 (by decide) ?_
      refine oX_iinc (v := x2 + (1 : Int32)) (ls' := [(2, vI (x2 + (1 : Int32))), (3, vR (some a12)), (0, vR (some (0, 0))), (1, vI x1)]) dX1_layOut_124 rfl rfl (by decide) rfl ?_
      refine oX_goto (tgt := 46) dX1_layOut_127 (by decide) ?_
      exact oX_sub [2, 3, 0] rfl (hk (x2 + (1 : Int32), AI) (Option.some.inj hm).symm)
theorem l_mX1_layOut_b46 {G : OhG} {FI : OhI} {FL : OhL} {FR : OhQ} {GR : OhQ} {AL : OhL} {AR : OhQ} {BR : OhQ} {AN : OhN} {C : OhC} {k : Nat × Nat} {Φ : OhP} {Ψ : OhX} (hH : ohShH FR AR AN) (n : Nat) (x1 : Int32) : ∀ (f : Nat) (x2 : Int32) (AI : OhI) (b : (OhI)), lpF (fun v => mX1_layOut_b46 n FI FR GR v.2 AR BR AN x1 v.1) f (x2, AI) = some b → (oX G 4 iX1_layOut 130 [] [] (FI, FL, FR, GR, b, AL, AR, BR, AN, C) k Φ Ψ) → oX G 4 iX1_layOut 46 [(0, vR (some (0, 0))), (1, vI x1), (2, vI x2)] [] (FI, FL, FR, GR, AI, AL, AR, BR, AN, C) k Φ Ψ := by
  intro f
  induction f with
  | zero =>
    intro x2 AI b hm
    cases hm
  | succ f ih =>
    intro x2 AI b hm hx1
    obtain ⟨r, hr, hm⟩ := lp_s hm
    refine x_mX1_layOut_b46 hH n x1 x2 hr (fun v e => ?_) (fun v e => ?_)
    · subst e; exact ih v.1 v.2 _ hm hx1
    · subst e; cases (show v = b from hm); exact hx1
noncomputable def mX1_layOut (n : Nat) (FI : OhI) (FR : OhQ) (GR : OhQ) (AI : OhI) (AR : OhQ) (BR : OhQ) (AN : OhN) (x1 : Int32) : Option (OhI × OhI × OhQ) :=
  oLet (sA FI 0 0 (uA (FI 0 0) 17 (0 : Int32))) fun FI1 =>
  oLet (sA FI1 0 0 (uA (FI1 0 0) 18 x1)) fun FI2 =>
  (lpF (fun v => mX1_layOut_b12 n v.2.1 FR GR v.2.2.1 AR v.2.2.2 AN x1 v.1) n ((0 : Int32), FI2, AI, BR)).bind fun v8 =>
  (lpF (fun v => mX1_layOut_b46 n v8.1 FR GR v.2 AR v8.2.2 AN x1 v.1) n ((0 : Int32), v8.2.1)).bind fun v18 =>
  some (v8.1, v18, v8.2.2)
theorem x_mX1_layOut {G : OhG} {FI AI : OhI} {FL AL : OhL} {FR GR AR BR : OhQ} {AN : OhN} {C : OhC} {k : Nat × Nat} {Φ : OhP} {Ψ : OhX} (hH : ohShH FR AR AN) (n : Nat) (x1 : Int32) {r : OhI × OhI × OhQ} (hm : mX1_layOut n FI FR GR AI AR BR AN x1 = some r) (hK : Φ none (r.1, FL, FR, GR, r.2.1, AL, AR, r.2.2, AN, C)) : oX G 4 iX1_layOut 0 [(0, vR (some (0, 0))), (1, vI x1)] [] (FI, FL, FR, GR, AI, AL, AR, BR, AN, C) k Φ Ψ := by
  unfold mX1_layOut at hm
  refine oX_aload_n dX1_layOut_0 rfl rfl ?_
  refine oX_iconst (v := (0 : Int32)) dX1_layOut_1 (by decide) ?_
  obtain ⟨FI1, hFI1, hm⟩ := oLs hm
  refine oX_putI fX1_227 rfl (fun h9 => by cases h9) oDs0 dX1_layOut_2 ⟨rfl, rfl⟩ hFI1 ?_
  refine oX_aload_n dX1_layOut_5 rfl rfl ?_
  refine oX_iload_n dX1_layOut_6 rfl rfl ?_
  obtain ⟨FI2, hFI2, hm⟩ := oLs hm
  refine oX_putI fX1_234 rfl (fun h9 => by cases h9) oDs0 dX1_layOut_7 ⟨rfl, rfl⟩ hFI2 ?_
  refine oX_iconst (v := (0 : Int32)) dX1_layOut_10 (by decide) ?_
  refine oX_istore_n (ls' := [(2, vI (0 : Int32)), (0, vR (some (0, 0))), (1, vI x1)]) dX1_layOut_11 rfl (by decide) rfl ?_
  obtain ⟨v8, g8, hm⟩ := bd_s hm
  refine oX_sub [1, 2, 0] rfl (l_mX1_layOut_b12 hH n x1 n (0 : Int32) FI2 AI BR _ g8 ?_)
  refine oX_iconst (v := (0 : Int32)) dX1_layOut_44 (by decide) ?_
  refine oX_istore_n (ls' := [(2, vI (0 : Int32)), (0, vR (some (0, 0))), (1, vI x1)]) dX1_layOut_45 rfl (by decide) rfl ?_
  obtain ⟨v18, g18, hm⟩ := bd_s hm
  refine oX_sub [1, 2, 0] rfl (l_mX1_layOut_b46 hH n x1 n (0 : Int32) v8.2.1 _ g18 ?_)
  obtain rfl := Option.some.inj hm
  exact oX_vret dX1_layOut_130 rfl hK
theorem t_X1_layOut {G : OhG} {FI AI : OhI} {FL AL : OhL} {FR GR AR BR : OhQ} {AN : OhN} {C : OhC} (hH : ohShH FR AR AN) (n : Nat) (x1 : Int32) {o : OhI × OhI × OhQ} (hm : mX1_layOut n FI FR GR AI AR BR AN x1 = some o) : oT G 4 iX1_layOut [vR (some (0, 0)), vI x1] (FI, FL, FR, GR, AI, AL, AR, BR, AN, C) (0, 0) (fun v h => v = none ∧ h = (o.1, FL, FR, GR, o.2.1, AL, AR, o.2.2, AN, C)) ohNo :=
  oT_of (by decide) rfl (Nat.le_of_ble_eq_true rfl) (x_mX1_layOut hH n x1 hm ⟨rfl, rfl⟩)
abbrev iX1_who : OhM := (yX1_who, cX1_who, 6, (some .int), [])
theorem ok_X1_who : oOk iX1_who 4 := ⟨by decide, by decide, by decide +kernel⟩
noncomputable def mX1_who (n : Nat) (FI : OhI) (FR : OhQ) (GR : OhQ) (AI : OhI) (AR : OhQ) (BR : OhQ) (AN : OhN) (x1 : Int32) (x2 : Int32) (x3 : Int32) (x4 : Int32) : Option (Int32 × OhI × OhI × OhQ) :=
  (mX1_callOf FI FR GR AR BR AN x1).bind fun r1 =>
  (if r1 = none then
  some ((-1 : Int32), FI, AI, BR)
else
  (oD 14 r1).bind fun a3 =>
    (mX15_roles FI FR a3).bind fun r4 =>
    (mX1_isIn x2 (0 : Int32) (r4 - (1 : Int32))).bind fun r5 =>
    (if r5 = 0 then
    some ((-1 : Int32), FI, AI, BR)
  else
    (mX1_layOut n FI FR GR AI AR BR AN x4).bind fun r7 =>
      (if x3 = 0 then
      gd (vp_in x1 66) <|
        gd (vp_in x2 8) <|
        some (r7.2.1 419 x1.toNatClampNeg x2.toNatClampNeg, r7.1, r7.2.1, r7.2.2)
    else
      gd (vp_in x1 66) <|
        gd (vp_in x2 8) <|
        some (r7.2.1 421 x1.toNatClampNeg x2.toNatClampNeg, r7.1, r7.2.1, r7.2.2))))
theorem x_mX1_who {G : OhG} {FI AI : OhI} {FL AL : OhL} {FR GR AR BR : OhQ} {AN : OhN} {C : OhC} {k : Nat × Nat} {Φ : OhP} {Ψ : OhX} (hH : ohShH FR AR AN) (n : Nat) (x1 : Int32) (x2 : Int32) (x3 : Int32) (x4 : Int32) {r : Int32 × OhI × OhI × OhQ} (hm : mX1_who n FI FR GR AI AR BR AN x1 x2 x3 x4 = some r) (hK : Φ (some (vI r.1)) (r.2.1, FL, FR, GR, r.2.2.1, AL, AR, r.2.2.2, AN, C)) : oX G 5 iX1_who 0 [(0, vR (some (0, 0))), (1, vI x1), (2, vI x2), (3, vI x3), (4, vI x4)] [] (FI, FL, FR, GR, AI, AL, AR, BR, AN, C) k Φ Ψ := by
  unfold mX1_who at hm
  refine oX_aload_n dX1_who_0 rfl rfl ?_
  refine oX_iload_n dX1_who_1 rfl rfl ?_
  obtain ⟨r1, g1, hm⟩ := bd_s hm
  refine oX_cV (as := [vI x1]) dX1_who_2 rfl oDs0 rfl (by decide) rfl ok_X1_callOf rfl rfl q1348 q1350 qs24 q129 q1351 (by decide) (Nat.le_of_ble_eq_true rfl) (t_X1_callOf hH x1 g1) ?_
  refine oX_astore (ls' := [(5, vR r1), (0, vR (some (0, 0))), (1, vI x1), (2, vI x2), (3, vI x3), (4, vI x4)]) dX1_who_5 (by decide) rfl ?_
  refine oX_aload dX1_who_7 rfl ?_
  refine oX_ifnull (tgt := 27) dX1_who_9 (by decide) (fun c2 => ?_) (fun c2 => ?_)
  · have hm := ifp c2 hm
    refine oX_iconst (v := (-1 : Int32)) dX1_who_27 (by decide) ?_
    obtain rfl := Option.some.inj hm
    exact oX_iret dX1_who_28 rfl rfl hK
  · have hm := ifn c2 hm
    refine oX_iload_n dX1_who_12 rfl rfl ?_
    refine oX_iconst (v := (0 : Int32)) dX1_who_13 (by decide) ?_
    refine oX_aload dX1_who_14 rfl ?_
    obtain ⟨a3, e3, hm⟩ := bd_s hm
    obtain ⟨r4, g4, hm⟩ := bd_s hm
    refine oX_cV (as := []) dX1_who_16 rfl e3 rfl (by decide) rfl ok_X15_roles rfl rfl q1352 q1353 q1354 q165 q1355 (by decide) (Nat.le_of_ble_eq_true rfl) (t_X15_roles a3 ((oD_some e3).2) g4) ?_
    refine oX_iconst (v := (1 : Int32)) dX1_who_19 (by decide) ?_
    refine oX_isub dX1_who_20 ?_
    obtain ⟨r5, g5, hm⟩ := bd_s hm
    refine oX_cS (as := [vI x2, vI (0 : Int32), vI (r4 - (1 : Int32))]) dX1_who_21 rfl ok_X1_isIn rfl rfl q421 q238 q129 q239 (by decide) (Nat.le_of_ble_eq_true rfl) (t_X1_isIn x2 (0 : Int32) (r4 - (1 : Int32)) g5) ?_
    refine oX_if_ne (tgt := 29) dX1_who_24 (by decide) (fun c6 => ?_) (fun c6 => ?_)
    · have hm := ifp c6 hm
      refine oX_iconst (v := (-1 : Int32)) dX1_who_27 (by decide) ?_
      obtain rfl := Option.some.inj hm
      exact oX_iret dX1_who_28 rfl rfl hK
    · have hm := ifn c6 hm
      refine oX_aload_n dX1_who_29 rfl rfl ?_
      refine oX_iload dX1_who_30 rfl ?_
      obtain ⟨r7, g7, hm⟩ := bd_s hm
      refine oX_cV_ (as := [vI x4]) dX1_who_32 rfl oDs0 rfl (by decide) rfl ok_X1_layOut rfl rfl q1418 q1420 qs25 q129 q1421 (by decide) (Nat.le_of_ble_eq_true rfl) (t_X1_layOut hH n x4 g7) ?_
      refine oX_iload_n dX1_who_35 rfl rfl ?_
      refine oX_if_eq (tgt := 50) dX1_who_36 (by decide) (fun c8 => ?_) (fun c8 => ?_)
      · have hm := ifp c8 hm
        refine oX_aload_n dX1_who_50 rfl rfl ?_
        refine oX_getF fX1_64 rfl oDs0 dX1_who_51 (ohF319 hH) ?_
        refine oX_iload_n dX1_who_54 rfl rfl ?_
        obtain ⟨g9, hm⟩ := gd_s hm
        refine oX_aaldR oDs319 (oIn (ohN319 hH) g9) dX1_who_55 (ohA319 hH (oLt g9)) ?_
        refine oX_iload_n dX1_who_56 rfl rfl ?_
        obtain ⟨g10, hm⟩ := gd_s hm
        refine oX_iald oDs419 (oIn (ohM419 hH (oLt g9)) g10) dX1_who_57 ?_
        obtain rfl := Option.some.inj hm
        exact oX_iret dX1_who_58 rfl rfl hK
      · have hm := ifn c8 hm
        refine oX_aload_n dX1_who_39 rfl rfl ?_
        refine oX_getF fX1_70 rfl oDs0 dX1_who_40 (ohF321 hH) ?_
        refine oX_iload_n dX1_who_43 rfl rfl ?_
        obtain ⟨g11, hm⟩ := gd_s hm
        refine oX_aaldR oDs321 (oIn (ohN321 hH) g11) dX1_who_44 (ohA321 hH (oLt g11)) ?_
        refine oX_iload_n dX1_who_45 rfl rfl ?_
        obtain ⟨g12, hm⟩ := gd_s hm
        refine oX_iald oDs421 (oIn (ohM421 hH (oLt g11)) g12) dX1_who_46 ?_
        refine oX_goto (tgt := 58) dX1_who_47 (by decide) ?_
        obtain rfl := Option.some.inj hm
        exact oX_iret dX1_who_58 rfl rfl hK
theorem t_X1_who {G : OhG} {FI AI : OhI} {FL AL : OhL} {FR GR AR BR : OhQ} {AN : OhN} {C : OhC} (hH : ohShH FR AR AN) (n : Nat) (x1 : Int32) (x2 : Int32) (x3 : Int32) (x4 : Int32) {o : Int32 × OhI × OhI × OhQ} (hm : mX1_who n FI FR GR AI AR BR AN x1 x2 x3 x4 = some o) : oT G 5 iX1_who [vR (some (0, 0)), vI x1, vI x2, vI x3, vI x4] (FI, FL, FR, GR, AI, AL, AR, BR, AN, C) (0, 0) (fun v h => v = (some (vI o.1)) ∧ h = (o.2.1, FL, FR, GR, o.2.2.1, AL, AR, o.2.2.2, AN, C)) ohNo :=
  oT_of (by decide) rfl (Nat.le_of_ble_eq_true rfl) (x_mX1_who hH n x1 x2 x3 x4 hm ⟨rfl, rfl⟩)
abbrev iX1_blame : OhM := (yX1_blame, cX1_blame, 5, none, [])
theorem ok_X1_blame : oOk iX1_blame 4 := ⟨by decide, by decide, by decide +kernel⟩
noncomputable def mX1_blame (FI : OhI) (FR : OhQ) (AI : OhI) (AR : OhQ) (BR : OhQ) (AN : OhN) (x1 : OhR) (x2 : Int32) (x3 : Int32) (x4 : Int32) : Option (OhI) :=
  (if x4 = 0 then
  some AI
else
  (oD 14 x1).bind fun a2 =>
    gd (vp_in (FI a2.1 a2.2 0) 66) <|
    gd (vp_in x2 9) <|
    gd (vp_in x2 9) <|
    oLet (sA AI 422 ((FI a2.1 a2.2 0).toNatClampNeg) (uA (AI 422 ((FI a2.1 a2.2 0).toNatClampNeg)) x2.toNatClampNeg ((AI 422 ((FI a2.1 a2.2 0).toNatClampNeg) x2.toNatClampNeg) ||| ((1 : Int32) <<< (x3 &&& 31))))) fun AI5 =>
    some AI5)
theorem x_mX1_blame {G : OhG} {FI AI : OhI} {FL AL : OhL} {FR GR AR BR : OhQ} {AN : OhN} {C : OhC} {k : Nat × Nat} {Φ : OhP} {Ψ : OhX} (hH : ohShH FR AR AN) (x1 : OhR) (x2 : Int32) (x3 : Int32) (x4 : Int32) {r : OhI} (hm : mX1_blame FI FR AI AR BR AN x1 x2 x3 x4 = some r) (hK : Φ none (FI, FL, FR, GR, r, AL, AR, BR, AN, C)) : oX G 1 iX1_blame 0 [(0, vR (some (0, 0))), (1, vR x1), (2, vI x2), (3, vI x3), (4, vI x4)] [] (FI, FL, FR, GR, AI, AL, AR, BR, AN, C) k Φ Ψ := by
  unfold mX1_blame at hm
  refine oX_iload dX1_blame_0 rfl ?_
  refine oX_if_eq (tgt := 22) dX1_blame_2 (by decide) (fun c1 => ?_) (fun c1 => ?_)
  · have hm := ifp c1 hm
    obtain rfl := Option.some.inj hm
    exact oX_vret dX1_blame_22 rfl hK
  · have hm := ifn c1 hm
    refine oX_aload_n dX1_blame_5 rfl rfl ?_
    refine oX_getF fX1_73 rfl oDs0 dX1_blame_6 (ohF322 hH) ?_
    refine oX_aload_n dX1_blame_9 rfl rfl ?_
    obtain ⟨a2, e2, hm⟩ := bd_s hm
    refine oX_getI fX1_233 rfl e2 dX1_blame_10 ?_
    obtain ⟨g3, hm⟩ := gd_s hm
    refine oX_aaldR oDs322 (oIn (ohN322 hH) g3) dX1_blame_13 (ohA322 hH (oLt g3)) ?_
    refine oX_iload_n dX1_blame_14 rfl rfl ?_
    refine oX_dup2 dX1_blame_15 trivial trivial ?_
    obtain ⟨g4, hm⟩ := gd_s hm
    refine oX_iald oDs422 (oIn (ohM422 hH (oLt g3)) g4) dX1_blame_16 ?_
    refine oX_iconst (v := (1 : Int32)) dX1_blame_17 (by decide) ?_
    refine oX_iload_n dX1_blame_18 rfl rfl ?_
    refine oX_ishl dX1_blame_19 ?_
    refine oX_ior dX1_blame_20 ?_
    obtain ⟨g5, hm⟩ := gd_s hm
    obtain ⟨AI5, hAI5, hm⟩ := oLs hm
    refine oX_iast oDs422 (oIn (ohM422 hH (oLt g3)) g5) dX1_blame_21 hAI5 ?_
    obtain rfl := Option.some.inj hm
    exact oX_vret dX1_blame_22 rfl hK
theorem t_X1_blame {G : OhG} {FI AI : OhI} {FL AL : OhL} {FR GR AR BR : OhQ} {AN : OhN} {C : OhC} (hH : ohShH FR AR AN) (x1 : OhR) (x2 : Int32) (x3 : Int32) (x4 : Int32) {o : OhI} (hm : mX1_blame FI FR AI AR BR AN x1 x2 x3 x4 = some o) : oT G 1 iX1_blame [vR (some (0, 0)), vR x1, vI x2, vI x3, vI x4] (FI, FL, FR, GR, AI, AL, AR, BR, AN, C) (0, 0) (fun v h => v = none ∧ h = (FI, FL, FR, GR, o, AL, AR, BR, AN, C)) ohNo :=
  oT_of (by decide) rfl (Nat.le_of_ble_eq_true rfl) (x_mX1_blame hH x1 x2 x3 x4 hm ⟨rfl, rfl⟩)
abbrev iX1_judgeSets : OhM := (yX1_judgeSets, cX1_judgeSets, 7, none, [])
theorem ok_X1_judgeSets : oOk iX1_judgeSets 0 := ⟨by decide, by decide, by decide +kernel⟩
noncomputable def mX1_judgeSets_b2 (n : Nat) (FI : OhI) (FR : OhQ) (AI : OhI) (AR : OhQ) (BR : OhQ) (AN : OhN) (x1 : Int32) : Option ((Int32 × OhI) ⊕ (OhI)) :=
  (if (Int32.ofNat (AN 325 0)) ≤ x1 then
  some (.inr AI)
else
  gd (vp_in x1 720) <|
    oLet (sA AI 325 0 (uA (AI 325 0) x1.toNatClampNeg (vp_nar .boolean (0 : Int32)))) fun AI2 =>
    some (.inl (x1 + (1 : Int32), AI2)))
theorem x_mX1_judgeSets_b2 {G : OhG} {FI AI : OhI} {FL AL : OhL} {FR GR AR BR : OhQ} {AN : OhN} {C : OhC} {k : Nat × Nat} {Φ : OhP} {Ψ : OhX} (hH : ohShH FR AR AN) (n : Nat) (x1 : Int32) {r : (Int32 × OhI) ⊕ (OhI)} (hm : mX1_judgeSets_b2 n FI FR AI AR BR AN x1 = some r) (hk : ∀ v : Int32 × OhI, r = .inl v → oX G 2 iX1_judgeSets 2 [(0, vR (some (0, 0))), (1, vI v.1)] [] (FI, FL, FR, GR, v.2, AL, AR, BR, AN, C) k Φ Ψ) (hx1 : ∀ v : OhI, r = .inr v → oX G 2 iX1_judgeSets 24 [(0, vR (some (0, 0)))] [] (FI, FL, FR, GR, v, AL, AR, BR, AN, C) k Φ Ψ) : oX G 2 iX1_judgeSets 2 [(0, vR (some (0, 0))), (1, vI x1)] [] (FI, FL, FR, GR, AI, AL, AR, BR, AN, C) k Φ Ψ := by
  unfold mX1_judgeSets_b2 at hm
  refine oX_iload_n dX1_judgeSets_2 rfl rfl ?_
  refine oX_aload_n dX1_judgeSets_3 rfl rfl ?_
  refine oX_getF fX1_83 rfl oDs0 dX1_judgeSets_4 (ohF325 hH) ?_
  refine oX_alen 1 (by decide) oDs325 dX1_judgeSets_7 ?_
  refine oX_icmp_ge (tgt := 24) dX1_judgeSets_8 (by decide) (fun c1 => ?_) (fun c1 => ?_)
  · have hm := ifp c1 hm
    exact oX_sub [0] rfl (hx1 AI (Option.some.inj hm).symm)
  · have hm := ifn c1 hm
    refine oX_aload_n dX1_judgeSets_11 rfl rfl ?_
    refine oX_getF fX1_83 rfl oDs0 dX1_judgeSets_12 (ohF325 hH) ?_
    refine oX_iload_n dX1_judgeSets_15 rfl rfl ?_
    refine oX_iconst (v := (0 : Int32)) dX1_judgeSets_16 (by decide) ?_
    obtain ⟨g2, hm⟩ := gd_s hm
    obtain ⟨AI2, hAI2, hm⟩ := oLs hm
    refine oX_zast oDs325 (oIn (ohN325 hH) g2) dX1_judgeSets_17 hAI2 ?_
    refine oX_iinc (v := x1 + (1 : Int32)) (ls' := [(1, vI (x1 + (1 : Int32))), (0, vR (some (0, 0)))]) dX1_judgeSets_18 rfl rfl (by decide) rfl ?_
    refine oX_goto (tgt := 2) dX1_judgeSets_21 (by decide) ?_
    exact oX_sub [1, 0] rfl (hk (x1 + (1 : Int32), AI2) (Option.some.inj hm).symm)
theorem l_mX1_judgeSets_b2 {G : OhG} {FI : OhI} {FL : OhL} {FR : OhQ} {GR : OhQ} {AL : OhL} {AR : OhQ} {BR : OhQ} {AN : OhN} {C : OhC} {k : Nat × Nat} {Φ : OhP} {Ψ : OhX} (hH : ohShH FR AR AN) (n : Nat) : ∀ (f : Nat) (x1 : Int32) (AI : OhI) (b : (OhI)), lpF (fun v => mX1_judgeSets_b2 n FI FR v.2 AR BR AN v.1) f (x1, AI) = some b → (oX G 2 iX1_judgeSets 24 [(0, vR (some (0, 0)))] [] (FI, FL, FR, GR, b, AL, AR, BR, AN, C) k Φ Ψ) → oX G 2 iX1_judgeSets 2 [(0, vR (some (0, 0))), (1, vI x1)] [] (FI, FL, FR, GR, AI, AL, AR, BR, AN, C) k Φ Ψ := by
  intro f
  induction f with
  | zero =>
    intro x1 AI b hm
    cases hm
  | succ f ih =>
    intro x1 AI b hm hx1
    obtain ⟨r, hr, hm⟩ := lp_s hm
    refine x_mX1_judgeSets_b2 hH n x1 hr (fun v e => ?_) (fun v e => ?_)
    · subst e; exact ih v.1 v.2 _ hm hx1
    · subst e; cases (show v = b from hm); exact hx1
noncomputable def mX1_judgeSets_b44 (n : Nat) (FI : OhI) (FR : OhQ) (AI : OhI) (AR : OhQ) (BR : OhQ) (AN : OhN) (x1 : Int32) (x2 : Int32) : Option ((Int32 × OhI) ⊕ (OhI)) :=
  gd (vp_in x1 66) <|
  (oD 14 (BR 316 0 x1.toNatClampNeg)).bind fun a8 =>
  (if (FI a8.1 a8.2 5) ≤ x2 then
  some (.inr AI)
else
  gd (vp_in x1 66) <|
    (mX15_isOnStage FI a8).bind fun r11 =>
    (if r11 = 0 then
    some (.inr AI)
  else
    gd (vp_in x2 720) <|
      oLet (sA AI 325 0 (uA (AI 325 0) x2.toNatClampNeg (vp_nar .boolean (1 : Int32)))) fun AI13 =>
      some (.inl (x2 + (1 : Int32), AI13))))
theorem x_mX1_judgeSets_b44 {G : OhG} {FI AI : OhI} {FL AL : OhL} {FR GR AR BR : OhQ} {AN : OhN} {C : OhC} {k : Nat × Nat} {Φ : OhP} {Ψ : OhX} (hH : ohShH FR AR AN) (n : Nat) (x1 : Int32) (x2 : Int32) {r : (Int32 × OhI) ⊕ (OhI)} (hm : mX1_judgeSets_b44 n FI FR AI AR BR AN x1 x2 = some r) (hk : ∀ v : Int32 × OhI, r = .inl v → oX G 2 iX1_judgeSets 44 [(0, vR (some (0, 0))), (1, vI x1), (2, vI v.1)] [] (FI, FL, FR, GR, v.2, AL, AR, BR, AN, C) k Φ Ψ) (hx1 : ∀ v : OhI, r = .inr v → oX G 2 iX1_judgeSets 82 [(0, vR (some (0, 0))), (1, vI x1)] [] (FI, FL, FR, GR, v, AL, AR, BR, AN, C) k Φ Ψ) : oX G 2 iX1_judgeSets 44 [(0, vR (some (0, 0))), (1, vI x1), (2, vI x2)] [] (FI, FL, FR, GR, AI, AL, AR, BR, AN, C) k Φ Ψ := by
  unfold mX1_judgeSets_b44 at hm
  refine oX_iload_n dX1_judgeSets_44 rfl rfl ?_
  refine oX_aload_n dX1_judgeSets_45 rfl rfl ?_
  refine oX_getF fX1_58 rfl oDs0 dX1_judgeSets_46 (ohF316 hH) ?_
  refine oX_iload_n dX1_judgeSets_49 rfl rfl ?_
  obtain ⟨g7, hm⟩ := gd_s hm
  refine oX_aaldC oDs316 (oIn (ohN316 hH) g7) dX1_judgeSets_50 rfl ?_
  obtain ⟨a8, e8, hm⟩ := bd_s hm
  refine oX_getI fX1_282 rfl e8 dX1_judgeSets_51 ?_
  refine oX_icmp_ge (tgt := 82) dX1_judgeSets_54 (by decide) (fun c9 => ?_) (fun c9 => ?_)
  · have hm := ifp c9 hm
    exact oX_sub [0, 1] rfl (hx1 AI (Option.some.inj hm).symm)
  · have hm := ifn c9 hm
    refine oX_aload_n dX1_judgeSets_57 rfl rfl ?_
    refine oX_getF fX1_58 rfl oDs0 dX1_judgeSets_58 (ohF316 hH) ?_
    refine oX_iload_n dX1_judgeSets_61 rfl rfl ?_
    obtain ⟨g10, hm⟩ := gd_s hm
    refine oX_aaldC oDs316 (oIn (ohN316 hH) g10) dX1_judgeSets_62 rfl ?_
    obtain ⟨r11, g11, hm⟩ := bd_s hm
    refine oX_cV (as := []) dX1_judgeSets_63 rfl e8 rfl (by decide) rfl ok_X15_isOnStage rfl rfl q1442 q1443 q1444 q165 q1445 (by decide) (Nat.le_of_ble_eq_true rfl) (t_X15_isOnStage a8 ((oD_some e8).2) g11) ?_
    refine oX_if_eq (tgt := 82) dX1_judgeSets_66 (by decide) (fun c12 => ?_) (fun c12 => ?_)
    · have hm := ifp c12 hm
      exact oX_sub [0, 1] rfl (hx1 AI (Option.some.inj hm).symm)
    · have hm := ifn c12 hm
      refine oX_aload_n dX1_judgeSets_69 rfl rfl ?_
      refine oX_getF fX1_83 rfl oDs0 dX1_judgeSets_70 (ohF325 hH) ?_
      refine oX_iload_n dX1_judgeSets_73 rfl rfl ?_
      refine oX_iconst (v := (1 : Int32)) dX1_judgeSets_74 (by decide) ?_
      obtain ⟨g13, hm⟩ := gd_s hm
      obtain ⟨AI13, hAI13, hm⟩ := oLs hm
      refine oX_zast oDs325 (oIn (ohN325 hH) g13) dX1_judgeSets_75 hAI13 ?_
      refine oX_iinc (v := x2 + (1 : Int32)) (ls' := [(2, vI (x2 + (1 : Int32))), (0, vR (some (0, 0))), (1, vI x1)]) dX1_judgeSets_76 rfl rfl (by decide) rfl ?_
      refine oX_goto (tgt := 44) dX1_judgeSets_79 (by decide) ?_
      exact oX_sub [1, 2, 0] rfl (hk (x2 + (1 : Int32), AI13) (Option.some.inj hm).symm)
theorem l_mX1_judgeSets_b44 {G : OhG} {FI : OhI} {FL : OhL} {FR : OhQ} {GR : OhQ} {AL : OhL} {AR : OhQ} {BR : OhQ} {AN : OhN} {C : OhC} {k : Nat × Nat} {Φ : OhP} {Ψ : OhX} (hH : ohShH FR AR AN) (n : Nat) (x1 : Int32) : ∀ (f : Nat) (x2 : Int32) (AI : OhI) (b : (OhI)), lpF (fun v => mX1_judgeSets_b44 n FI FR v.2 AR BR AN x1 v.1) f (x2, AI) = some b → (oX G 2 iX1_judgeSets 82 [(0, vR (some (0, 0))), (1, vI x1)] [] (FI, FL, FR, GR, b, AL, AR, BR, AN, C) k Φ Ψ) → oX G 2 iX1_judgeSets 44 [(0, vR (some (0, 0))), (1, vI x1), (2, vI x2)] [] (FI, FL, FR, GR, AI, AL, AR, BR, AN, C) k Φ Ψ := by
  intro f
  induction f with
  | zero =>
    intro x2 AI b hm
    cases hm
  | succ f ih =>
    intro x2 AI b hm hx1
    obtain ⟨r, hr, hm⟩ := lp_s hm
    refine x_mX1_judgeSets_b44 hH n x1 x2 hr (fun v e => ?_) (fun v e => ?_)
    · subst e; exact ih v.1 v.2 _ hm hx1
    · subst e; cases (show v = b from hm); exact hx1
noncomputable def mX1_judgeSets_b26 (n : Nat) (FI : OhI) (FR : OhQ) (AI : OhI) (AR : OhQ) (BR : OhQ) (AN : OhN) (x1 : Int32) : Option ((Int32 × OhI) ⊕ (OhI)) :=
  (if (FI 0 0 17) ≤ x1 then
  some (.inr AI)
else
  gd (vp_in x1 66) <|
    (oD 14 (BR 316 0 x1.toNatClampNeg)).bind fun a6 =>
    (lpF (fun v => mX1_judgeSets_b44 n FI FR v.2 AR BR AN x1 v.1) n (FI a6.1 a6.2 4, AI)).bind fun v14 =>
    some (.inl (x1 + (1 : Int32), v14)))
theorem x_mX1_judgeSets_b26 {G : OhG} {FI AI : OhI} {FL AL : OhL} {FR GR AR BR : OhQ} {AN : OhN} {C : OhC} {k : Nat × Nat} {Φ : OhP} {Ψ : OhX} (hH : ohShH FR AR AN) (n : Nat) (x1 : Int32) {r : (Int32 × OhI) ⊕ (OhI)} (hm : mX1_judgeSets_b26 n FI FR AI AR BR AN x1 = some r) (hk : ∀ v : Int32 × OhI, r = .inl v → oX G 2 iX1_judgeSets 26 [(0, vR (some (0, 0))), (1, vI v.1)] [] (FI, FL, FR, GR, v.2, AL, AR, BR, AN, C) k Φ Ψ) (hx1 : ∀ v : OhI, r = .inr v → oX G 2 iX1_judgeSets 88 [(0, vR (some (0, 0)))] [] (FI, FL, FR, GR, v, AL, AR, BR, AN, C) k Φ Ψ) : oX G 2 iX1_judgeSets 26 [(0, vR (some (0, 0))), (1, vI x1)] [] (FI, FL, FR, GR, AI, AL, AR, BR, AN, C) k Φ Ψ := by
  unfold mX1_judgeSets_b26 at hm
  refine oX_iload_n dX1_judgeSets_26 rfl rfl ?_
  refine oX_aload_n dX1_judgeSets_27 rfl rfl ?_
  refine oX_getI fX1_227 rfl oDs0 dX1_judgeSets_28 ?_
  refine oX_icmp_ge (tgt := 88) dX1_judgeSets_31 (by decide) (fun c4 => ?_) (fun c4 => ?_)
  · have hm := ifp c4 hm
    exact oX_sub [0] rfl (hx1 AI (Option.some.inj hm).symm)
  · have hm := ifn c4 hm
    refine oX_aload_n dX1_judgeSets_34 rfl rfl ?_
    refine oX_getF fX1_58 rfl oDs0 dX1_judgeSets_35 (ohF316 hH) ?_
    refine oX_iload_n dX1_judgeSets_38 rfl rfl ?_
    obtain ⟨g5, hm⟩ := gd_s hm
    refine oX_aaldC oDs316 (oIn (ohN316 hH) g5) dX1_judgeSets_39 rfl ?_
    obtain ⟨a6, e6, hm⟩ := bd_s hm
    refine oX_getI fX1_230 rfl e6 dX1_judgeSets_40 ?_
    refine oX_istore_n (ls' := [(2, vI (FI a6.1 a6.2 4)), (0, vR (some (0, 0))), (1, vI x1)]) dX1_judgeSets_43 rfl (by decide) rfl ?_
    obtain ⟨v14, g14, hm⟩ := bd_s hm
    refine oX_sub [1, 2, 0] rfl (l_mX1_judgeSets_b44 hH n x1 n (FI a6.1 a6.2 4) AI _ g14 ?_)
    refine oX_iinc (v := x1 + (1 : Int32)) (ls' := [(1, vI (x1 + (1 : Int32))), (0, vR (some (0, 0)))]) dX1_judgeSets_82 rfl rfl (by decide) rfl ?_
    refine oX_goto (tgt := 26) dX1_judgeSets_85 (by decide) ?_
    exact oX_sub [1, 0] rfl (hk (x1 + (1 : Int32), v14) (Option.some.inj hm).symm)
theorem l_mX1_judgeSets_b26 {G : OhG} {FI : OhI} {FL : OhL} {FR : OhQ} {GR : OhQ} {AL : OhL} {AR : OhQ} {BR : OhQ} {AN : OhN} {C : OhC} {k : Nat × Nat} {Φ : OhP} {Ψ : OhX} (hH : ohShH FR AR AN) (n : Nat) : ∀ (f : Nat) (x1 : Int32) (AI : OhI) (b : (OhI)), lpF (fun v => mX1_judgeSets_b26 n FI FR v.2 AR BR AN v.1) f (x1, AI) = some b → (oX G 2 iX1_judgeSets 88 [(0, vR (some (0, 0)))] [] (FI, FL, FR, GR, b, AL, AR, BR, AN, C) k Φ Ψ) → oX G 2 iX1_judgeSets 26 [(0, vR (some (0, 0))), (1, vI x1)] [] (FI, FL, FR, GR, AI, AL, AR, BR, AN, C) k Φ Ψ := by
  intro f
  induction f with
  | zero =>
    intro x1 AI b hm
    cases hm
  | succ f ih =>
    intro x1 AI b hm hx1
    obtain ⟨r, hr, hm⟩ := lp_s hm
    refine x_mX1_judgeSets_b26 hH n x1 hr (fun v e => ?_) (fun v e => ?_)
    · subst e; exact ih v.1 v.2 _ hm hx1
    · subst e; cases (show v = b from hm); exact hx1
noncomputable def mX1_judgeSets_j113 (n : Nat) (FI : OhI) (FR : OhQ) (AI : OhI) (AR : OhQ) (BR : OhQ) (AN : OhN) (x1 : Int32) (y1 : Int32) (y2 : Int32) : Option ((Int32 × OhI) ⊕ (OhI)) :=
  gd (vp_in y1 120) <|
  oLet (sA AI 323 0 (uA (AI 323 0) y1.toNatClampNeg (vp_nar .boolean y2))) fun AI18 =>
  some (.inl (x1 + (1 : Int32), AI18))
theorem x_mX1_judgeSets_j113 {G : OhG} {FI AI : OhI} {FL AL : OhL} {FR GR AR BR : OhQ} {AN : OhN} {C : OhC} {k : Nat × Nat} {Φ : OhP} {Ψ : OhX} (hH : ohShH FR AR AN) (n : Nat) (x1 : Int32) (y1 : Int32) (y2 : Int32) {r : (Int32 × OhI) ⊕ (OhI)} (hm : mX1_judgeSets_j113 n FI FR AI AR BR AN x1 y1 y2 = some r) (hk : ∀ v : Int32 × OhI, r = .inl v → oX G 2 iX1_judgeSets 90 [(0, vR (some (0, 0))), (1, vI v.1)] [] (FI, FL, FR, GR, v.2, AL, AR, BR, AN, C) k Φ Ψ) (hx1 : ∀ v : OhI, r = .inr v → oX G 2 iX1_judgeSets 120 [(0, vR (some (0, 0)))] [] (FI, FL, FR, GR, v, AL, AR, BR, AN, C) k Φ Ψ) : oX G 2 iX1_judgeSets 113 [(0, vR (some (0, 0))), (1, vI x1)] [vI y2, vI y1, vR (some (323, 0))] (FI, FL, FR, GR, AI, AL, AR, BR, AN, C) k Φ Ψ := by
  unfold mX1_judgeSets_j113 at hm
  obtain ⟨g18, hm⟩ := gd_s hm
  obtain ⟨AI18, hAI18, hm⟩ := oLs hm
  refine oX_zast oDs323 (oIn (ohN323 hH) g18) dX1_judgeSets_113 hAI18 ?_
  refine oX_iinc (v := x1 + (1 : Int32)) (ls' := [(1, vI (x1 + (1 : Int32))), (0, vR (some (0, 0)))]) dX1_judgeSets_114 rfl rfl (by decide) rfl ?_
  refine oX_goto (tgt := 90) dX1_judgeSets_117 (by decide) ?_
  exact oX_sub [1, 0] rfl (hk (x1 + (1 : Int32), AI18) (Option.some.inj hm).symm)
noncomputable def mX1_judgeSets_b90 (n : Nat) (FI : OhI) (FR : OhQ) (AI : OhI) (AR : OhQ) (BR : OhQ) (AN : OhN) (x1 : Int32) : Option ((Int32 × OhI) ⊕ (OhI)) :=
  (if (Int32.ofNat (AN 323 0)) ≤ x1 then
  some (.inr AI)
else
  (if x1 = 0 then
    mX1_judgeSets_j113 n FI FR AI AR BR AN x1 x1 (1 : Int32)
  else
    mX1_judgeSets_j113 n FI FR AI AR BR AN x1 x1 (0 : Int32)))
theorem x_mX1_judgeSets_b90 {G : OhG} {FI AI : OhI} {FL AL : OhL} {FR GR AR BR : OhQ} {AN : OhN} {C : OhC} {k : Nat × Nat} {Φ : OhP} {Ψ : OhX} (hH : ohShH FR AR AN) (n : Nat) (x1 : Int32) {r : (Int32 × OhI) ⊕ (OhI)} (hm : mX1_judgeSets_b90 n FI FR AI AR BR AN x1 = some r) (hk : ∀ v : Int32 × OhI, r = .inl v → oX G 2 iX1_judgeSets 90 [(0, vR (some (0, 0))), (1, vI v.1)] [] (FI, FL, FR, GR, v.2, AL, AR, BR, AN, C) k Φ Ψ) (hx1 : ∀ v : OhI, r = .inr v → oX G 2 iX1_judgeSets 120 [(0, vR (some (0, 0)))] [] (FI, FL, FR, GR, v, AL, AR, BR, AN, C) k Φ Ψ) : oX G 2 iX1_judgeSets 90 [(0, vR (some (0, 0))), (1, vI x1)] [] (FI, FL, FR, GR, AI, AL, AR, BR, AN, C) k Φ Ψ := by
  unfold mX1_judgeSets_b90 at hm
  refine oX_iload_n dX1_judgeSets_90 rfl rfl ?_
  refine oX_aload_n dX1_judgeSets_91 rfl rfl ?_
  refine oX_getF fX1_76 rfl oDs0 dX1_judgeSets_92 (ohF323 hH) ?_
  refine oX_alen 1 (by decide) oDs323 dX1_judgeSets_95 ?_
  refine oX_icmp_ge (tgt := 120) dX1_judgeSets_96 (by decide) (fun c16 => ?_) (fun c16 => ?_)
  · have hm := ifp c16 hm
    exact oX_sub [0] rfl (hx1 AI (Option.some.inj hm).symm)
  · have hm := ifn c16 hm
    refine oX_aload_n dX1_judgeSets_99 rfl rfl ?_
    refine oX_getF fX1_76 rfl oDs0 dX1_judgeSets_100 (ohF323 hH) ?_
    refine oX_iload_n dX1_judgeSets_103 rfl rfl ?_
    refine oX_iload_n dX1_judgeSets_104 rfl rfl ?_
    refine oX_if_ne (tgt := 112) dX1_judgeSets_105 (by decide) (fun c17 => ?_) (fun c17 => ?_)
    · have hm := ifp c17 hm
      refine oX_iconst (v := (1 : Int32)) dX1_judgeSets_108 (by decide) ?_
      refine oX_goto (tgt := 113) dX1_judgeSets_109 (by decide) ?_
      exact oX_sub [0, 1] rfl (x_mX1_judgeSets_j113 hH n x1 x1 (1 : Int32) hm hk hx1)
    · have hm := ifn c17 hm
      refine oX_iconst (v := (0 : Int32)) dX1_judgeSets_112 (by decide) ?_
      exact oX_sub [0, 1] rfl (x_mX1_judgeSets_j113 hH n x1 x1 (0 : Int32) hm hk hx1)
theorem l_mX1_judgeSets_b90 {G : OhG} {FI : OhI} {FL : OhL} {FR : OhQ} {GR : OhQ} {AL : OhL} {AR : OhQ} {BR : OhQ} {AN : OhN} {C : OhC} {k : Nat × Nat} {Φ : OhP} {Ψ : OhX} (hH : ohShH FR AR AN) (n : Nat) : ∀ (f : Nat) (x1 : Int32) (AI : OhI) (b : (OhI)), lpF (fun v => mX1_judgeSets_b90 n FI FR v.2 AR BR AN v.1) f (x1, AI) = some b → (oX G 2 iX1_judgeSets 120 [(0, vR (some (0, 0)))] [] (FI, FL, FR, GR, b, AL, AR, BR, AN, C) k Φ Ψ) → oX G 2 iX1_judgeSets 90 [(0, vR (some (0, 0))), (1, vI x1)] [] (FI, FL, FR, GR, AI, AL, AR, BR, AN, C) k Φ Ψ := by
  intro f
  induction f with
  | zero =>
    intro x1 AI b hm
    cases hm
  | succ f ih =>
    intro x1 AI b hm hx1
    obtain ⟨r, hr, hm⟩ := lp_s hm
    refine x_mX1_judgeSets_b90 hH n x1 hr (fun v e => ?_) (fun v e => ?_)
    · subst e; exact ih v.1 v.2 _ hm hx1
    · subst e; cases (show v = b from hm); exact hx1
noncomputable def mX1_judgeSets_b167 (n : Nat) (FI : OhI) (FR : OhQ) (AI : OhI) (AR : OhQ) (BR : OhQ) (AN : OhN) (x1 : Int32) (x2 : Int32) (x3 : Int32) (x4 : OhR) : Option ((Int32 × Int32 × OhI) ⊕ (Int32 × OhI)) :=
  (oD 14 x4).bind fun a27 =>
  (if (FI a27.1 a27.2 4) ≤ x1 then
  some (.inr (x1, AI))
else
  (if x2 = 0 then
    some (.inl (x1 + (1 : Int32), x2, AI))
  else
    gd (vp_in x1 720) <|
      (if (AI 325 0 x1.toNatClampNeg) = 0 then
      (mX2_spread n FI FR AI AR BR AN (some (323, 0)) (some (324, 0))).bind fun r32 =>
        some (.inl (x1 + (1 : Int32), r32.1, r32.2))
    else
      some (.inl (x1 + (1 : Int32), x2, AI)))))
theorem x_mX1_judgeSets_b167 {G : OhG} {FI AI : OhI} {FL AL : OhL} {FR GR AR BR : OhQ} {AN : OhN} {C : OhC} {k : Nat × Nat} {Φ : OhP} {Ψ : OhX} (hH : ohShH FR AR AN) (n : Nat) (x1 : Int32) (x2 : Int32) (x3 : Int32) (x4 : OhR) {r : (Int32 × Int32 × OhI) ⊕ (Int32 × OhI)} (hm : mX1_judgeSets_b167 n FI FR AI AR BR AN x1 x2 x3 x4 = some r) (hk : ∀ v : Int32 × Int32 × OhI, r = .inl v → oX G 2 iX1_judgeSets 167 [(0, vR (some (0, 0))), (1, vI v.1), (2, vI v.2.1), (3, vI x3), (4, vR x4)] [] (FI, FL, FR, GR, v.2.2, AL, AR, BR, AN, C) k Φ Ψ) (hx1 : ∀ v : Int32 × OhI, r = .inr v → oX G 2 iX1_judgeSets 211 [(0, vR (some (0, 0))), (1, vI v.1), (3, vI x3), (4, vR x4)] [] (FI, FL, FR, GR, v.2, AL, AR, BR, AN, C) k Φ Ψ) : oX G 2 iX1_judgeSets 167 [(0, vR (some (0, 0))), (1, vI x1), (2, vI x2), (3, vI x3), (4, vR x4)] [] (FI, FL, FR, GR, AI, AL, AR, BR, AN, C) k Φ Ψ := by
  unfold mX1_judgeSets_b167 at hm
  refine oX_iload_n dX1_judgeSets_167 rfl rfl ?_
  refine oX_aload dX1_judgeSets_168 rfl ?_
  obtain ⟨a27, e27, hm⟩ := bd_s hm
  refine oX_getI fX1_230 rfl e27 dX1_judgeSets_170 ?_
  refine oX_icmp_ge (tgt := 211) dX1_judgeSets_173 (by decide) (fun c28 => ?_) (fun c28 => ?_)
  · have hm := ifp c28 hm
    exact oX_sub [0, 1, 3, 4] rfl (hx1 (x1, AI) (Option.some.inj hm).symm)
  · have hm := ifn c28 hm
    refine oX_iload_n dX1_judgeSets_176 rfl rfl ?_
    refine oX_if_eq (tgt := 205) dX1_judgeSets_177 (by decide) (fun c29 => ?_) (fun c29 => ?_)
    · have hm := ifp c29 hm
      refine oX_iinc (v := x1 + (1 : Int32)) (ls' := [(1, vI (x1 + (1 : Int32))), (0, vR (some (0, 0))), (2, vI x2), (3, vI x3), (4, vR x4)]) dX1_judgeSets_205 rfl rfl (by decide) rfl ?_
      refine oX_goto (tgt := 167) dX1_judgeSets_208 (by decide) ?_
      exact oX_sub [1, 0, 2, 3, 4] rfl (hk (x1 + (1 : Int32), x2, AI) (Option.some.inj hm).symm)
    · have hm := ifn c29 hm
      refine oX_aload_n dX1_judgeSets_180 rfl rfl ?_
      refine oX_getF fX1_83 rfl oDs0 dX1_judgeSets_181 (ohF325 hH) ?_
      refine oX_iload_n dX1_judgeSets_184 rfl rfl ?_
      obtain ⟨g30, hm⟩ := gd_s hm
      refine oX_zald oDs325 (oIn (ohN325 hH) g30) dX1_judgeSets_185 ?_
      refine oX_if_ne (tgt := 205) dX1_judgeSets_186 (by decide) (fun c31 => ?_) (fun c31 => ?_)
      · have hm := ifp c31 hm
        refine oX_aload_n dX1_judgeSets_189 rfl rfl ?_
        refine oX_getF fX1_52 rfl oDs0 dX1_judgeSets_190 (ohF315 hH) ?_
        refine oX_aload_n dX1_judgeSets_193 rfl rfl ?_
        refine oX_getF fX1_76 rfl oDs0 dX1_judgeSets_194 (ohF323 hH) ?_
        refine oX_aload_n dX1_judgeSets_197 rfl rfl ?_
        refine oX_getF fX1_80 rfl oDs0 dX1_judgeSets_198 (ohF324 hH) ?_
        obtain ⟨r32, g32, hm⟩ := bd_s hm
        refine oX_cV (as := [vR (some (323, 0)), vR (some (324, 0))]) dX1_judgeSets_201 rfl oDs315 rfl (by decide) rfl ok_X2_spread rfl rfl q1450 q1451 q1452 q133 q1453 (by decide) (Nat.le_of_ble_eq_true rfl) (t_X2_spread (ohShH_W hH) n (some (323, 0)) (some (324, 0)) g32) ?_
        refine oX_istore_n (ls' := [(2, vI r32.1), (0, vR (some (0, 0))), (1, vI x1), (3, vI x3), (4, vR x4)]) dX1_judgeSets_204 rfl (by decide) rfl ?_
        refine oX_iinc (v := x1 + (1 : Int32)) (ls' := [(1, vI (x1 + (1 : Int32))), (2, vI r32.1), (0, vR (some (0, 0))), (3, vI x3), (4, vR x4)]) dX1_judgeSets_205 rfl rfl (by decide) rfl ?_
        refine oX_goto (tgt := 167) dX1_judgeSets_208 (by decide) ?_
        exact oX_sub [2, 0, 1, 3, 4] rfl (hk (x1 + (1 : Int32), r32.1, r32.2) (Option.some.inj hm).symm)
      · have hm := ifn c31 hm
        refine oX_iinc (v := x1 + (1 : Int32)) (ls' := [(1, vI (x1 + (1 : Int32))), (0, vR (some (0, 0))), (2, vI x2), (3, vI x3), (4, vR x4)]) dX1_judgeSets_205 rfl rfl (by decide) rfl ?_
        refine oX_goto (tgt := 167) dX1_judgeSets_208 (by decide) ?_
        exact oX_sub [1, 0, 2, 3, 4] rfl (hk (x1 + (1 : Int32), x2, AI) (Option.some.inj hm).symm)
theorem l_mX1_judgeSets_b167 {G : OhG} {FI : OhI} {FL : OhL} {FR : OhQ} {GR : OhQ} {AL : OhL} {AR : OhQ} {BR : OhQ} {AN : OhN} {C : OhC} {k : Nat × Nat} {Φ : OhP} {Ψ : OhX} (hH : ohShH FR AR AN) (n : Nat) (x3 : Int32) (x4 : OhR) : ∀ (f : Nat) (x1 : Int32) (x2 : Int32) (AI : OhI) (b : (Int32 × OhI)), lpF (fun v => mX1_judgeSets_b167 n FI FR v.2.2 AR BR AN v.1 v.2.1 x3 x4) f (x1, x2, AI) = some b → (oX G 2 iX1_judgeSets 211 [(0, vR (some (0, 0))), (1, vI b.1), (3, vI x3), (4, vR x4)] [] (FI, FL, FR, GR, b.2, AL, AR, BR, AN, C) k Φ Ψ) → oX G 2 iX1_judgeSets 167 [(0, vR (some (0, 0))), (1, vI x1), (2, vI x2), (3, vI x3), (4, vR x4)] [] (FI, FL, FR, GR, AI, AL, AR, BR, AN, C) k Φ Ψ := by
  intro f
  induction f with
  | zero =>
    intro x1 x2 AI b hm
    cases hm
  | succ f ih =>
    intro x1 x2 AI b hm hx1
    obtain ⟨r, hr, hm⟩ := lp_s hm
    refine x_mX1_judgeSets_b167 hH n x1 x2 x3 x4 hr (fun v e => ?_) (fun v e => ?_)
    · subst e; exact ih v.1 v.2.1 v.2.2 _ hm hx1
    · subst e; cases (show v = b from hm); exact hx1
noncomputable def mX1_judgeSets_b217 (n : Nat) (FI : OhI) (FR : OhQ) (AI : OhI) (AR : OhQ) (BR : OhQ) (AN : OhN) (x1 : Int32) (x3 : Int32) (x4 : OhR) (x5 : Int32) (x6 : Int32) : Option ((Int32 × Int32) ⊕ (Int32)) :=
  (if (Int32.ofNat (AN 323 0)) ≤ x6 then
  some (.inr x5)
else
  (if x5 = 0 then
    gd (vp_in x6 120) <|
      (if (AI 323 0 x6.toNatClampNeg) = 0 then
      some (.inl ((0 : Int32), x6 + (1 : Int32)))
    else
      gd (vp_in x6 120) <|
        (oD 14 x4).bind fun a39 =>
        (oD 4 (FR a39.1 a39.2 6)).bind fun a40 =>
        (if (AI 61 0 x6.toNatClampNeg) = (FI a40.1 a40.2 2) then
        some (.inl ((1 : Int32), x6 + (1 : Int32)))
      else
        some (.inl ((0 : Int32), x6 + (1 : Int32)))))
  else
    some (.inl ((1 : Int32), x6 + (1 : Int32)))))
theorem x_mX1_judgeSets_b217 {G : OhG} {FI AI : OhI} {FL AL : OhL} {FR GR AR BR : OhQ} {AN : OhN} {C : OhC} {k : Nat × Nat} {Φ : OhP} {Ψ : OhX} (hH : ohShH FR AR AN) (n : Nat) (x1 : Int32) (x3 : Int32) (x4 : OhR) (x5 : Int32) (x6 : Int32) {r : (Int32 × Int32) ⊕ (Int32)} (hm : mX1_judgeSets_b217 n FI FR AI AR BR AN x1 x3 x4 x5 x6 = some r) (hk : ∀ v : Int32 × Int32, r = .inl v → oX G 2 iX1_judgeSets 217 [(0, vR (some (0, 0))), (1, vI x1), (3, vI x3), (4, vR x4), (5, vI v.1), (6, vI v.2)] [] (FI, FL, FR, GR, AI, AL, AR, BR, AN, C) k Φ Ψ) (hx1 : ∀ v : Int32, r = .inr v → oX G 2 iX1_judgeSets 276 [(0, vR (some (0, 0))), (1, vI x1), (3, vI x3), (4, vR x4), (5, vI v)] [] (FI, FL, FR, GR, AI, AL, AR, BR, AN, C) k Φ Ψ) : oX G 2 iX1_judgeSets 217 [(0, vR (some (0, 0))), (1, vI x1), (3, vI x3), (4, vR x4), (5, vI x5), (6, vI x6)] [] (FI, FL, FR, GR, AI, AL, AR, BR, AN, C) k Φ Ψ := by
  unfold mX1_judgeSets_b217 at hm
  refine oX_iload dX1_judgeSets_217 rfl ?_
  refine oX_aload_n dX1_judgeSets_219 rfl rfl ?_
  refine oX_getF fX1_76 rfl oDs0 dX1_judgeSets_220 (ohF323 hH) ?_
  refine oX_alen 1 (by decide) oDs323 dX1_judgeSets_223 ?_
  refine oX_icmp_ge (tgt := 276) dX1_judgeSets_224 (by decide) (fun c34 => ?_) (fun c34 => ?_)
  · have hm := ifp c34 hm
    exact oX_sub [0, 1, 2, 3, 4] rfl (hx1 x5 (Option.some.inj hm).symm)
  · have hm := ifn c34 hm
    refine oX_iload dX1_judgeSets_227 rfl ?_
    refine oX_if_ne (tgt := 263) dX1_judgeSets_229 (by decide) (fun c35 => ?_) (fun c35 => ?_)
    · have hm := ifp c35 hm
      refine oX_aload_n dX1_judgeSets_232 rfl rfl ?_
      refine oX_getF fX1_76 rfl oDs0 dX1_judgeSets_233 (ohF323 hH) ?_
      refine oX_iload dX1_judgeSets_236 rfl ?_
      obtain ⟨g36, hm⟩ := gd_s hm
      refine oX_zald oDs323 (oIn (ohN323 hH) g36) dX1_judgeSets_238 ?_
      refine oX_if_eq (tgt := 267) dX1_judgeSets_239 (by decide) (fun c37 => ?_) (fun c37 => ?_)
      · have hm := ifp c37 hm
        refine oX_iconst (v := (0 : Int32)) dX1_judgeSets_267 (by decide) ?_
        refine oX_istore (ls' := [(5, vI (0 : Int32)), (0, vR (some (0, 0))), (1, vI x1), (3, vI x3), (4, vR x4), (6, vI x6)]) dX1_judgeSets_268 (by decide) rfl ?_
        refine oX_iinc (v := x6 + (1 : Int32)) (ls' := [(6, vI (x6 + (1 : Int32))), (5, vI (0 : Int32)), (0, vR (some (0, 0))), (1, vI x1), (3, vI x3), (4, vR x4)]) dX1_judgeSets_270 rfl rfl (by decide) rfl ?_
        refine oX_goto (tgt := 217) dX1_judgeSets_273 (by decide) ?_
        exact oX_sub [2, 3, 4, 5, 1, 0] rfl (hk ((0 : Int32), x6 + (1 : Int32)) (Option.some.inj hm).symm)
      · have hm := ifn c37 hm
        refine oX_aload_n dX1_judgeSets_242 rfl rfl ?_
        refine oX_getF fX1_52 rfl oDs0 dX1_judgeSets_243 (ohF315 hH) ?_
        refine oX_getF fX1_401 rfl oDs315 dX1_judgeSets_246 (ohF61 (ohShH_W hH)) ?_
        refine oX_iload dX1_judgeSets_249 rfl ?_
        obtain ⟨g38, hm⟩ := gd_s hm
        refine oX_iald oDs61 (oIn (ohN61 (ohShH_W hH)) g38) dX1_judgeSets_251 ?_
        refine oX_aload dX1_judgeSets_252 rfl ?_
        obtain ⟨a39, e39, hm⟩ := bd_s hm
        refine oX_getF fX1_258 rfl e39 dX1_judgeSets_254 rfl ?_
        obtain ⟨a40, e40, hm⟩ := bd_s hm
        refine oX_getI fX1_404 rfl e40 dX1_judgeSets_257 ?_
        refine oX_icmp_ne (tgt := 267) dX1_judgeSets_260 (by decide) (fun c41 => ?_) (fun c41 => ?_)
        · have hm := ifp c41 hm
          refine oX_iconst (v := (1 : Int32)) dX1_judgeSets_263 (by decide) ?_
          refine oX_goto (tgt := 268) dX1_judgeSets_264 (by decide) ?_
          refine oX_istore (ls' := [(5, vI (1 : Int32)), (0, vR (some (0, 0))), (1, vI x1), (3, vI x3), (4, vR x4), (6, vI x6)]) dX1_judgeSets_268 (by decide) rfl ?_
          refine oX_iinc (v := x6 + (1 : Int32)) (ls' := [(6, vI (x6 + (1 : Int32))), (5, vI (1 : Int32)), (0, vR (some (0, 0))), (1, vI x1), (3, vI x3), (4, vR x4)]) dX1_judgeSets_270 rfl rfl (by decide) rfl ?_
          refine oX_goto (tgt := 217) dX1_judgeSets_273 (by decide) ?_
          exact oX_sub [2, 3, 4, 5, 1, 0] rfl (hk ((1 : Int32), x6 + (1 : Int32)) (Option.some.inj hm).symm)
        · have hm := ifn c41 hm
          refine oX_iconst (v := (0 : Int32)) dX1_judgeSets_267 (by decide) ?_
          refine oX_istore (ls' := [(5, vI (0 : Int32)), (0, vR (some (0, 0))), (1, vI x1), (3, vI x3), (4, vR x4), (6, vI x6)]) dX1_judgeSets_268 (by decide) rfl ?_
          refine oX_iinc (v := x6 + (1 : Int32)) (ls' := [(6, vI (x6 + (1 : Int32))), (5, vI (0 : Int32)), (0, vR (some (0, 0))), (1, vI x1), (3, vI x3), (4, vR x4)]) dX1_judgeSets_270 rfl rfl (by decide) rfl ?_
          refine oX_goto (tgt := 217) dX1_judgeSets_273 (by decide) ?_
          exact oX_sub [2, 3, 4, 5, 1, 0] rfl (hk ((0 : Int32), x6 + (1 : Int32)) (Option.some.inj hm).symm)
    · have hm := ifn c35 hm
      refine oX_iconst (v := (1 : Int32)) dX1_judgeSets_263 (by decide) ?_
      refine oX_goto (tgt := 268) dX1_judgeSets_264 (by decide) ?_
      refine oX_istore (ls' := [(5, vI (1 : Int32)), (0, vR (some (0, 0))), (1, vI x1), (3, vI x3), (4, vR x4), (6, vI x6)]) dX1_judgeSets_268 (by decide) rfl ?_
      refine oX_iinc (v := x6 + (1 : Int32)) (ls' := [(6, vI (x6 + (1 : Int32))), (5, vI (1 : Int32)), (0, vR (some (0, 0))), (1, vI x1), (3, vI x3), (4, vR x4)]) dX1_judgeSets_270 rfl rfl (by decide) rfl ?_
      refine oX_goto (tgt := 217) dX1_judgeSets_273 (by decide) ?_
      exact oX_sub [2, 3, 4, 5, 1, 0] rfl (hk ((1 : Int32), x6 + (1 : Int32)) (Option.some.inj hm).symm)
theorem l_mX1_judgeSets_b217 {G : OhG} {FI : OhI} {FL : OhL} {FR : OhQ} {GR : OhQ} {AI : OhI} {AL : OhL} {AR : OhQ} {BR : OhQ} {AN : OhN} {C : OhC} {k : Nat × Nat} {Φ : OhP} {Ψ : OhX} (hH : ohShH FR AR AN) (n : Nat) (x1 : Int32) (x3 : Int32) (x4 : OhR) : ∀ (f : Nat) (x5 : Int32) (x6 : Int32) (b : (Int32)), lpF (fun v => mX1_judgeSets_b217 n FI FR AI AR BR AN x1 x3 x4 v.1 v.2) f (x5, x6) = some b → (oX G 2 iX1_judgeSets 276 [(0, vR (some (0, 0))), (1, vI x1), (3, vI x3), (4, vR x4), (5, vI b)] [] (FI, FL, FR, GR, AI, AL, AR, BR, AN, C) k Φ Ψ) → oX G 2 iX1_judgeSets 217 [(0, vR (some (0, 0))), (1, vI x1), (3, vI x3), (4, vR x4), (5, vI x5), (6, vI x6)] [] (FI, FL, FR, GR, AI, AL, AR, BR, AN, C) k Φ Ψ := by
  intro f
  induction f with
  | zero =>
    intro x5 x6 b hm
    cases hm
  | succ f ih =>
    intro x5 x6 b hm hx1
    obtain ⟨r, hr, hm⟩ := lp_s hm
    refine x_mX1_judgeSets_b217 hH n x1 x3 x4 x5 x6 hr (fun v e => ?_) (fun v e => ?_)
    · subst e; exact ih v.1 v.2 _ hm hx1
    · subst e; cases (show v = b from hm); exact hx1
noncomputable def mX1_judgeSets_j355 (n : Nat) (FI : OhI) (FR : OhQ) (AI : OhI) (AR : OhQ) (BR : OhQ) (AN : OhN) (x1 : Int32) (x3 : Int32) (x4 : OhR) (x5 : Int32) (x6 : Int32) (y1 : Int32) (y2 : Int32) : Option ((Int32 × OhI) ⊕ (OhI)) :=
  gd (vp_in y1 120) <|
  oLet (sA AI 323 0 (uA (AI 323 0) y1.toNatClampNeg (vp_nar .boolean y2))) fun AI49 =>
  some (.inl (x6 + (1 : Int32), AI49))
theorem x_mX1_judgeSets_j355 {G : OhG} {FI AI : OhI} {FL AL : OhL} {FR GR AR BR : OhQ} {AN : OhN} {C : OhC} {k : Nat × Nat} {Φ : OhP} {Ψ : OhX} (hH : ohShH FR AR AN) (n : Nat) (x1 : Int32) (x3 : Int32) (x4 : OhR) (x5 : Int32) (x6 : Int32) (y1 : Int32) (y2 : Int32) {r : (Int32 × OhI) ⊕ (OhI)} (hm : mX1_judgeSets_j355 n FI FR AI AR BR AN x1 x3 x4 x5 x6 y1 y2 = some r) (hk : ∀ v : Int32 × OhI, r = .inl v → oX G 2 iX1_judgeSets 298 [(0, vR (some (0, 0))), (1, vI x1), (3, vI x3), (4, vR x4), (5, vI x5), (6, vI v.1)] [] (FI, FL, FR, GR, v.2, AL, AR, BR, AN, C) k Φ Ψ) (hx1 : ∀ v : OhI, r = .inr v → oX G 2 iX1_judgeSets 362 [(0, vR (some (0, 0))), (1, vI x1), (3, vI x3)] [] (FI, FL, FR, GR, v, AL, AR, BR, AN, C) k Φ Ψ) : oX G 2 iX1_judgeSets 355 [(0, vR (some (0, 0))), (1, vI x1), (3, vI x3), (4, vR x4), (5, vI x5), (6, vI x6)] [vI y2, vI y1, vR (some (323, 0))] (FI, FL, FR, GR, AI, AL, AR, BR, AN, C) k Φ Ψ := by
  unfold mX1_judgeSets_j355 at hm
  obtain ⟨g49, hm⟩ := gd_s hm
  obtain ⟨AI49, hAI49, hm⟩ := oLs hm
  refine oX_zast oDs323 (oIn (ohN323 hH) g49) dX1_judgeSets_355 hAI49 ?_
  refine oX_iinc (v := x6 + (1 : Int32)) (ls' := [(6, vI (x6 + (1 : Int32))), (0, vR (some (0, 0))), (1, vI x1), (3, vI x3), (4, vR x4), (5, vI x5)]) dX1_judgeSets_356 rfl rfl (by decide) rfl ?_
  refine oX_goto (tgt := 298) dX1_judgeSets_359 (by decide) ?_
  exact oX_sub [1, 2, 3, 4, 5, 0] rfl (hk (x6 + (1 : Int32), AI49) (Option.some.inj hm).symm)
noncomputable def mX1_judgeSets_j354 (n : Nat) (FI : OhI) (FR : OhQ) (AI : OhI) (AR : OhQ) (BR : OhQ) (AN : OhN) (x1 : Int32) (x3 : Int32) (x4 : OhR) (x5 : Int32) (x6 : Int32) (y1 : Int32) : Option ((Int32 × OhI) ⊕ (OhI)) :=
  mX1_judgeSets_j355 n FI FR AI AR BR AN x1 x3 x4 x5 x6 y1 (0 : Int32)
theorem x_mX1_judgeSets_j354 {G : OhG} {FI AI : OhI} {FL AL : OhL} {FR GR AR BR : OhQ} {AN : OhN} {C : OhC} {k : Nat × Nat} {Φ : OhP} {Ψ : OhX} (hH : ohShH FR AR AN) (n : Nat) (x1 : Int32) (x3 : Int32) (x4 : OhR) (x5 : Int32) (x6 : Int32) (y1 : Int32) {r : (Int32 × OhI) ⊕ (OhI)} (hm : mX1_judgeSets_j354 n FI FR AI AR BR AN x1 x3 x4 x5 x6 y1 = some r) (hk : ∀ v : Int32 × OhI, r = .inl v → oX G 2 iX1_judgeSets 298 [(0, vR (some (0, 0))), (1, vI x1), (3, vI x3), (4, vR x4), (5, vI x5), (6, vI v.1)] [] (FI, FL, FR, GR, v.2, AL, AR, BR, AN, C) k Φ Ψ) (hx1 : ∀ v : OhI, r = .inr v → oX G 2 iX1_judgeSets 362 [(0, vR (some (0, 0))), (1, vI x1), (3, vI x3)] [] (FI, FL, FR, GR, v, AL, AR, BR, AN, C) k Φ Ψ) : oX G 2 iX1_judgeSets 354 [(0, vR (some (0, 0))), (1, vI x1), (3, vI x3), (4, vR x4), (5, vI x5), (6, vI x6)] [vI y1, vR (some (323, 0))] (FI, FL, FR, GR, AI, AL, AR, BR, AN, C) k Φ Ψ := by
  unfold mX1_judgeSets_j354 at hm
  refine oX_iconst (v := (0 : Int32)) dX1_judgeSets_354 (by decide) ?_
  exact oX_sub [0, 1, 2, 3, 4, 5] rfl (x_mX1_judgeSets_j355 hH n x1 x3 x4 x5 x6 y1 (0 : Int32) hm hk hx1)
noncomputable def mX1_judgeSets_b298 (n : Nat) (FI : OhI) (FR : OhQ) (AI : OhI) (AR : OhQ) (BR : OhQ) (AN : OhN) (x1 : Int32) (x3 : Int32) (x4 : OhR) (x5 : Int32) (x6 : Int32) : Option ((Int32 × OhI) ⊕ (OhI)) :=
  (if (Int32.ofNat (AN 323 0)) ≤ x6 then
  some (.inr AI)
else
  (if x5 = 0 then
    some (.inr AI)
  else
    gd (vp_in x6 120) <|
      (if (AI 323 0 x6.toNatClampNeg) = 0 then
      mX1_judgeSets_j354 n FI FR AI AR BR AN x1 x3 x4 x5 x6 x6
    else
      gd (vp_in x6 120) <|
        (oD 14 x4).bind fun a51 =>
        (oD 4 (FR a51.1 a51.2 6)).bind fun a52 =>
        (if (AI 61 0 x6.toNatClampNeg) = (FI a52.1 a52.2 2) then
        mX1_judgeSets_j355 n FI FR AI AR BR AN x1 x3 x4 x5 x6 x6 (1 : Int32)
      else
        mX1_judgeSets_j354 n FI FR AI AR BR AN x1 x3 x4 x5 x6 x6))))
theorem x_mX1_judgeSets_b298 {G : OhG} {FI AI : OhI} {FL AL : OhL} {FR GR AR BR : OhQ} {AN : OhN} {C : OhC} {k : Nat × Nat} {Φ : OhP} {Ψ : OhX} (hH : ohShH FR AR AN) (n : Nat) (x1 : Int32) (x3 : Int32) (x4 : OhR) (x5 : Int32) (x6 : Int32) {r : (Int32 × OhI) ⊕ (OhI)} (hm : mX1_judgeSets_b298 n FI FR AI AR BR AN x1 x3 x4 x5 x6 = some r) (hk : ∀ v : Int32 × OhI, r = .inl v → oX G 2 iX1_judgeSets 298 [(0, vR (some (0, 0))), (1, vI x1), (3, vI x3), (4, vR x4), (5, vI x5), (6, vI v.1)] [] (FI, FL, FR, GR, v.2, AL, AR, BR, AN, C) k Φ Ψ) (hx1 : ∀ v : OhI, r = .inr v → oX G 2 iX1_judgeSets 362 [(0, vR (some (0, 0))), (1, vI x1), (3, vI x3)] [] (FI, FL, FR, GR, v, AL, AR, BR, AN, C) k Φ Ψ) : oX G 2 iX1_judgeSets 298 [(0, vR (some (0, 0))), (1, vI x1), (3, vI x3), (4, vR x4), (5, vI x5), (6, vI x6)] [] (FI, FL, FR, GR, AI, AL, AR, BR, AN, C) k Φ Ψ := by
  unfold mX1_judgeSets_b298 at hm
  refine oX_iload dX1_judgeSets_298 rfl ?_
  refine oX_aload_n dX1_judgeSets_300 rfl rfl ?_
  refine oX_getF fX1_76 rfl oDs0 dX1_judgeSets_301 (ohF323 hH) ?_
  refine oX_alen 1 (by decide) oDs323 dX1_judgeSets_304 ?_
  refine oX_icmp_ge (tgt := 362) dX1_judgeSets_305 (by decide) (fun c45 => ?_) (fun c45 => ?_)
  · have hm := ifp c45 hm
    exact oX_sub [0, 1, 2] rfl (hx1 AI (Option.some.inj hm).symm)
  · have hm := ifn c45 hm
    refine oX_iload dX1_judgeSets_308 rfl ?_
    refine oX_if_eq (tgt := 362) dX1_judgeSets_310 (by decide) (fun c46 => ?_) (fun c46 => ?_)
    · have hm := ifp c46 hm
      exact oX_sub [0, 1, 2] rfl (hx1 AI (Option.some.inj hm).symm)
    · have hm := ifn c46 hm
      refine oX_aload_n dX1_judgeSets_313 rfl rfl ?_
      refine oX_getF fX1_76 rfl oDs0 dX1_judgeSets_314 (ohF323 hH) ?_
      refine oX_iload dX1_judgeSets_317 rfl ?_
      refine oX_aload_n dX1_judgeSets_319 rfl rfl ?_
      refine oX_getF fX1_76 rfl oDs0 dX1_judgeSets_320 (ohF323 hH) ?_
      refine oX_iload dX1_judgeSets_323 rfl ?_
      obtain ⟨g47, hm⟩ := gd_s hm
      refine oX_zald oDs323 (oIn (ohN323 hH) g47) dX1_judgeSets_325 ?_
      refine oX_if_eq (tgt := 354) dX1_judgeSets_326 (by decide) (fun c48 => ?_) (fun c48 => ?_)
      · have hm := ifp c48 hm
        exact oX_sub [0, 1, 2, 3, 4, 5] rfl (x_mX1_judgeSets_j354 hH n x1 x3 x4 x5 x6 x6 hm hk hx1)
      · have hm := ifn c48 hm
        refine oX_aload_n dX1_judgeSets_329 rfl rfl ?_
        refine oX_getF fX1_52 rfl oDs0 dX1_judgeSets_330 (ohF315 hH) ?_
        refine oX_getF fX1_401 rfl oDs315 dX1_judgeSets_333 (ohF61 (ohShH_W hH)) ?_
        refine oX_iload dX1_judgeSets_336 rfl ?_
        obtain ⟨g50, hm⟩ := gd_s hm
        refine oX_iald oDs61 (oIn (ohN61 (ohShH_W hH)) g50) dX1_judgeSets_338 ?_
        refine oX_aload dX1_judgeSets_339 rfl ?_
        obtain ⟨a51, e51, hm⟩ := bd_s hm
        refine oX_getF fX1_258 rfl e51 dX1_judgeSets_341 rfl ?_
        obtain ⟨a52, e52, hm⟩ := bd_s hm
        refine oX_getI fX1_404 rfl e52 dX1_judgeSets_344 ?_
        refine oX_icmp_ne (tgt := 354) dX1_judgeSets_347 (by decide) (fun c53 => ?_) (fun c53 => ?_)
        · have hm := ifp c53 hm
          refine oX_iconst (v := (1 : Int32)) dX1_judgeSets_350 (by decide) ?_
          refine oX_goto (tgt := 355) dX1_judgeSets_351 (by decide) ?_
          exact oX_sub [0, 1, 2, 3, 4, 5] rfl (x_mX1_judgeSets_j355 hH n x1 x3 x4 x5 x6 x6 (1 : Int32) hm hk hx1)
        · have hm := ifn c53 hm
          exact oX_sub [0, 1, 2, 3, 4, 5] rfl (x_mX1_judgeSets_j354 hH n x1 x3 x4 x5 x6 x6 hm hk hx1)
theorem l_mX1_judgeSets_b298 {G : OhG} {FI : OhI} {FL : OhL} {FR : OhQ} {GR : OhQ} {AL : OhL} {AR : OhQ} {BR : OhQ} {AN : OhN} {C : OhC} {k : Nat × Nat} {Φ : OhP} {Ψ : OhX} (hH : ohShH FR AR AN) (n : Nat) (x1 : Int32) (x3 : Int32) (x4 : OhR) (x5 : Int32) : ∀ (f : Nat) (x6 : Int32) (AI : OhI) (b : (OhI)), lpF (fun v => mX1_judgeSets_b298 n FI FR v.2 AR BR AN x1 x3 x4 x5 v.1) f (x6, AI) = some b → (oX G 2 iX1_judgeSets 362 [(0, vR (some (0, 0))), (1, vI x1), (3, vI x3)] [] (FI, FL, FR, GR, b, AL, AR, BR, AN, C) k Φ Ψ) → oX G 2 iX1_judgeSets 298 [(0, vR (some (0, 0))), (1, vI x1), (3, vI x3), (4, vR x4), (5, vI x5), (6, vI x6)] [] (FI, FL, FR, GR, AI, AL, AR, BR, AN, C) k Φ Ψ := by
  intro f
  induction f with
  | zero =>
    intro x6 AI b hm
    cases hm
  | succ f ih =>
    intro x6 AI b hm hx1
    obtain ⟨r, hr, hm⟩ := lp_s hm
    refine x_mX1_judgeSets_b298 hH n x1 x3 x4 x5 x6 hr (fun v e => ?_) (fun v e => ?_)
    · subst e; exact ih v.1 v.2 _ hm hx1
    · subst e; cases (show v = b from hm); exact hx1
noncomputable def mX1_judgeSets_j292 (n : Nat) (FI : OhI) (FR : OhQ) (AI : OhI) (AR : OhQ) (BR : OhQ) (AN : OhN) (x1 : Int32) (x3 : Int32) (x4 : OhR) (x5 : Int32) (y1 : OhR) (y2 : Int32) (y3 : Int32) (y4 : Int32) : Option ((Int32 × Int32 × Int32 × OhI) ⊕ (OhI)) :=
  (mX1_blame FI FR AI AR BR AN y1 y2 y3 y4).bind fun r44 =>
  (lpF (fun v => mX1_judgeSets_b298 n FI FR v.2 AR BR AN x1 x3 x4 x5 v.1) n ((0 : Int32), r44)).bind fun v54 =>
  some (.inl (x1, (1 : Int32), x3 + (1 : Int32), v54))
theorem x_mX1_judgeSets_j292 {G : OhG} {FI AI : OhI} {FL AL : OhL} {FR GR AR BR : OhQ} {AN : OhN} {C : OhC} {k : Nat × Nat} {Φ : OhP} {Ψ : OhX} (hH : ohShH FR AR AN) (n : Nat) (x1 : Int32) (x3 : Int32) (x4 : OhR) (x5 : Int32) (y1 : OhR) (y2 : Int32) (y3 : Int32) (y4 : Int32) {r : (Int32 × Int32 × Int32 × OhI) ⊕ (OhI)} (hm : mX1_judgeSets_j292 n FI FR AI AR BR AN x1 x3 x4 x5 y1 y2 y3 y4 = some r) (hk : ∀ v : Int32 × Int32 × Int32 × OhI, r = .inl v → oX G 2 iX1_judgeSets 126 [(0, vR (some (0, 0))), (1, vI v.1), (2, vI v.2.1), (3, vI v.2.2.1)] [] (FI, FL, FR, GR, v.2.2.2, AL, AR, BR, AN, C) k Φ Ψ) (hx1 : ∀ v : OhI, r = .inr v → oX G 2 iX1_judgeSets 370 [] [] (FI, FL, FR, GR, v, AL, AR, BR, AN, C) k Φ Ψ) : oX G 2 iX1_judgeSets 292 [(0, vR (some (0, 0))), (1, vI x1), (3, vI x3), (4, vR x4), (5, vI x5)] [vI y4, vI y3, vI y2, vR y1, vR (some (0, 0))] (FI, FL, FR, GR, AI, AL, AR, BR, AN, C) k Φ Ψ := by
  unfold mX1_judgeSets_j292 at hm
  obtain ⟨r44, g44, hm⟩ := bd_s hm
  refine oX_cV_ (as := [vR y1, vI y2, vI y3, vI y4]) dX1_judgeSets_292 rfl oDs0 rfl (by decide) rfl ok_X1_blame rfl rfl q1454 q1456 qs30 q129 q1457 (by decide) (Nat.le_of_ble_eq_true rfl) (t_X1_blame hH y1 y2 y3 y4 g44) ?_
  refine oX_iconst (v := (0 : Int32)) dX1_judgeSets_295 (by decide) ?_
  refine oX_istore (ls' := [(6, vI (0 : Int32)), (0, vR (some (0, 0))), (1, vI x1), (3, vI x3), (4, vR x4), (5, vI x5)]) dX1_judgeSets_296 (by decide) rfl ?_
  obtain ⟨v54, g54, hm⟩ := bd_s hm
  refine oX_sub [1, 2, 3, 4, 5, 0] rfl (l_mX1_judgeSets_b298 hH n x1 x3 x4 x5 n (0 : Int32) r44 _ g54 ?_)
  refine oX_iconst (v := (1 : Int32)) dX1_judgeSets_362 (by decide) ?_
  refine oX_istore_n (ls' := [(2, vI (1 : Int32)), (0, vR (some (0, 0))), (1, vI x1), (3, vI x3)]) dX1_judgeSets_363 rfl (by decide) rfl ?_
  refine oX_iinc (v := x3 + (1 : Int32)) (ls' := [(3, vI (x3 + (1 : Int32))), (2, vI (1 : Int32)), (0, vR (some (0, 0))), (1, vI x1)]) dX1_judgeSets_364 rfl rfl (by decide) rfl ?_
  refine oX_goto (tgt := 126) dX1_judgeSets_367 (by decide) ?_
  exact oX_sub [2, 3, 1, 0] rfl (hk (x1, (1 : Int32), x3 + (1 : Int32), v54) (Option.some.inj hm).symm)
noncomputable def mX1_judgeSets_b126 (n : Nat) (FI : OhI) (FR : OhQ) (AI : OhI) (AR : OhQ) (BR : OhQ) (AN : OhN) (x1 : Int32) (x2 : Int32) (x3 : Int32) : Option ((Int32 × Int32 × Int32 × OhI) ⊕ (OhI)) :=
  (if (FI 0 0 17) ≤ x3 then
  some (.inr AI)
else
  gd (vp_in x3 66) <|
    (oD 14 (BR 316 0 x3.toNatClampNeg)).bind fun a22 =>
    gd (vp_in (FI a22.1 a22.2 0) 66) <|
    gd (vp_in (8 : Int32) 9) <|
    oLet (sA AI 422 ((FI a22.1 a22.2 0).toNatClampNeg) (uA (AI 422 ((FI a22.1 a22.2 0).toNatClampNeg)) (8 : Int32).toNatClampNeg (0 : Int32))) fun AI24 =>
    (mX15_hasSet FI a22).bind fun r25 =>
    (if r25 = 0 then
    some (.inl (x1, x2, x3 + (1 : Int32), AI24))
  else
    (lpF (fun v => mX1_judgeSets_b167 n FI FR v.2.2 AR BR AN v.1 v.2.1 x3 (BR 316 0 x3.toNatClampNeg)) n (x1, x2, AI24)).bind fun v33 =>
      (lpF (fun v => mX1_judgeSets_b217 n FI FR v33.2 AR BR AN v33.1 x3 (BR 316 0 x3.toNatClampNeg) v.1 v.2) n ((0 : Int32), (0 : Int32))).bind fun v42 =>
      (if v42 = 0 then
      mX1_judgeSets_j292 n FI FR v33.2 AR BR AN v33.1 x3 (BR 316 0 x3.toNatClampNeg) v42 (BR 316 0 x3.toNatClampNeg) (8 : Int32) (2 : Int32) (1 : Int32)
    else
      mX1_judgeSets_j292 n FI FR v33.2 AR BR AN v33.1 x3 (BR 316 0 x3.toNatClampNeg) v42 (BR 316 0 x3.toNatClampNeg) (8 : Int32) (2 : Int32) (0 : Int32))))
theorem x_mX1_judgeSets_b126 {G : OhG} {FI AI : OhI} {FL AL : OhL} {FR GR AR BR : OhQ} {AN : OhN} {C : OhC} {k : Nat × Nat} {Φ : OhP} {Ψ : OhX} (hH : ohShH FR AR AN) (n : Nat) (x1 : Int32) (x2 : Int32) (x3 : Int32) {r : (Int32 × Int32 × Int32 × OhI) ⊕ (OhI)} (hm : mX1_judgeSets_b126 n FI FR AI AR BR AN x1 x2 x3 = some r) (hk : ∀ v : Int32 × Int32 × Int32 × OhI, r = .inl v → oX G 2 iX1_judgeSets 126 [(0, vR (some (0, 0))), (1, vI v.1), (2, vI v.2.1), (3, vI v.2.2.1)] [] (FI, FL, FR, GR, v.2.2.2, AL, AR, BR, AN, C) k Φ Ψ) (hx1 : ∀ v : OhI, r = .inr v → oX G 2 iX1_judgeSets 370 [] [] (FI, FL, FR, GR, v, AL, AR, BR, AN, C) k Φ Ψ) : oX G 2 iX1_judgeSets 126 [(0, vR (some (0, 0))), (1, vI x1), (2, vI x2), (3, vI x3)] [] (FI, FL, FR, GR, AI, AL, AR, BR, AN, C) k Φ Ψ := by
  unfold mX1_judgeSets_b126 at hm
  refine oX_iload_n dX1_judgeSets_126 rfl rfl ?_
  refine oX_aload_n dX1_judgeSets_127 rfl rfl ?_
  refine oX_getI fX1_227 rfl oDs0 dX1_judgeSets_128 ?_
  refine oX_icmp_ge (tgt := 370) dX1_judgeSets_131 (by decide) (fun c20 => ?_) (fun c20 => ?_)
  · have hm := ifp c20 hm
    exact oX_sub [] rfl (hx1 AI (Option.some.inj hm).symm)
  · have hm := ifn c20 hm
    refine oX_aload_n dX1_judgeSets_134 rfl rfl ?_
    refine oX_getF fX1_58 rfl oDs0 dX1_judgeSets_135 (ohF316 hH) ?_
    refine oX_iload_n dX1_judgeSets_138 rfl rfl ?_
    obtain ⟨g21, hm⟩ := gd_s hm
    refine oX_aaldC oDs316 (oIn (ohN316 hH) g21) dX1_judgeSets_139 rfl ?_
    refine oX_astore (ls' := [(4, vR (BR 316 0 x3.toNatClampNeg)), (0, vR (some (0, 0))), (1, vI x1), (2, vI x2), (3, vI x3)]) dX1_judgeSets_140 (by decide) rfl ?_
    refine oX_aload_n dX1_judgeSets_142 rfl rfl ?_
    refine oX_getF fX1_73 rfl oDs0 dX1_judgeSets_143 (ohF322 hH) ?_
    refine oX_aload dX1_judgeSets_146 rfl ?_
    obtain ⟨a22, e22, hm⟩ := bd_s hm
    refine oX_getI fX1_233 rfl e22 dX1_judgeSets_148 ?_
    obtain ⟨g23, hm⟩ := gd_s hm
    refine oX_aaldR oDs322 (oIn (ohN322 hH) g23) dX1_judgeSets_151 (ohA322 hH (oLt g23)) ?_
    refine oX_bipush (v := (8 : Int32)) dX1_judgeSets_152 (by decide) ?_
    refine oX_iconst (v := (0 : Int32)) dX1_judgeSets_154 (by decide) ?_
    obtain ⟨g24, hm⟩ := gd_s hm
    obtain ⟨AI24, hAI24, hm⟩ := oLs hm
    refine oX_iast oDs422 (oIn (ohM422 hH (oLt g23)) g24) dX1_judgeSets_155 hAI24 ?_
    refine oX_aload dX1_judgeSets_156 rfl ?_
    obtain ⟨r25, g25, hm⟩ := bd_s hm
    refine oX_cV (as := []) dX1_judgeSets_158 rfl e22 rfl (by decide) rfl ok_X15_hasSet rfl rfl q1446 q1447 q1448 q165 q1449 (by decide) (Nat.le_of_ble_eq_true rfl) (t_X15_hasSet a22 ((oD_some e22).2) g25) ?_
    refine oX_if_ne (tgt := 167) dX1_judgeSets_161 (by decide) (fun c26 => ?_) (fun c26 => ?_)
    · have hm := ifp c26 hm
      refine oX_goto (tgt := 364) dX1_judgeSets_164 (by decide) ?_
      refine oX_iinc (v := x3 + (1 : Int32)) (ls' := [(3, vI (x3 + (1 : Int32))), (4, vR (BR 316 0 x3.toNatClampNeg)), (0, vR (some (0, 0))), (1, vI x1), (2, vI x2)]) dX1_judgeSets_364 rfl rfl (by decide) rfl ?_
      refine oX_goto (tgt := 126) dX1_judgeSets_367 (by decide) ?_
      exact oX_sub [2, 3, 4, 0] rfl (hk (x1, x2, x3 + (1 : Int32), AI24) (Option.some.inj hm).symm)
    · have hm := ifn c26 hm
      obtain ⟨v33, g33, hm⟩ := bd_s hm
      refine oX_sub [1, 2, 3, 4, 0] rfl (l_mX1_judgeSets_b167 hH n x3 (BR 316 0 x3.toNatClampNeg) n x1 x2 AI24 _ g33 ?_)
      refine oX_iconst (v := (0 : Int32)) dX1_judgeSets_211 (by decide) ?_
      refine oX_istore (ls' := [(5, vI (0 : Int32)), (0, vR (some (0, 0))), (1, vI v33.1), (3, vI x3), (4, vR (BR 316 0 x3.toNatClampNeg))]) dX1_judgeSets_212 (by decide) rfl ?_
      refine oX_iconst (v := (0 : Int32)) dX1_judgeSets_214 (by decide) ?_
      refine oX_istore (ls' := [(6, vI (0 : Int32)), (5, vI (0 : Int32)), (0, vR (some (0, 0))), (1, vI v33.1), (3, vI x3), (4, vR (BR 316 0 x3.toNatClampNeg))]) dX1_judgeSets_215 (by decide) rfl ?_
      obtain ⟨v42, g42, hm⟩ := bd_s hm
      refine oX_sub [2, 3, 4, 5, 1, 0] rfl (l_mX1_judgeSets_b217 hH n v33.1 x3 (BR 316 0 x3.toNatClampNeg) n (0 : Int32) (0 : Int32) _ g42 ?_)
      refine oX_aload_n dX1_judgeSets_276 rfl rfl ?_
      refine oX_aload dX1_judgeSets_277 rfl ?_
      refine oX_bipush (v := (8 : Int32)) dX1_judgeSets_279 (by decide) ?_
      refine oX_iconst (v := (2 : Int32)) dX1_judgeSets_281 (by decide) ?_
      refine oX_iload dX1_judgeSets_282 rfl ?_
      refine oX_if_ne (tgt := 291) dX1_judgeSets_284 (by decide) (fun c43 => ?_) (fun c43 => ?_)
      · have hm := ifp c43 hm
        refine oX_iconst (v := (1 : Int32)) dX1_judgeSets_287 (by decide) ?_
        refine oX_goto (tgt := 292) dX1_judgeSets_288 (by decide) ?_
        exact oX_sub [0, 1, 2, 3, 4] rfl (x_mX1_judgeSets_j292 hH n v33.1 x3 (BR 316 0 x3.toNatClampNeg) v42 (BR 316 0 x3.toNatClampNeg) (8 : Int32) (2 : Int32) (1 : Int32) hm hk hx1)
      · have hm := ifn c43 hm
        refine oX_iconst (v := (0 : Int32)) dX1_judgeSets_291 (by decide) ?_
        exact oX_sub [0, 1, 2, 3, 4] rfl (x_mX1_judgeSets_j292 hH n v33.1 x3 (BR 316 0 x3.toNatClampNeg) v42 (BR 316 0 x3.toNatClampNeg) (8 : Int32) (2 : Int32) (0 : Int32) hm hk hx1)
theorem l_mX1_judgeSets_b126 {G : OhG} {FI : OhI} {FL : OhL} {FR : OhQ} {GR : OhQ} {AL : OhL} {AR : OhQ} {BR : OhQ} {AN : OhN} {C : OhC} {k : Nat × Nat} {Φ : OhP} {Ψ : OhX} (hH : ohShH FR AR AN) (n : Nat) : ∀ (f : Nat) (x1 : Int32) (x2 : Int32) (x3 : Int32) (AI : OhI) (b : (OhI)), lpF (fun v => mX1_judgeSets_b126 n FI FR v.2.2.2 AR BR AN v.1 v.2.1 v.2.2.1) f (x1, x2, x3, AI) = some b → (oX G 2 iX1_judgeSets 370 [] [] (FI, FL, FR, GR, b, AL, AR, BR, AN, C) k Φ Ψ) → oX G 2 iX1_judgeSets 126 [(0, vR (some (0, 0))), (1, vI x1), (2, vI x2), (3, vI x3)] [] (FI, FL, FR, GR, AI, AL, AR, BR, AN, C) k Φ Ψ := by
  intro f
  induction f with
  | zero =>
    intro x1 x2 x3 AI b hm
    cases hm
  | succ f ih =>
    intro x1 x2 x3 AI b hm hx1
    obtain ⟨r, hr, hm⟩ := lp_s hm
    refine x_mX1_judgeSets_b126 hH n x1 x2 x3 hr (fun v e => ?_) (fun v e => ?_)
    · subst e; exact ih v.1 v.2.1 v.2.2.1 v.2.2.2 _ hm hx1
    · subst e; cases (show v = b from hm); exact hx1
noncomputable def mX1_judgeSets (n : Nat) (FI : OhI) (FR : OhQ) (AI : OhI) (AR : OhQ) (BR : OhQ) (AN : OhN) : Option (OhI) :=
  (lpF (fun v => mX1_judgeSets_b2 n FI FR v.2 AR BR AN v.1) n ((0 : Int32), AI)).bind fun v3 =>
  (lpF (fun v => mX1_judgeSets_b26 n FI FR v.2 AR BR AN v.1) n ((0 : Int32), v3)).bind fun v15 =>
  (lpF (fun v => mX1_judgeSets_b90 n FI FR v.2 AR BR AN v.1) n ((0 : Int32), v15)).bind fun v19 =>
  (lpF (fun v => mX1_judgeSets_b126 n FI FR v.2.2.2 AR BR AN v.1 v.2.1 v.2.2.1) n ((0 : Int32), (1 : Int32), (0 : Int32), v19)).bind fun v55 =>
  some v55
theorem x_mX1_judgeSets {G : OhG} {FI AI : OhI} {FL AL : OhL} {FR GR AR BR : OhQ} {AN : OhN} {C : OhC} {k : Nat × Nat} {Φ : OhP} {Ψ : OhX} (hH : ohShH FR AR AN) (n : Nat) {r : OhI} (hm : mX1_judgeSets n FI FR AI AR BR AN = some r) (hK : Φ none (FI, FL, FR, GR, r, AL, AR, BR, AN, C)) : oX G 2 iX1_judgeSets 0 [(0, vR (some (0, 0)))] [] (FI, FL, FR, GR, AI, AL, AR, BR, AN, C) k Φ Ψ := by
  unfold mX1_judgeSets at hm
  refine oX_iconst (v := (0 : Int32)) dX1_judgeSets_0 (by decide) ?_
  refine oX_istore_n (ls' := [(1, vI (0 : Int32)), (0, vR (some (0, 0)))]) dX1_judgeSets_1 rfl (by decide) rfl ?_
  obtain ⟨v3, g3, hm⟩ := bd_s hm
  refine oX_sub [1, 0] rfl (l_mX1_judgeSets_b2 hH n n (0 : Int32) AI _ g3 ?_)
  refine oX_iconst (v := (0 : Int32)) dX1_judgeSets_24 (by decide) ?_
  refine oX_istore_n (ls' := [(1, vI (0 : Int32)), (0, vR (some (0, 0)))]) dX1_judgeSets_25 rfl (by decide) rfl ?_
  obtain ⟨v15, g15, hm⟩ := bd_s hm
  refine oX_sub [1, 0] rfl (l_mX1_judgeSets_b26 hH n n (0 : Int32) v3 _ g15 ?_)
  refine oX_iconst (v := (0 : Int32)) dX1_judgeSets_88 (by decide) ?_
  refine oX_istore_n (ls' := [(1, vI (0 : Int32)), (0, vR (some (0, 0)))]) dX1_judgeSets_89 rfl (by decide) rfl ?_
  obtain ⟨v19, g19, hm⟩ := bd_s hm
  refine oX_sub [1, 0] rfl (l_mX1_judgeSets_b90 hH n n (0 : Int32) v15 _ g19 ?_)
  refine oX_iconst (v := (0 : Int32)) dX1_judgeSets_120 (by decide) ?_
  refine oX_istore_n (ls' := [(1, vI (0 : Int32)), (0, vR (some (0, 0)))]) dX1_judgeSets_121 rfl (by decide) rfl ?_
  refine oX_iconst (v := (1 : Int32)) dX1_judgeSets_122 (by decide) ?_
  refine oX_istore_n (ls' := [(2, vI (1 : Int32)), (1, vI (0 : Int32)), (0, vR (some (0, 0)))]) dX1_judgeSets_123 rfl (by decide) rfl ?_
  refine oX_iconst (v := (0 : Int32)) dX1_judgeSets_124 (by decide) ?_
  refine oX_istore_n (ls' := [(3, vI (0 : Int32)), (2, vI (1 : Int32)), (1, vI (0 : Int32)), (0, vR (some (0, 0)))]) dX1_judgeSets_125 rfl (by decide) rfl ?_
  obtain ⟨v55, g55, hm⟩ := bd_s hm
  refine oX_sub [3, 2, 1, 0] rfl (l_mX1_judgeSets_b126 hH n n (0 : Int32) (1 : Int32) (0 : Int32) v19 _ g55 ?_)
  obtain rfl := Option.some.inj hm
  exact oX_vret dX1_judgeSets_370 rfl hK
theorem t_X1_judgeSets {G : OhG} {FI AI : OhI} {FL AL : OhL} {FR GR AR BR : OhQ} {AN : OhN} {C : OhC} (hH : ohShH FR AR AN) (n : Nat) {o : OhI} (hm : mX1_judgeSets n FI FR AI AR BR AN = some o) : oT G 2 iX1_judgeSets [vR (some (0, 0))] (FI, FL, FR, GR, AI, AL, AR, BR, AN, C) (0, 0) (fun v h => v = none ∧ h = (FI, FL, FR, GR, o, AL, AR, BR, AN, C)) ohNo :=
  oT_of (by decide) rfl (Nat.le_of_ble_eq_true rfl) (x_mX1_judgeSets hH n hm ⟨rfl, rfl⟩)
abbrev iX1_isTaken : OhM := (yX1_isTaken, cX1_isTaken, 5, (some .boolean), [])
theorem ok_X1_isTaken : oOk iX1_isTaken 1 := ⟨by decide, by decide, by decide +kernel⟩
noncomputable def mX1_isTaken_b12 (n : Nat) (FI : OhI) (FR : OhQ) (AR : OhQ) (BR : OhQ) (AN : OhN) (x1 : Int32) (x2 : OhR) (x3 : Int32) (x4 : Int32) : Option ((Int32 × Int32) ⊕ ((Int32) ⊕ (Unit))) :=
  (if x1 ≤ x4 then
  some (.inr (.inl x3))
else
  gd (vp_in x4 66) <|
    (oD 14 (BR 316 0 x4.toNatClampNeg)).bind fun a4 =>
    (mX15_isOnStage FI a4).bind fun r5 =>
    (if r5 = 0 then
    some (.inl (x3, x4 + (1 : Int32)))
  else
    (oD 14 x2).bind fun a7 =>
      (mX15_isOnStage FI a7).bind fun r8 =>
      (if r8 = 0 then
      some (.inl (x3, x4 + (1 : Int32)))
    else
      gd (vp_in x4 66) <|
        (mX15_isOn FI a4 (FI a7.1 a7.2 4)).bind fun r11 =>
        (if r11 = 0 then
        some (.inl (x3, x4 + (1 : Int32)))
      else
        gd (vp_in x4 66) <|
          (if (FI a4.1 a4.2 2) = (1 : Int32) then
          (if (FI a7.1 a7.2 2) = (1 : Int32) then
            some (.inl (x3 + (1 : Int32), x4 + (1 : Int32)))
          else
            some (.inr (.inr ())))
        else
          some (.inr (.inr ())))))))
theorem x_mX1_isTaken_b12 {G : OhG} {FI AI : OhI} {FL AL : OhL} {FR GR AR BR : OhQ} {AN : OhN} {C : OhC} {k : Nat × Nat} {Φ : OhP} {Ψ : OhX} (hH : ohShH FR AR AN) (n : Nat) (x1 : Int32) (x2 : OhR) (x3 : Int32) (x4 : Int32) {r : (Int32 × Int32) ⊕ ((Int32) ⊕ (Unit))} (hm : mX1_isTaken_b12 n FI FR AR BR AN x1 x2 x3 x4 = some r) (hk : ∀ v : Int32 × Int32, r = .inl v → oX G 2 iX1_isTaken 12 [(0, vR (some (0, 0))), (1, vI x1), (2, vR x2), (3, vI v.1), (4, vI v.2)] [] (FI, FL, FR, GR, AI, AL, AR, BR, AN, C) k Φ Ψ) (hx1 : ∀ v : Int32, r = .inr (.inl v) → oX G 2 iX1_isTaken 91 [(3, vI v)] [] (FI, FL, FR, GR, AI, AL, AR, BR, AN, C) k Φ Ψ) (hx2 : ∀ v : Unit, r = .inr (.inr v) → oX G 2 iX1_isTaken 80 [] [] (FI, FL, FR, GR, AI, AL, AR, BR, AN, C) k Φ Ψ) : oX G 2 iX1_isTaken 12 [(0, vR (some (0, 0))), (1, vI x1), (2, vR x2), (3, vI x3), (4, vI x4)] [] (FI, FL, FR, GR, AI, AL, AR, BR, AN, C) k Φ Ψ := by
  unfold mX1_isTaken_b12 at hm
  refine oX_iload dX1_isTaken_12 rfl ?_
  refine oX_iload_n dX1_isTaken_14 rfl rfl ?_
  refine oX_icmp_ge (tgt := 91) dX1_isTaken_15 (by decide) (fun c2 => ?_) (fun c2 => ?_)
  · have hm := ifp c2 hm
    exact oX_sub [3] rfl (hx1 x3 (Option.some.inj hm).symm)
  · have hm := ifn c2 hm
    refine oX_aload_n dX1_isTaken_18 rfl rfl ?_
    refine oX_getF fX1_58 rfl oDs0 dX1_isTaken_19 (ohF316 hH) ?_
    refine oX_iload dX1_isTaken_22 rfl ?_
    obtain ⟨g3, hm⟩ := gd_s hm
    refine oX_aaldC oDs316 (oIn (ohN316 hH) g3) dX1_isTaken_24 rfl ?_
    obtain ⟨a4, e4, hm⟩ := bd_s hm
    obtain ⟨r5, g5, hm⟩ := bd_s hm
    refine oX_cV (as := []) dX1_isTaken_25 rfl e4 rfl (by decide) rfl ok_X15_isOnStage rfl rfl q1442 q1443 q1444 q165 q1445 (by decide) (Nat.le_of_ble_eq_true rfl) (t_X15_isOnStage a4 ((oD_some e4).2) g5) ?_
    refine oX_if_eq (tgt := 85) dX1_isTaken_28 (by decide) (fun c6 => ?_) (fun c6 => ?_)
    · have hm := ifp c6 hm
      refine oX_iinc (v := x4 + (1 : Int32)) (ls' := [(4, vI (x4 + (1 : Int32))), (0, vR (some (0, 0))), (1, vI x1), (2, vR x2), (3, vI x3)]) dX1_isTaken_85 rfl rfl (by decide) rfl ?_
      refine oX_goto (tgt := 12) dX1_isTaken_88 (by decide) ?_
      exact oX_sub [1, 2, 3, 4, 0] rfl (hk (x3, x4 + (1 : Int32)) (Option.some.inj hm).symm)
    · have hm := ifn c6 hm
      refine oX_aload_n dX1_isTaken_31 rfl rfl ?_
      obtain ⟨a7, e7, hm⟩ := bd_s hm
      obtain ⟨r8, g8, hm⟩ := bd_s hm
      refine oX_cV (as := []) dX1_isTaken_32 rfl e7 rfl (by decide) rfl ok_X15_isOnStage rfl rfl q1442 q1443 q1444 q165 q1445 (by decide) (Nat.le_of_ble_eq_true rfl) (t_X15_isOnStage a7 ((oD_some e7).2) g8) ?_
      refine oX_if_eq (tgt := 85) dX1_isTaken_35 (by decide) (fun c9 => ?_) (fun c9 => ?_)
      · have hm := ifp c9 hm
        refine oX_iinc (v := x4 + (1 : Int32)) (ls' := [(4, vI (x4 + (1 : Int32))), (0, vR (some (0, 0))), (1, vI x1), (2, vR x2), (3, vI x3)]) dX1_isTaken_85 rfl rfl (by decide) rfl ?_
        refine oX_goto (tgt := 12) dX1_isTaken_88 (by decide) ?_
        exact oX_sub [1, 2, 3, 4, 0] rfl (hk (x3, x4 + (1 : Int32)) (Option.some.inj hm).symm)
      · have hm := ifn c9 hm
        refine oX_aload_n dX1_isTaken_38 rfl rfl ?_
        refine oX_getF fX1_58 rfl oDs0 dX1_isTaken_39 (ohF316 hH) ?_
        refine oX_iload dX1_isTaken_42 rfl ?_
        obtain ⟨g10, hm⟩ := gd_s hm
        refine oX_aaldC oDs316 (oIn (ohN316 hH) g10) dX1_isTaken_44 rfl ?_
        refine oX_aload_n dX1_isTaken_45 rfl rfl ?_
        refine oX_getI fX1_230 rfl e7 dX1_isTaken_46 ?_
        obtain ⟨r11, g11, hm⟩ := bd_s hm
        refine oX_cV (as := [vI (FI a7.1 a7.2 4)]) dX1_isTaken_49 rfl e4 rfl (by decide) rfl ok_X15_isOn rfl rfl q1462 q1463 q1464 q165 q1465 (by decide) (Nat.le_of_ble_eq_true rfl) (t_X15_isOn a4 ((oD_some e4).2) (FI a7.1 a7.2 4) g11) ?_
        refine oX_if_ne (tgt := 58) dX1_isTaken_52 (by decide) (fun c12 => ?_) (fun c12 => ?_)
        · have hm := ifp c12 hm
          refine oX_goto (tgt := 85) dX1_isTaken_55 (by decide) ?_
          refine oX_iinc (v := x4 + (1 : Int32)) (ls' := [(4, vI (x4 + (1 : Int32))), (0, vR (some (0, 0))), (1, vI x1), (2, vR x2), (3, vI x3)]) dX1_isTaken_85 rfl rfl (by decide) rfl ?_
          refine oX_goto (tgt := 12) dX1_isTaken_88 (by decide) ?_
          exact oX_sub [1, 2, 3, 4, 0] rfl (hk (x3, x4 + (1 : Int32)) (Option.some.inj hm).symm)
        · have hm := ifn c12 hm
          refine oX_aload_n dX1_isTaken_58 rfl rfl ?_
          refine oX_getF fX1_58 rfl oDs0 dX1_isTaken_59 (ohF316 hH) ?_
          refine oX_iload dX1_isTaken_62 rfl ?_
          obtain ⟨g13, hm⟩ := gd_s hm
          refine oX_aaldC oDs316 (oIn (ohN316 hH) g13) dX1_isTaken_64 rfl ?_
          refine oX_getI fX1_281 rfl e4 dX1_isTaken_65 ?_
          refine oX_iconst (v := (1 : Int32)) dX1_isTaken_68 (by decide) ?_
          refine oX_icmp_ne (tgt := 80) dX1_isTaken_69 (by decide) (fun c14 => ?_) (fun c14 => ?_)
          · have hm := ifp c14 hm
            refine oX_aload_n dX1_isTaken_72 rfl rfl ?_
            refine oX_getI fX1_281 rfl e7 dX1_isTaken_73 ?_
            refine oX_iconst (v := (1 : Int32)) dX1_isTaken_76 (by decide) ?_
            refine oX_icmp_eq (tgt := 82) dX1_isTaken_77 (by decide) (fun c15 => ?_) (fun c15 => ?_)
            · have hm := ifp c15 hm
              refine oX_iinc (v := x3 + (1 : Int32)) (ls' := [(3, vI (x3 + (1 : Int32))), (0, vR (some (0, 0))), (1, vI x1), (2, vR x2), (4, vI x4)]) dX1_isTaken_82 rfl rfl (by decide) rfl ?_
              refine oX_iinc (v := x4 + (1 : Int32)) (ls' := [(4, vI (x4 + (1 : Int32))), (3, vI (x3 + (1 : Int32))), (0, vR (some (0, 0))), (1, vI x1), (2, vR x2)]) dX1_isTaken_85 rfl rfl (by decide) rfl ?_
              refine oX_goto (tgt := 12) dX1_isTaken_88 (by decide) ?_
              exact oX_sub [2, 3, 4, 1, 0] rfl (hk (x3 + (1 : Int32), x4 + (1 : Int32)) (Option.some.inj hm).symm)
            · have hm := ifn c15 hm
              exact oX_sub [] rfl (hx2 () (Option.some.inj hm).symm)
          · have hm := ifn c14 hm
            exact oX_sub [] rfl (hx2 () (Option.some.inj hm).symm)
theorem l_mX1_isTaken_b12 {G : OhG} {FI : OhI} {FL : OhL} {FR : OhQ} {GR : OhQ} {AI : OhI} {AL : OhL} {AR : OhQ} {BR : OhQ} {AN : OhN} {C : OhC} {k : Nat × Nat} {Φ : OhP} {Ψ : OhX} (hH : ohShH FR AR AN) (n : Nat) (x1 : Int32) (x2 : OhR) : ∀ (f : Nat) (x3 : Int32) (x4 : Int32) (b : ((Int32) ⊕ (Unit))), lpF (fun v => mX1_isTaken_b12 n FI FR AR BR AN x1 x2 v.1 v.2) f (x3, x4) = some b → (∀ v : Int32, b = (.inl v) → oX G 2 iX1_isTaken 91 [(3, vI v)] [] (FI, FL, FR, GR, AI, AL, AR, BR, AN, C) k Φ Ψ) → (∀ v : Unit, b = (.inr v) → oX G 2 iX1_isTaken 80 [] [] (FI, FL, FR, GR, AI, AL, AR, BR, AN, C) k Φ Ψ) → oX G 2 iX1_isTaken 12 [(0, vR (some (0, 0))), (1, vI x1), (2, vR x2), (3, vI x3), (4, vI x4)] [] (FI, FL, FR, GR, AI, AL, AR, BR, AN, C) k Φ Ψ := by
  intro f
  induction f with
  | zero =>
    intro x3 x4 b hm
    cases hm
  | succ f ih =>
    intro x3 x4 b hm hx1 hx2
    obtain ⟨r, hr, hm⟩ := lp_s hm
    refine x_mX1_isTaken_b12 hH n x1 x2 x3 x4 hr (fun v e => ?_) (fun v e => ?_) (fun v e => ?_)
    · subst e; exact ih v.1 v.2 _ hm hx1 hx2
    · subst e; exact hx1 v hm.symm
    · subst e; exact hx2 v hm.symm
noncomputable def mX1_isTaken (n : Nat) (FI : OhI) (FR : OhQ) (AR : OhQ) (BR : OhQ) (AN : OhN) (x1 : Int32) : Option (Int32) :=
  gd (vp_in x1 66) <|
  (lpF (fun v => mX1_isTaken_b12 n FI FR AR BR AN x1 (BR 316 0 x1.toNatClampNeg) v.1 v.2) n ((0 : Int32), (0 : Int32))).bind (Sum.elim (fun v16 => (if v16 ≤ (1 : Int32) then
  some (0 : Int32)
else
  some (1 : Int32))) (fun v16 => some (1 : Int32)))
theorem x_mX1_isTaken {G : OhG} {FI AI : OhI} {FL AL : OhL} {FR GR AR BR : OhQ} {AN : OhN} {C : OhC} {k : Nat × Nat} {Φ : OhP} {Ψ : OhX} (hH : ohShH FR AR AN) (n : Nat) (x1 : Int32) {r : Int32} (hm : mX1_isTaken n FI FR AR BR AN x1 = some r) (hK : Φ (some (vI r)) (FI, FL, FR, GR, AI, AL, AR, BR, AN, C)) : oX G 2 iX1_isTaken 0 [(0, vR (some (0, 0))), (1, vI x1)] [] (FI, FL, FR, GR, AI, AL, AR, BR, AN, C) k Φ Ψ := by
  unfold mX1_isTaken at hm
  refine oX_aload_n dX1_isTaken_0 rfl rfl ?_
  refine oX_getF fX1_58 rfl oDs0 dX1_isTaken_1 (ohF316 hH) ?_
  refine oX_iload_n dX1_isTaken_4 rfl rfl ?_
  obtain ⟨g1, hm⟩ := gd_s hm
  refine oX_aaldC oDs316 (oIn (ohN316 hH) g1) dX1_isTaken_5 rfl ?_
  refine oX_astore_n (ls' := [(2, vR (BR 316 0 x1.toNatClampNeg)), (0, vR (some (0, 0))), (1, vI x1)]) dX1_isTaken_6 rfl (by decide) rfl ?_
  refine oX_iconst (v := (0 : Int32)) dX1_isTaken_7 (by decide) ?_
  refine oX_istore_n (ls' := [(3, vI (0 : Int32)), (2, vR (BR 316 0 x1.toNatClampNeg)), (0, vR (some (0, 0))), (1, vI x1)]) dX1_isTaken_8 rfl (by decide) rfl ?_
  refine oX_iconst (v := (0 : Int32)) dX1_isTaken_9 (by decide) ?_
  refine oX_istore (ls' := [(4, vI (0 : Int32)), (3, vI (0 : Int32)), (2, vR (BR 316 0 x1.toNatClampNeg)), (0, vR (some (0, 0))), (1, vI x1)]) dX1_isTaken_10 (by decide) rfl ?_
  obtain ⟨b16, g16, hm⟩ := bd_s hm
  refine oX_sub [3, 4, 2, 1, 0] rfl (l_mX1_isTaken_b12 hH n x1 (BR 316 0 x1.toNatClampNeg) n (0 : Int32) (0 : Int32) _ g16 (fun v16 e16 => ?_) (fun v16 e16 => ?_))
  · subst e16
    have hm := el1 hm
    refine oX_iload_n dX1_isTaken_91 rfl rfl ?_
    refine oX_iconst (v := (1 : Int32)) dX1_isTaken_92 (by decide) ?_
    refine oX_icmp_le (tgt := 100) dX1_isTaken_93 (by decide) (fun c17 => ?_) (fun c17 => ?_)
    · have hm := ifp c17 hm
      refine oX_iconst (v := (0 : Int32)) dX1_isTaken_100 (by decide) ?_
      obtain rfl := Option.some.inj hm
      exact oX_iret dX1_isTaken_101 rfl (by decide) hK
    · have hm := ifn c17 hm
      refine oX_iconst (v := (1 : Int32)) dX1_isTaken_96 (by decide) ?_
      refine oX_goto (tgt := 101) dX1_isTaken_97 (by decide) ?_
      obtain rfl := Option.some.inj hm
      exact oX_iret dX1_isTaken_101 rfl (by decide) hK
  · subst e16
    have hm := el2 hm
    refine oX_iconst (v := (1 : Int32)) dX1_isTaken_80 (by decide) ?_
    obtain rfl := Option.some.inj hm
    exact oX_iret dX1_isTaken_81 rfl (by decide) hK
theorem t_X1_isTaken {G : OhG} {FI AI : OhI} {FL AL : OhL} {FR GR AR BR : OhQ} {AN : OhN} {C : OhC} (hH : ohShH FR AR AN) (n : Nat) (x1 : Int32) {o : Int32} (hm : mX1_isTaken n FI FR AR BR AN x1 = some o) : oT G 2 iX1_isTaken [vR (some (0, 0)), vI x1] (FI, FL, FR, GR, AI, AL, AR, BR, AN, C) (0, 0) (fun v h => v = (some (vI o)) ∧ h = (FI, FL, FR, GR, AI, AL, AR, BR, AN, C)) ohNo :=
  oT_of (by decide) rfl (Nat.le_of_ble_eq_true rfl) (x_mX1_isTaken hH n x1 hm ⟨rfl, rfl⟩)
abbrev iX1_isRehearsed : OhM := (yX1_isRehearsed, cX1_isRehearsed, 5, (some .boolean), [])
theorem ok_X1_isRehearsed : oOk iX1_isRehearsed 1 := ⟨by decide, by decide, by decide +kernel⟩
noncomputable def mX1_isRehearsed_b11 (n : Nat) (FI : OhI) (FR : OhQ) (AR : OhQ) (BR : OhQ) (AN : OhN) (x1 : OhR) (x2 : Int32) (x3 : Int32) (x4 : Int32) : Option ((Int32 × Int32) ⊕ (Int32)) :=
  (if (FI 0 0 17) ≤ x4 then
  some (.inr x2)
else
  gd (vp_in x4 66) <|
    (oD 14 (BR 316 0 x4.toNatClampNeg)).bind fun a3 =>
    (oD 14 x1).bind fun a4 =>
    gd (oNm (FR a3.1 a3.2 6) (FR a4.1 a4.2 6)) <|
    (if (FR a3.1 a3.2 6) = (FR a4.1 a4.2 6) then
    gd (vp_in x4 66) <|
      (if (FI a3.1 a3.2 2) = 0 then
      gd (vp_in x4 66) <|
        (mJ3_min x2 (FI a3.1 a3.2 5)).bind fun r9 =>
        some (.inl (r9, x4 + (1 : Int32)))
    else
      some (.inl (x2, x4 + (1 : Int32))))
  else
    some (.inl (x2, x4 + (1 : Int32)))))
theorem x_mX1_isRehearsed_b11 {G : OhG} {FI AI : OhI} {FL AL : OhL} {FR GR AR BR : OhQ} {AN : OhN} {C : OhC} {k : Nat × Nat} {Φ : OhP} {Ψ : OhX} (hH : ohShH FR AR AN) (n : Nat) (x1 : OhR) (x2 : Int32) (x3 : Int32) (x4 : Int32) {r : (Int32 × Int32) ⊕ (Int32)} (hm : mX1_isRehearsed_b11 n FI FR AR BR AN x1 x2 x3 x4 = some r) (hk : ∀ v : Int32 × Int32, r = .inl v → oX G 2 iX1_isRehearsed 11 [(0, vR (some (0, 0))), (1, vR x1), (2, vI v.1), (3, vI x3), (4, vI v.2)] [] (FI, FL, FR, GR, AI, AL, AR, BR, AN, C) k Φ Ψ) (hx1 : ∀ v : Int32, r = .inr v → oX G 2 iX1_isRehearsed 71 [(0, vR (some (0, 0))), (1, vR x1), (2, vI v), (3, vI x3)] [] (FI, FL, FR, GR, AI, AL, AR, BR, AN, C) k Φ Ψ) : oX G 2 iX1_isRehearsed 11 [(0, vR (some (0, 0))), (1, vR x1), (2, vI x2), (3, vI x3), (4, vI x4)] [] (FI, FL, FR, GR, AI, AL, AR, BR, AN, C) k Φ Ψ := by
  unfold mX1_isRehearsed_b11 at hm
  refine oX_iload dX1_isRehearsed_11 rfl ?_
  refine oX_aload_n dX1_isRehearsed_13 rfl rfl ?_
  refine oX_getI fX1_227 rfl oDs0 dX1_isRehearsed_14 ?_
  refine oX_icmp_ge (tgt := 71) dX1_isRehearsed_17 (by decide) (fun c1 => ?_) (fun c1 => ?_)
  · have hm := ifp c1 hm
    exact oX_sub [0, 1, 2, 3] rfl (hx1 x2 (Option.some.inj hm).symm)
  · have hm := ifn c1 hm
    refine oX_aload_n dX1_isRehearsed_20 rfl rfl ?_
    refine oX_getF fX1_58 rfl oDs0 dX1_isRehearsed_21 (ohF316 hH) ?_
    refine oX_iload dX1_isRehearsed_24 rfl ?_
    obtain ⟨g2, hm⟩ := gd_s hm
    refine oX_aaldC oDs316 (oIn (ohN316 hH) g2) dX1_isRehearsed_26 rfl ?_
    obtain ⟨a3, e3, hm⟩ := bd_s hm
    refine oX_getF fX1_258 rfl e3 dX1_isRehearsed_27 rfl ?_
    refine oX_aload_n dX1_isRehearsed_30 rfl rfl ?_
    obtain ⟨a4, e4, hm⟩ := bd_s hm
    refine oX_getF fX1_258 rfl e4 dX1_isRehearsed_31 rfl ?_
    obtain ⟨n5, hm⟩ := gd_s hm
    refine oX_acmp_ne (tgt := 65) n5 dX1_isRehearsed_34 (by decide) (fun c5 => ?_) (fun c5 => ?_)
    · have hm := ifp c5 hm
      refine oX_aload_n dX1_isRehearsed_37 rfl rfl ?_
      refine oX_getF fX1_58 rfl oDs0 dX1_isRehearsed_38 (ohF316 hH) ?_
      refine oX_iload dX1_isRehearsed_41 rfl ?_
      obtain ⟨g6, hm⟩ := gd_s hm
      refine oX_aaldC oDs316 (oIn (ohN316 hH) g6) dX1_isRehearsed_43 rfl ?_
      refine oX_getI fX1_281 rfl e3 dX1_isRehearsed_44 ?_
      refine oX_if_ne (tgt := 65) dX1_isRehearsed_47 (by decide) (fun c7 => ?_) (fun c7 => ?_)
      · have hm := ifp c7 hm
        refine oX_iload_n dX1_isRehearsed_50 rfl rfl ?_
        refine oX_aload_n dX1_isRehearsed_51 rfl rfl ?_
        refine oX_getF fX1_58 rfl oDs0 dX1_isRehearsed_52 (ohF316 hH) ?_
        refine oX_iload dX1_isRehearsed_55 rfl ?_
        obtain ⟨g8, hm⟩ := gd_s hm
        refine oX_aaldC oDs316 (oIn (ohN316 hH) g8) dX1_isRehearsed_57 rfl ?_
        refine oX_getI fX1_282 rfl e3 dX1_isRehearsed_58 ?_
        obtain ⟨r9, g9, hm⟩ := bd_s hm
        refine oX_cS (as := [vI x2, vI (FI a3.1 a3.2 5)]) dX1_isRehearsed_61 rfl ok_J3_min rfl rfl q1471 q232 q134 q233 (by decide) (Nat.le_of_ble_eq_true rfl) (t_J3_min x2 (FI a3.1 a3.2 5) g9) ?_
        refine oX_istore_n (ls' := [(2, vI r9), (0, vR (some (0, 0))), (1, vR x1), (3, vI x3), (4, vI x4)]) dX1_isRehearsed_64 rfl (by decide) rfl ?_
        refine oX_iinc (v := x4 + (1 : Int32)) (ls' := [(4, vI (x4 + (1 : Int32))), (2, vI r9), (0, vR (some (0, 0))), (1, vR x1), (3, vI x3)]) dX1_isRehearsed_65 rfl rfl (by decide) rfl ?_
        refine oX_goto (tgt := 11) dX1_isRehearsed_68 (by decide) ?_
        exact oX_sub [2, 3, 1, 4, 0] rfl (hk (r9, x4 + (1 : Int32)) (Option.some.inj hm).symm)
      · have hm := ifn c7 hm
        refine oX_iinc (v := x4 + (1 : Int32)) (ls' := [(4, vI (x4 + (1 : Int32))), (0, vR (some (0, 0))), (1, vR x1), (2, vI x2), (3, vI x3)]) dX1_isRehearsed_65 rfl rfl (by decide) rfl ?_
        refine oX_goto (tgt := 11) dX1_isRehearsed_68 (by decide) ?_
        exact oX_sub [1, 2, 3, 4, 0] rfl (hk (x2, x4 + (1 : Int32)) (Option.some.inj hm).symm)
    · have hm := ifn c5 hm
      refine oX_iinc (v := x4 + (1 : Int32)) (ls' := [(4, vI (x4 + (1 : Int32))), (0, vR (some (0, 0))), (1, vR x1), (2, vI x2), (3, vI x3)]) dX1_isRehearsed_65 rfl rfl (by decide) rfl ?_
      refine oX_goto (tgt := 11) dX1_isRehearsed_68 (by decide) ?_
      exact oX_sub [1, 2, 3, 4, 0] rfl (hk (x2, x4 + (1 : Int32)) (Option.some.inj hm).symm)
theorem l_mX1_isRehearsed_b11 {G : OhG} {FI : OhI} {FL : OhL} {FR : OhQ} {GR : OhQ} {AI : OhI} {AL : OhL} {AR : OhQ} {BR : OhQ} {AN : OhN} {C : OhC} {k : Nat × Nat} {Φ : OhP} {Ψ : OhX} (hH : ohShH FR AR AN) (n : Nat) (x1 : OhR) (x3 : Int32) : ∀ (f : Nat) (x2 : Int32) (x4 : Int32) (b : (Int32)), lpF (fun v => mX1_isRehearsed_b11 n FI FR AR BR AN x1 v.1 x3 v.2) f (x2, x4) = some b → (oX G 2 iX1_isRehearsed 71 [(0, vR (some (0, 0))), (1, vR x1), (2, vI b), (3, vI x3)] [] (FI, FL, FR, GR, AI, AL, AR, BR, AN, C) k Φ Ψ) → oX G 2 iX1_isRehearsed 11 [(0, vR (some (0, 0))), (1, vR x1), (2, vI x2), (3, vI x3), (4, vI x4)] [] (FI, FL, FR, GR, AI, AL, AR, BR, AN, C) k Φ Ψ := by
  intro f
  induction f with
  | zero =>
    intro x2 x4 b hm
    cases hm
  | succ f ih =>
    intro x2 x4 b hm hx1
    obtain ⟨r, hr, hm⟩ := lp_s hm
    refine x_mX1_isRehearsed_b11 hH n x1 x2 x3 x4 hr (fun v e => ?_) (fun v e => ?_)
    · subst e; exact ih v.1 v.2 _ hm hx1
    · subst e; cases (show v = b from hm); exact hx1
noncomputable def mX1_isRehearsed_b74 (n : Nat) (FI : OhI) (FR : OhQ) (AR : OhQ) (BR : OhQ) (AN : OhN) (x1 : OhR) (x2 : Int32) (x3 : Int32) (x4 : Int32) : Option ((Int32 × Int32) ⊕ (Int32)) :=
  (if (FI 0 0 17) ≤ x4 then
  some (.inr x3)
else
  gd (vp_in x4 66) <|
    (oD 14 (BR 316 0 x4.toNatClampNeg)).bind fun a13 =>
    (oD 14 x1).bind fun a14 =>
    gd (oNm (FR a13.1 a13.2 6) (FR a14.1 a14.2 6)) <|
    (if (FR a13.1 a13.2 6) = (FR a14.1 a14.2 6) then
    gd (vp_in x4 66) <|
      (if (FI a13.1 a13.2 2) = (1 : Int32) then
      gd (vp_in x4 66) <|
        (if (FI a13.1 a13.2 4) < x2 then
        some (.inl (x3, x4 + (1 : Int32)))
      else
        gd (vp_in x4 66) <|
          (mJ3_min x3 (FI a13.1 a13.2 5)).bind fun r21 =>
          some (.inl (r21, x4 + (1 : Int32))))
    else
      some (.inl (x3, x4 + (1 : Int32))))
  else
    some (.inl (x3, x4 + (1 : Int32)))))
theorem x_mX1_isRehearsed_b74 {G : OhG} {FI AI : OhI} {FL AL : OhL} {FR GR AR BR : OhQ} {AN : OhN} {C : OhC} {k : Nat × Nat} {Φ : OhP} {Ψ : OhX} (hH : ohShH FR AR AN) (n : Nat) (x1 : OhR) (x2 : Int32) (x3 : Int32) (x4 : Int32) {r : (Int32 × Int32) ⊕ (Int32)} (hm : mX1_isRehearsed_b74 n FI FR AR BR AN x1 x2 x3 x4 = some r) (hk : ∀ v : Int32 × Int32, r = .inl v → oX G 2 iX1_isRehearsed 74 [(0, vR (some (0, 0))), (1, vR x1), (2, vI x2), (3, vI v.1), (4, vI v.2)] [] (FI, FL, FR, GR, AI, AL, AR, BR, AN, C) k Φ Ψ) (hx1 : ∀ v : Int32, r = .inr v → oX G 2 iX1_isRehearsed 149 [(0, vR (some (0, 0))), (1, vR x1), (3, vI v)] [] (FI, FL, FR, GR, AI, AL, AR, BR, AN, C) k Φ Ψ) : oX G 2 iX1_isRehearsed 74 [(0, vR (some (0, 0))), (1, vR x1), (2, vI x2), (3, vI x3), (4, vI x4)] [] (FI, FL, FR, GR, AI, AL, AR, BR, AN, C) k Φ Ψ := by
  unfold mX1_isRehearsed_b74 at hm
  refine oX_iload dX1_isRehearsed_74 rfl ?_
  refine oX_aload_n dX1_isRehearsed_76 rfl rfl ?_
  refine oX_getI fX1_227 rfl oDs0 dX1_isRehearsed_77 ?_
  refine oX_icmp_ge (tgt := 149) dX1_isRehearsed_80 (by decide) (fun c11 => ?_) (fun c11 => ?_)
  · have hm := ifp c11 hm
    exact oX_sub [0, 1, 3] rfl (hx1 x3 (Option.some.inj hm).symm)
  · have hm := ifn c11 hm
    refine oX_aload_n dX1_isRehearsed_83 rfl rfl ?_
    refine oX_getF fX1_58 rfl oDs0 dX1_isRehearsed_84 (ohF316 hH) ?_
    refine oX_iload dX1_isRehearsed_87 rfl ?_
    obtain ⟨g12, hm⟩ := gd_s hm
    refine oX_aaldC oDs316 (oIn (ohN316 hH) g12) dX1_isRehearsed_89 rfl ?_
    obtain ⟨a13, e13, hm⟩ := bd_s hm
    refine oX_getF fX1_258 rfl e13 dX1_isRehearsed_90 rfl ?_
    refine oX_aload_n dX1_isRehearsed_93 rfl rfl ?_
    obtain ⟨a14, e14, hm⟩ := bd_s hm
    refine oX_getF fX1_258 rfl e14 dX1_isRehearsed_94 rfl ?_
    obtain ⟨n15, hm⟩ := gd_s hm
    refine oX_acmp_ne (tgt := 143) n15 dX1_isRehearsed_97 (by decide) (fun c15 => ?_) (fun c15 => ?_)
    · have hm := ifp c15 hm
      refine oX_aload_n dX1_isRehearsed_100 rfl rfl ?_
      refine oX_getF fX1_58 rfl oDs0 dX1_isRehearsed_101 (ohF316 hH) ?_
      refine oX_iload dX1_isRehearsed_104 rfl ?_
      obtain ⟨g16, hm⟩ := gd_s hm
      refine oX_aaldC oDs316 (oIn (ohN316 hH) g16) dX1_isRehearsed_106 rfl ?_
      refine oX_getI fX1_281 rfl e13 dX1_isRehearsed_107 ?_
      refine oX_iconst (v := (1 : Int32)) dX1_isRehearsed_110 (by decide) ?_
      refine oX_icmp_ne (tgt := 143) dX1_isRehearsed_111 (by decide) (fun c17 => ?_) (fun c17 => ?_)
      · have hm := ifp c17 hm
        refine oX_aload_n dX1_isRehearsed_114 rfl rfl ?_
        refine oX_getF fX1_58 rfl oDs0 dX1_isRehearsed_115 (ohF316 hH) ?_
        refine oX_iload dX1_isRehearsed_118 rfl ?_
        obtain ⟨g18, hm⟩ := gd_s hm
        refine oX_aaldC oDs316 (oIn (ohN316 hH) g18) dX1_isRehearsed_120 rfl ?_
        refine oX_getI fX1_230 rfl e13 dX1_isRehearsed_121 ?_
        refine oX_iload_n dX1_isRehearsed_124 rfl rfl ?_
        refine oX_icmp_lt (tgt := 143) dX1_isRehearsed_125 (by decide) (fun c19 => ?_) (fun c19 => ?_)
        · have hm := ifp c19 hm
          refine oX_iinc (v := x4 + (1 : Int32)) (ls' := [(4, vI (x4 + (1 : Int32))), (0, vR (some (0, 0))), (1, vR x1), (2, vI x2), (3, vI x3)]) dX1_isRehearsed_143 rfl rfl (by decide) rfl ?_
          refine oX_goto (tgt := 74) dX1_isRehearsed_146 (by decide) ?_
          exact oX_sub [1, 2, 3, 4, 0] rfl (hk (x3, x4 + (1 : Int32)) (Option.some.inj hm).symm)
        · have hm := ifn c19 hm
          refine oX_iload_n dX1_isRehearsed_128 rfl rfl ?_
          refine oX_aload_n dX1_isRehearsed_129 rfl rfl ?_
          refine oX_getF fX1_58 rfl oDs0 dX1_isRehearsed_130 (ohF316 hH) ?_
          refine oX_iload dX1_isRehearsed_133 rfl ?_
          obtain ⟨g20, hm⟩ := gd_s hm
          refine oX_aaldC oDs316 (oIn (ohN316 hH) g20) dX1_isRehearsed_135 rfl ?_
          refine oX_getI fX1_282 rfl e13 dX1_isRehearsed_136 ?_
          obtain ⟨r21, g21, hm⟩ := bd_s hm
          refine oX_cS (as := [vI x3, vI (FI a13.1 a13.2 5)]) dX1_isRehearsed_139 rfl ok_J3_min rfl rfl q1471 q232 q134 q233 (by decide) (Nat.le_of_ble_eq_true rfl) (t_J3_min x3 (FI a13.1 a13.2 5) g21) ?_
          refine oX_istore_n (ls' := [(3, vI r21), (0, vR (some (0, 0))), (1, vR x1), (2, vI x2), (4, vI x4)]) dX1_isRehearsed_142 rfl (by decide) rfl ?_
          refine oX_iinc (v := x4 + (1 : Int32)) (ls' := [(4, vI (x4 + (1 : Int32))), (3, vI r21), (0, vR (some (0, 0))), (1, vR x1), (2, vI x2)]) dX1_isRehearsed_143 rfl rfl (by decide) rfl ?_
          refine oX_goto (tgt := 74) dX1_isRehearsed_146 (by decide) ?_
          exact oX_sub [2, 3, 4, 1, 0] rfl (hk (r21, x4 + (1 : Int32)) (Option.some.inj hm).symm)
      · have hm := ifn c17 hm
        refine oX_iinc (v := x4 + (1 : Int32)) (ls' := [(4, vI (x4 + (1 : Int32))), (0, vR (some (0, 0))), (1, vR x1), (2, vI x2), (3, vI x3)]) dX1_isRehearsed_143 rfl rfl (by decide) rfl ?_
        refine oX_goto (tgt := 74) dX1_isRehearsed_146 (by decide) ?_
        exact oX_sub [1, 2, 3, 4, 0] rfl (hk (x3, x4 + (1 : Int32)) (Option.some.inj hm).symm)
    · have hm := ifn c15 hm
      refine oX_iinc (v := x4 + (1 : Int32)) (ls' := [(4, vI (x4 + (1 : Int32))), (0, vR (some (0, 0))), (1, vR x1), (2, vI x2), (3, vI x3)]) dX1_isRehearsed_143 rfl rfl (by decide) rfl ?_
      refine oX_goto (tgt := 74) dX1_isRehearsed_146 (by decide) ?_
      exact oX_sub [1, 2, 3, 4, 0] rfl (hk (x3, x4 + (1 : Int32)) (Option.some.inj hm).symm)
theorem l_mX1_isRehearsed_b74 {G : OhG} {FI : OhI} {FL : OhL} {FR : OhQ} {GR : OhQ} {AI : OhI} {AL : OhL} {AR : OhQ} {BR : OhQ} {AN : OhN} {C : OhC} {k : Nat × Nat} {Φ : OhP} {Ψ : OhX} (hH : ohShH FR AR AN) (n : Nat) (x1 : OhR) (x2 : Int32) : ∀ (f : Nat) (x3 : Int32) (x4 : Int32) (b : (Int32)), lpF (fun v => mX1_isRehearsed_b74 n FI FR AR BR AN x1 x2 v.1 v.2) f (x3, x4) = some b → (oX G 2 iX1_isRehearsed 149 [(0, vR (some (0, 0))), (1, vR x1), (3, vI b)] [] (FI, FL, FR, GR, AI, AL, AR, BR, AN, C) k Φ Ψ) → oX G 2 iX1_isRehearsed 74 [(0, vR (some (0, 0))), (1, vR x1), (2, vI x2), (3, vI x3), (4, vI x4)] [] (FI, FL, FR, GR, AI, AL, AR, BR, AN, C) k Φ Ψ := by
  intro f
  induction f with
  | zero =>
    intro x3 x4 b hm
    cases hm
  | succ f ih =>
    intro x3 x4 b hm hx1
    obtain ⟨r, hr, hm⟩ := lp_s hm
    refine x_mX1_isRehearsed_b74 hH n x1 x2 x3 x4 hr (fun v e => ?_) (fun v e => ?_)
    · subst e; exact ih v.1 v.2 _ hm hx1
    · subst e; cases (show v = b from hm); exact hx1
noncomputable def mX1_isRehearsed_b152 (n : Nat) (FI : OhI) (FR : OhQ) (AR : OhQ) (BR : OhQ) (AN : OhN) (x1 : OhR) (x3 : Int32) (x4 : Int32) : Option ((Int32) ⊕ ((Unit) ⊕ (Unit))) :=
  (if (FI 0 0 17) ≤ x4 then
  some (.inr (.inl ()))
else
  gd (vp_in x4 66) <|
    (oD 14 (BR 316 0 x4.toNatClampNeg)).bind fun a25 =>
    (oD 14 x1).bind fun a26 =>
    gd (oNm (FR a25.1 a25.2 6) (FR a26.1 a26.2 6)) <|
    (if (FR a25.1 a25.2 6) = (FR a26.1 a26.2 6) then
    gd (vp_in x4 66) <|
      (if (FI a25.1 a25.2 2) = (2 : Int32) then
      gd (vp_in x4 66) <|
        (if (FI a25.1 a25.2 4) < x3 then
        some (.inl (x4 + (1 : Int32)))
      else
        gd (vp_in x4 66) <|
          (if (FI a26.1 a26.2 4) < (FI a25.1 a25.2 5) then
          some (.inl (x4 + (1 : Int32)))
        else
          some (.inr (.inr ()))))
    else
      some (.inl (x4 + (1 : Int32))))
  else
    some (.inl (x4 + (1 : Int32)))))
theorem x_mX1_isRehearsed_b152 {G : OhG} {FI AI : OhI} {FL AL : OhL} {FR GR AR BR : OhQ} {AN : OhN} {C : OhC} {k : Nat × Nat} {Φ : OhP} {Ψ : OhX} (hH : ohShH FR AR AN) (n : Nat) (x1 : OhR) (x3 : Int32) (x4 : Int32) {r : (Int32) ⊕ ((Unit) ⊕ (Unit))} (hm : mX1_isRehearsed_b152 n FI FR AR BR AN x1 x3 x4 = some r) (hk : ∀ v : Int32, r = .inl v → oX G 2 iX1_isRehearsed 152 [(0, vR (some (0, 0))), (1, vR x1), (3, vI x3), (4, vI v)] [] (FI, FL, FR, GR, AI, AL, AR, BR, AN, C) k Φ Ψ) (hx1 : ∀ v : Unit, r = .inr (.inl v) → oX G 2 iX1_isRehearsed 231 [] [] (FI, FL, FR, GR, AI, AL, AR, BR, AN, C) k Φ Ψ) (hx2 : ∀ v : Unit, r = .inr (.inr v) → oX G 2 iX1_isRehearsed 223 [] [] (FI, FL, FR, GR, AI, AL, AR, BR, AN, C) k Φ Ψ) : oX G 2 iX1_isRehearsed 152 [(0, vR (some (0, 0))), (1, vR x1), (3, vI x3), (4, vI x4)] [] (FI, FL, FR, GR, AI, AL, AR, BR, AN, C) k Φ Ψ := by
  unfold mX1_isRehearsed_b152 at hm
  refine oX_iload dX1_isRehearsed_152 rfl ?_
  refine oX_aload_n dX1_isRehearsed_154 rfl rfl ?_
  refine oX_getI fX1_227 rfl oDs0 dX1_isRehearsed_155 ?_
  refine oX_icmp_ge (tgt := 231) dX1_isRehearsed_158 (by decide) (fun c23 => ?_) (fun c23 => ?_)
  · have hm := ifp c23 hm
    exact oX_sub [] rfl (hx1 () (Option.some.inj hm).symm)
  · have hm := ifn c23 hm
    refine oX_aload_n dX1_isRehearsed_161 rfl rfl ?_
    refine oX_getF fX1_58 rfl oDs0 dX1_isRehearsed_162 (ohF316 hH) ?_
    refine oX_iload dX1_isRehearsed_165 rfl ?_
    obtain ⟨g24, hm⟩ := gd_s hm
    refine oX_aaldC oDs316 (oIn (ohN316 hH) g24) dX1_isRehearsed_167 rfl ?_
    obtain ⟨a25, e25, hm⟩ := bd_s hm
    refine oX_getF fX1_258 rfl e25 dX1_isRehearsed_168 rfl ?_
    refine oX_aload_n dX1_isRehearsed_171 rfl rfl ?_
    obtain ⟨a26, e26, hm⟩ := bd_s hm
    refine oX_getF fX1_258 rfl e26 dX1_isRehearsed_172 rfl ?_
    obtain ⟨n27, hm⟩ := gd_s hm
    refine oX_acmp_ne (tgt := 225) n27 dX1_isRehearsed_175 (by decide) (fun c27 => ?_) (fun c27 => ?_)
    · have hm := ifp c27 hm
      refine oX_aload_n dX1_isRehearsed_178 rfl rfl ?_
      refine oX_getF fX1_58 rfl oDs0 dX1_isRehearsed_179 (ohF316 hH) ?_
      refine oX_iload dX1_isRehearsed_182 rfl ?_
      obtain ⟨g28, hm⟩ := gd_s hm
      refine oX_aaldC oDs316 (oIn (ohN316 hH) g28) dX1_isRehearsed_184 rfl ?_
      refine oX_getI fX1_281 rfl e25 dX1_isRehearsed_185 ?_
      refine oX_iconst (v := (2 : Int32)) dX1_isRehearsed_188 (by decide) ?_
      refine oX_icmp_ne (tgt := 225) dX1_isRehearsed_189 (by decide) (fun c29 => ?_) (fun c29 => ?_)
      · have hm := ifp c29 hm
        refine oX_aload_n dX1_isRehearsed_192 rfl rfl ?_
        refine oX_getF fX1_58 rfl oDs0 dX1_isRehearsed_193 (ohF316 hH) ?_
        refine oX_iload dX1_isRehearsed_196 rfl ?_
        obtain ⟨g30, hm⟩ := gd_s hm
        refine oX_aaldC oDs316 (oIn (ohN316 hH) g30) dX1_isRehearsed_198 rfl ?_
        refine oX_getI fX1_230 rfl e25 dX1_isRehearsed_199 ?_
        refine oX_iload_n dX1_isRehearsed_202 rfl rfl ?_
        refine oX_icmp_lt (tgt := 225) dX1_isRehearsed_203 (by decide) (fun c31 => ?_) (fun c31 => ?_)
        · have hm := ifp c31 hm
          refine oX_iinc (v := x4 + (1 : Int32)) (ls' := [(4, vI (x4 + (1 : Int32))), (0, vR (some (0, 0))), (1, vR x1), (3, vI x3)]) dX1_isRehearsed_225 rfl rfl (by decide) rfl ?_
          refine oX_goto (tgt := 152) dX1_isRehearsed_228 (by decide) ?_
          exact oX_sub [1, 2, 3, 0] rfl (hk (x4 + (1 : Int32)) (Option.some.inj hm).symm)
        · have hm := ifn c31 hm
          refine oX_aload_n dX1_isRehearsed_206 rfl rfl ?_
          refine oX_getF fX1_58 rfl oDs0 dX1_isRehearsed_207 (ohF316 hH) ?_
          refine oX_iload dX1_isRehearsed_210 rfl ?_
          obtain ⟨g32, hm⟩ := gd_s hm
          refine oX_aaldC oDs316 (oIn (ohN316 hH) g32) dX1_isRehearsed_212 rfl ?_
          refine oX_getI fX1_282 rfl e25 dX1_isRehearsed_213 ?_
          refine oX_aload_n dX1_isRehearsed_216 rfl rfl ?_
          refine oX_getI fX1_230 rfl e26 dX1_isRehearsed_217 ?_
          refine oX_icmp_gt (tgt := 225) dX1_isRehearsed_220 (by decide) (fun c33 => ?_) (fun c33 => ?_)
          · have hm := ifp c33 hm
            refine oX_iinc (v := x4 + (1 : Int32)) (ls' := [(4, vI (x4 + (1 : Int32))), (0, vR (some (0, 0))), (1, vR x1), (3, vI x3)]) dX1_isRehearsed_225 rfl rfl (by decide) rfl ?_
            refine oX_goto (tgt := 152) dX1_isRehearsed_228 (by decide) ?_
            exact oX_sub [1, 2, 3, 0] rfl (hk (x4 + (1 : Int32)) (Option.some.inj hm).symm)
          · have hm := ifn c33 hm
            exact oX_sub [] rfl (hx2 () (Option.some.inj hm).symm)
      · have hm := ifn c29 hm
        refine oX_iinc (v := x4 + (1 : Int32)) (ls' := [(4, vI (x4 + (1 : Int32))), (0, vR (some (0, 0))), (1, vR x1), (3, vI x3)]) dX1_isRehearsed_225 rfl rfl (by decide) rfl ?_
        refine oX_goto (tgt := 152) dX1_isRehearsed_228 (by decide) ?_
        exact oX_sub [1, 2, 3, 0] rfl (hk (x4 + (1 : Int32)) (Option.some.inj hm).symm)
    · have hm := ifn c27 hm
      refine oX_iinc (v := x4 + (1 : Int32)) (ls' := [(4, vI (x4 + (1 : Int32))), (0, vR (some (0, 0))), (1, vR x1), (3, vI x3)]) dX1_isRehearsed_225 rfl rfl (by decide) rfl ?_
      refine oX_goto (tgt := 152) dX1_isRehearsed_228 (by decide) ?_
      exact oX_sub [1, 2, 3, 0] rfl (hk (x4 + (1 : Int32)) (Option.some.inj hm).symm)
theorem l_mX1_isRehearsed_b152 {G : OhG} {FI : OhI} {FL : OhL} {FR : OhQ} {GR : OhQ} {AI : OhI} {AL : OhL} {AR : OhQ} {BR : OhQ} {AN : OhN} {C : OhC} {k : Nat × Nat} {Φ : OhP} {Ψ : OhX} (hH : ohShH FR AR AN) (n : Nat) (x1 : OhR) (x3 : Int32) : ∀ (f : Nat) (x4 : Int32) (b : ((Unit) ⊕ (Unit))), lpF (fun v => mX1_isRehearsed_b152 n FI FR AR BR AN x1 x3 v) f x4 = some b → (∀ v : Unit, b = (.inl v) → oX G 2 iX1_isRehearsed 231 [] [] (FI, FL, FR, GR, AI, AL, AR, BR, AN, C) k Φ Ψ) → (∀ v : Unit, b = (.inr v) → oX G 2 iX1_isRehearsed 223 [] [] (FI, FL, FR, GR, AI, AL, AR, BR, AN, C) k Φ Ψ) → oX G 2 iX1_isRehearsed 152 [(0, vR (some (0, 0))), (1, vR x1), (3, vI x3), (4, vI x4)] [] (FI, FL, FR, GR, AI, AL, AR, BR, AN, C) k Φ Ψ := by
  intro f
  induction f with
  | zero =>
    intro x4 b hm
    cases hm
  | succ f ih =>
    intro x4 b hm hx1 hx2
    obtain ⟨r, hr, hm⟩ := lp_s hm
    refine x_mX1_isRehearsed_b152 hH n x1 x3 x4 hr (fun v e => ?_) (fun v e => ?_) (fun v e => ?_)
    · subst e; exact ih v _ hm hx1 hx2
    · subst e; exact hx1 v hm.symm
    · subst e; exact hx2 v hm.symm
noncomputable def mX1_isRehearsed (n : Nat) (FI : OhI) (FR : OhQ) (AR : OhQ) (BR : OhQ) (AN : OhN) (x1 : OhR) : Option (Int32) :=
  (lpF (fun v => mX1_isRehearsed_b11 n FI FR AR BR AN x1 v.1 (2147483647 : Int32) v.2) n ((2147483647 : Int32), (0 : Int32))).bind fun v10 =>
  (lpF (fun v => mX1_isRehearsed_b74 n FI FR AR BR AN x1 v10 v.1 v.2) n ((2147483647 : Int32), (0 : Int32))).bind fun v22 =>
  (lpF (fun v => mX1_isRehearsed_b152 n FI FR AR BR AN x1 v22 v) n (0 : Int32)).bind (Sum.elim (fun v34 => some (0 : Int32)) (fun v34 => some (1 : Int32)))
theorem x_mX1_isRehearsed {G : OhG} {FI AI : OhI} {FL AL : OhL} {FR GR AR BR : OhQ} {AN : OhN} {C : OhC} {k : Nat × Nat} {Φ : OhP} {Ψ : OhX} (hH : ohShH FR AR AN) (n : Nat) (x1 : OhR) {r : Int32} (hm : mX1_isRehearsed n FI FR AR BR AN x1 = some r) (hK : Φ (some (vI r)) (FI, FL, FR, GR, AI, AL, AR, BR, AN, C)) : oX G 2 iX1_isRehearsed 0 [(0, vR (some (0, 0))), (1, vR x1)] [] (FI, FL, FR, GR, AI, AL, AR, BR, AN, C) k Φ Ψ := by
  unfold mX1_isRehearsed at hm
  refine oX_ldcw q1470 dX1_isRehearsed_0 ?_
  refine oX_istore_n (ls' := [(2, vI (2147483647 : Int32)), (0, vR (some (0, 0))), (1, vR x1)]) dX1_isRehearsed_3 rfl (by decide) rfl ?_
  refine oX_ldcw q1470 dX1_isRehearsed_4 ?_
  refine oX_istore_n (ls' := [(3, vI (2147483647 : Int32)), (2, vI (2147483647 : Int32)), (0, vR (some (0, 0))), (1, vR x1)]) dX1_isRehearsed_7 rfl (by decide) rfl ?_
  refine oX_iconst (v := (0 : Int32)) dX1_isRehearsed_8 (by decide) ?_
  refine oX_istore (ls' := [(4, vI (0 : Int32)), (3, vI (2147483647 : Int32)), (2, vI (2147483647 : Int32)), (0, vR (some (0, 0))), (1, vR x1)]) dX1_isRehearsed_9 (by decide) rfl ?_
  obtain ⟨v10, g10, hm⟩ := bd_s hm
  refine oX_sub [3, 4, 2, 1, 0] rfl (l_mX1_isRehearsed_b11 hH n x1 (2147483647 : Int32) n (2147483647 : Int32) (0 : Int32) _ g10 ?_)
  refine oX_iconst (v := (0 : Int32)) dX1_isRehearsed_71 (by decide) ?_
  refine oX_istore (ls' := [(4, vI (0 : Int32)), (0, vR (some (0, 0))), (1, vR x1), (2, vI v10), (3, vI (2147483647 : Int32))]) dX1_isRehearsed_72 (by decide) rfl ?_
  obtain ⟨v22, g22, hm⟩ := bd_s hm
  refine oX_sub [1, 2, 3, 4, 0] rfl (l_mX1_isRehearsed_b74 hH n x1 v10 n (2147483647 : Int32) (0 : Int32) _ g22 ?_)
  refine oX_iconst (v := (0 : Int32)) dX1_isRehearsed_149 (by decide) ?_
  refine oX_istore (ls' := [(4, vI (0 : Int32)), (0, vR (some (0, 0))), (1, vR x1), (3, vI v22)]) dX1_isRehearsed_150 (by decide) rfl ?_
  obtain ⟨b34, g34, hm⟩ := bd_s hm
  refine oX_sub [1, 2, 3, 0] rfl (l_mX1_isRehearsed_b152 hH n x1 v22 n (0 : Int32) _ g34 (fun v34 e34 => ?_) (fun v34 e34 => ?_))
  · subst e34
    have hm := el1 hm
    refine oX_iconst (v := (0 : Int32)) dX1_isRehearsed_231 (by decide) ?_
    obtain rfl := Option.some.inj hm
    exact oX_iret dX1_isRehearsed_232 rfl (by decide) hK
  · subst e34
    have hm := el2 hm
    refine oX_iconst (v := (1 : Int32)) dX1_isRehearsed_223 (by decide) ?_
    obtain rfl := Option.some.inj hm
    exact oX_iret dX1_isRehearsed_224 rfl (by decide) hK
theorem t_X1_isRehearsed {G : OhG} {FI AI : OhI} {FL AL : OhL} {FR GR AR BR : OhQ} {AN : OhN} {C : OhC} (hH : ohShH FR AR AN) (n : Nat) (x1 : OhR) {o : Int32} (hm : mX1_isRehearsed n FI FR AR BR AN x1 = some o) : oT G 2 iX1_isRehearsed [vR (some (0, 0)), vR x1] (FI, FL, FR, GR, AI, AL, AR, BR, AN, C) (0, 0) (fun v h => v = (some (vI o)) ∧ h = (FI, FL, FR, GR, AI, AL, AR, BR, AN, C)) ohNo :=
  oT_of (by decide) rfl (Nat.le_of_ble_eq_true rfl) (x_mX1_isRehearsed hH n x1 hm ⟨rfl, rfl⟩)
abbrev iX1_lacks : OhM := (yX1_lacks, cX1_lacks, 3, (some .boolean), [])
theorem ok_X1_lacks : oOk iX1_lacks 1 := ⟨by decide, by decide, by decide +kernel⟩
noncomputable def mX1_lacks_b2 (n : Nat) (FI : OhI) (FR : OhQ) (AI : OhI) (AN : OhN) (x1 : OhR) (x2 : Int32) : Option ((Int32) ⊕ ((Unit) ⊕ (Unit))) :=
  (if (4 : Int32) ≤ x2 then
  some (.inr (.inl ()))
else
  (oD 14 x1).bind fun a2 =>
    gd (vp_in x2 4) <|
    gd (vp_in x2 4) <|
    (oD 4 (FR a2.1 a2.2 6)).bind fun a5 =>
    (oD 100 (FR a5.1 a5.2 5)).bind fun a6 =>
    gd (vp_in x2 (AN a6.1 a6.2)) <|
    (if (AI a6.1 a6.2 x2.toNatClampNeg) ≤ ((((FI a2.1 a2.2 3) &&& (1 : Int32)) * (AI 307 0 x2.toNatClampNeg)) + (((FI a2.1 a2.2 3) >>> ((1 : Int32) &&& 31)) * (AI 308 0 x2.toNatClampNeg))) then
    some (.inl (x2 + (1 : Int32)))
  else
    some (.inr (.inr ()))))
theorem x_mX1_lacks_b2 {G : OhG} {FI AI : OhI} {FL AL : OhL} {FR GR AR BR : OhQ} {AN : OhN} {C : OhC} {k : Nat × Nat} {Φ : OhP} {Ψ : OhX} (hH : ohShH FR AR AN) (n : Nat) (x1 : OhR) (x2 : Int32) {r : (Int32) ⊕ ((Unit) ⊕ (Unit))} (hm : mX1_lacks_b2 n FI FR AI AN x1 x2 = some r) (hk : ∀ v : Int32, r = .inl v → oX G 1 iX1_lacks 2 [(0, vR (some (0, 0))), (1, vR x1), (2, vI v)] [] (FI, FL, FR, GR, AI, AL, AR, BR, AN, C) k Φ Ψ) (hx1 : ∀ v : Unit, r = .inr (.inl v) → oX G 1 iX1_lacks 54 [] [] (FI, FL, FR, GR, AI, AL, AR, BR, AN, C) k Φ Ψ) (hx2 : ∀ v : Unit, r = .inr (.inr v) → oX G 1 iX1_lacks 46 [] [] (FI, FL, FR, GR, AI, AL, AR, BR, AN, C) k Φ Ψ) : oX G 1 iX1_lacks 2 [(0, vR (some (0, 0))), (1, vR x1), (2, vI x2)] [] (FI, FL, FR, GR, AI, AL, AR, BR, AN, C) k Φ Ψ := by
  unfold mX1_lacks_b2 at hm
  refine oX_iload_n dX1_lacks_2 rfl rfl ?_
  refine oX_iconst (v := (4 : Int32)) dX1_lacks_3 (by decide) ?_
  refine oX_icmp_ge (tgt := 54) dX1_lacks_4 (by decide) (fun c1 => ?_) (fun c1 => ?_)
  · have hm := ifp c1 hm
    exact oX_sub [] rfl (hx1 () (Option.some.inj hm).symm)
  · have hm := ifn c1 hm
    refine oX_aload_n dX1_lacks_7 rfl rfl ?_
    obtain ⟨a2, e2, hm⟩ := bd_s hm
    refine oX_getI fX1_349 rfl e2 dX1_lacks_8 ?_
    refine oX_iconst (v := (1 : Int32)) dX1_lacks_11 (by decide) ?_
    refine oX_iand dX1_lacks_12 ?_
    refine oX_aload_n dX1_lacks_13 rfl rfl ?_
    refine oX_getF fX1_20 rfl oDs0 dX1_lacks_14 (ohF307 hH) ?_
    refine oX_iload_n dX1_lacks_17 rfl rfl ?_
    obtain ⟨g3, hm⟩ := gd_s hm
    refine oX_iald oDs307 (oIn (ohN307 hH) g3) dX1_lacks_18 ?_
    refine oX_imul dX1_lacks_19 ?_
    refine oX_aload_n dX1_lacks_20 rfl rfl ?_
    refine oX_getI fX1_349 rfl e2 dX1_lacks_21 ?_
    refine oX_iconst (v := (1 : Int32)) dX1_lacks_24 (by decide) ?_
    refine oX_ishr dX1_lacks_25 ?_
    refine oX_aload_n dX1_lacks_26 rfl rfl ?_
    refine oX_getF fX1_24 rfl oDs0 dX1_lacks_27 (ohF308 hH) ?_
    refine oX_iload_n dX1_lacks_30 rfl rfl ?_
    obtain ⟨g4, hm⟩ := gd_s hm
    refine oX_iald oDs308 (oIn (ohN308 hH) g4) dX1_lacks_31 ?_
    refine oX_imul dX1_lacks_32 ?_
    refine oX_iadd dX1_lacks_33 ?_
    refine oX_aload_n dX1_lacks_34 rfl rfl ?_
    refine oX_getF fX1_258 rfl e2 dX1_lacks_35 rfl ?_
    obtain ⟨a5, e5, hm⟩ := bd_s hm
    refine oX_getF fX1_134 rfl e5 dX1_lacks_38 rfl ?_
    refine oX_iload_n dX1_lacks_41 rfl rfl ?_
    obtain ⟨a6, e6, hm⟩ := bd_s hm
    obtain ⟨g7, hm⟩ := gd_s hm
    refine oX_iald e6 g7 dX1_lacks_42 ?_
    refine oX_icmp_ge (tgt := 48) dX1_lacks_43 (by decide) (fun c8 => ?_) (fun c8 => ?_)
    · have hm := ifp c8 hm
      refine oX_iinc (v := x2 + (1 : Int32)) (ls' := [(2, vI (x2 + (1 : Int32))), (0, vR (some (0, 0))), (1, vR x1)]) dX1_lacks_48 rfl rfl (by decide) rfl ?_
      refine oX_goto (tgt := 2) dX1_lacks_51 (by decide) ?_
      exact oX_sub [1, 2, 0] rfl (hk (x2 + (1 : Int32)) (Option.some.inj hm).symm)
    · have hm := ifn c8 hm
      exact oX_sub [] rfl (hx2 () (Option.some.inj hm).symm)
theorem l_mX1_lacks_b2 {G : OhG} {FI : OhI} {FL : OhL} {FR : OhQ} {GR : OhQ} {AI : OhI} {AL : OhL} {AR : OhQ} {BR : OhQ} {AN : OhN} {C : OhC} {k : Nat × Nat} {Φ : OhP} {Ψ : OhX} (hH : ohShH FR AR AN) (n : Nat) (x1 : OhR) : ∀ (f : Nat) (x2 : Int32) (b : ((Unit) ⊕ (Unit))), lpF (fun v => mX1_lacks_b2 n FI FR AI AN x1 v) f x2 = some b → (∀ v : Unit, b = (.inl v) → oX G 1 iX1_lacks 54 [] [] (FI, FL, FR, GR, AI, AL, AR, BR, AN, C) k Φ Ψ) → (∀ v : Unit, b = (.inr v) → oX G 1 iX1_lacks 46 [] [] (FI, FL, FR, GR, AI, AL, AR, BR, AN, C) k Φ Ψ) → oX G 1 iX1_lacks 2 [(0, vR (some (0, 0))), (1, vR x1), (2, vI x2)] [] (FI, FL, FR, GR, AI, AL, AR, BR, AN, C) k Φ Ψ := by
  intro f
  induction f with
  | zero =>
    intro x2 b hm
    cases hm
  | succ f ih =>
    intro x2 b hm hx1 hx2
    obtain ⟨r, hr, hm⟩ := lp_s hm
    refine x_mX1_lacks_b2 hH n x1 x2 hr (fun v e => ?_) (fun v e => ?_) (fun v e => ?_)
    · subst e; exact ih v _ hm hx1 hx2
    · subst e; exact hx1 v hm.symm
    · subst e; exact hx2 v hm.symm
noncomputable def mX1_lacks (n : Nat) (FI : OhI) (FR : OhQ) (AI : OhI) (AN : OhN) (x1 : OhR) : Option (Int32) :=
  (lpF (fun v => mX1_lacks_b2 n FI FR AI AN x1 v) n (0 : Int32)).bind (Sum.elim (fun v9 => some (0 : Int32)) (fun v9 => some (1 : Int32)))
theorem x_mX1_lacks {G : OhG} {FI AI : OhI} {FL AL : OhL} {FR GR AR BR : OhQ} {AN : OhN} {C : OhC} {k : Nat × Nat} {Φ : OhP} {Ψ : OhX} (hH : ohShH FR AR AN) (n : Nat) (x1 : OhR) {r : Int32} (hm : mX1_lacks n FI FR AI AN x1 = some r) (hK : Φ (some (vI r)) (FI, FL, FR, GR, AI, AL, AR, BR, AN, C)) : oX G 1 iX1_lacks 0 [(0, vR (some (0, 0))), (1, vR x1)] [] (FI, FL, FR, GR, AI, AL, AR, BR, AN, C) k Φ Ψ := by
  unfold mX1_lacks at hm
  refine oX_iconst (v := (0 : Int32)) dX1_lacks_0 (by decide) ?_
  refine oX_istore_n (ls' := [(2, vI (0 : Int32)), (0, vR (some (0, 0))), (1, vR x1)]) dX1_lacks_1 rfl (by decide) rfl ?_
  obtain ⟨b9, g9, hm⟩ := bd_s hm
  refine oX_sub [1, 2, 0] rfl (l_mX1_lacks_b2 hH n x1 n (0 : Int32) _ g9 (fun v9 e9 => ?_) (fun v9 e9 => ?_))
  · subst e9
    have hm := el1 hm
    refine oX_iconst (v := (0 : Int32)) dX1_lacks_54 (by decide) ?_
    obtain rfl := Option.some.inj hm
    exact oX_iret dX1_lacks_55 rfl (by decide) hK
  · subst e9
    have hm := el2 hm
    refine oX_iconst (v := (1 : Int32)) dX1_lacks_46 (by decide) ?_
    obtain rfl := Option.some.inj hm
    exact oX_iret dX1_lacks_47 rfl (by decide) hK
theorem t_X1_lacks {G : OhG} {FI AI : OhI} {FL AL : OhL} {FR GR AR BR : OhQ} {AN : OhN} {C : OhC} (hH : ohShH FR AR AN) (n : Nat) (x1 : OhR) {o : Int32} (hm : mX1_lacks n FI FR AI AN x1 = some o) : oT G 1 iX1_lacks [vR (some (0, 0)), vR x1] (FI, FL, FR, GR, AI, AL, AR, BR, AN, C) (0, 0) (fun v h => v = (some (vI o)) ∧ h = (FI, FL, FR, GR, AI, AL, AR, BR, AN, C)) ohNo :=
  oT_of (by decide) rfl (Nat.le_of_ble_eq_true rfl) (x_mX1_lacks hH n x1 hm ⟨rfl, rfl⟩)
abbrev iX1_isPlaying : OhM := (yX1_isPlaying, cX1_isPlaying, 3, (some .boolean), [])
theorem ok_X1_isPlaying : oOk iX1_isPlaying 1 := ⟨by decide, by decide, by decide +kernel⟩
noncomputable def mX1_isPlaying_b2 (n : Nat) (FI : OhI) (FR : OhQ) (AR : OhQ) (BR : OhQ) (AN : OhN) (x1 : Int32) (x2 : Int32) : Option ((Int32) ⊕ ((Unit) ⊕ (Unit))) :=
  (if x1 ≤ x2 then
  some (.inr (.inl ()))
else
  gd (vp_in x2 66) <|
    (oD 14 (BR 316 0 x2.toNatClampNeg)).bind fun a3 =>
    gd (vp_in x1 66) <|
    (oD 14 (BR 316 0 x1.toNatClampNeg)).bind fun a5 =>
    (if ((FI a3.1 a3.2 3) &&& (FI a5.1 a5.2 3)) = 0 then
    some (.inl (x2 + (1 : Int32)))
  else
    gd (vp_in x2 66) <|
      gd (vp_in x1 66) <|
      (mX15_isOn FI a3 (FI a5.1 a5.2 4)).bind fun r9 =>
      (if r9 = 0 then
      some (.inl (x2 + (1 : Int32)))
    else
      some (.inr (.inr ())))))
theorem x_mX1_isPlaying_b2 {G : OhG} {FI AI : OhI} {FL AL : OhL} {FR GR AR BR : OhQ} {AN : OhN} {C : OhC} {k : Nat × Nat} {Φ : OhP} {Ψ : OhX} (hH : ohShH FR AR AN) (n : Nat) (x1 : Int32) (x2 : Int32) {r : (Int32) ⊕ ((Unit) ⊕ (Unit))} (hm : mX1_isPlaying_b2 n FI FR AR BR AN x1 x2 = some r) (hk : ∀ v : Int32, r = .inl v → oX G 2 iX1_isPlaying 2 [(0, vR (some (0, 0))), (1, vI x1), (2, vI v)] [] (FI, FL, FR, GR, AI, AL, AR, BR, AN, C) k Φ Ψ) (hx1 : ∀ v : Unit, r = .inr (.inl v) → oX G 2 iX1_isPlaying 58 [] [] (FI, FL, FR, GR, AI, AL, AR, BR, AN, C) k Φ Ψ) (hx2 : ∀ v : Unit, r = .inr (.inr v) → oX G 2 iX1_isPlaying 50 [] [] (FI, FL, FR, GR, AI, AL, AR, BR, AN, C) k Φ Ψ) : oX G 2 iX1_isPlaying 2 [(0, vR (some (0, 0))), (1, vI x1), (2, vI x2)] [] (FI, FL, FR, GR, AI, AL, AR, BR, AN, C) k Φ Ψ := by
  unfold mX1_isPlaying_b2 at hm
  refine oX_iload_n dX1_isPlaying_2 rfl rfl ?_
  refine oX_iload_n dX1_isPlaying_3 rfl rfl ?_
  refine oX_icmp_ge (tgt := 58) dX1_isPlaying_4 (by decide) (fun c1 => ?_) (fun c1 => ?_)
  · have hm := ifp c1 hm
    exact oX_sub [] rfl (hx1 () (Option.some.inj hm).symm)
  · have hm := ifn c1 hm
    refine oX_aload_n dX1_isPlaying_7 rfl rfl ?_
    refine oX_getF fX1_58 rfl oDs0 dX1_isPlaying_8 (ohF316 hH) ?_
    refine oX_iload_n dX1_isPlaying_11 rfl rfl ?_
    obtain ⟨g2, hm⟩ := gd_s hm
    refine oX_aaldC oDs316 (oIn (ohN316 hH) g2) dX1_isPlaying_12 rfl ?_
    obtain ⟨a3, e3, hm⟩ := bd_s hm
    refine oX_getI fX1_349 rfl e3 dX1_isPlaying_13 ?_
    refine oX_aload_n dX1_isPlaying_16 rfl rfl ?_
    refine oX_getF fX1_58 rfl oDs0 dX1_isPlaying_17 (ohF316 hH) ?_
    refine oX_iload_n dX1_isPlaying_20 rfl rfl ?_
    obtain ⟨g4, hm⟩ := gd_s hm
    refine oX_aaldC oDs316 (oIn (ohN316 hH) g4) dX1_isPlaying_21 rfl ?_
    obtain ⟨a5, e5, hm⟩ := bd_s hm
    refine oX_getI fX1_349 rfl e5 dX1_isPlaying_22 ?_
    refine oX_iand dX1_isPlaying_25 ?_
    refine oX_if_eq (tgt := 52) dX1_isPlaying_26 (by decide) (fun c6 => ?_) (fun c6 => ?_)
    · have hm := ifp c6 hm
      refine oX_iinc (v := x2 + (1 : Int32)) (ls' := [(2, vI (x2 + (1 : Int32))), (0, vR (some (0, 0))), (1, vI x1)]) dX1_isPlaying_52 rfl rfl (by decide) rfl ?_
      refine oX_goto (tgt := 2) dX1_isPlaying_55 (by decide) ?_
      exact oX_sub [1, 2, 0] rfl (hk (x2 + (1 : Int32)) (Option.some.inj hm).symm)
    · have hm := ifn c6 hm
      refine oX_aload_n dX1_isPlaying_29 rfl rfl ?_
      refine oX_getF fX1_58 rfl oDs0 dX1_isPlaying_30 (ohF316 hH) ?_
      refine oX_iload_n dX1_isPlaying_33 rfl rfl ?_
      obtain ⟨g7, hm⟩ := gd_s hm
      refine oX_aaldC oDs316 (oIn (ohN316 hH) g7) dX1_isPlaying_34 rfl ?_
      refine oX_aload_n dX1_isPlaying_35 rfl rfl ?_
      refine oX_getF fX1_58 rfl oDs0 dX1_isPlaying_36 (ohF316 hH) ?_
      refine oX_iload_n dX1_isPlaying_39 rfl rfl ?_
      obtain ⟨g8, hm⟩ := gd_s hm
      refine oX_aaldC oDs316 (oIn (ohN316 hH) g8) dX1_isPlaying_40 rfl ?_
      refine oX_getI fX1_230 rfl e5 dX1_isPlaying_41 ?_
      obtain ⟨r9, g9, hm⟩ := bd_s hm
      refine oX_cV (as := [vI (FI a5.1 a5.2 4)]) dX1_isPlaying_44 rfl e3 rfl (by decide) rfl ok_X15_isOn rfl rfl q1462 q1463 q1464 q165 q1465 (by decide) (Nat.le_of_ble_eq_true rfl) (t_X15_isOn a3 ((oD_some e3).2) (FI a5.1 a5.2 4) g9) ?_
      refine oX_if_eq (tgt := 52) dX1_isPlaying_47 (by decide) (fun c10 => ?_) (fun c10 => ?_)
      · have hm := ifp c10 hm
        refine oX_iinc (v := x2 + (1 : Int32)) (ls' := [(2, vI (x2 + (1 : Int32))), (0, vR (some (0, 0))), (1, vI x1)]) dX1_isPlaying_52 rfl rfl (by decide) rfl ?_
        refine oX_goto (tgt := 2) dX1_isPlaying_55 (by decide) ?_
        exact oX_sub [1, 2, 0] rfl (hk (x2 + (1 : Int32)) (Option.some.inj hm).symm)
      · have hm := ifn c10 hm
        exact oX_sub [] rfl (hx2 () (Option.some.inj hm).symm)
theorem l_mX1_isPlaying_b2 {G : OhG} {FI : OhI} {FL : OhL} {FR : OhQ} {GR : OhQ} {AI : OhI} {AL : OhL} {AR : OhQ} {BR : OhQ} {AN : OhN} {C : OhC} {k : Nat × Nat} {Φ : OhP} {Ψ : OhX} (hH : ohShH FR AR AN) (n : Nat) (x1 : Int32) : ∀ (f : Nat) (x2 : Int32) (b : ((Unit) ⊕ (Unit))), lpF (fun v => mX1_isPlaying_b2 n FI FR AR BR AN x1 v) f x2 = some b → (∀ v : Unit, b = (.inl v) → oX G 2 iX1_isPlaying 58 [] [] (FI, FL, FR, GR, AI, AL, AR, BR, AN, C) k Φ Ψ) → (∀ v : Unit, b = (.inr v) → oX G 2 iX1_isPlaying 50 [] [] (FI, FL, FR, GR, AI, AL, AR, BR, AN, C) k Φ Ψ) → oX G 2 iX1_isPlaying 2 [(0, vR (some (0, 0))), (1, vI x1), (2, vI x2)] [] (FI, FL, FR, GR, AI, AL, AR, BR, AN, C) k Φ Ψ := by
  intro f
  induction f with
  | zero =>
    intro x2 b hm
    cases hm
  | succ f ih =>
    intro x2 b hm hx1 hx2
    obtain ⟨r, hr, hm⟩ := lp_s hm
    refine x_mX1_isPlaying_b2 hH n x1 x2 hr (fun v e => ?_) (fun v e => ?_) (fun v e => ?_)
    · subst e; exact ih v _ hm hx1 hx2
    · subst e; exact hx1 v hm.symm
    · subst e; exact hx2 v hm.symm
noncomputable def mX1_isPlaying (n : Nat) (FI : OhI) (FR : OhQ) (AR : OhQ) (BR : OhQ) (AN : OhN) (x1 : Int32) : Option (Int32) :=
  (lpF (fun v => mX1_isPlaying_b2 n FI FR AR BR AN x1 v) n (0 : Int32)).bind (Sum.elim (fun v11 => some (0 : Int32)) (fun v11 => some (1 : Int32)))
theorem x_mX1_isPlaying {G : OhG} {FI AI : OhI} {FL AL : OhL} {FR GR AR BR : OhQ} {AN : OhN} {C : OhC} {k : Nat × Nat} {Φ : OhP} {Ψ : OhX} (hH : ohShH FR AR AN) (n : Nat) (x1 : Int32) {r : Int32} (hm : mX1_isPlaying n FI FR AR BR AN x1 = some r) (hK : Φ (some (vI r)) (FI, FL, FR, GR, AI, AL, AR, BR, AN, C)) : oX G 2 iX1_isPlaying 0 [(0, vR (some (0, 0))), (1, vI x1)] [] (FI, FL, FR, GR, AI, AL, AR, BR, AN, C) k Φ Ψ := by
  unfold mX1_isPlaying at hm
  refine oX_iconst (v := (0 : Int32)) dX1_isPlaying_0 (by decide) ?_
  refine oX_istore_n (ls' := [(2, vI (0 : Int32)), (0, vR (some (0, 0))), (1, vI x1)]) dX1_isPlaying_1 rfl (by decide) rfl ?_
  obtain ⟨b11, g11, hm⟩ := bd_s hm
  refine oX_sub [1, 2, 0] rfl (l_mX1_isPlaying_b2 hH n x1 n (0 : Int32) _ g11 (fun v11 e11 => ?_) (fun v11 e11 => ?_))
  · subst e11
    have hm := el1 hm
    refine oX_iconst (v := (0 : Int32)) dX1_isPlaying_58 (by decide) ?_
    obtain rfl := Option.some.inj hm
    exact oX_iret dX1_isPlaying_59 rfl (by decide) hK
  · subst e11
    have hm := el2 hm
    refine oX_iconst (v := (1 : Int32)) dX1_isPlaying_50 (by decide) ?_
    obtain rfl := Option.some.inj hm
    exact oX_iret dX1_isPlaying_51 rfl (by decide) hK
theorem t_X1_isPlaying {G : OhG} {FI AI : OhI} {FL AL : OhL} {FR GR AR BR : OhQ} {AN : OhN} {C : OhC} (hH : ohShH FR AR AN) (n : Nat) (x1 : Int32) {o : Int32} (hm : mX1_isPlaying n FI FR AR BR AN x1 = some o) : oT G 2 iX1_isPlaying [vR (some (0, 0)), vI x1] (FI, FL, FR, GR, AI, AL, AR, BR, AN, C) (0, 0) (fun v h => v = (some (vI o)) ∧ h = (FI, FL, FR, GR, AI, AL, AR, BR, AN, C)) ohNo :=
  oT_of (by decide) rfl (Nat.le_of_ble_eq_true rfl) (x_mX1_isPlaying hH n x1 hm ⟨rfl, rfl⟩)
abbrev iX1_isChorusOver : OhM := (yX1_isChorusOver, cX1_isChorusOver, 5, (some .boolean), [])
theorem ok_X1_isChorusOver : oOk iX1_isChorusOver 1 := ⟨by decide, by decide, by decide +kernel⟩
noncomputable def mX1_isChorusOver_b7 (n : Nat) (FI : OhI) (FR : OhQ) (AR : OhQ) (BR : OhQ) (AN : OhN) (x1 : Int32) (x2 : Int32) (x3 : Int32) (x4 : Int32) : Option ((Int32 × Int32 × Int32) ⊕ (Int32 × Int32)) :=
  (if x1 < x4 then
  some (.inr (x2, x3))
else
  gd (vp_in x4 66) <|
    (oD 14 (BR 316 0 x4.toNatClampNeg)).bind fun a3 =>
    (mX15_hasChorus FI FR a3).bind fun r4 =>
    (if r4 = 0 then
    some (.inl (x2, x3, x4 + (1 : Int32)))
  else
    gd (vp_in x4 66) <|
      gd (vp_in x1 66) <|
      (oD 14 (BR 316 0 x1.toNatClampNeg)).bind fun a8 =>
      (if ((FI a8.1 a8.2 1) - (7 : Int32)) < (FI a3.1 a3.2 1) then
      gd (vp_in x4 66) <|
        (mX15_hours FI a3).bind fun r11 =>
        gd (vp_in x4 66) <|
        gd (vp_in x1 66) <|
        (if (FI a3.1 a3.2 1) = (FI a8.1 a8.2 1) then
        gd (vp_in x4 66) <|
          (mX15_hours FI a3).bind fun r16 =>
          some (.inl (x2 + r16, x3 + r11, x4 + (1 : Int32)))
      else
        some (.inl (x2, x3 + r11, x4 + (1 : Int32))))
    else
      some (.inl (x2, x3, x4 + (1 : Int32))))))
theorem x_mX1_isChorusOver_b7 {G : OhG} {FI AI : OhI} {FL AL : OhL} {FR GR AR BR : OhQ} {AN : OhN} {C : OhC} {k : Nat × Nat} {Φ : OhP} {Ψ : OhX} (hH : ohShH FR AR AN) (n : Nat) (x1 : Int32) (x2 : Int32) (x3 : Int32) (x4 : Int32) {r : (Int32 × Int32 × Int32) ⊕ (Int32 × Int32)} (hm : mX1_isChorusOver_b7 n FI FR AR BR AN x1 x2 x3 x4 = some r) (hk : ∀ v : Int32 × Int32 × Int32, r = .inl v → oX G 2 iX1_isChorusOver 7 [(0, vR (some (0, 0))), (1, vI x1), (2, vI v.1), (3, vI v.2.1), (4, vI v.2.2)] [] (FI, FL, FR, GR, AI, AL, AR, BR, AN, C) k Φ Ψ) (hx1 : ∀ v : Int32 × Int32, r = .inr v → oX G 2 iX1_isChorusOver 108 [(0, vR (some (0, 0))), (2, vI v.1), (3, vI v.2)] [] (FI, FL, FR, GR, AI, AL, AR, BR, AN, C) k Φ Ψ) : oX G 2 iX1_isChorusOver 7 [(0, vR (some (0, 0))), (1, vI x1), (2, vI x2), (3, vI x3), (4, vI x4)] [] (FI, FL, FR, GR, AI, AL, AR, BR, AN, C) k Φ Ψ := by
  unfold mX1_isChorusOver_b7 at hm
  refine oX_iload dX1_isChorusOver_7 rfl ?_
  refine oX_iload_n dX1_isChorusOver_9 rfl rfl ?_
  refine oX_icmp_gt (tgt := 108) dX1_isChorusOver_10 (by decide) (fun c1 => ?_) (fun c1 => ?_)
  · have hm := ifp c1 hm
    exact oX_sub [0, 2, 3] rfl (hx1 (x2, x3) (Option.some.inj hm).symm)
  · have hm := ifn c1 hm
    refine oX_aload_n dX1_isChorusOver_13 rfl rfl ?_
    refine oX_getF fX1_58 rfl oDs0 dX1_isChorusOver_14 (ohF316 hH) ?_
    refine oX_iload dX1_isChorusOver_17 rfl ?_
    obtain ⟨g2, hm⟩ := gd_s hm
    refine oX_aaldC oDs316 (oIn (ohN316 hH) g2) dX1_isChorusOver_19 rfl ?_
    obtain ⟨a3, e3, hm⟩ := bd_s hm
    obtain ⟨r4, g4, hm⟩ := bd_s hm
    refine oX_cV (as := []) dX1_isChorusOver_20 rfl e3 rfl (by decide) rfl ok_X15_hasChorus rfl rfl q1480 q1481 q1482 q165 q1483 (by decide) (Nat.le_of_ble_eq_true rfl) (t_X15_hasChorus a3 ((oD_some e3).2) g4) ?_
    refine oX_if_eq (tgt := 102) dX1_isChorusOver_23 (by decide) (fun c5 => ?_) (fun c5 => ?_)
    · have hm := ifp c5 hm
      refine oX_iinc (v := x4 + (1 : Int32)) (ls' := [(4, vI (x4 + (1 : Int32))), (0, vR (some (0, 0))), (1, vI x1), (2, vI x2), (3, vI x3)]) dX1_isChorusOver_102 rfl rfl (by decide) rfl ?_
      refine oX_goto (tgt := 7) dX1_isChorusOver_105 (by decide) ?_
      exact oX_sub [1, 2, 3, 4, 0] rfl (hk (x2, x3, x4 + (1 : Int32)) (Option.some.inj hm).symm)
    · have hm := ifn c5 hm
      refine oX_aload_n dX1_isChorusOver_26 rfl rfl ?_
      refine oX_getF fX1_58 rfl oDs0 dX1_isChorusOver_27 (ohF316 hH) ?_
      refine oX_iload dX1_isChorusOver_30 rfl ?_
      obtain ⟨g6, hm⟩ := gd_s hm
      refine oX_aaldC oDs316 (oIn (ohN316 hH) g6) dX1_isChorusOver_32 rfl ?_
      refine oX_getI fX1_214 rfl e3 dX1_isChorusOver_33 ?_
      refine oX_aload_n dX1_isChorusOver_36 rfl rfl ?_
      refine oX_getF fX1_58 rfl oDs0 dX1_isChorusOver_37 (ohF316 hH) ?_
      refine oX_iload_n dX1_isChorusOver_40 rfl rfl ?_
      obtain ⟨g7, hm⟩ := gd_s hm
      refine oX_aaldC oDs316 (oIn (ohN316 hH) g7) dX1_isChorusOver_41 rfl ?_
      obtain ⟨a8, e8, hm⟩ := bd_s hm
      refine oX_getI fX1_214 rfl e8 dX1_isChorusOver_42 ?_
      refine oX_bipush (v := (7 : Int32)) dX1_isChorusOver_45 (by decide) ?_
      refine oX_isub dX1_isChorusOver_47 ?_
      refine oX_icmp_gt (tgt := 54) dX1_isChorusOver_48 (by decide) (fun c9 => ?_) (fun c9 => ?_)
      · have hm := ifp c9 hm
        refine oX_iload_n dX1_isChorusOver_54 rfl rfl ?_
        refine oX_aload_n dX1_isChorusOver_55 rfl rfl ?_
        refine oX_getF fX1_58 rfl oDs0 dX1_isChorusOver_56 (ohF316 hH) ?_
        refine oX_iload dX1_isChorusOver_59 rfl ?_
        obtain ⟨g10, hm⟩ := gd_s hm
        refine oX_aaldC oDs316 (oIn (ohN316 hH) g10) dX1_isChorusOver_61 rfl ?_
        obtain ⟨r11, g11, hm⟩ := bd_s hm
        refine oX_cV (as := []) dX1_isChorusOver_62 rfl e3 rfl (by decide) rfl ok_X15_hours rfl rfl q1488 q1489 q1490 q165 q1491 (by decide) (Nat.le_of_ble_eq_true rfl) (t_X15_hours a3 ((oD_some e3).2) g11) ?_
        refine oX_iadd dX1_isChorusOver_65 ?_
        refine oX_istore_n (ls' := [(3, vI (x3 + r11)), (0, vR (some (0, 0))), (1, vI x1), (2, vI x2), (4, vI x4)]) dX1_isChorusOver_66 rfl (by decide) rfl ?_
        refine oX_aload_n dX1_isChorusOver_67 rfl rfl ?_
        refine oX_getF fX1_58 rfl oDs0 dX1_isChorusOver_68 (ohF316 hH) ?_
        refine oX_iload dX1_isChorusOver_71 rfl ?_
        obtain ⟨g12, hm⟩ := gd_s hm
        refine oX_aaldC oDs316 (oIn (ohN316 hH) g12) dX1_isChorusOver_73 rfl ?_
        refine oX_getI fX1_214 rfl e3 dX1_isChorusOver_74 ?_
        refine oX_aload_n dX1_isChorusOver_77 rfl rfl ?_
        refine oX_getF fX1_58 rfl oDs0 dX1_isChorusOver_78 (ohF316 hH) ?_
        refine oX_iload_n dX1_isChorusOver_81 rfl rfl ?_
        obtain ⟨g13, hm⟩ := gd_s hm
        refine oX_aaldC oDs316 (oIn (ohN316 hH) g13) dX1_isChorusOver_82 rfl ?_
        refine oX_getI fX1_214 rfl e8 dX1_isChorusOver_83 ?_
        refine oX_icmp_ne (tgt := 102) dX1_isChorusOver_86 (by decide) (fun c14 => ?_) (fun c14 => ?_)
        · have hm := ifp c14 hm
          refine oX_iload_n dX1_isChorusOver_89 rfl rfl ?_
          refine oX_aload_n dX1_isChorusOver_90 rfl rfl ?_
          refine oX_getF fX1_58 rfl oDs0 dX1_isChorusOver_91 (ohF316 hH) ?_
          refine oX_iload dX1_isChorusOver_94 rfl ?_
          obtain ⟨g15, hm⟩ := gd_s hm
          refine oX_aaldC oDs316 (oIn (ohN316 hH) g15) dX1_isChorusOver_96 rfl ?_
          obtain ⟨r16, g16, hm⟩ := bd_s hm
          refine oX_cV (as := []) dX1_isChorusOver_97 rfl e3 rfl (by decide) rfl ok_X15_hours rfl rfl q1488 q1489 q1490 q165 q1491 (by decide) (Nat.le_of_ble_eq_true rfl) (t_X15_hours a3 ((oD_some e3).2) g16) ?_
          refine oX_iadd dX1_isChorusOver_100 ?_
          refine oX_istore_n (ls' := [(2, vI (x2 + r16)), (3, vI (x3 + r11)), (0, vR (some (0, 0))), (1, vI x1), (4, vI x4)]) dX1_isChorusOver_101 rfl (by decide) rfl ?_
          refine oX_iinc (v := x4 + (1 : Int32)) (ls' := [(4, vI (x4 + (1 : Int32))), (2, vI (x2 + r16)), (3, vI (x3 + r11)), (0, vR (some (0, 0))), (1, vI x1)]) dX1_isChorusOver_102 rfl rfl (by decide) rfl ?_
          refine oX_goto (tgt := 7) dX1_isChorusOver_105 (by decide) ?_
          exact oX_sub [3, 4, 1, 2, 0] rfl (hk (x2 + r16, x3 + r11, x4 + (1 : Int32)) (Option.some.inj hm).symm)
        · have hm := ifn c14 hm
          refine oX_iinc (v := x4 + (1 : Int32)) (ls' := [(4, vI (x4 + (1 : Int32))), (3, vI (x3 + r11)), (0, vR (some (0, 0))), (1, vI x1), (2, vI x2)]) dX1_isChorusOver_102 rfl rfl (by decide) rfl ?_
          refine oX_goto (tgt := 7) dX1_isChorusOver_105 (by decide) ?_
          exact oX_sub [2, 3, 4, 1, 0] rfl (hk (x2, x3 + r11, x4 + (1 : Int32)) (Option.some.inj hm).symm)
      · have hm := ifn c9 hm
        refine oX_goto (tgt := 102) dX1_isChorusOver_51 (by decide) ?_
        refine oX_iinc (v := x4 + (1 : Int32)) (ls' := [(4, vI (x4 + (1 : Int32))), (0, vR (some (0, 0))), (1, vI x1), (2, vI x2), (3, vI x3)]) dX1_isChorusOver_102 rfl rfl (by decide) rfl ?_
        refine oX_goto (tgt := 7) dX1_isChorusOver_105 (by decide) ?_
        exact oX_sub [1, 2, 3, 4, 0] rfl (hk (x2, x3, x4 + (1 : Int32)) (Option.some.inj hm).symm)
theorem l_mX1_isChorusOver_b7 {G : OhG} {FI : OhI} {FL : OhL} {FR : OhQ} {GR : OhQ} {AI : OhI} {AL : OhL} {AR : OhQ} {BR : OhQ} {AN : OhN} {C : OhC} {k : Nat × Nat} {Φ : OhP} {Ψ : OhX} (hH : ohShH FR AR AN) (n : Nat) (x1 : Int32) : ∀ (f : Nat) (x2 : Int32) (x3 : Int32) (x4 : Int32) (b : (Int32 × Int32)), lpF (fun v => mX1_isChorusOver_b7 n FI FR AR BR AN x1 v.1 v.2.1 v.2.2) f (x2, x3, x4) = some b → (oX G 2 iX1_isChorusOver 108 [(0, vR (some (0, 0))), (2, vI b.1), (3, vI b.2)] [] (FI, FL, FR, GR, AI, AL, AR, BR, AN, C) k Φ Ψ) → oX G 2 iX1_isChorusOver 7 [(0, vR (some (0, 0))), (1, vI x1), (2, vI x2), (3, vI x3), (4, vI x4)] [] (FI, FL, FR, GR, AI, AL, AR, BR, AN, C) k Φ Ψ := by
  intro f
  induction f with
  | zero =>
    intro x2 x3 x4 b hm
    cases hm
  | succ f ih =>
    intro x2 x3 x4 b hm hx1
    obtain ⟨r, hr, hm⟩ := lp_s hm
    refine x_mX1_isChorusOver_b7 hH n x1 x2 x3 x4 hr (fun v e => ?_) (fun v e => ?_)
    · subst e; exact ih v.1 v.2.1 v.2.2 _ hm hx1
    · subst e; cases (show v = b from hm); exact hx1
noncomputable def mX1_isChorusOver (n : Nat) (FI : OhI) (FR : OhQ) (AR : OhQ) (BR : OhQ) (AN : OhN) (x1 : Int32) : Option (Int32) :=
  (lpF (fun v => mX1_isChorusOver_b7 n FI FR AR BR AN x1 v.1 v.2.1 v.2.2) n ((0 : Int32), (0 : Int32), (0 : Int32))).bind fun v17 =>
  (if (FI 0 0 4) < v17.1 then
  some (1 : Int32)
else
  (if v17.2 ≤ (FI 0 0 5) then
    some (0 : Int32)
  else
    some (1 : Int32)))
theorem x_mX1_isChorusOver {G : OhG} {FI AI : OhI} {FL AL : OhL} {FR GR AR BR : OhQ} {AN : OhN} {C : OhC} {k : Nat × Nat} {Φ : OhP} {Ψ : OhX} (hH : ohShH FR AR AN) (n : Nat) (x1 : Int32) {r : Int32} (hm : mX1_isChorusOver n FI FR AR BR AN x1 = some r) (hK : Φ (some (vI r)) (FI, FL, FR, GR, AI, AL, AR, BR, AN, C)) : oX G 2 iX1_isChorusOver 0 [(0, vR (some (0, 0))), (1, vI x1)] [] (FI, FL, FR, GR, AI, AL, AR, BR, AN, C) k Φ Ψ := by
  unfold mX1_isChorusOver at hm
  refine oX_iconst (v := (0 : Int32)) dX1_isChorusOver_0 (by decide) ?_
  refine oX_istore_n (ls' := [(2, vI (0 : Int32)), (0, vR (some (0, 0))), (1, vI x1)]) dX1_isChorusOver_1 rfl (by decide) rfl ?_
  refine oX_iconst (v := (0 : Int32)) dX1_isChorusOver_2 (by decide) ?_
  refine oX_istore_n (ls' := [(3, vI (0 : Int32)), (2, vI (0 : Int32)), (0, vR (some (0, 0))), (1, vI x1)]) dX1_isChorusOver_3 rfl (by decide) rfl ?_
  refine oX_iconst (v := (0 : Int32)) dX1_isChorusOver_4 (by decide) ?_
  refine oX_istore (ls' := [(4, vI (0 : Int32)), (3, vI (0 : Int32)), (2, vI (0 : Int32)), (0, vR (some (0, 0))), (1, vI x1)]) dX1_isChorusOver_5 (by decide) rfl ?_
  obtain ⟨v17, g17, hm⟩ := bd_s hm
  refine oX_sub [3, 4, 2, 1, 0] rfl (l_mX1_isChorusOver_b7 hH n x1 n (0 : Int32) (0 : Int32) (0 : Int32) _ g17 ?_)
  refine oX_iload_n dX1_isChorusOver_108 rfl rfl ?_
  refine oX_aload_n dX1_isChorusOver_109 rfl rfl ?_
  refine oX_getI fX1_13 rfl oDs0 dX1_isChorusOver_110 ?_
  refine oX_icmp_gt (tgt := 124) dX1_isChorusOver_113 (by decide) (fun c18 => ?_) (fun c18 => ?_)
  · have hm := ifp c18 hm
    refine oX_iconst (v := (1 : Int32)) dX1_isChorusOver_124 (by decide) ?_
    refine oX_goto (tgt := 129) dX1_isChorusOver_125 (by decide) ?_
    obtain rfl := Option.some.inj hm
    exact oX_iret dX1_isChorusOver_129 rfl (by decide) hK
  · have hm := ifn c18 hm
    refine oX_iload_n dX1_isChorusOver_116 rfl rfl ?_
    refine oX_aload_n dX1_isChorusOver_117 rfl rfl ?_
    refine oX_getI fX1_17 rfl oDs0 dX1_isChorusOver_118 ?_
    refine oX_icmp_le (tgt := 128) dX1_isChorusOver_121 (by decide) (fun c19 => ?_) (fun c19 => ?_)
    · have hm := ifp c19 hm
      refine oX_iconst (v := (0 : Int32)) dX1_isChorusOver_128 (by decide) ?_
      obtain rfl := Option.some.inj hm
      exact oX_iret dX1_isChorusOver_129 rfl (by decide) hK
    · have hm := ifn c19 hm
      refine oX_iconst (v := (1 : Int32)) dX1_isChorusOver_124 (by decide) ?_
      refine oX_goto (tgt := 129) dX1_isChorusOver_125 (by decide) ?_
      obtain rfl := Option.some.inj hm
      exact oX_iret dX1_isChorusOver_129 rfl (by decide) hK
theorem t_X1_isChorusOver {G : OhG} {FI AI : OhI} {FL AL : OhL} {FR GR AR BR : OhQ} {AN : OhN} {C : OhC} (hH : ohShH FR AR AN) (n : Nat) (x1 : Int32) {o : Int32} (hm : mX1_isChorusOver n FI FR AR BR AN x1 = some o) : oT G 2 iX1_isChorusOver [vR (some (0, 0)), vI x1] (FI, FL, FR, GR, AI, AL, AR, BR, AN, C) (0, 0) (fun v h => v = (some (vI o)) ∧ h = (FI, FL, FR, GR, AI, AL, AR, BR, AN, C)) ohNo :=
  oT_of (by decide) rfl (Nat.le_of_ble_eq_true rfl) (x_mX1_isChorusOver hH n x1 hm ⟨rfl, rfl⟩)
abbrev iX1_learnedOf : OhM := (yX1_learnedOf, cX1_learnedOf, 8, (some .int), [])
theorem ok_X1_learnedOf : oOk iX1_learnedOf 4 := ⟨by decide, by decide, by decide +kernel⟩
noncomputable def mX1_learnedOf_b6 (n : Nat) (FI : OhI) (FR : OhQ) (GR : OhQ) (AI : OhI) (AR : OhQ) (BR : OhQ) (AN : OhN) (x1 : Int32) (x2 : OhR) (x3 : Int32) (x4 : Int32) (x5 : Int32) (x6 : Int32) : Option ((Int32 × Int32) ⊕ (Int32)) :=
  (mJ2_size FI (314, 0)).bind fun r1 =>
  (if r1 ≤ x6 then
  some (.inr x5)
else
  (mJ2_get FI GR AR BR AN (314, 0) x6).bind fun r3 =>
    (oD 13 r3).bind fun a4 =>
    (if (FI a4.1 a4.2 0) = x1 then
    (oD 4 x2).bind fun a6 =>
      (if (FI a4.1 a4.2 1) = (FI a6.1 a6.2 0) then
      (if (FI a4.1 a4.2 2) = x3 then
        (if (FI 0 0 18) < (FI a4.1 a4.2 4) then
          some (.inl (x5, x6 + (1 : Int32)))
        else
          some (.inl (x5 + (FI a4.1 a4.2 3), x6 + (1 : Int32))))
      else
        some (.inl (x5, x6 + (1 : Int32))))
    else
      some (.inl (x5, x6 + (1 : Int32))))
  else
    some (.inl (x5, x6 + (1 : Int32)))))
theorem x_mX1_learnedOf_b6 {G : OhG} {FI AI : OhI} {FL AL : OhL} {FR GR AR BR : OhQ} {AN : OhN} {C : OhC} {k : Nat × Nat} {Φ : OhP} {Ψ : OhX} (hH : ohShH FR AR AN) (n : Nat) (x1 : Int32) (x2 : OhR) (x3 : Int32) (x4 : Int32) (x5 : Int32) (x6 : Int32) {r : (Int32 × Int32) ⊕ (Int32)} (hm : mX1_learnedOf_b6 n FI FR GR AI AR BR AN x1 x2 x3 x4 x5 x6 = some r) (hk : ∀ v : Int32 × Int32, r = .inl v → oX G 4 iX1_learnedOf 6 [(0, vR (some (0, 0))), (1, vI x1), (2, vR x2), (3, vI x3), (4, vI x4), (5, vI v.1), (6, vI v.2)] [] (FI, FL, FR, GR, AI, AL, AR, BR, AN, C) k Φ Ψ) (hx1 : ∀ v : Int32, r = .inr v → oX G 4 iX1_learnedOf 90 [(0, vR (some (0, 0))), (1, vI x1), (2, vR x2), (3, vI x3), (4, vI x4), (5, vI v)] [] (FI, FL, FR, GR, AI, AL, AR, BR, AN, C) k Φ Ψ) : oX G 4 iX1_learnedOf 6 [(0, vR (some (0, 0))), (1, vI x1), (2, vR x2), (3, vI x3), (4, vI x4), (5, vI x5), (6, vI x6)] [] (FI, FL, FR, GR, AI, AL, AR, BR, AN, C) k Φ Ψ := by
  unfold mX1_learnedOf_b6 at hm
  refine oX_iload dX1_learnedOf_6 rfl ?_
  refine oX_aload_n dX1_learnedOf_8 rfl rfl ?_
  refine oX_getF fX1_46 rfl oDs0 dX1_learnedOf_9 (ohF314 hH) ?_
  obtain ⟨r1, g1, hm⟩ := bd_s hm
  refine oX_cV (as := []) dX1_learnedOf_12 rfl oDs314 rfl (by decide) rfl ok_J2_size rfl rfl q430 q431 q432 q132 q433 (by decide) (Nat.le_of_ble_eq_true rfl) (t_J2_size (314, 0) rfl g1) ?_
  refine oX_icmp_ge (tgt := 90) dX1_learnedOf_15 (by decide) (fun c2 => ?_) (fun c2 => ?_)
  · have hm := ifp c2 hm
    exact oX_sub [0, 1, 2, 3, 4, 5] rfl (hx1 x5 (Option.some.inj hm).symm)
  · have hm := ifn c2 hm
    refine oX_aload_n dX1_learnedOf_18 rfl rfl ?_
    refine oX_getF fX1_46 rfl oDs0 dX1_learnedOf_19 (ohF314 hH) ?_
    refine oX_iload dX1_learnedOf_22 rfl ?_
    obtain ⟨r3, g3, hm⟩ := bd_s hm
    refine oX_cV (as := [vI x6]) dX1_learnedOf_24 rfl oDs314 rfl (by decide) rfl ok_J2_get rfl rfl q648 q649 q650 q132 q651 (by decide) (Nat.le_of_ble_eq_true rfl) (t_J2_get (314, 0) rfl x6 g3) ?_
    obtain ⟨a4, e4, hm⟩ := bd_s hm
    refine oX_cast e4 rfl (by decide) q1271 dX1_learnedOf_27 ?_
    refine oX_astore (ls' := [(7, vR (some a4)), (0, vR (some (0, 0))), (1, vI x1), (2, vR x2), (3, vI x3), (4, vI x4), (5, vI x5), (6, vI x6)]) dX1_learnedOf_30 (by decide) rfl ?_
    refine oX_aload dX1_learnedOf_32 rfl ?_
    refine oX_getI fX1_273 rfl (oD_self e4) dX1_learnedOf_34 ?_
    refine oX_iload_n dX1_learnedOf_37 rfl rfl ?_
    refine oX_icmp_ne (tgt := 84) dX1_learnedOf_38 (by decide) (fun c5 => ?_) (fun c5 => ?_)
    · have hm := ifp c5 hm
      refine oX_aload dX1_learnedOf_41 rfl ?_
      refine oX_getI fX1_274 rfl (oD_self e4) dX1_learnedOf_43 ?_
      refine oX_aload_n dX1_learnedOf_46 rfl rfl ?_
      obtain ⟨a6, e6, hm⟩ := bd_s hm
      refine oX_getI fX1_149 rfl e6 dX1_learnedOf_47 ?_
      refine oX_icmp_ne (tgt := 84) dX1_learnedOf_50 (by decide) (fun c7 => ?_) (fun c7 => ?_)
      · have hm := ifp c7 hm
        refine oX_aload dX1_learnedOf_53 rfl ?_
        refine oX_getI fX1_276 rfl (oD_self e4) dX1_learnedOf_55 ?_
        refine oX_iload_n dX1_learnedOf_58 rfl rfl ?_
        refine oX_icmp_ne (tgt := 84) dX1_learnedOf_59 (by decide) (fun c8 => ?_) (fun c8 => ?_)
        · have hm := ifp c8 hm
          refine oX_aload dX1_learnedOf_62 rfl ?_
          refine oX_getI fX1_277 rfl (oD_self e4) dX1_learnedOf_64 ?_
          refine oX_aload_n dX1_learnedOf_67 rfl rfl ?_
          refine oX_getI fX1_234 rfl oDs0 dX1_learnedOf_68 ?_
          refine oX_icmp_gt (tgt := 84) dX1_learnedOf_71 (by decide) (fun c9 => ?_) (fun c9 => ?_)
          · have hm := ifp c9 hm
            refine oX_iinc (v := x6 + (1 : Int32)) (ls' := [(6, vI (x6 + (1 : Int32))), (7, vR (some a4)), (0, vR (some (0, 0))), (1, vI x1), (2, vR x2), (3, vI x3), (4, vI x4), (5, vI x5)]) dX1_learnedOf_84 rfl rfl (by decide) rfl ?_
            refine oX_goto (tgt := 6) dX1_learnedOf_87 (by decide) ?_
            exact oX_sub [2, 3, 4, 5, 6, 7, 0] rfl (hk (x5, x6 + (1 : Int32)) (Option.some.inj hm).symm)
          · have hm := ifn c9 hm
            refine oX_iload dX1_learnedOf_74 rfl ?_
            refine oX_aload dX1_learnedOf_76 rfl ?_
            refine oX_getI fX1_278 rfl (oD_self e4) dX1_learnedOf_78 ?_
            refine oX_iadd dX1_learnedOf_81 ?_
            refine oX_istore (ls' := [(5, vI (x5 + (FI a4.1 a4.2 3))), (7, vR (some a4)), (0, vR (some (0, 0))), (1, vI x1), (2, vR x2), (3, vI x3), (4, vI x4), (6, vI x6)]) dX1_learnedOf_82 (by decide) rfl ?_
            refine oX_iinc (v := x6 + (1 : Int32)) (ls' := [(6, vI (x6 + (1 : Int32))), (5, vI (x5 + (FI a4.1 a4.2 3))), (7, vR (some a4)), (0, vR (some (0, 0))), (1, vI x1), (2, vR x2), (3, vI x3), (4, vI x4)]) dX1_learnedOf_84 rfl rfl (by decide) rfl ?_
            refine oX_goto (tgt := 6) dX1_learnedOf_87 (by decide) ?_
            exact oX_sub [3, 4, 5, 6, 7, 1, 0] rfl (hk (x5 + (FI a4.1 a4.2 3), x6 + (1 : Int32)) (Option.some.inj hm).symm)
        · have hm := ifn c8 hm
          refine oX_iinc (v := x6 + (1 : Int32)) (ls' := [(6, vI (x6 + (1 : Int32))), (7, vR (some a4)), (0, vR (some (0, 0))), (1, vI x1), (2, vR x2), (3, vI x3), (4, vI x4), (5, vI x5)]) dX1_learnedOf_84 rfl rfl (by decide) rfl ?_
          refine oX_goto (tgt := 6) dX1_learnedOf_87 (by decide) ?_
          exact oX_sub [2, 3, 4, 5, 6, 7, 0] rfl (hk (x5, x6 + (1 : Int32)) (Option.some.inj hm).symm)
      · have hm := ifn c7 hm
        refine oX_iinc (v := x6 + (1 : Int32)) (ls' := [(6, vI (x6 + (1 : Int32))), (7, vR (some a4)), (0, vR (some (0, 0))), (1, vI x1), (2, vR x2), (3, vI x3), (4, vI x4), (5, vI x5)]) dX1_learnedOf_84 rfl rfl (by decide) rfl ?_
        refine oX_goto (tgt := 6) dX1_learnedOf_87 (by decide) ?_
        exact oX_sub [2, 3, 4, 5, 6, 7, 0] rfl (hk (x5, x6 + (1 : Int32)) (Option.some.inj hm).symm)
    · have hm := ifn c5 hm
      refine oX_iinc (v := x6 + (1 : Int32)) (ls' := [(6, vI (x6 + (1 : Int32))), (7, vR (some a4)), (0, vR (some (0, 0))), (1, vI x1), (2, vR x2), (3, vI x3), (4, vI x4), (5, vI x5)]) dX1_learnedOf_84 rfl rfl (by decide) rfl ?_
      refine oX_goto (tgt := 6) dX1_learnedOf_87 (by decide) ?_
      exact oX_sub [2, 3, 4, 5, 6, 7, 0] rfl (hk (x5, x6 + (1 : Int32)) (Option.some.inj hm).symm)
theorem l_mX1_learnedOf_b6 {G : OhG} {FI : OhI} {FL : OhL} {FR : OhQ} {GR : OhQ} {AI : OhI} {AL : OhL} {AR : OhQ} {BR : OhQ} {AN : OhN} {C : OhC} {k : Nat × Nat} {Φ : OhP} {Ψ : OhX} (hH : ohShH FR AR AN) (n : Nat) (x1 : Int32) (x2 : OhR) (x3 : Int32) (x4 : Int32) : ∀ (f : Nat) (x5 : Int32) (x6 : Int32) (b : (Int32)), lpF (fun v => mX1_learnedOf_b6 n FI FR GR AI AR BR AN x1 x2 x3 x4 v.1 v.2) f (x5, x6) = some b → (oX G 4 iX1_learnedOf 90 [(0, vR (some (0, 0))), (1, vI x1), (2, vR x2), (3, vI x3), (4, vI x4), (5, vI b)] [] (FI, FL, FR, GR, AI, AL, AR, BR, AN, C) k Φ Ψ) → oX G 4 iX1_learnedOf 6 [(0, vR (some (0, 0))), (1, vI x1), (2, vR x2), (3, vI x3), (4, vI x4), (5, vI x5), (6, vI x6)] [] (FI, FL, FR, GR, AI, AL, AR, BR, AN, C) k Φ Ψ := by
  intro f
  induction f with
  | zero =>
    intro x5 x6 b hm
    cases hm
  | succ f ih =>
    intro x5 x6 b hm hx1
    obtain ⟨r, hr, hm⟩ := lp_s hm
    refine x_mX1_learnedOf_b6 hH n x1 x2 x3 x4 x5 x6 hr (fun v e => ?_) (fun v e => ?_)
    · subst e; exact ih v.1 v.2 _ hm hx1
    · subst e; cases (show v = b from hm); exact hx1
noncomputable def mX1_learnedOf_b93 (n : Nat) (FI : OhI) (FR : OhQ) (GR : OhQ) (AI : OhI) (AR : OhQ) (BR : OhQ) (AN : OhN) (x1 : Int32) (x2 : OhR) (x3 : Int32) (x4 : Int32) (x5 : Int32) (x6 : Int32) : Option ((Int32 × Int32) ⊕ (Int32)) :=
  (if (FI 0 0 17) ≤ x6 then
  some (.inr x5)
else
  gd (vp_in x6 66) <|
    (oD 14 (BR 316 0 x6.toNatClampNeg)).bind fun a13 =>
    gd (oNm (FR a13.1 a13.2 6) x2) <|
    (if (FR a13.1 a13.2 6) = x2 then
    (if (3 : Int32) ≤ (FI a13.1 a13.2 2) then
      some (.inl (x5, x6 + (1 : Int32)))
    else
      (if x4 < (FI a13.1 a13.2 5) then
        some (.inl (x5, x6 + (1 : Int32)))
      else
        gd (vp_in (FI a13.1 a13.2 0) 66) <|
          gd (vp_in x3 8) <|
          (if (AI 419 ((FI a13.1 a13.2 0).toNatClampNeg) x3.toNatClampNeg) = x1 then
          (mX15_hours FI a13).bind fun r20 =>
            some (.inl (x5 + r20, x6 + (1 : Int32)))
        else
          some (.inl (x5, x6 + (1 : Int32))))))
  else
    some (.inl (x5, x6 + (1 : Int32)))))
theorem x_mX1_learnedOf_b93 {G : OhG} {FI AI : OhI} {FL AL : OhL} {FR GR AR BR : OhQ} {AN : OhN} {C : OhC} {k : Nat × Nat} {Φ : OhP} {Ψ : OhX} (hH : ohShH FR AR AN) (n : Nat) (x1 : Int32) (x2 : OhR) (x3 : Int32) (x4 : Int32) (x5 : Int32) (x6 : Int32) {r : (Int32 × Int32) ⊕ (Int32)} (hm : mX1_learnedOf_b93 n FI FR GR AI AR BR AN x1 x2 x3 x4 x5 x6 = some r) (hk : ∀ v : Int32 × Int32, r = .inl v → oX G 4 iX1_learnedOf 93 [(0, vR (some (0, 0))), (1, vI x1), (2, vR x2), (3, vI x3), (4, vI x4), (5, vI v.1), (6, vI v.2)] [] (FI, FL, FR, GR, AI, AL, AR, BR, AN, C) k Φ Ψ) (hx1 : ∀ v : Int32, r = .inr v → oX G 4 iX1_learnedOf 171 [(5, vI v)] [] (FI, FL, FR, GR, AI, AL, AR, BR, AN, C) k Φ Ψ) : oX G 4 iX1_learnedOf 93 [(0, vR (some (0, 0))), (1, vI x1), (2, vR x2), (3, vI x3), (4, vI x4), (5, vI x5), (6, vI x6)] [] (FI, FL, FR, GR, AI, AL, AR, BR, AN, C) k Φ Ψ := by
  unfold mX1_learnedOf_b93 at hm
  refine oX_iload dX1_learnedOf_93 rfl ?_
  refine oX_aload_n dX1_learnedOf_95 rfl rfl ?_
  refine oX_getI fX1_227 rfl oDs0 dX1_learnedOf_96 ?_
  refine oX_icmp_ge (tgt := 171) dX1_learnedOf_99 (by decide) (fun c11 => ?_) (fun c11 => ?_)
  · have hm := ifp c11 hm
    exact oX_sub [5] rfl (hx1 x5 (Option.some.inj hm).symm)
  · have hm := ifn c11 hm
    refine oX_aload_n dX1_learnedOf_102 rfl rfl ?_
    refine oX_getF fX1_58 rfl oDs0 dX1_learnedOf_103 (ohF316 hH) ?_
    refine oX_iload dX1_learnedOf_106 rfl ?_
    obtain ⟨g12, hm⟩ := gd_s hm
    refine oX_aaldC oDs316 (oIn (ohN316 hH) g12) dX1_learnedOf_108 rfl ?_
    refine oX_astore (ls' := [(7, vR (BR 316 0 x6.toNatClampNeg)), (0, vR (some (0, 0))), (1, vI x1), (2, vR x2), (3, vI x3), (4, vI x4), (5, vI x5), (6, vI x6)]) dX1_learnedOf_109 (by decide) rfl ?_
    refine oX_aload dX1_learnedOf_111 rfl ?_
    obtain ⟨a13, e13, hm⟩ := bd_s hm
    refine oX_getF fX1_258 rfl e13 dX1_learnedOf_113 rfl ?_
    refine oX_aload_n dX1_learnedOf_116 rfl rfl ?_
    obtain ⟨n14, hm⟩ := gd_s hm
    refine oX_acmp_ne (tgt := 165) n14 dX1_learnedOf_117 (by decide) (fun c14 => ?_) (fun c14 => ?_)
    · have hm := ifp c14 hm
      refine oX_aload dX1_learnedOf_120 rfl ?_
      refine oX_getI fX1_281 rfl e13 dX1_learnedOf_122 ?_
      refine oX_iconst (v := (3 : Int32)) dX1_learnedOf_125 (by decide) ?_
      refine oX_icmp_ge (tgt := 165) dX1_learnedOf_126 (by decide) (fun c15 => ?_) (fun c15 => ?_)
      · have hm := ifp c15 hm
        refine oX_iinc (v := x6 + (1 : Int32)) (ls' := [(6, vI (x6 + (1 : Int32))), (7, vR (BR 316 0 x6.toNatClampNeg)), (0, vR (some (0, 0))), (1, vI x1), (2, vR x2), (3, vI x3), (4, vI x4), (5, vI x5)]) dX1_learnedOf_165 rfl rfl (by decide) rfl ?_
        refine oX_goto (tgt := 93) dX1_learnedOf_168 (by decide) ?_
        exact oX_sub [2, 3, 4, 5, 6, 7, 0] rfl (hk (x5, x6 + (1 : Int32)) (Option.some.inj hm).symm)
      · have hm := ifn c15 hm
        refine oX_aload dX1_learnedOf_129 rfl ?_
        refine oX_getI fX1_282 rfl e13 dX1_learnedOf_131 ?_
        refine oX_iload dX1_learnedOf_134 rfl ?_
        refine oX_icmp_gt (tgt := 165) dX1_learnedOf_136 (by decide) (fun c16 => ?_) (fun c16 => ?_)
        · have hm := ifp c16 hm
          refine oX_iinc (v := x6 + (1 : Int32)) (ls' := [(6, vI (x6 + (1 : Int32))), (7, vR (BR 316 0 x6.toNatClampNeg)), (0, vR (some (0, 0))), (1, vI x1), (2, vR x2), (3, vI x3), (4, vI x4), (5, vI x5)]) dX1_learnedOf_165 rfl rfl (by decide) rfl ?_
          refine oX_goto (tgt := 93) dX1_learnedOf_168 (by decide) ?_
          exact oX_sub [2, 3, 4, 5, 6, 7, 0] rfl (hk (x5, x6 + (1 : Int32)) (Option.some.inj hm).symm)
        · have hm := ifn c16 hm
          refine oX_aload_n dX1_learnedOf_139 rfl rfl ?_
          refine oX_getF fX1_64 rfl oDs0 dX1_learnedOf_140 (ohF319 hH) ?_
          refine oX_aload dX1_learnedOf_143 rfl ?_
          refine oX_getI fX1_233 rfl e13 dX1_learnedOf_145 ?_
          obtain ⟨g17, hm⟩ := gd_s hm
          refine oX_aaldR oDs319 (oIn (ohN319 hH) g17) dX1_learnedOf_148 (ohA319 hH (oLt g17)) ?_
          refine oX_iload_n dX1_learnedOf_149 rfl rfl ?_
          obtain ⟨g18, hm⟩ := gd_s hm
          refine oX_iald oDs419 (oIn (ohM419 hH (oLt g17)) g18) dX1_learnedOf_150 ?_
          refine oX_iload_n dX1_learnedOf_151 rfl rfl ?_
          refine oX_icmp_ne (tgt := 165) dX1_learnedOf_152 (by decide) (fun c19 => ?_) (fun c19 => ?_)
          · have hm := ifp c19 hm
            refine oX_iload dX1_learnedOf_155 rfl ?_
            refine oX_aload dX1_learnedOf_157 rfl ?_
            obtain ⟨r20, g20, hm⟩ := bd_s hm
            refine oX_cV (as := []) dX1_learnedOf_159 rfl e13 rfl (by decide) rfl ok_X15_hours rfl rfl q1488 q1489 q1490 q165 q1491 (by decide) (Nat.le_of_ble_eq_true rfl) (t_X15_hours a13 ((oD_some e13).2) g20) ?_
            refine oX_iadd dX1_learnedOf_162 ?_
            refine oX_istore (ls' := [(5, vI (x5 + r20)), (7, vR (BR 316 0 x6.toNatClampNeg)), (0, vR (some (0, 0))), (1, vI x1), (2, vR x2), (3, vI x3), (4, vI x4), (6, vI x6)]) dX1_learnedOf_163 (by decide) rfl ?_
            refine oX_iinc (v := x6 + (1 : Int32)) (ls' := [(6, vI (x6 + (1 : Int32))), (5, vI (x5 + r20)), (7, vR (BR 316 0 x6.toNatClampNeg)), (0, vR (some (0, 0))), (1, vI x1), (2, vR x2), (3, vI x3), (4, vI x4)]) dX1_learnedOf_165 rfl rfl (by decide) rfl ?_
            refine oX_goto (tgt := 93) dX1_learnedOf_168 (by decide) ?_
            exact oX_sub [3, 4, 5, 6, 7, 1, 0] rfl (hk (x5 + r20, x6 + (1 : Int32)) (Option.some.inj hm).symm)
          · have hm := ifn c19 hm
            refine oX_iinc (v := x6 + (1 : Int32)) (ls' := [(6, vI (x6 + (1 : Int32))), (7, vR (BR 316 0 x6.toNatClampNeg)), (0, vR (some (0, 0))), (1, vI x1), (2, vR x2), (3, vI x3), (4, vI x4), (5, vI x5)]) dX1_learnedOf_165 rfl rfl (by decide) rfl ?_
            refine oX_goto (tgt := 93) dX1_learnedOf_168 (by decide) ?_
            exact oX_sub [2, 3, 4, 5, 6, 7, 0] rfl (hk (x5, x6 + (1 : Int32)) (Option.some.inj hm).symm)
    · have hm := ifn c14 hm
      refine oX_iinc (v := x6 + (1 : Int32)) (ls' := [(6, vI (x6 + (1 : Int32))), (7, vR (BR 316 0 x6.toNatClampNeg)), (0, vR (some (0, 0))), (1, vI x1), (2, vR x2), (3, vI x3), (4, vI x4), (5, vI x5)]) dX1_learnedOf_165 rfl rfl (by decide) rfl ?_
      refine oX_goto (tgt := 93) dX1_learnedOf_168 (by decide) ?_
      exact oX_sub [2, 3, 4, 5, 6, 7, 0] rfl (hk (x5, x6 + (1 : Int32)) (Option.some.inj hm).symm)
theorem l_mX1_learnedOf_b93 {G : OhG} {FI : OhI} {FL : OhL} {FR : OhQ} {GR : OhQ} {AI : OhI} {AL : OhL} {AR : OhQ} {BR : OhQ} {AN : OhN} {C : OhC} {k : Nat × Nat} {Φ : OhP} {Ψ : OhX} (hH : ohShH FR AR AN) (n : Nat) (x1 : Int32) (x2 : OhR) (x3 : Int32) (x4 : Int32) : ∀ (f : Nat) (x5 : Int32) (x6 : Int32) (b : (Int32)), lpF (fun v => mX1_learnedOf_b93 n FI FR GR AI AR BR AN x1 x2 x3 x4 v.1 v.2) f (x5, x6) = some b → (oX G 4 iX1_learnedOf 171 [(5, vI b)] [] (FI, FL, FR, GR, AI, AL, AR, BR, AN, C) k Φ Ψ) → oX G 4 iX1_learnedOf 93 [(0, vR (some (0, 0))), (1, vI x1), (2, vR x2), (3, vI x3), (4, vI x4), (5, vI x5), (6, vI x6)] [] (FI, FL, FR, GR, AI, AL, AR, BR, AN, C) k Φ Ψ := by
  intro f
  induction f with
  | zero =>
    intro x5 x6 b hm
    cases hm
  | succ f ih =>
    intro x5 x6 b hm hx1
    obtain ⟨r, hr, hm⟩ := lp_s hm
    refine x_mX1_learnedOf_b93 hH n x1 x2 x3 x4 x5 x6 hr (fun v e => ?_) (fun v e => ?_)
    · subst e; exact ih v.1 v.2 _ hm hx1
    · subst e; cases (show v = b from hm); exact hx1
noncomputable def mX1_learnedOf (n : Nat) (FI : OhI) (FR : OhQ) (GR : OhQ) (AI : OhI) (AR : OhQ) (BR : OhQ) (AN : OhN) (x1 : Int32) (x2 : OhR) (x3 : Int32) (x4 : Int32) : Option (Int32) :=
  (lpF (fun v => mX1_learnedOf_b6 n FI FR GR AI AR BR AN x1 x2 x3 x4 v.1 v.2) n ((0 : Int32), (0 : Int32))).bind fun v10 =>
  (lpF (fun v => mX1_learnedOf_b93 n FI FR GR AI AR BR AN x1 x2 x3 x4 v.1 v.2) n (v10, (0 : Int32))).bind fun v21 =>
  some v21
theorem x_mX1_learnedOf {G : OhG} {FI AI : OhI} {FL AL : OhL} {FR GR AR BR : OhQ} {AN : OhN} {C : OhC} {k : Nat × Nat} {Φ : OhP} {Ψ : OhX} (hH : ohShH FR AR AN) (n : Nat) (x1 : Int32) (x2 : OhR) (x3 : Int32) (x4 : Int32) {r : Int32} (hm : mX1_learnedOf n FI FR GR AI AR BR AN x1 x2 x3 x4 = some r) (hK : Φ (some (vI r)) (FI, FL, FR, GR, AI, AL, AR, BR, AN, C)) : oX G 4 iX1_learnedOf 0 [(0, vR (some (0, 0))), (1, vI x1), (2, vR x2), (3, vI x3), (4, vI x4)] [] (FI, FL, FR, GR, AI, AL, AR, BR, AN, C) k Φ Ψ := by
  unfold mX1_learnedOf at hm
  refine oX_iconst (v := (0 : Int32)) dX1_learnedOf_0 (by decide) ?_
  refine oX_istore (ls' := [(5, vI (0 : Int32)), (0, vR (some (0, 0))), (1, vI x1), (2, vR x2), (3, vI x3), (4, vI x4)]) dX1_learnedOf_1 (by decide) rfl ?_
  refine oX_iconst (v := (0 : Int32)) dX1_learnedOf_3 (by decide) ?_
  refine oX_istore (ls' := [(6, vI (0 : Int32)), (5, vI (0 : Int32)), (0, vR (some (0, 0))), (1, vI x1), (2, vR x2), (3, vI x3), (4, vI x4)]) dX1_learnedOf_4 (by decide) rfl ?_
  obtain ⟨v10, g10, hm⟩ := bd_s hm
  refine oX_sub [2, 3, 4, 5, 6, 1, 0] rfl (l_mX1_learnedOf_b6 hH n x1 x2 x3 x4 n (0 : Int32) (0 : Int32) _ g10 ?_)
  refine oX_iconst (v := (0 : Int32)) dX1_learnedOf_90 (by decide) ?_
  refine oX_istore (ls' := [(6, vI (0 : Int32)), (0, vR (some (0, 0))), (1, vI x1), (2, vR x2), (3, vI x3), (4, vI x4), (5, vI v10)]) dX1_learnedOf_91 (by decide) rfl ?_
  obtain ⟨v21, g21, hm⟩ := bd_s hm
  refine oX_sub [1, 2, 3, 4, 5, 6, 0] rfl (l_mX1_learnedOf_b93 hH n x1 x2 x3 x4 n v10 (0 : Int32) _ g21 ?_)
  refine oX_iload dX1_learnedOf_171 rfl ?_
  obtain rfl := Option.some.inj hm
  exact oX_iret dX1_learnedOf_173 rfl rfl hK
theorem t_X1_learnedOf {G : OhG} {FI AI : OhI} {FL AL : OhL} {FR GR AR BR : OhQ} {AN : OhN} {C : OhC} (hH : ohShH FR AR AN) (n : Nat) (x1 : Int32) (x2 : OhR) (x3 : Int32) (x4 : Int32) {o : Int32} (hm : mX1_learnedOf n FI FR GR AI AR BR AN x1 x2 x3 x4 = some o) : oT G 4 iX1_learnedOf [vR (some (0, 0)), vI x1, vR x2, vI x3, vI x4] (FI, FL, FR, GR, AI, AL, AR, BR, AN, C) (0, 0) (fun v h => v = (some (vI o)) ∧ h = (FI, FL, FR, GR, AI, AL, AR, BR, AN, C)) ohNo :=
  oT_of (by decide) rfl (Nat.le_of_ble_eq_true rfl) (x_mX1_learnedOf hH n x1 x2 x3 x4 hm ⟨rfl, rfl⟩)
abbrev iX1_isIll : OhM := (yX1_isIll, cX1_isIll, 5, (some .boolean), [])
theorem ok_X1_isIll : oOk iX1_isIll 2 := ⟨by decide, by decide, by decide +kernel⟩
noncomputable def mX1_isIll_b2 (n : Nat) (FI : OhI) (FR : OhQ) (GR : OhQ) (AR : OhQ) (BR : OhQ) (AN : OhN) (x1 : Int32) (x2 : Int32) (x3 : Int32) : Option ((Int32) ⊕ ((Unit) ⊕ (Unit))) :=
  (mJ2_size FI (313, 0)).bind fun r1 =>
  (if r1 ≤ x3 then
  some (.inr (.inl ()))
else
  (mJ2_get FI GR AR BR AN (313, 0) x3).bind fun r3 =>
    (oD 16 r3).bind fun a4 =>
    (if (FI a4.1 a4.2 0) = x1 then
    (if (FI 0 0 18) < (FI a4.1 a4.2 3) then
      some (.inl (x3 + (1 : Int32)))
    else
      (mX1_isIn x2 (FI a4.1 a4.2 1) (FI a4.1 a4.2 2)).bind fun r7 =>
        (if r7 = 0 then
        some (.inl (x3 + (1 : Int32)))
      else
        some (.inr (.inr ()))))
  else
    some (.inl (x3 + (1 : Int32)))))
theorem x_mX1_isIll_b2 {G : OhG} {FI AI : OhI} {FL AL : OhL} {FR GR AR BR : OhQ} {AN : OhN} {C : OhC} {k : Nat × Nat} {Φ : OhP} {Ψ : OhX} (hH : ohShH FR AR AN) (n : Nat) (x1 : Int32) (x2 : Int32) (x3 : Int32) {r : (Int32) ⊕ ((Unit) ⊕ (Unit))} (hm : mX1_isIll_b2 n FI FR GR AR BR AN x1 x2 x3 = some r) (hk : ∀ v : Int32, r = .inl v → oX G 4 iX1_isIll 2 [(0, vR (some (0, 0))), (1, vI x1), (2, vI x2), (3, vI v)] [] (FI, FL, FR, GR, AI, AL, AR, BR, AN, C) k Φ Ψ) (hx1 : ∀ v : Unit, r = .inr (.inl v) → oX G 4 iX1_isIll 72 [] [] (FI, FL, FR, GR, AI, AL, AR, BR, AN, C) k Φ Ψ) (hx2 : ∀ v : Unit, r = .inr (.inr v) → oX G 4 iX1_isIll 64 [] [] (FI, FL, FR, GR, AI, AL, AR, BR, AN, C) k Φ Ψ) : oX G 4 iX1_isIll 2 [(0, vR (some (0, 0))), (1, vI x1), (2, vI x2), (3, vI x3)] [] (FI, FL, FR, GR, AI, AL, AR, BR, AN, C) k Φ Ψ := by
  unfold mX1_isIll_b2 at hm
  refine oX_iload_n dX1_isIll_2 rfl rfl ?_
  refine oX_aload_n dX1_isIll_3 rfl rfl ?_
  refine oX_getF fX1_43 rfl oDs0 dX1_isIll_4 (ohF313 hH) ?_
  obtain ⟨r1, g1, hm⟩ := bd_s hm
  refine oX_cV (as := []) dX1_isIll_7 rfl oDs313 rfl (by decide) rfl ok_J2_size rfl rfl q430 q431 q432 q132 q433 (by decide) (Nat.le_of_ble_eq_true rfl) (t_J2_size (313, 0) rfl g1) ?_
  refine oX_icmp_ge (tgt := 72) dX1_isIll_10 (by decide) (fun c2 => ?_) (fun c2 => ?_)
  · have hm := ifp c2 hm
    exact oX_sub [] rfl (hx1 () (Option.some.inj hm).symm)
  · have hm := ifn c2 hm
    refine oX_aload_n dX1_isIll_13 rfl rfl ?_
    refine oX_getF fX1_43 rfl oDs0 dX1_isIll_14 (ohF313 hH) ?_
    refine oX_iload_n dX1_isIll_17 rfl rfl ?_
    obtain ⟨r3, g3, hm⟩ := bd_s hm
    refine oX_cV (as := [vI x3]) dX1_isIll_18 rfl oDs313 rfl (by decide) rfl ok_J2_get rfl rfl q648 q649 q650 q132 q651 (by decide) (Nat.le_of_ble_eq_true rfl) (t_J2_get (313, 0) rfl x3 g3) ?_
    obtain ⟨a4, e4, hm⟩ := bd_s hm
    refine oX_cast e4 rfl (by decide) q1391 dX1_isIll_21 ?_
    refine oX_astore (ls' := [(4, vR (some a4)), (0, vR (some (0, 0))), (1, vI x1), (2, vI x2), (3, vI x3)]) dX1_isIll_24 (by decide) rfl ?_
    refine oX_aload dX1_isIll_26 rfl ?_
    refine oX_getI fX1_265 rfl (oD_self e4) dX1_isIll_28 ?_
    refine oX_iload_n dX1_isIll_31 rfl rfl ?_
    refine oX_icmp_ne (tgt := 66) dX1_isIll_32 (by decide) (fun c5 => ?_) (fun c5 => ?_)
    · have hm := ifp c5 hm
      refine oX_aload dX1_isIll_35 rfl ?_
      refine oX_getI fX1_266 rfl (oD_self e4) dX1_isIll_37 ?_
      refine oX_aload_n dX1_isIll_40 rfl rfl ?_
      refine oX_getI fX1_234 rfl oDs0 dX1_isIll_41 ?_
      refine oX_icmp_gt (tgt := 66) dX1_isIll_44 (by decide) (fun c6 => ?_) (fun c6 => ?_)
      · have hm := ifp c6 hm
        refine oX_iinc (v := x3 + (1 : Int32)) (ls' := [(3, vI (x3 + (1 : Int32))), (4, vR (some a4)), (0, vR (some (0, 0))), (1, vI x1), (2, vI x2)]) dX1_isIll_66 rfl rfl (by decide) rfl ?_
        refine oX_goto (tgt := 2) dX1_isIll_69 (by decide) ?_
        exact oX_sub [2, 3, 4, 0] rfl (hk (x3 + (1 : Int32)) (Option.some.inj hm).symm)
      · have hm := ifn c6 hm
        refine oX_iload_n dX1_isIll_47 rfl rfl ?_
        refine oX_aload dX1_isIll_48 rfl ?_
        refine oX_getI fX1_267 rfl (oD_self e4) dX1_isIll_50 ?_
        refine oX_aload dX1_isIll_53 rfl ?_
        refine oX_getI fX1_270 rfl (oD_self e4) dX1_isIll_55 ?_
        obtain ⟨r7, g7, hm⟩ := bd_s hm
        refine oX_cS (as := [vI x2, vI (FI a4.1 a4.2 1), vI (FI a4.1 a4.2 2)]) dX1_isIll_58 rfl ok_X1_isIn rfl rfl q421 q238 q129 q239 (by decide) (Nat.le_of_ble_eq_true rfl) (t_X1_isIn x2 (FI a4.1 a4.2 1) (FI a4.1 a4.2 2) g7) ?_
        refine oX_if_eq (tgt := 66) dX1_isIll_61 (by decide) (fun c8 => ?_) (fun c8 => ?_)
        · have hm := ifp c8 hm
          refine oX_iinc (v := x3 + (1 : Int32)) (ls' := [(3, vI (x3 + (1 : Int32))), (4, vR (some a4)), (0, vR (some (0, 0))), (1, vI x1), (2, vI x2)]) dX1_isIll_66 rfl rfl (by decide) rfl ?_
          refine oX_goto (tgt := 2) dX1_isIll_69 (by decide) ?_
          exact oX_sub [2, 3, 4, 0] rfl (hk (x3 + (1 : Int32)) (Option.some.inj hm).symm)
        · have hm := ifn c8 hm
          exact oX_sub [] rfl (hx2 () (Option.some.inj hm).symm)
    · have hm := ifn c5 hm
      refine oX_iinc (v := x3 + (1 : Int32)) (ls' := [(3, vI (x3 + (1 : Int32))), (4, vR (some a4)), (0, vR (some (0, 0))), (1, vI x1), (2, vI x2)]) dX1_isIll_66 rfl rfl (by decide) rfl ?_
      refine oX_goto (tgt := 2) dX1_isIll_69 (by decide) ?_
      exact oX_sub [2, 3, 4, 0] rfl (hk (x3 + (1 : Int32)) (Option.some.inj hm).symm)
theorem l_mX1_isIll_b2 {G : OhG} {FI : OhI} {FL : OhL} {FR : OhQ} {GR : OhQ} {AI : OhI} {AL : OhL} {AR : OhQ} {BR : OhQ} {AN : OhN} {C : OhC} {k : Nat × Nat} {Φ : OhP} {Ψ : OhX} (hH : ohShH FR AR AN) (n : Nat) (x1 : Int32) (x2 : Int32) : ∀ (f : Nat) (x3 : Int32) (b : ((Unit) ⊕ (Unit))), lpF (fun v => mX1_isIll_b2 n FI FR GR AR BR AN x1 x2 v) f x3 = some b → (∀ v : Unit, b = (.inl v) → oX G 4 iX1_isIll 72 [] [] (FI, FL, FR, GR, AI, AL, AR, BR, AN, C) k Φ Ψ) → (∀ v : Unit, b = (.inr v) → oX G 4 iX1_isIll 64 [] [] (FI, FL, FR, GR, AI, AL, AR, BR, AN, C) k Φ Ψ) → oX G 4 iX1_isIll 2 [(0, vR (some (0, 0))), (1, vI x1), (2, vI x2), (3, vI x3)] [] (FI, FL, FR, GR, AI, AL, AR, BR, AN, C) k Φ Ψ := by
  intro f
  induction f with
  | zero =>
    intro x3 b hm
    cases hm
  | succ f ih =>
    intro x3 b hm hx1 hx2
    obtain ⟨r, hr, hm⟩ := lp_s hm
    refine x_mX1_isIll_b2 hH n x1 x2 x3 hr (fun v e => ?_) (fun v e => ?_) (fun v e => ?_)
    · subst e; exact ih v _ hm hx1 hx2
    · subst e; exact hx1 v hm.symm
    · subst e; exact hx2 v hm.symm
noncomputable def mX1_isIll (n : Nat) (FI : OhI) (FR : OhQ) (GR : OhQ) (AR : OhQ) (BR : OhQ) (AN : OhN) (x1 : Int32) (x2 : Int32) : Option (Int32) :=
  (lpF (fun v => mX1_isIll_b2 n FI FR GR AR BR AN x1 x2 v) n (0 : Int32)).bind (Sum.elim (fun v9 => some (0 : Int32)) (fun v9 => some (1 : Int32)))
theorem x_mX1_isIll {G : OhG} {FI AI : OhI} {FL AL : OhL} {FR GR AR BR : OhQ} {AN : OhN} {C : OhC} {k : Nat × Nat} {Φ : OhP} {Ψ : OhX} (hH : ohShH FR AR AN) (n : Nat) (x1 : Int32) (x2 : Int32) {r : Int32} (hm : mX1_isIll n FI FR GR AR BR AN x1 x2 = some r) (hK : Φ (some (vI r)) (FI, FL, FR, GR, AI, AL, AR, BR, AN, C)) : oX G 4 iX1_isIll 0 [(0, vR (some (0, 0))), (1, vI x1), (2, vI x2)] [] (FI, FL, FR, GR, AI, AL, AR, BR, AN, C) k Φ Ψ := by
  unfold mX1_isIll at hm
  refine oX_iconst (v := (0 : Int32)) dX1_isIll_0 (by decide) ?_
  refine oX_istore_n (ls' := [(3, vI (0 : Int32)), (0, vR (some (0, 0))), (1, vI x1), (2, vI x2)]) dX1_isIll_1 rfl (by decide) rfl ?_
  obtain ⟨b9, g9, hm⟩ := bd_s hm
  refine oX_sub [1, 2, 3, 0] rfl (l_mX1_isIll_b2 hH n x1 x2 n (0 : Int32) _ g9 (fun v9 e9 => ?_) (fun v9 e9 => ?_))
  · subst e9
    have hm := el1 hm
    refine oX_iconst (v := (0 : Int32)) dX1_isIll_72 (by decide) ?_
    obtain rfl := Option.some.inj hm
    exact oX_iret dX1_isIll_73 rfl (by decide) hK
  · subst e9
    have hm := el2 hm
    refine oX_iconst (v := (1 : Int32)) dX1_isIll_64 (by decide) ?_
    obtain rfl := Option.some.inj hm
    exact oX_iret dX1_isIll_65 rfl (by decide) hK
theorem t_X1_isIll {G : OhG} {FI AI : OhI} {FL AL : OhL} {FR GR AR BR : OhQ} {AN : OhN} {C : OhC} (hH : ohShH FR AR AN) (n : Nat) (x1 : Int32) (x2 : Int32) {o : Int32} (hm : mX1_isIll n FI FR GR AR BR AN x1 x2 = some o) : oT G 4 iX1_isIll [vR (some (0, 0)), vI x1, vI x2] (FI, FL, FR, GR, AI, AL, AR, BR, AN, C) (0, 0) (fun v h => v = (some (vI o)) ∧ h = (FI, FL, FR, GR, AI, AL, AR, BR, AN, C)) ohNo :=
  oT_of (by decide) rfl (Nat.le_of_ble_eq_true rfl) (x_mX1_isIll hH n x1 x2 hm ⟨rfl, rfl⟩)
abbrev iX1_isCast : OhM := (yX1_isCast, cX1_isCast, 4, (some .boolean), [])
theorem ok_X1_isCast : oOk iX1_isCast 2 := ⟨by decide, by decide, by decide +kernel⟩
noncomputable def mX1_isCast_b2 (n : Nat) (FI : OhI) (FR : OhQ) (AI : OhI) (AR : OhQ) (BR : OhQ) (AN : OhN) (x1 : Int32) (x2 : OhR) (x3 : Int32) : Option ((Int32) ⊕ ((Unit) ⊕ (Unit))) :=
  (oD 14 x2).bind fun a1 =>
  (mX15_roles FI FR a1).bind fun r2 =>
  (if r2 ≤ x3 then
  some (.inr (.inl ()))
else
  gd (vp_in (FI a1.1 a1.2 0) 66) <|
    gd (vp_in x3 8) <|
    (if (AI 419 ((FI a1.1 a1.2 0).toNatClampNeg) x3.toNatClampNeg) = x1 then
    some (.inr (.inr ()))
  else
    some (.inl (x3 + (1 : Int32)))))
theorem x_mX1_isCast_b2 {G : OhG} {FI AI : OhI} {FL AL : OhL} {FR GR AR BR : OhQ} {AN : OhN} {C : OhC} {k : Nat × Nat} {Φ : OhP} {Ψ : OhX} (hH : ohShH FR AR AN) (n : Nat) (x1 : Int32) (x2 : OhR) (x3 : Int32) {r : (Int32) ⊕ ((Unit) ⊕ (Unit))} (hm : mX1_isCast_b2 n FI FR AI AR BR AN x1 x2 x3 = some r) (hk : ∀ v : Int32, r = .inl v → oX G 3 iX1_isCast 2 [(0, vR (some (0, 0))), (1, vI x1), (2, vR x2), (3, vI v)] [] (FI, FL, FR, GR, AI, AL, AR, BR, AN, C) k Φ Ψ) (hx1 : ∀ v : Unit, r = .inr (.inl v) → oX G 3 iX1_isCast 33 [] [] (FI, FL, FR, GR, AI, AL, AR, BR, AN, C) k Φ Ψ) (hx2 : ∀ v : Unit, r = .inr (.inr v) → oX G 3 iX1_isCast 25 [] [] (FI, FL, FR, GR, AI, AL, AR, BR, AN, C) k Φ Ψ) : oX G 3 iX1_isCast 2 [(0, vR (some (0, 0))), (1, vI x1), (2, vR x2), (3, vI x3)] [] (FI, FL, FR, GR, AI, AL, AR, BR, AN, C) k Φ Ψ := by
  unfold mX1_isCast_b2 at hm
  refine oX_iload_n dX1_isCast_2 rfl rfl ?_
  refine oX_aload_n dX1_isCast_3 rfl rfl ?_
  obtain ⟨a1, e1, hm⟩ := bd_s hm
  obtain ⟨r2, g2, hm⟩ := bd_s hm
  refine oX_cV (as := []) dX1_isCast_4 rfl e1 rfl (by decide) rfl ok_X15_roles rfl rfl q1352 q1353 q1354 q165 q1355 (by decide) (Nat.le_of_ble_eq_true rfl) (t_X15_roles a1 ((oD_some e1).2) g2) ?_
  refine oX_icmp_ge (tgt := 33) dX1_isCast_7 (by decide) (fun c3 => ?_) (fun c3 => ?_)
  · have hm := ifp c3 hm
    exact oX_sub [] rfl (hx1 () (Option.some.inj hm).symm)
  · have hm := ifn c3 hm
    refine oX_aload_n dX1_isCast_10 rfl rfl ?_
    refine oX_getF fX1_64 rfl oDs0 dX1_isCast_11 (ohF319 hH) ?_
    refine oX_aload_n dX1_isCast_14 rfl rfl ?_
    refine oX_getI fX1_233 rfl e1 dX1_isCast_15 ?_
    obtain ⟨g4, hm⟩ := gd_s hm
    refine oX_aaldR oDs319 (oIn (ohN319 hH) g4) dX1_isCast_18 (ohA319 hH (oLt g4)) ?_
    refine oX_iload_n dX1_isCast_19 rfl rfl ?_
    obtain ⟨g5, hm⟩ := gd_s hm
    refine oX_iald oDs419 (oIn (ohM419 hH (oLt g4)) g5) dX1_isCast_20 ?_
    refine oX_iload_n dX1_isCast_21 rfl rfl ?_
    refine oX_icmp_ne (tgt := 27) dX1_isCast_22 (by decide) (fun c6 => ?_) (fun c6 => ?_)
    · have hm := ifp c6 hm
      exact oX_sub [] rfl (hx2 () (Option.some.inj hm).symm)
    · have hm := ifn c6 hm
      refine oX_iinc (v := x3 + (1 : Int32)) (ls' := [(3, vI (x3 + (1 : Int32))), (0, vR (some (0, 0))), (1, vI x1), (2, vR x2)]) dX1_isCast_27 rfl rfl (by decide) rfl ?_
      refine oX_goto (tgt := 2) dX1_isCast_30 (by decide) ?_
      exact oX_sub [1, 2, 3, 0] rfl (hk (x3 + (1 : Int32)) (Option.some.inj hm).symm)
theorem l_mX1_isCast_b2 {G : OhG} {FI : OhI} {FL : OhL} {FR : OhQ} {GR : OhQ} {AI : OhI} {AL : OhL} {AR : OhQ} {BR : OhQ} {AN : OhN} {C : OhC} {k : Nat × Nat} {Φ : OhP} {Ψ : OhX} (hH : ohShH FR AR AN) (n : Nat) (x1 : Int32) (x2 : OhR) : ∀ (f : Nat) (x3 : Int32) (b : ((Unit) ⊕ (Unit))), lpF (fun v => mX1_isCast_b2 n FI FR AI AR BR AN x1 x2 v) f x3 = some b → (∀ v : Unit, b = (.inl v) → oX G 3 iX1_isCast 33 [] [] (FI, FL, FR, GR, AI, AL, AR, BR, AN, C) k Φ Ψ) → (∀ v : Unit, b = (.inr v) → oX G 3 iX1_isCast 25 [] [] (FI, FL, FR, GR, AI, AL, AR, BR, AN, C) k Φ Ψ) → oX G 3 iX1_isCast 2 [(0, vR (some (0, 0))), (1, vI x1), (2, vR x2), (3, vI x3)] [] (FI, FL, FR, GR, AI, AL, AR, BR, AN, C) k Φ Ψ := by
  intro f
  induction f with
  | zero =>
    intro x3 b hm
    cases hm
  | succ f ih =>
    intro x3 b hm hx1 hx2
    obtain ⟨r, hr, hm⟩ := lp_s hm
    refine x_mX1_isCast_b2 hH n x1 x2 x3 hr (fun v e => ?_) (fun v e => ?_) (fun v e => ?_)
    · subst e; exact ih v _ hm hx1 hx2
    · subst e; exact hx1 v hm.symm
    · subst e; exact hx2 v hm.symm
noncomputable def mX1_isCast (n : Nat) (FI : OhI) (FR : OhQ) (AI : OhI) (AR : OhQ) (BR : OhQ) (AN : OhN) (x1 : Int32) (x2 : OhR) : Option (Int32) :=
  (lpF (fun v => mX1_isCast_b2 n FI FR AI AR BR AN x1 x2 v) n (0 : Int32)).bind (Sum.elim (fun v7 => some (0 : Int32)) (fun v7 => some (1 : Int32)))
theorem x_mX1_isCast {G : OhG} {FI AI : OhI} {FL AL : OhL} {FR GR AR BR : OhQ} {AN : OhN} {C : OhC} {k : Nat × Nat} {Φ : OhP} {Ψ : OhX} (hH : ohShH FR AR AN) (n : Nat) (x1 : Int32) (x2 : OhR) {r : Int32} (hm : mX1_isCast n FI FR AI AR BR AN x1 x2 = some r) (hK : Φ (some (vI r)) (FI, FL, FR, GR, AI, AL, AR, BR, AN, C)) : oX G 3 iX1_isCast 0 [(0, vR (some (0, 0))), (1, vI x1), (2, vR x2)] [] (FI, FL, FR, GR, AI, AL, AR, BR, AN, C) k Φ Ψ := by
  unfold mX1_isCast at hm
  refine oX_iconst (v := (0 : Int32)) dX1_isCast_0 (by decide) ?_
  refine oX_istore_n (ls' := [(3, vI (0 : Int32)), (0, vR (some (0, 0))), (1, vI x1), (2, vR x2)]) dX1_isCast_1 rfl (by decide) rfl ?_
  obtain ⟨b7, g7, hm⟩ := bd_s hm
  refine oX_sub [1, 2, 3, 0] rfl (l_mX1_isCast_b2 hH n x1 x2 n (0 : Int32) _ g7 (fun v7 e7 => ?_) (fun v7 e7 => ?_))
  · subst e7
    have hm := el1 hm
    refine oX_iconst (v := (0 : Int32)) dX1_isCast_33 (by decide) ?_
    obtain rfl := Option.some.inj hm
    exact oX_iret dX1_isCast_34 rfl (by decide) hK
  · subst e7
    have hm := el2 hm
    refine oX_iconst (v := (1 : Int32)) dX1_isCast_25 (by decide) ?_
    obtain rfl := Option.some.inj hm
    exact oX_iret dX1_isCast_26 rfl (by decide) hK
theorem t_X1_isCast {G : OhG} {FI AI : OhI} {FL AL : OhL} {FR GR AR BR : OhQ} {AN : OhN} {C : OhC} (hH : ohShH FR AR AN) (n : Nat) (x1 : Int32) (x2 : OhR) {o : Int32} (hm : mX1_isCast n FI FR AI AR BR AN x1 x2 = some o) : oT G 3 iX1_isCast [vR (some (0, 0)), vI x1, vR x2] (FI, FL, FR, GR, AI, AL, AR, BR, AN, C) (0, 0) (fun v h => v = (some (vI o)) ∧ h = (FI, FL, FR, GR, AI, AL, AR, BR, AN, C)) ohNo :=
  oT_of (by decide) rfl (Nat.le_of_ble_eq_true rfl) (x_mX1_isCast hH n x1 x2 hm ⟨rfl, rfl⟩)
abbrev iX1_isTwice : OhM := (yX1_isTwice, cX1_isTwice, 6, (some .boolean), [])
theorem ok_X1_isTwice : oOk iX1_isTwice 3 := ⟨by decide, by decide, by decide +kernel⟩
noncomputable def mX1_isTwice_b11 (n : Nat) (FI : OhI) (FR : OhQ) (AI : OhI) (AR : OhQ) (BR : OhQ) (AN : OhN) (x1 : Int32) (x2 : Int32) (x3 : Int32) (x4 : OhR) (x5 : Int32) : Option ((Int32) ⊕ ((Unit) ⊕ (Unit))) :=
  (if x2 ≤ x5 then
  some (.inr (.inl ()))
else
  (oD 14 x4).bind fun a3 =>
    gd (vp_in (FI a3.1 a3.2 0) 66) <|
    gd (vp_in x5 8) <|
    (if (AI 419 ((FI a3.1 a3.2 0).toNatClampNeg) x5.toNatClampNeg) = x3 then
    some (.inr (.inr ()))
  else
    some (.inl (x5 + (1 : Int32)))))
theorem x_mX1_isTwice_b11 {G : OhG} {FI AI : OhI} {FL AL : OhL} {FR GR AR BR : OhQ} {AN : OhN} {C : OhC} {k : Nat × Nat} {Φ : OhP} {Ψ : OhX} (hH : ohShH FR AR AN) (n : Nat) (x1 : Int32) (x2 : Int32) (x3 : Int32) (x4 : OhR) (x5 : Int32) {r : (Int32) ⊕ ((Unit) ⊕ (Unit))} (hm : mX1_isTwice_b11 n FI FR AI AR BR AN x1 x2 x3 x4 x5 = some r) (hk : ∀ v : Int32, r = .inl v → oX G 4 iX1_isTwice 11 [(0, vR (some (0, 0))), (1, vI x1), (2, vI x2), (3, vI x3), (4, vR x4), (5, vI v)] [] (FI, FL, FR, GR, AI, AL, AR, BR, AN, C) k Φ Ψ) (hx1 : ∀ v : Unit, r = .inr (.inl v) → oX G 4 iX1_isTwice 42 [(0, vR (some (0, 0))), (1, vI x1), (3, vI x3), (4, vR x4)] [] (FI, FL, FR, GR, AI, AL, AR, BR, AN, C) k Φ Ψ) (hx2 : ∀ v : Unit, r = .inr (.inr v) → oX G 4 iX1_isTwice 34 [] [] (FI, FL, FR, GR, AI, AL, AR, BR, AN, C) k Φ Ψ) : oX G 4 iX1_isTwice 11 [(0, vR (some (0, 0))), (1, vI x1), (2, vI x2), (3, vI x3), (4, vR x4), (5, vI x5)] [] (FI, FL, FR, GR, AI, AL, AR, BR, AN, C) k Φ Ψ := by
  unfold mX1_isTwice_b11 at hm
  refine oX_iload dX1_isTwice_11 rfl ?_
  refine oX_iload_n dX1_isTwice_13 rfl rfl ?_
  refine oX_icmp_ge (tgt := 42) dX1_isTwice_14 (by decide) (fun c2 => ?_) (fun c2 => ?_)
  · have hm := ifp c2 hm
    exact oX_sub [0, 1, 3, 4] rfl (hx1 () (Option.some.inj hm).symm)
  · have hm := ifn c2 hm
    refine oX_aload_n dX1_isTwice_17 rfl rfl ?_
    refine oX_getF fX1_64 rfl oDs0 dX1_isTwice_18 (ohF319 hH) ?_
    refine oX_aload dX1_isTwice_21 rfl ?_
    obtain ⟨a3, e3, hm⟩ := bd_s hm
    refine oX_getI fX1_233 rfl e3 dX1_isTwice_23 ?_
    obtain ⟨g4, hm⟩ := gd_s hm
    refine oX_aaldR oDs319 (oIn (ohN319 hH) g4) dX1_isTwice_26 (ohA319 hH (oLt g4)) ?_
    refine oX_iload dX1_isTwice_27 rfl ?_
    obtain ⟨g5, hm⟩ := gd_s hm
    refine oX_iald oDs419 (oIn (ohM419 hH (oLt g4)) g5) dX1_isTwice_29 ?_
    refine oX_iload_n dX1_isTwice_30 rfl rfl ?_
    refine oX_icmp_ne (tgt := 36) dX1_isTwice_31 (by decide) (fun c6 => ?_) (fun c6 => ?_)
    · have hm := ifp c6 hm
      exact oX_sub [] rfl (hx2 () (Option.some.inj hm).symm)
    · have hm := ifn c6 hm
      refine oX_iinc (v := x5 + (1 : Int32)) (ls' := [(5, vI (x5 + (1 : Int32))), (0, vR (some (0, 0))), (1, vI x1), (2, vI x2), (3, vI x3), (4, vR x4)]) dX1_isTwice_36 rfl rfl (by decide) rfl ?_
      refine oX_goto (tgt := 11) dX1_isTwice_39 (by decide) ?_
      exact oX_sub [1, 2, 3, 4, 5, 0] rfl (hk (x5 + (1 : Int32)) (Option.some.inj hm).symm)
theorem l_mX1_isTwice_b11 {G : OhG} {FI : OhI} {FL : OhL} {FR : OhQ} {GR : OhQ} {AI : OhI} {AL : OhL} {AR : OhQ} {BR : OhQ} {AN : OhN} {C : OhC} {k : Nat × Nat} {Φ : OhP} {Ψ : OhX} (hH : ohShH FR AR AN) (n : Nat) (x1 : Int32) (x2 : Int32) (x3 : Int32) (x4 : OhR) : ∀ (f : Nat) (x5 : Int32) (b : ((Unit) ⊕ (Unit))), lpF (fun v => mX1_isTwice_b11 n FI FR AI AR BR AN x1 x2 x3 x4 v) f x5 = some b → (∀ v : Unit, b = (.inl v) → oX G 4 iX1_isTwice 42 [(0, vR (some (0, 0))), (1, vI x1), (3, vI x3), (4, vR x4)] [] (FI, FL, FR, GR, AI, AL, AR, BR, AN, C) k Φ Ψ) → (∀ v : Unit, b = (.inr v) → oX G 4 iX1_isTwice 34 [] [] (FI, FL, FR, GR, AI, AL, AR, BR, AN, C) k Φ Ψ) → oX G 4 iX1_isTwice 11 [(0, vR (some (0, 0))), (1, vI x1), (2, vI x2), (3, vI x3), (4, vR x4), (5, vI x5)] [] (FI, FL, FR, GR, AI, AL, AR, BR, AN, C) k Φ Ψ := by
  intro f
  induction f with
  | zero =>
    intro x5 b hm
    cases hm
  | succ f ih =>
    intro x5 b hm hx1 hx2
    obtain ⟨r, hr, hm⟩ := lp_s hm
    refine x_mX1_isTwice_b11 hH n x1 x2 x3 x4 x5 hr (fun v e => ?_) (fun v e => ?_) (fun v e => ?_)
    · subst e; exact ih v _ hm hx1 hx2
    · subst e; exact hx1 v hm.symm
    · subst e; exact hx2 v hm.symm
noncomputable def mX1_isTwice_b45 (n : Nat) (FI : OhI) (FR : OhQ) (AI : OhI) (AR : OhQ) (BR : OhQ) (AN : OhN) (x1 : Int32) (x3 : Int32) (x4 : OhR) (x5 : Int32) : Option ((Int32) ⊕ ((Unit) ⊕ (Unit))) :=
  (if x1 ≤ x5 then
  some (.inr (.inl ()))
else
  gd (vp_in x5 66) <|
    (oD 14 x4).bind fun a10 =>
    (oD 14 (BR 316 0 x5.toNatClampNeg)).bind fun a11 =>
    (mX15_isOn FI a11 (FI a10.1 a10.2 4)).bind fun r12 =>
    (if r12 = 0 then
    some (.inl (x5 + (1 : Int32)))
  else
    gd (vp_in x5 66) <|
      (mX1_isCast n FI FR AI AR BR AN x3 (BR 316 0 x5.toNatClampNeg)).bind fun r15 =>
      (if r15 = 0 then
      some (.inl (x5 + (1 : Int32)))
    else
      some (.inr (.inr ())))))
theorem x_mX1_isTwice_b45 {G : OhG} {FI AI : OhI} {FL AL : OhL} {FR GR AR BR : OhQ} {AN : OhN} {C : OhC} {k : Nat × Nat} {Φ : OhP} {Ψ : OhX} (hH : ohShH FR AR AN) (n : Nat) (x1 : Int32) (x3 : Int32) (x4 : OhR) (x5 : Int32) {r : (Int32) ⊕ ((Unit) ⊕ (Unit))} (hm : mX1_isTwice_b45 n FI FR AI AR BR AN x1 x3 x4 x5 = some r) (hk : ∀ v : Int32, r = .inl v → oX G 4 iX1_isTwice 45 [(0, vR (some (0, 0))), (1, vI x1), (3, vI x3), (4, vR x4), (5, vI v)] [] (FI, FL, FR, GR, AI, AL, AR, BR, AN, C) k Φ Ψ) (hx1 : ∀ v : Unit, r = .inr (.inl v) → oX G 4 iX1_isTwice 92 [] [] (FI, FL, FR, GR, AI, AL, AR, BR, AN, C) k Φ Ψ) (hx2 : ∀ v : Unit, r = .inr (.inr v) → oX G 4 iX1_isTwice 84 [] [] (FI, FL, FR, GR, AI, AL, AR, BR, AN, C) k Φ Ψ) : oX G 4 iX1_isTwice 45 [(0, vR (some (0, 0))), (1, vI x1), (3, vI x3), (4, vR x4), (5, vI x5)] [] (FI, FL, FR, GR, AI, AL, AR, BR, AN, C) k Φ Ψ := by
  unfold mX1_isTwice_b45 at hm
  refine oX_iload dX1_isTwice_45 rfl ?_
  refine oX_iload_n dX1_isTwice_47 rfl rfl ?_
  refine oX_icmp_ge (tgt := 92) dX1_isTwice_48 (by decide) (fun c8 => ?_) (fun c8 => ?_)
  · have hm := ifp c8 hm
    exact oX_sub [] rfl (hx1 () (Option.some.inj hm).symm)
  · have hm := ifn c8 hm
    refine oX_aload_n dX1_isTwice_51 rfl rfl ?_
    refine oX_getF fX1_58 rfl oDs0 dX1_isTwice_52 (ohF316 hH) ?_
    refine oX_iload dX1_isTwice_55 rfl ?_
    obtain ⟨g9, hm⟩ := gd_s hm
    refine oX_aaldC oDs316 (oIn (ohN316 hH) g9) dX1_isTwice_57 rfl ?_
    refine oX_aload dX1_isTwice_58 rfl ?_
    obtain ⟨a10, e10, hm⟩ := bd_s hm
    refine oX_getI fX1_230 rfl e10 dX1_isTwice_60 ?_
    obtain ⟨a11, e11, hm⟩ := bd_s hm
    obtain ⟨r12, g12, hm⟩ := bd_s hm
    refine oX_cV (as := [vI (FI a10.1 a10.2 4)]) dX1_isTwice_63 rfl e11 rfl (by decide) rfl ok_X15_isOn rfl rfl q1462 q1463 q1464 q165 q1465 (by decide) (Nat.le_of_ble_eq_true rfl) (t_X15_isOn a11 ((oD_some e11).2) (FI a10.1 a10.2 4) g12) ?_
    refine oX_if_eq (tgt := 86) dX1_isTwice_66 (by decide) (fun c13 => ?_) (fun c13 => ?_)
    · have hm := ifp c13 hm
      refine oX_iinc (v := x5 + (1 : Int32)) (ls' := [(5, vI (x5 + (1 : Int32))), (0, vR (some (0, 0))), (1, vI x1), (3, vI x3), (4, vR x4)]) dX1_isTwice_86 rfl rfl (by decide) rfl ?_
      refine oX_goto (tgt := 45) dX1_isTwice_89 (by decide) ?_
      exact oX_sub [1, 2, 3, 4, 0] rfl (hk (x5 + (1 : Int32)) (Option.some.inj hm).symm)
    · have hm := ifn c13 hm
      refine oX_aload_n dX1_isTwice_69 rfl rfl ?_
      refine oX_iload_n dX1_isTwice_70 rfl rfl ?_
      refine oX_aload_n dX1_isTwice_71 rfl rfl ?_
      refine oX_getF fX1_58 rfl oDs0 dX1_isTwice_72 (ohF316 hH) ?_
      refine oX_iload dX1_isTwice_75 rfl ?_
      obtain ⟨g14, hm⟩ := gd_s hm
      refine oX_aaldC oDs316 (oIn (ohN316 hH) g14) dX1_isTwice_77 rfl ?_
      obtain ⟨r15, g15, hm⟩ := bd_s hm
      refine oX_cV (as := [vI x3, vR (BR 316 0 x5.toNatClampNeg)]) dX1_isTwice_78 rfl oDs0 rfl (by decide) rfl ok_X1_isCast rfl rfl q1523 q1525 qs40 q129 q1526 (by decide) (Nat.le_of_ble_eq_true rfl) (t_X1_isCast hH n x3 (BR 316 0 x5.toNatClampNeg) g15) ?_
      refine oX_if_eq (tgt := 86) dX1_isTwice_81 (by decide) (fun c16 => ?_) (fun c16 => ?_)
      · have hm := ifp c16 hm
        refine oX_iinc (v := x5 + (1 : Int32)) (ls' := [(5, vI (x5 + (1 : Int32))), (0, vR (some (0, 0))), (1, vI x1), (3, vI x3), (4, vR x4)]) dX1_isTwice_86 rfl rfl (by decide) rfl ?_
        refine oX_goto (tgt := 45) dX1_isTwice_89 (by decide) ?_
        exact oX_sub [1, 2, 3, 4, 0] rfl (hk (x5 + (1 : Int32)) (Option.some.inj hm).symm)
      · have hm := ifn c16 hm
        exact oX_sub [] rfl (hx2 () (Option.some.inj hm).symm)
theorem l_mX1_isTwice_b45 {G : OhG} {FI : OhI} {FL : OhL} {FR : OhQ} {GR : OhQ} {AI : OhI} {AL : OhL} {AR : OhQ} {BR : OhQ} {AN : OhN} {C : OhC} {k : Nat × Nat} {Φ : OhP} {Ψ : OhX} (hH : ohShH FR AR AN) (n : Nat) (x1 : Int32) (x3 : Int32) (x4 : OhR) : ∀ (f : Nat) (x5 : Int32) (b : ((Unit) ⊕ (Unit))), lpF (fun v => mX1_isTwice_b45 n FI FR AI AR BR AN x1 x3 x4 v) f x5 = some b → (∀ v : Unit, b = (.inl v) → oX G 4 iX1_isTwice 92 [] [] (FI, FL, FR, GR, AI, AL, AR, BR, AN, C) k Φ Ψ) → (∀ v : Unit, b = (.inr v) → oX G 4 iX1_isTwice 84 [] [] (FI, FL, FR, GR, AI, AL, AR, BR, AN, C) k Φ Ψ) → oX G 4 iX1_isTwice 45 [(0, vR (some (0, 0))), (1, vI x1), (3, vI x3), (4, vR x4), (5, vI x5)] [] (FI, FL, FR, GR, AI, AL, AR, BR, AN, C) k Φ Ψ := by
  intro f
  induction f with
  | zero =>
    intro x5 b hm
    cases hm
  | succ f ih =>
    intro x5 b hm hx1 hx2
    obtain ⟨r, hr, hm⟩ := lp_s hm
    refine x_mX1_isTwice_b45 hH n x1 x3 x4 x5 hr (fun v e => ?_) (fun v e => ?_) (fun v e => ?_)
    · subst e; exact ih v _ hm hx1 hx2
    · subst e; exact hx1 v hm.symm
    · subst e; exact hx2 v hm.symm
noncomputable def mX1_isTwice (n : Nat) (FI : OhI) (FR : OhQ) (AI : OhI) (AR : OhQ) (BR : OhQ) (AN : OhN) (x1 : Int32) (x2 : Int32) (x3 : Int32) : Option (Int32) :=
  gd (vp_in x1 66) <|
  (lpF (fun v => mX1_isTwice_b11 n FI FR AI AR BR AN x1 x2 x3 (BR 316 0 x1.toNatClampNeg) v) n (0 : Int32)).bind (Sum.elim (fun v7 => (lpF (fun v => mX1_isTwice_b45 n FI FR AI AR BR AN x1 x3 (BR 316 0 x1.toNatClampNeg) v) n (0 : Int32)).bind (Sum.elim (fun v17 => some (0 : Int32)) (fun v17 => some (1 : Int32)))) (fun v7 => some (1 : Int32)))
theorem x_mX1_isTwice {G : OhG} {FI AI : OhI} {FL AL : OhL} {FR GR AR BR : OhQ} {AN : OhN} {C : OhC} {k : Nat × Nat} {Φ : OhP} {Ψ : OhX} (hH : ohShH FR AR AN) (n : Nat) (x1 : Int32) (x2 : Int32) (x3 : Int32) {r : Int32} (hm : mX1_isTwice n FI FR AI AR BR AN x1 x2 x3 = some r) (hK : Φ (some (vI r)) (FI, FL, FR, GR, AI, AL, AR, BR, AN, C)) : oX G 4 iX1_isTwice 0 [(0, vR (some (0, 0))), (1, vI x1), (2, vI x2), (3, vI x3)] [] (FI, FL, FR, GR, AI, AL, AR, BR, AN, C) k Φ Ψ := by
  unfold mX1_isTwice at hm
  refine oX_aload_n dX1_isTwice_0 rfl rfl ?_
  refine oX_getF fX1_58 rfl oDs0 dX1_isTwice_1 (ohF316 hH) ?_
  refine oX_iload_n dX1_isTwice_4 rfl rfl ?_
  obtain ⟨g1, hm⟩ := gd_s hm
  refine oX_aaldC oDs316 (oIn (ohN316 hH) g1) dX1_isTwice_5 rfl ?_
  refine oX_astore (ls' := [(4, vR (BR 316 0 x1.toNatClampNeg)), (0, vR (some (0, 0))), (1, vI x1), (2, vI x2), (3, vI x3)]) dX1_isTwice_6 (by decide) rfl ?_
  refine oX_iconst (v := (0 : Int32)) dX1_isTwice_8 (by decide) ?_
  refine oX_istore (ls' := [(5, vI (0 : Int32)), (4, vR (BR 316 0 x1.toNatClampNeg)), (0, vR (some (0, 0))), (1, vI x1), (2, vI x2), (3, vI x3)]) dX1_isTwice_9 (by decide) rfl ?_
  obtain ⟨b7, g7, hm⟩ := bd_s hm
  refine oX_sub [2, 3, 4, 5, 1, 0] rfl (l_mX1_isTwice_b11 hH n x1 x2 x3 (BR 316 0 x1.toNatClampNeg) n (0 : Int32) _ g7 (fun v7 e7 => ?_) (fun v7 e7 => ?_))
  · subst e7
    have hm := el1 hm
    refine oX_iconst (v := (0 : Int32)) dX1_isTwice_42 (by decide) ?_
    refine oX_istore (ls' := [(5, vI (0 : Int32)), (0, vR (some (0, 0))), (1, vI x1), (3, vI x3), (4, vR (BR 316 0 x1.toNatClampNeg))]) dX1_isTwice_43 (by decide) rfl ?_
    obtain ⟨b17, g17, hm⟩ := bd_s hm
    refine oX_sub [1, 2, 3, 4, 0] rfl (l_mX1_isTwice_b45 hH n x1 x3 (BR 316 0 x1.toNatClampNeg) n (0 : Int32) _ g17 (fun v17 e17 => ?_) (fun v17 e17 => ?_))
    · subst e17
      have hm := el1 hm
      refine oX_iconst (v := (0 : Int32)) dX1_isTwice_92 (by decide) ?_
      obtain rfl := Option.some.inj hm
      exact oX_iret dX1_isTwice_93 rfl (by decide) hK
    · subst e17
      have hm := el2 hm
      refine oX_iconst (v := (1 : Int32)) dX1_isTwice_84 (by decide) ?_
      obtain rfl := Option.some.inj hm
      exact oX_iret dX1_isTwice_85 rfl (by decide) hK
  · subst e7
    have hm := el2 hm
    refine oX_iconst (v := (1 : Int32)) dX1_isTwice_34 (by decide) ?_
    obtain rfl := Option.some.inj hm
    exact oX_iret dX1_isTwice_35 rfl (by decide) hK
theorem t_X1_isTwice {G : OhG} {FI AI : OhI} {FL AL : OhL} {FR GR AR BR : OhQ} {AN : OhN} {C : OhC} (hH : ohShH FR AR AN) (n : Nat) (x1 : Int32) (x2 : Int32) (x3 : Int32) {o : Int32} (hm : mX1_isTwice n FI FR AI AR BR AN x1 x2 x3 = some o) : oT G 4 iX1_isTwice [vR (some (0, 0)), vI x1, vI x2, vI x3] (FI, FL, FR, GR, AI, AL, AR, BR, AN, C) (0, 0) (fun v h => v = (some (vI o)) ∧ h = (FI, FL, FR, GR, AI, AL, AR, BR, AN, C)) ohNo :=
  oT_of (by decide) rfl (Nat.le_of_ble_eq_true rfl) (x_mX1_isTwice hH n x1 x2 x3 hm ⟨rfl, rfl⟩)
abbrev iX1_hoursOn : OhM := (yX1_hoursOn, cX1_hoursOn, 6, (some .int), [])
theorem ok_X1_hoursOn : oOk iX1_hoursOn 2 := ⟨by decide, by decide, by decide +kernel⟩
noncomputable def mX1_hoursOn_j53 (n : Nat) (FI : OhI) (FR : OhQ) (AI : OhI) (AR : OhQ) (BR : OhQ) (AN : OhN) (x1 : Int32) (x2 : OhR) (x3 : Int32) (x4 : Int32) (x5 : OhR) : Option ((Int32 × Int32) ⊕ ((Int32) ⊕ (Int32))) :=
  gd (oNm x5 x2) <|
  (if x5 = x2 then
  some (.inr (.inr x3))
else
  some (.inl (x3, x4 + (1 : Int32))))
theorem x_mX1_hoursOn_j53 {G : OhG} {FI AI : OhI} {FL AL : OhL} {FR GR AR BR : OhQ} {AN : OhN} {C : OhC} {k : Nat × Nat} {Φ : OhP} {Ψ : OhX} (hH : ohShH FR AR AN) (n : Nat) (x1 : Int32) (x2 : OhR) (x3 : Int32) (x4 : Int32) (x5 : OhR) {r : (Int32 × Int32) ⊕ ((Int32) ⊕ (Int32))} (hm : mX1_hoursOn_j53 n FI FR AI AR BR AN x1 x2 x3 x4 x5 = some r) (hk : ∀ v : Int32 × Int32, r = .inl v → oX G 4 iX1_hoursOn 5 [(0, vR (some (0, 0))), (1, vI x1), (2, vR x2), (3, vI v.1), (4, vI v.2)] [] (FI, FL, FR, GR, AI, AL, AR, BR, AN, C) k Φ Ψ) (hx1 : ∀ v : Int32, r = .inr (.inl v) → oX G 4 iX1_hoursOn 68 [(3, vI v)] [] (FI, FL, FR, GR, AI, AL, AR, BR, AN, C) k Φ Ψ) (hx2 : ∀ v : Int32, r = .inr (.inr v) → oX G 4 iX1_hoursOn 59 [(3, vI v)] [] (FI, FL, FR, GR, AI, AL, AR, BR, AN, C) k Φ Ψ) : oX G 4 iX1_hoursOn 53 [(0, vR (some (0, 0))), (1, vI x1), (2, vR x2), (3, vI x3), (4, vI x4), (5, vR x5)] [] (FI, FL, FR, GR, AI, AL, AR, BR, AN, C) k Φ Ψ := by
  unfold mX1_hoursOn_j53 at hm
  refine oX_aload dX1_hoursOn_53 rfl ?_
  refine oX_aload_n dX1_hoursOn_55 rfl rfl ?_
  obtain ⟨n8, hm⟩ := gd_s hm
  refine oX_acmp_ne (tgt := 62) n8 dX1_hoursOn_56 (by decide) (fun c8 => ?_) (fun c8 => ?_)
  · have hm := ifp c8 hm
    exact oX_sub [3] rfl (hx2 x3 (Option.some.inj hm).symm)
  · have hm := ifn c8 hm
    refine oX_iinc (v := x4 + (1 : Int32)) (ls' := [(4, vI (x4 + (1 : Int32))), (0, vR (some (0, 0))), (1, vI x1), (2, vR x2), (3, vI x3), (5, vR x5)]) dX1_hoursOn_62 rfl rfl (by decide) rfl ?_
    refine oX_goto (tgt := 5) dX1_hoursOn_65 (by decide) ?_
    exact oX_sub [1, 2, 3, 4, 0] rfl (hk (x3, x4 + (1 : Int32)) (Option.some.inj hm).symm)
noncomputable def mX1_hoursOn_b5 (n : Nat) (FI : OhI) (FR : OhQ) (AI : OhI) (AR : OhQ) (BR : OhQ) (AN : OhN) (x1 : Int32) (x2 : OhR) (x3 : Int32) (x4 : Int32) : Option ((Int32 × Int32) ⊕ ((Int32) ⊕ (Int32))) :=
  (if (FI 0 0 17) ≤ x4 then
  some (.inr (.inl x3))
else
  gd (vp_in x4 66) <|
    (oD 14 (BR 316 0 x4.toNatClampNeg)).bind fun a3 =>
    (oD 14 x2).bind fun a4 =>
    (if (FI a3.1 a3.2 1) = (FI a4.1 a4.2 1) then
    (mX1_isCast n FI FR AI AR BR AN x1 (BR 316 0 x4.toNatClampNeg)).bind fun r6 =>
      (if r6 = 0 then
      mX1_hoursOn_j53 n FI FR AI AR BR AN x1 x2 x3 x4 (BR 316 0 x4.toNatClampNeg)
    else
      (mX15_hours FI a3).bind fun r9 =>
        mX1_hoursOn_j53 n FI FR AI AR BR AN x1 x2 (x3 + r9) x4 (BR 316 0 x4.toNatClampNeg))
  else
    mX1_hoursOn_j53 n FI FR AI AR BR AN x1 x2 x3 x4 (BR 316 0 x4.toNatClampNeg)))
theorem x_mX1_hoursOn_b5 {G : OhG} {FI AI : OhI} {FL AL : OhL} {FR GR AR BR : OhQ} {AN : OhN} {C : OhC} {k : Nat × Nat} {Φ : OhP} {Ψ : OhX} (hH : ohShH FR AR AN) (n : Nat) (x1 : Int32) (x2 : OhR) (x3 : Int32) (x4 : Int32) {r : (Int32 × Int32) ⊕ ((Int32) ⊕ (Int32))} (hm : mX1_hoursOn_b5 n FI FR AI AR BR AN x1 x2 x3 x4 = some r) (hk : ∀ v : Int32 × Int32, r = .inl v → oX G 4 iX1_hoursOn 5 [(0, vR (some (0, 0))), (1, vI x1), (2, vR x2), (3, vI v.1), (4, vI v.2)] [] (FI, FL, FR, GR, AI, AL, AR, BR, AN, C) k Φ Ψ) (hx1 : ∀ v : Int32, r = .inr (.inl v) → oX G 4 iX1_hoursOn 68 [(3, vI v)] [] (FI, FL, FR, GR, AI, AL, AR, BR, AN, C) k Φ Ψ) (hx2 : ∀ v : Int32, r = .inr (.inr v) → oX G 4 iX1_hoursOn 59 [(3, vI v)] [] (FI, FL, FR, GR, AI, AL, AR, BR, AN, C) k Φ Ψ) : oX G 4 iX1_hoursOn 5 [(0, vR (some (0, 0))), (1, vI x1), (2, vR x2), (3, vI x3), (4, vI x4)] [] (FI, FL, FR, GR, AI, AL, AR, BR, AN, C) k Φ Ψ := by
  unfold mX1_hoursOn_b5 at hm
  refine oX_iload dX1_hoursOn_5 rfl ?_
  refine oX_aload_n dX1_hoursOn_7 rfl rfl ?_
  refine oX_getI fX1_227 rfl oDs0 dX1_hoursOn_8 ?_
  refine oX_icmp_ge (tgt := 68) dX1_hoursOn_11 (by decide) (fun c1 => ?_) (fun c1 => ?_)
  · have hm := ifp c1 hm
    exact oX_sub [3] rfl (hx1 x3 (Option.some.inj hm).symm)
  · have hm := ifn c1 hm
    refine oX_aload_n dX1_hoursOn_14 rfl rfl ?_
    refine oX_getF fX1_58 rfl oDs0 dX1_hoursOn_15 (ohF316 hH) ?_
    refine oX_iload dX1_hoursOn_18 rfl ?_
    obtain ⟨g2, hm⟩ := gd_s hm
    refine oX_aaldC oDs316 (oIn (ohN316 hH) g2) dX1_hoursOn_20 rfl ?_
    refine oX_astore (ls' := [(5, vR (BR 316 0 x4.toNatClampNeg)), (0, vR (some (0, 0))), (1, vI x1), (2, vR x2), (3, vI x3), (4, vI x4)]) dX1_hoursOn_21 (by decide) rfl ?_
    refine oX_aload dX1_hoursOn_23 rfl ?_
    obtain ⟨a3, e3, hm⟩ := bd_s hm
    refine oX_getI fX1_214 rfl e3 dX1_hoursOn_25 ?_
    refine oX_aload_n dX1_hoursOn_28 rfl rfl ?_
    obtain ⟨a4, e4, hm⟩ := bd_s hm
    refine oX_getI fX1_214 rfl e4 dX1_hoursOn_29 ?_
    refine oX_icmp_ne (tgt := 53) dX1_hoursOn_32 (by decide) (fun c5 => ?_) (fun c5 => ?_)
    · have hm := ifp c5 hm
      refine oX_aload_n dX1_hoursOn_35 rfl rfl ?_
      refine oX_iload_n dX1_hoursOn_36 rfl rfl ?_
      refine oX_aload dX1_hoursOn_37 rfl ?_
      obtain ⟨r6, g6, hm⟩ := bd_s hm
      refine oX_cV (as := [vI x1, vR (BR 316 0 x4.toNatClampNeg)]) dX1_hoursOn_39 rfl oDs0 rfl (by decide) rfl ok_X1_isCast rfl rfl q1523 q1525 qs40 q129 q1526 (by decide) (Nat.le_of_ble_eq_true rfl) (t_X1_isCast hH n x1 (BR 316 0 x4.toNatClampNeg) g6) ?_
      refine oX_if_eq (tgt := 53) dX1_hoursOn_42 (by decide) (fun c7 => ?_) (fun c7 => ?_)
      · have hm := ifp c7 hm
        exact oX_sub [1, 2, 3, 4, 5, 0] rfl (x_mX1_hoursOn_j53 hH n x1 x2 x3 x4 (BR 316 0 x4.toNatClampNeg) hm hk hx1 hx2)
      · have hm := ifn c7 hm
        refine oX_iload_n dX1_hoursOn_45 rfl rfl ?_
        refine oX_aload dX1_hoursOn_46 rfl ?_
        obtain ⟨r9, g9, hm⟩ := bd_s hm
        refine oX_cV (as := []) dX1_hoursOn_48 rfl e3 rfl (by decide) rfl ok_X15_hours rfl rfl q1488 q1489 q1490 q165 q1491 (by decide) (Nat.le_of_ble_eq_true rfl) (t_X15_hours a3 ((oD_some e3).2) g9) ?_
        refine oX_iadd dX1_hoursOn_51 ?_
        refine oX_istore_n (ls' := [(3, vI (x3 + r9)), (5, vR (BR 316 0 x4.toNatClampNeg)), (0, vR (some (0, 0))), (1, vI x1), (2, vR x2), (4, vI x4)]) dX1_hoursOn_52 rfl (by decide) rfl ?_
        exact oX_sub [2, 3, 4, 0, 5, 1] rfl (x_mX1_hoursOn_j53 hH n x1 x2 (x3 + r9) x4 (BR 316 0 x4.toNatClampNeg) hm hk hx1 hx2)
    · have hm := ifn c5 hm
      exact oX_sub [1, 2, 3, 4, 5, 0] rfl (x_mX1_hoursOn_j53 hH n x1 x2 x3 x4 (BR 316 0 x4.toNatClampNeg) hm hk hx1 hx2)
theorem l_mX1_hoursOn_b5 {G : OhG} {FI : OhI} {FL : OhL} {FR : OhQ} {GR : OhQ} {AI : OhI} {AL : OhL} {AR : OhQ} {BR : OhQ} {AN : OhN} {C : OhC} {k : Nat × Nat} {Φ : OhP} {Ψ : OhX} (hH : ohShH FR AR AN) (n : Nat) (x1 : Int32) (x2 : OhR) : ∀ (f : Nat) (x3 : Int32) (x4 : Int32) (b : ((Int32) ⊕ (Int32))), lpF (fun v => mX1_hoursOn_b5 n FI FR AI AR BR AN x1 x2 v.1 v.2) f (x3, x4) = some b → (∀ v : Int32, b = (.inl v) → oX G 4 iX1_hoursOn 68 [(3, vI v)] [] (FI, FL, FR, GR, AI, AL, AR, BR, AN, C) k Φ Ψ) → (∀ v : Int32, b = (.inr v) → oX G 4 iX1_hoursOn 59 [(3, vI v)] [] (FI, FL, FR, GR, AI, AL, AR, BR, AN, C) k Φ Ψ) → oX G 4 iX1_hoursOn 5 [(0, vR (some (0, 0))), (1, vI x1), (2, vR x2), (3, vI x3), (4, vI x4)] [] (FI, FL, FR, GR, AI, AL, AR, BR, AN, C) k Φ Ψ := by
  intro f
  induction f with
  | zero =>
    intro x3 x4 b hm
    cases hm
  | succ f ih =>
    intro x3 x4 b hm hx1 hx2
    obtain ⟨r, hr, hm⟩ := lp_s hm
    refine x_mX1_hoursOn_b5 hH n x1 x2 x3 x4 hr (fun v e => ?_) (fun v e => ?_) (fun v e => ?_)
    · subst e; exact ih v.1 v.2 _ hm hx1 hx2
    · subst e; exact hx1 v hm.symm
    · subst e; exact hx2 v hm.symm
noncomputable def mX1_hoursOn (n : Nat) (FI : OhI) (FR : OhQ) (AI : OhI) (AR : OhQ) (BR : OhQ) (AN : OhN) (x1 : Int32) (x2 : OhR) : Option (Int32) :=
  (lpF (fun v => mX1_hoursOn_b5 n FI FR AI AR BR AN x1 x2 v.1 v.2) n ((0 : Int32), (0 : Int32))).bind (Sum.elim (fun v10 => some v10) (fun v10 => some v10))
theorem x_mX1_hoursOn {G : OhG} {FI AI : OhI} {FL AL : OhL} {FR GR AR BR : OhQ} {AN : OhN} {C : OhC} {k : Nat × Nat} {Φ : OhP} {Ψ : OhX} (hH : ohShH FR AR AN) (n : Nat) (x1 : Int32) (x2 : OhR) {r : Int32} (hm : mX1_hoursOn n FI FR AI AR BR AN x1 x2 = some r) (hK : Φ (some (vI r)) (FI, FL, FR, GR, AI, AL, AR, BR, AN, C)) : oX G 4 iX1_hoursOn 0 [(0, vR (some (0, 0))), (1, vI x1), (2, vR x2)] [] (FI, FL, FR, GR, AI, AL, AR, BR, AN, C) k Φ Ψ := by
  unfold mX1_hoursOn at hm
  refine oX_iconst (v := (0 : Int32)) dX1_hoursOn_0 (by decide) ?_
  refine oX_istore_n (ls' := [(3, vI (0 : Int32)), (0, vR (some (0, 0))), (1, vI x1), (2, vR x2)]) dX1_hoursOn_1 rfl (by decide) rfl ?_
  refine oX_iconst (v := (0 : Int32)) dX1_hoursOn_2 (by decide) ?_
  refine oX_istore (ls' := [(4, vI (0 : Int32)), (3, vI (0 : Int32)), (0, vR (some (0, 0))), (1, vI x1), (2, vR x2)]) dX1_hoursOn_3 (by decide) rfl ?_
  obtain ⟨b10, g10, hm⟩ := bd_s hm
  refine oX_sub [2, 3, 4, 1, 0] rfl (l_mX1_hoursOn_b5 hH n x1 x2 n (0 : Int32) (0 : Int32) _ g10 (fun v10 e10 => ?_) (fun v10 e10 => ?_))
  · subst e10
    have hm := el1 hm
    refine oX_iload_n dX1_hoursOn_68 rfl rfl ?_
    obtain rfl := Option.some.inj hm
    exact oX_iret dX1_hoursOn_69 rfl rfl hK
  · subst e10
    have hm := el2 hm
    refine oX_goto (tgt := 68) dX1_hoursOn_59 (by decide) ?_
    refine oX_iload_n dX1_hoursOn_68 rfl rfl ?_
    obtain rfl := Option.some.inj hm
    exact oX_iret dX1_hoursOn_69 rfl rfl hK
theorem t_X1_hoursOn {G : OhG} {FI AI : OhI} {FL AL : OhL} {FR GR AR BR : OhQ} {AN : OhN} {C : OhC} (hH : ohShH FR AR AN) (n : Nat) (x1 : Int32) (x2 : OhR) {o : Int32} (hm : mX1_hoursOn n FI FR AI AR BR AN x1 x2 = some o) : oT G 4 iX1_hoursOn [vR (some (0, 0)), vI x1, vR x2] (FI, FL, FR, GR, AI, AL, AR, BR, AN, C) (0, 0) (fun v h => v = (some (vI o)) ∧ h = (FI, FL, FR, GR, AI, AL, AR, BR, AN, C)) ohNo :=
  oT_of (by decide) rfl (Nat.le_of_ble_eq_true rfl) (x_mX1_hoursOn hH n x1 x2 hm ⟨rfl, rfl⟩)
abbrev iX1_nightsOf : OhM := (yX1_nightsOf, cX1_nightsOf, 7, (some .int), [])
theorem ok_X1_nightsOf : oOk iX1_nightsOf 3 := ⟨by decide, by decide, by decide +kernel⟩
noncomputable def mX1_nightsOf_j60 (n : Nat) (FI : OhI) (FR : OhQ) (AI : OhI) (AR : OhQ) (BR : OhQ) (AN : OhN) (x1 : Int32) (x2 : OhR) (x3 : Int32) (x4 : Int32) (x5 : Int32) (x6 : OhR) : Option ((Int32 × Int32) ⊕ ((Int32) ⊕ (Int32))) :=
  gd (oNm x6 x2) <|
  (if x6 = x2 then
  some (.inr (.inr x4))
else
  some (.inl (x4, x5 + (1 : Int32))))
theorem x_mX1_nightsOf_j60 {G : OhG} {FI AI : OhI} {FL AL : OhL} {FR GR AR BR : OhQ} {AN : OhN} {C : OhC} {k : Nat × Nat} {Φ : OhP} {Ψ : OhX} (hH : ohShH FR AR AN) (n : Nat) (x1 : Int32) (x2 : OhR) (x3 : Int32) (x4 : Int32) (x5 : Int32) (x6 : OhR) {r : (Int32 × Int32) ⊕ ((Int32) ⊕ (Int32))} (hm : mX1_nightsOf_j60 n FI FR AI AR BR AN x1 x2 x3 x4 x5 x6 = some r) (hk : ∀ v : Int32 × Int32, r = .inl v → oX G 4 iX1_nightsOf 6 [(0, vR (some (0, 0))), (1, vI x1), (2, vR x2), (3, vI x3), (4, vI v.1), (5, vI v.2)] [] (FI, FL, FR, GR, AI, AL, AR, BR, AN, C) k Φ Ψ) (hx1 : ∀ v : Int32, r = .inr (.inl v) → oX G 4 iX1_nightsOf 75 [(4, vI v)] [] (FI, FL, FR, GR, AI, AL, AR, BR, AN, C) k Φ Ψ) (hx2 : ∀ v : Int32, r = .inr (.inr v) → oX G 4 iX1_nightsOf 66 [(4, vI v)] [] (FI, FL, FR, GR, AI, AL, AR, BR, AN, C) k Φ Ψ) : oX G 4 iX1_nightsOf 60 [(0, vR (some (0, 0))), (1, vI x1), (2, vR x2), (3, vI x3), (4, vI x4), (5, vI x5), (6, vR x6)] [] (FI, FL, FR, GR, AI, AL, AR, BR, AN, C) k Φ Ψ := by
  unfold mX1_nightsOf_j60 at hm
  refine oX_aload dX1_nightsOf_60 rfl ?_
  refine oX_aload_n dX1_nightsOf_62 rfl rfl ?_
  obtain ⟨n7, hm⟩ := gd_s hm
  refine oX_acmp_ne (tgt := 69) n7 dX1_nightsOf_63 (by decide) (fun c7 => ?_) (fun c7 => ?_)
  · have hm := ifp c7 hm
    exact oX_sub [4] rfl (hx2 x4 (Option.some.inj hm).symm)
  · have hm := ifn c7 hm
    refine oX_iinc (v := x5 + (1 : Int32)) (ls' := [(5, vI (x5 + (1 : Int32))), (0, vR (some (0, 0))), (1, vI x1), (2, vR x2), (3, vI x3), (4, vI x4), (6, vR x6)]) dX1_nightsOf_69 rfl rfl (by decide) rfl ?_
    refine oX_goto (tgt := 6) dX1_nightsOf_72 (by decide) ?_
    exact oX_sub [1, 2, 3, 4, 5, 0] rfl (hk (x4, x5 + (1 : Int32)) (Option.some.inj hm).symm)
noncomputable def mX1_nightsOf_b6 (n : Nat) (FI : OhI) (FR : OhQ) (AI : OhI) (AR : OhQ) (BR : OhQ) (AN : OhN) (x1 : Int32) (x2 : OhR) (x3 : Int32) (x4 : Int32) (x5 : Int32) : Option ((Int32 × Int32) ⊕ ((Int32) ⊕ (Int32))) :=
  (if (FI 0 0 17) ≤ x5 then
  some (.inr (.inl x4))
else
  gd (vp_in x5 66) <|
    (oD 14 (BR 316 0 x5.toNatClampNeg)).bind fun a3 =>
    (if (FI a3.1 a3.2 2) = (3 : Int32) then
    (oD 14 x2).bind fun a5 =>
      (if (FI a3.1 a3.2 1) ≤ ((FI a5.1 a5.2 1) - x3) then
      mX1_nightsOf_j60 n FI FR AI AR BR AN x1 x2 x3 x4 x5 (BR 316 0 x5.toNatClampNeg)
    else
      (mX1_isCast n FI FR AI AR BR AN x1 (BR 316 0 x5.toNatClampNeg)).bind fun r8 =>
        (if r8 = 0 then
        mX1_nightsOf_j60 n FI FR AI AR BR AN x1 x2 x3 x4 x5 (BR 316 0 x5.toNatClampNeg)
      else
        mX1_nightsOf_j60 n FI FR AI AR BR AN x1 x2 x3 (x4 + (1 : Int32)) x5 (BR 316 0 x5.toNatClampNeg)))
  else
    mX1_nightsOf_j60 n FI FR AI AR BR AN x1 x2 x3 x4 x5 (BR 316 0 x5.toNatClampNeg)))
theorem x_mX1_nightsOf_b6 {G : OhG} {FI AI : OhI} {FL AL : OhL} {FR GR AR BR : OhQ} {AN : OhN} {C : OhC} {k : Nat × Nat} {Φ : OhP} {Ψ : OhX} (hH : ohShH FR AR AN) (n : Nat) (x1 : Int32) (x2 : OhR) (x3 : Int32) (x4 : Int32) (x5 : Int32) {r : (Int32 × Int32) ⊕ ((Int32) ⊕ (Int32))} (hm : mX1_nightsOf_b6 n FI FR AI AR BR AN x1 x2 x3 x4 x5 = some r) (hk : ∀ v : Int32 × Int32, r = .inl v → oX G 4 iX1_nightsOf 6 [(0, vR (some (0, 0))), (1, vI x1), (2, vR x2), (3, vI x3), (4, vI v.1), (5, vI v.2)] [] (FI, FL, FR, GR, AI, AL, AR, BR, AN, C) k Φ Ψ) (hx1 : ∀ v : Int32, r = .inr (.inl v) → oX G 4 iX1_nightsOf 75 [(4, vI v)] [] (FI, FL, FR, GR, AI, AL, AR, BR, AN, C) k Φ Ψ) (hx2 : ∀ v : Int32, r = .inr (.inr v) → oX G 4 iX1_nightsOf 66 [(4, vI v)] [] (FI, FL, FR, GR, AI, AL, AR, BR, AN, C) k Φ Ψ) : oX G 4 iX1_nightsOf 6 [(0, vR (some (0, 0))), (1, vI x1), (2, vR x2), (3, vI x3), (4, vI x4), (5, vI x5)] [] (FI, FL, FR, GR, AI, AL, AR, BR, AN, C) k Φ Ψ := by
  unfold mX1_nightsOf_b6 at hm
  refine oX_iload dX1_nightsOf_6 rfl ?_
  refine oX_aload_n dX1_nightsOf_8 rfl rfl ?_
  refine oX_getI fX1_227 rfl oDs0 dX1_nightsOf_9 ?_
  refine oX_icmp_ge (tgt := 75) dX1_nightsOf_12 (by decide) (fun c1 => ?_) (fun c1 => ?_)
  · have hm := ifp c1 hm
    exact oX_sub [4] rfl (hx1 x4 (Option.some.inj hm).symm)
  · have hm := ifn c1 hm
    refine oX_aload_n dX1_nightsOf_15 rfl rfl ?_
    refine oX_getF fX1_58 rfl oDs0 dX1_nightsOf_16 (ohF316 hH) ?_
    refine oX_iload dX1_nightsOf_19 rfl ?_
    obtain ⟨g2, hm⟩ := gd_s hm
    refine oX_aaldC oDs316 (oIn (ohN316 hH) g2) dX1_nightsOf_21 rfl ?_
    refine oX_astore (ls' := [(6, vR (BR 316 0 x5.toNatClampNeg)), (0, vR (some (0, 0))), (1, vI x1), (2, vR x2), (3, vI x3), (4, vI x4), (5, vI x5)]) dX1_nightsOf_22 (by decide) rfl ?_
    refine oX_aload dX1_nightsOf_24 rfl ?_
    obtain ⟨a3, e3, hm⟩ := bd_s hm
    refine oX_getI fX1_281 rfl e3 dX1_nightsOf_26 ?_
    refine oX_iconst (v := (3 : Int32)) dX1_nightsOf_29 (by decide) ?_
    refine oX_icmp_ne (tgt := 60) dX1_nightsOf_30 (by decide) (fun c4 => ?_) (fun c4 => ?_)
    · have hm := ifp c4 hm
      refine oX_aload dX1_nightsOf_33 rfl ?_
      refine oX_getI fX1_214 rfl e3 dX1_nightsOf_35 ?_
      refine oX_aload_n dX1_nightsOf_38 rfl rfl ?_
      obtain ⟨a5, e5, hm⟩ := bd_s hm
      refine oX_getI fX1_214 rfl e5 dX1_nightsOf_39 ?_
      refine oX_iload_n dX1_nightsOf_42 rfl rfl ?_
      refine oX_isub dX1_nightsOf_43 ?_
      refine oX_icmp_le (tgt := 60) dX1_nightsOf_44 (by decide) (fun c6 => ?_) (fun c6 => ?_)
      · have hm := ifp c6 hm
        exact oX_sub [1, 2, 3, 4, 5, 6, 0] rfl (x_mX1_nightsOf_j60 hH n x1 x2 x3 x4 x5 (BR 316 0 x5.toNatClampNeg) hm hk hx1 hx2)
      · have hm := ifn c6 hm
        refine oX_aload_n dX1_nightsOf_47 rfl rfl ?_
        refine oX_iload_n dX1_nightsOf_48 rfl rfl ?_
        refine oX_aload dX1_nightsOf_49 rfl ?_
        obtain ⟨r8, g8, hm⟩ := bd_s hm
        refine oX_cV (as := [vI x1, vR (BR 316 0 x5.toNatClampNeg)]) dX1_nightsOf_51 rfl oDs0 rfl (by decide) rfl ok_X1_isCast rfl rfl q1523 q1525 qs40 q129 q1526 (by decide) (Nat.le_of_ble_eq_true rfl) (t_X1_isCast hH n x1 (BR 316 0 x5.toNatClampNeg) g8) ?_
        refine oX_if_eq (tgt := 60) dX1_nightsOf_54 (by decide) (fun c9 => ?_) (fun c9 => ?_)
        · have hm := ifp c9 hm
          exact oX_sub [1, 2, 3, 4, 5, 6, 0] rfl (x_mX1_nightsOf_j60 hH n x1 x2 x3 x4 x5 (BR 316 0 x5.toNatClampNeg) hm hk hx1 hx2)
        · have hm := ifn c9 hm
          refine oX_iinc (v := x4 + (1 : Int32)) (ls' := [(4, vI (x4 + (1 : Int32))), (6, vR (BR 316 0 x5.toNatClampNeg)), (0, vR (some (0, 0))), (1, vI x1), (2, vR x2), (3, vI x3), (5, vI x5)]) dX1_nightsOf_57 rfl rfl (by decide) rfl ?_
          exact oX_sub [2, 3, 4, 5, 0, 6, 1] rfl (x_mX1_nightsOf_j60 hH n x1 x2 x3 (x4 + (1 : Int32)) x5 (BR 316 0 x5.toNatClampNeg) hm hk hx1 hx2)
    · have hm := ifn c4 hm
      exact oX_sub [1, 2, 3, 4, 5, 6, 0] rfl (x_mX1_nightsOf_j60 hH n x1 x2 x3 x4 x5 (BR 316 0 x5.toNatClampNeg) hm hk hx1 hx2)
theorem l_mX1_nightsOf_b6 {G : OhG} {FI : OhI} {FL : OhL} {FR : OhQ} {GR : OhQ} {AI : OhI} {AL : OhL} {AR : OhQ} {BR : OhQ} {AN : OhN} {C : OhC} {k : Nat × Nat} {Φ : OhP} {Ψ : OhX} (hH : ohShH FR AR AN) (n : Nat) (x1 : Int32) (x2 : OhR) (x3 : Int32) : ∀ (f : Nat) (x4 : Int32) (x5 : Int32) (b : ((Int32) ⊕ (Int32))), lpF (fun v => mX1_nightsOf_b6 n FI FR AI AR BR AN x1 x2 x3 v.1 v.2) f (x4, x5) = some b → (∀ v : Int32, b = (.inl v) → oX G 4 iX1_nightsOf 75 [(4, vI v)] [] (FI, FL, FR, GR, AI, AL, AR, BR, AN, C) k Φ Ψ) → (∀ v : Int32, b = (.inr v) → oX G 4 iX1_nightsOf 66 [(4, vI v)] [] (FI, FL, FR, GR, AI, AL, AR, BR, AN, C) k Φ Ψ) → oX G 4 iX1_nightsOf 6 [(0, vR (some (0, 0))), (1, vI x1), (2, vR x2), (3, vI x3), (4, vI x4), (5, vI x5)] [] (FI, FL, FR, GR, AI, AL, AR, BR, AN, C) k Φ Ψ := by
  intro f
  induction f with
  | zero =>
    intro x4 x5 b hm
    cases hm
  | succ f ih =>
    intro x4 x5 b hm hx1 hx2
    obtain ⟨r, hr, hm⟩ := lp_s hm
    refine x_mX1_nightsOf_b6 hH n x1 x2 x3 x4 x5 hr (fun v e => ?_) (fun v e => ?_) (fun v e => ?_)
    · subst e; exact ih v.1 v.2 _ hm hx1 hx2
    · subst e; exact hx1 v hm.symm
    · subst e; exact hx2 v hm.symm
noncomputable def mX1_nightsOf (n : Nat) (FI : OhI) (FR : OhQ) (AI : OhI) (AR : OhQ) (BR : OhQ) (AN : OhN) (x1 : Int32) (x2 : OhR) (x3 : Int32) : Option (Int32) :=
  (lpF (fun v => mX1_nightsOf_b6 n FI FR AI AR BR AN x1 x2 x3 v.1 v.2) n ((0 : Int32), (0 : Int32))).bind (Sum.elim (fun v10 => some v10) (fun v10 => some v10))
theorem x_mX1_nightsOf {G : OhG} {FI AI : OhI} {FL AL : OhL} {FR GR AR BR : OhQ} {AN : OhN} {C : OhC} {k : Nat × Nat} {Φ : OhP} {Ψ : OhX} (hH : ohShH FR AR AN) (n : Nat) (x1 : Int32) (x2 : OhR) (x3 : Int32) {r : Int32} (hm : mX1_nightsOf n FI FR AI AR BR AN x1 x2 x3 = some r) (hK : Φ (some (vI r)) (FI, FL, FR, GR, AI, AL, AR, BR, AN, C)) : oX G 4 iX1_nightsOf 0 [(0, vR (some (0, 0))), (1, vI x1), (2, vR x2), (3, vI x3)] [] (FI, FL, FR, GR, AI, AL, AR, BR, AN, C) k Φ Ψ := by
  unfold mX1_nightsOf at hm
  refine oX_iconst (v := (0 : Int32)) dX1_nightsOf_0 (by decide) ?_
  refine oX_istore (ls' := [(4, vI (0 : Int32)), (0, vR (some (0, 0))), (1, vI x1), (2, vR x2), (3, vI x3)]) dX1_nightsOf_1 (by decide) rfl ?_
  refine oX_iconst (v := (0 : Int32)) dX1_nightsOf_3 (by decide) ?_
  refine oX_istore (ls' := [(5, vI (0 : Int32)), (4, vI (0 : Int32)), (0, vR (some (0, 0))), (1, vI x1), (2, vR x2), (3, vI x3)]) dX1_nightsOf_4 (by decide) rfl ?_
  obtain ⟨b10, g10, hm⟩ := bd_s hm
  refine oX_sub [2, 3, 4, 5, 1, 0] rfl (l_mX1_nightsOf_b6 hH n x1 x2 x3 n (0 : Int32) (0 : Int32) _ g10 (fun v10 e10 => ?_) (fun v10 e10 => ?_))
  · subst e10
    have hm := el1 hm
    refine oX_iload dX1_nightsOf_75 rfl ?_
    obtain rfl := Option.some.inj hm
    exact oX_iret dX1_nightsOf_77 rfl rfl hK
  · subst e10
    have hm := el2 hm
    refine oX_goto (tgt := 75) dX1_nightsOf_66 (by decide) ?_
    refine oX_iload dX1_nightsOf_75 rfl ?_
    obtain rfl := Option.some.inj hm
    exact oX_iret dX1_nightsOf_77 rfl rfl hK
theorem t_X1_nightsOf {G : OhG} {FI AI : OhI} {FL AL : OhL} {FR GR AR BR : OhQ} {AN : OhN} {C : OhC} (hH : ohShH FR AR AN) (n : Nat) (x1 : Int32) (x2 : OhR) (x3 : Int32) {o : Int32} (hm : mX1_nightsOf n FI FR AI AR BR AN x1 x2 x3 = some o) : oT G 4 iX1_nightsOf [vR (some (0, 0)), vI x1, vR x2, vI x3] (FI, FL, FR, GR, AI, AL, AR, BR, AN, C) (0, 0) (fun v h => v = (some (vI o)) ∧ h = (FI, FL, FR, GR, AI, AL, AR, BR, AN, C)) ohNo :=
  oT_of (by decide) rfl (Nat.le_of_ble_eq_true rfl) (x_mX1_nightsOf hH n x1 x2 x3 hm ⟨rfl, rfl⟩)
abbrev iX1_strain : OhM := (yX1_strain, cX1_strain, 5, (some .int), [])
theorem ok_X1_strain : oOk iX1_strain 2 := ⟨by decide, by decide, by decide +kernel⟩
noncomputable def mX1_strain_b5 (n : Nat) (FI : OhI) (FR : OhQ) (GR : OhQ) (AI : OhI) (AR : OhQ) (BR : OhQ) (AN : OhN) (x1 : Int32) (x2 : OhR) (x3 : Int32) (x4 : Int32) : Option ((Int32 × Int32) ⊕ (Int32)) :=
  (oD 14 x2).bind fun a1 =>
  (mX15_roles FI FR a1).bind fun r2 =>
  (if r2 ≤ x4 then
  some (.inr x3)
else
  gd (vp_in (FI a1.1 a1.2 0) 66) <|
    gd (vp_in x4 8) <|
    (if (AI 419 ((FI a1.1 a1.2 0).toNatClampNeg) x4.toNatClampNeg) = x1 then
    (oD 4 (FR a1.1 a1.2 6)).bind fun a7 =>
      (oD 17 (FR a7.1 a7.2 6)).bind fun a8 =>
      (mJ2_get FI GR AR BR AN a8 x4).bind fun r9 =>
      (oD 5 r9).bind fun a10 =>
      some (.inl (x3 + (FI a10.1 a10.2 1), x4 + (1 : Int32)))
  else
    some (.inl (x3, x4 + (1 : Int32)))))
theorem x_mX1_strain_b5 {G : OhG} {FI AI : OhI} {FL AL : OhL} {FR GR AR BR : OhQ} {AN : OhN} {C : OhC} {k : Nat × Nat} {Φ : OhP} {Ψ : OhX} (hH : ohShH FR AR AN) (n : Nat) (x1 : Int32) (x2 : OhR) (x3 : Int32) (x4 : Int32) {r : (Int32 × Int32) ⊕ (Int32)} (hm : mX1_strain_b5 n FI FR GR AI AR BR AN x1 x2 x3 x4 = some r) (hk : ∀ v : Int32 × Int32, r = .inl v → oX G 4 iX1_strain 5 [(0, vR (some (0, 0))), (1, vI x1), (2, vR x2), (3, vI v.1), (4, vI v.2)] [] (FI, FL, FR, GR, AI, AL, AR, BR, AN, C) k Φ Ψ) (hx1 : ∀ v : Int32, r = .inr v → oX G 4 iX1_strain 57 [(3, vI v)] [] (FI, FL, FR, GR, AI, AL, AR, BR, AN, C) k Φ Ψ) : oX G 4 iX1_strain 5 [(0, vR (some (0, 0))), (1, vI x1), (2, vR x2), (3, vI x3), (4, vI x4)] [] (FI, FL, FR, GR, AI, AL, AR, BR, AN, C) k Φ Ψ := by
  unfold mX1_strain_b5 at hm
  refine oX_iload dX1_strain_5 rfl ?_
  refine oX_aload_n dX1_strain_7 rfl rfl ?_
  obtain ⟨a1, e1, hm⟩ := bd_s hm
  obtain ⟨r2, g2, hm⟩ := bd_s hm
  refine oX_cV (as := []) dX1_strain_8 rfl e1 rfl (by decide) rfl ok_X15_roles rfl rfl q1352 q1353 q1354 q165 q1355 (by decide) (Nat.le_of_ble_eq_true rfl) (t_X15_roles a1 ((oD_some e1).2) g2) ?_
  refine oX_icmp_ge (tgt := 57) dX1_strain_11 (by decide) (fun c3 => ?_) (fun c3 => ?_)
  · have hm := ifp c3 hm
    exact oX_sub [3] rfl (hx1 x3 (Option.some.inj hm).symm)
  · have hm := ifn c3 hm
    refine oX_aload_n dX1_strain_14 rfl rfl ?_
    refine oX_getF fX1_64 rfl oDs0 dX1_strain_15 (ohF319 hH) ?_
    refine oX_aload_n dX1_strain_18 rfl rfl ?_
    refine oX_getI fX1_233 rfl e1 dX1_strain_19 ?_
    obtain ⟨g4, hm⟩ := gd_s hm
    refine oX_aaldR oDs319 (oIn (ohN319 hH) g4) dX1_strain_22 (ohA319 hH (oLt g4)) ?_
    refine oX_iload dX1_strain_23 rfl ?_
    obtain ⟨g5, hm⟩ := gd_s hm
    refine oX_iald oDs419 (oIn (ohM419 hH (oLt g4)) g5) dX1_strain_25 ?_
    refine oX_iload_n dX1_strain_26 rfl rfl ?_
    refine oX_icmp_ne (tgt := 51) dX1_strain_27 (by decide) (fun c6 => ?_) (fun c6 => ?_)
    · have hm := ifp c6 hm
      refine oX_iload_n dX1_strain_30 rfl rfl ?_
      refine oX_aload_n dX1_strain_31 rfl rfl ?_
      refine oX_getF fX1_258 rfl e1 dX1_strain_32 rfl ?_
      obtain ⟨a7, e7, hm⟩ := bd_s hm
      refine oX_getF fX1_137 rfl e7 dX1_strain_35 rfl ?_
      refine oX_iload dX1_strain_38 rfl ?_
      obtain ⟨a8, e8, hm⟩ := bd_s hm
      obtain ⟨r9, g9, hm⟩ := bd_s hm
      refine oX_cV (as := [vI x4]) dX1_strain_40 rfl e8 rfl (by decide) rfl ok_J2_get rfl rfl q648 q649 q650 q132 q651 (by decide) (Nat.le_of_ble_eq_true rfl) (t_J2_get a8 ((oD_some e8).2) x4 g9) ?_
      obtain ⟨a10, e10, hm⟩ := bd_s hm
      refine oX_cast e10 rfl (by decide) q472 dX1_strain_43 ?_
      refine oX_getI fX1_262 rfl (oD_self e10) dX1_strain_46 ?_
      refine oX_iadd dX1_strain_49 ?_
      refine oX_istore_n (ls' := [(3, vI (x3 + (FI a10.1 a10.2 1))), (0, vR (some (0, 0))), (1, vI x1), (2, vR x2), (4, vI x4)]) dX1_strain_50 rfl (by decide) rfl ?_
      refine oX_iinc (v := x4 + (1 : Int32)) (ls' := [(4, vI (x4 + (1 : Int32))), (3, vI (x3 + (FI a10.1 a10.2 1))), (0, vR (some (0, 0))), (1, vI x1), (2, vR x2)]) dX1_strain_51 rfl rfl (by decide) rfl ?_
      refine oX_goto (tgt := 5) dX1_strain_54 (by decide) ?_
      exact oX_sub [2, 3, 4, 1, 0] rfl (hk (x3 + (FI a10.1 a10.2 1), x4 + (1 : Int32)) (Option.some.inj hm).symm)
    · have hm := ifn c6 hm
      refine oX_iinc (v := x4 + (1 : Int32)) (ls' := [(4, vI (x4 + (1 : Int32))), (0, vR (some (0, 0))), (1, vI x1), (2, vR x2), (3, vI x3)]) dX1_strain_51 rfl rfl (by decide) rfl ?_
      refine oX_goto (tgt := 5) dX1_strain_54 (by decide) ?_
      exact oX_sub [1, 2, 3, 4, 0] rfl (hk (x3, x4 + (1 : Int32)) (Option.some.inj hm).symm)
theorem l_mX1_strain_b5 {G : OhG} {FI : OhI} {FL : OhL} {FR : OhQ} {GR : OhQ} {AI : OhI} {AL : OhL} {AR : OhQ} {BR : OhQ} {AN : OhN} {C : OhC} {k : Nat × Nat} {Φ : OhP} {Ψ : OhX} (hH : ohShH FR AR AN) (n : Nat) (x1 : Int32) (x2 : OhR) : ∀ (f : Nat) (x3 : Int32) (x4 : Int32) (b : (Int32)), lpF (fun v => mX1_strain_b5 n FI FR GR AI AR BR AN x1 x2 v.1 v.2) f (x3, x4) = some b → (oX G 4 iX1_strain 57 [(3, vI b)] [] (FI, FL, FR, GR, AI, AL, AR, BR, AN, C) k Φ Ψ) → oX G 4 iX1_strain 5 [(0, vR (some (0, 0))), (1, vI x1), (2, vR x2), (3, vI x3), (4, vI x4)] [] (FI, FL, FR, GR, AI, AL, AR, BR, AN, C) k Φ Ψ := by
  intro f
  induction f with
  | zero =>
    intro x3 x4 b hm
    cases hm
  | succ f ih =>
    intro x3 x4 b hm hx1
    obtain ⟨r, hr, hm⟩ := lp_s hm
    refine x_mX1_strain_b5 hH n x1 x2 x3 x4 hr (fun v e => ?_) (fun v e => ?_)
    · subst e; exact ih v.1 v.2 _ hm hx1
    · subst e; cases (show v = b from hm); exact hx1
noncomputable def mX1_strain (n : Nat) (FI : OhI) (FR : OhQ) (GR : OhQ) (AI : OhI) (AR : OhQ) (BR : OhQ) (AN : OhN) (x1 : Int32) (x2 : OhR) : Option (Int32) :=
  (lpF (fun v => mX1_strain_b5 n FI FR GR AI AR BR AN x1 x2 v.1 v.2) n ((0 : Int32), (0 : Int32))).bind fun v11 =>
  some v11
theorem x_mX1_strain {G : OhG} {FI AI : OhI} {FL AL : OhL} {FR GR AR BR : OhQ} {AN : OhN} {C : OhC} {k : Nat × Nat} {Φ : OhP} {Ψ : OhX} (hH : ohShH FR AR AN) (n : Nat) (x1 : Int32) (x2 : OhR) {r : Int32} (hm : mX1_strain n FI FR GR AI AR BR AN x1 x2 = some r) (hK : Φ (some (vI r)) (FI, FL, FR, GR, AI, AL, AR, BR, AN, C)) : oX G 4 iX1_strain 0 [(0, vR (some (0, 0))), (1, vI x1), (2, vR x2)] [] (FI, FL, FR, GR, AI, AL, AR, BR, AN, C) k Φ Ψ := by
  unfold mX1_strain at hm
  refine oX_iconst (v := (0 : Int32)) dX1_strain_0 (by decide) ?_
  refine oX_istore_n (ls' := [(3, vI (0 : Int32)), (0, vR (some (0, 0))), (1, vI x1), (2, vR x2)]) dX1_strain_1 rfl (by decide) rfl ?_
  refine oX_iconst (v := (0 : Int32)) dX1_strain_2 (by decide) ?_
  refine oX_istore (ls' := [(4, vI (0 : Int32)), (3, vI (0 : Int32)), (0, vR (some (0, 0))), (1, vI x1), (2, vR x2)]) dX1_strain_3 (by decide) rfl ?_
  obtain ⟨v11, g11, hm⟩ := bd_s hm
  refine oX_sub [2, 3, 4, 1, 0] rfl (l_mX1_strain_b5 hH n x1 x2 n (0 : Int32) (0 : Int32) _ g11 ?_)
  refine oX_iload_n dX1_strain_57 rfl rfl ?_
  obtain rfl := Option.some.inj hm
  exact oX_iret dX1_strain_58 rfl rfl hK
theorem t_X1_strain {G : OhG} {FI AI : OhI} {FL AL : OhL} {FR GR AR BR : OhQ} {AN : OhN} {C : OhC} (hH : ohShH FR AR AN) (n : Nat) (x1 : Int32) (x2 : OhR) {o : Int32} (hm : mX1_strain n FI FR GR AI AR BR AN x1 x2 = some o) : oT G 4 iX1_strain [vR (some (0, 0)), vI x1, vR x2] (FI, FL, FR, GR, AI, AL, AR, BR, AN, C) (0, 0) (fun v h => v = (some (vI o)) ∧ h = (FI, FL, FR, GR, AI, AL, AR, BR, AN, C)) ohNo :=
  oT_of (by decide) rfl (Nat.le_of_ble_eq_true rfl) (x_mX1_strain hH n x1 x2 hm ⟨rfl, rfl⟩)
abbrev iX1_tiredAt : OhM := (yX1_tiredAt, cX1_tiredAt, 8, (some .int), [])
theorem ok_X1_tiredAt : oOk iX1_tiredAt 2 := ⟨by decide, by decide, by decide +kernel⟩
noncomputable def mX1_tiredAt_j77 (n : Nat) (FI : OhI) (FR : OhQ) (GR : OhQ) (AI : OhI) (AR : OhQ) (BR : OhQ) (AN : OhN) (x1 : Int32) (x2 : OhR) (x3 : Int32) (x4 : Int32) (x5 : Int32) (x6 : OhR) : Option ((Int32 × Int32 × Int32) ⊕ ((Int32) ⊕ (Int32))) :=
  gd (oNm x6 x2) <|
  (if x6 = x2 then
  some (.inr (.inr x3))
else
  some (.inl (x3, x4, x5 + (1 : Int32))))
theorem x_mX1_tiredAt_j77 {G : OhG} {FI AI : OhI} {FL AL : OhL} {FR GR AR BR : OhQ} {AN : OhN} {C : OhC} {k : Nat × Nat} {Φ : OhP} {Ψ : OhX} (hH : ohShH FR AR AN) (n : Nat) (x1 : Int32) (x2 : OhR) (x3 : Int32) (x4 : Int32) (x5 : Int32) (x6 : OhR) {r : (Int32 × Int32 × Int32) ⊕ ((Int32) ⊕ (Int32))} (hm : mX1_tiredAt_j77 n FI FR GR AI AR BR AN x1 x2 x3 x4 x5 x6 = some r) (hk : ∀ v : Int32 × Int32 × Int32, r = .inl v → oX G 5 iX1_tiredAt 8 [(0, vR (some (0, 0))), (1, vI x1), (2, vR x2), (3, vI v.1), (4, vI v.2.1), (5, vI v.2.2)] [] (FI, FL, FR, GR, AI, AL, AR, BR, AN, C) k Φ Ψ) (hx1 : ∀ v : Int32, r = .inr (.inl v) → oX G 5 iX1_tiredAt 92 [(3, vI v)] [] (FI, FL, FR, GR, AI, AL, AR, BR, AN, C) k Φ Ψ) (hx2 : ∀ v : Int32, r = .inr (.inr v) → oX G 5 iX1_tiredAt 83 [(3, vI v)] [] (FI, FL, FR, GR, AI, AL, AR, BR, AN, C) k Φ Ψ) : oX G 5 iX1_tiredAt 77 [(0, vR (some (0, 0))), (1, vI x1), (2, vR x2), (3, vI x3), (4, vI x4), (5, vI x5), (6, vR x6)] [] (FI, FL, FR, GR, AI, AL, AR, BR, AN, C) k Φ Ψ := by
  unfold mX1_tiredAt_j77 at hm
  refine oX_aload dX1_tiredAt_77 rfl ?_
  refine oX_aload_n dX1_tiredAt_79 rfl rfl ?_
  obtain ⟨n9, hm⟩ := gd_s hm
  refine oX_acmp_ne (tgt := 86) n9 dX1_tiredAt_80 (by decide) (fun c9 => ?_) (fun c9 => ?_)
  · have hm := ifp c9 hm
    exact oX_sub [3] rfl (hx2 x3 (Option.some.inj hm).symm)
  · have hm := ifn c9 hm
    refine oX_iinc (v := x5 + (1 : Int32)) (ls' := [(5, vI (x5 + (1 : Int32))), (0, vR (some (0, 0))), (1, vI x1), (2, vR x2), (3, vI x3), (4, vI x4), (6, vR x6)]) dX1_tiredAt_86 rfl rfl (by decide) rfl ?_
    refine oX_goto (tgt := 8) dX1_tiredAt_89 (by decide) ?_
    exact oX_sub [1, 2, 3, 4, 5, 0] rfl (hk (x3, x4, x5 + (1 : Int32)) (Option.some.inj hm).symm)
noncomputable def mX1_tiredAt_j52 (n : Nat) (FI : OhI) (FR : OhQ) (GR : OhQ) (AI : OhI) (AR : OhQ) (BR : OhQ) (AN : OhN) (x1 : Int32) (x2 : OhR) (x3 : Int32) (x4 : Int32) (x5 : Int32) (x6 : OhR) (x7 : Int32) : Option ((Int32 × Int32 × Int32) ⊕ ((Int32) ⊕ (Int32))) :=
  (oD 14 x6).bind fun a7 =>
  (mJ3_max (0 : Int32) (x3 - ((FI a7.1 a7.2 4) - x4))).bind fun r8 =>
  mX1_tiredAt_j77 n FI FR GR AI AR BR AN x1 x2 (r8 + x7) (FI a7.1 a7.2 4) x5 x6
theorem x_mX1_tiredAt_j52 {G : OhG} {FI AI : OhI} {FL AL : OhL} {FR GR AR BR : OhQ} {AN : OhN} {C : OhC} {k : Nat × Nat} {Φ : OhP} {Ψ : OhX} (hH : ohShH FR AR AN) (n : Nat) (x1 : Int32) (x2 : OhR) (x3 : Int32) (x4 : Int32) (x5 : Int32) (x6 : OhR) (x7 : Int32) {r : (Int32 × Int32 × Int32) ⊕ ((Int32) ⊕ (Int32))} (hm : mX1_tiredAt_j52 n FI FR GR AI AR BR AN x1 x2 x3 x4 x5 x6 x7 = some r) (hk : ∀ v : Int32 × Int32 × Int32, r = .inl v → oX G 5 iX1_tiredAt 8 [(0, vR (some (0, 0))), (1, vI x1), (2, vR x2), (3, vI v.1), (4, vI v.2.1), (5, vI v.2.2)] [] (FI, FL, FR, GR, AI, AL, AR, BR, AN, C) k Φ Ψ) (hx1 : ∀ v : Int32, r = .inr (.inl v) → oX G 5 iX1_tiredAt 92 [(3, vI v)] [] (FI, FL, FR, GR, AI, AL, AR, BR, AN, C) k Φ Ψ) (hx2 : ∀ v : Int32, r = .inr (.inr v) → oX G 5 iX1_tiredAt 83 [(3, vI v)] [] (FI, FL, FR, GR, AI, AL, AR, BR, AN, C) k Φ Ψ) : oX G 5 iX1_tiredAt 52 [(0, vR (some (0, 0))), (1, vI x1), (2, vR x2), (3, vI x3), (4, vI x4), (5, vI x5), (6, vR x6), (7, vI x7)] [] (FI, FL, FR, GR, AI, AL, AR, BR, AN, C) k Φ Ψ := by
  unfold mX1_tiredAt_j52 at hm
  refine oX_iconst (v := (0 : Int32)) dX1_tiredAt_52 (by decide) ?_
  refine oX_iload_n dX1_tiredAt_53 rfl rfl ?_
  refine oX_aload dX1_tiredAt_54 rfl ?_
  obtain ⟨a7, e7, hm⟩ := bd_s hm
  refine oX_getI fX1_230 rfl e7 dX1_tiredAt_56 ?_
  refine oX_iload dX1_tiredAt_59 rfl ?_
  refine oX_isub dX1_tiredAt_61 ?_
  refine oX_isub dX1_tiredAt_62 ?_
  obtain ⟨r8, g8, hm⟩ := bd_s hm
  refine oX_cS (as := [vI (0 : Int32), vI (x3 - ((FI a7.1 a7.2 4) - x4))]) dX1_tiredAt_63 rfl ok_J3_max rfl rfl q1551 q235 q134 q236 (by decide) (Nat.le_of_ble_eq_true rfl) (t_J3_max (0 : Int32) (x3 - ((FI a7.1 a7.2 4) - x4)) g8) ?_
  refine oX_iload dX1_tiredAt_66 rfl ?_
  refine oX_iadd dX1_tiredAt_68 ?_
  refine oX_istore_n (ls' := [(3, vI (r8 + x7)), (0, vR (some (0, 0))), (1, vI x1), (2, vR x2), (4, vI x4), (5, vI x5), (6, vR x6), (7, vI x7)]) dX1_tiredAt_69 rfl (by decide) rfl ?_
  refine oX_aload dX1_tiredAt_70 rfl ?_
  refine oX_getI fX1_230 rfl e7 dX1_tiredAt_72 ?_
  refine oX_istore (ls' := [(4, vI (FI a7.1 a7.2 4)), (3, vI (r8 + x7)), (0, vR (some (0, 0))), (1, vI x1), (2, vR x2), (5, vI x5), (6, vR x6), (7, vI x7)]) dX1_tiredAt_75 (by decide) rfl ?_
  exact oX_sub [2, 3, 4, 1, 0, 5, 6] rfl (x_mX1_tiredAt_j77 hH n x1 x2 (r8 + x7) (FI a7.1 a7.2 4) x5 x6 hm hk hx1 hx2)
noncomputable def mX1_tiredAt_b8 (n : Nat) (FI : OhI) (FR : OhQ) (GR : OhQ) (AI : OhI) (AR : OhQ) (BR : OhQ) (AN : OhN) (x1 : Int32) (x2 : OhR) (x3 : Int32) (x4 : Int32) (x5 : Int32) : Option ((Int32 × Int32 × Int32) ⊕ ((Int32) ⊕ (Int32))) :=
  (if (FI 0 0 17) ≤ x5 then
  some (.inr (.inl x3))
else
  gd (vp_in x5 66) <|
    (oD 14 (BR 316 0 x5.toNatClampNeg)).bind fun a3 =>
    (mX15_weight FI a3).bind fun r4 =>
    (mX1_strain n FI FR GR AI AR BR AN x1 (BR 316 0 x5.toNatClampNeg)).bind fun r5 =>
    (if 0 < (r4 * r5) then
    mX1_tiredAt_j52 n FI FR GR AI AR BR AN x1 x2 x3 x4 x5 (BR 316 0 x5.toNatClampNeg) (r4 * r5)
  else
    gd (oNm (BR 316 0 x5.toNatClampNeg) x2) <|
      (if (BR 316 0 x5.toNatClampNeg) = x2 then
      mX1_tiredAt_j52 n FI FR GR AI AR BR AN x1 x2 x3 x4 x5 (BR 316 0 x5.toNatClampNeg) (r4 * r5)
    else
      mX1_tiredAt_j77 n FI FR GR AI AR BR AN x1 x2 x3 x4 x5 (BR 316 0 x5.toNatClampNeg))))
theorem x_mX1_tiredAt_b8 {G : OhG} {FI AI : OhI} {FL AL : OhL} {FR GR AR BR : OhQ} {AN : OhN} {C : OhC} {k : Nat × Nat} {Φ : OhP} {Ψ : OhX} (hH : ohShH FR AR AN) (n : Nat) (x1 : Int32) (x2 : OhR) (x3 : Int32) (x4 : Int32) (x5 : Int32) {r : (Int32 × Int32 × Int32) ⊕ ((Int32) ⊕ (Int32))} (hm : mX1_tiredAt_b8 n FI FR GR AI AR BR AN x1 x2 x3 x4 x5 = some r) (hk : ∀ v : Int32 × Int32 × Int32, r = .inl v → oX G 5 iX1_tiredAt 8 [(0, vR (some (0, 0))), (1, vI x1), (2, vR x2), (3, vI v.1), (4, vI v.2.1), (5, vI v.2.2)] [] (FI, FL, FR, GR, AI, AL, AR, BR, AN, C) k Φ Ψ) (hx1 : ∀ v : Int32, r = .inr (.inl v) → oX G 5 iX1_tiredAt 92 [(3, vI v)] [] (FI, FL, FR, GR, AI, AL, AR, BR, AN, C) k Φ Ψ) (hx2 : ∀ v : Int32, r = .inr (.inr v) → oX G 5 iX1_tiredAt 83 [(3, vI v)] [] (FI, FL, FR, GR, AI, AL, AR, BR, AN, C) k Φ Ψ) : oX G 5 iX1_tiredAt 8 [(0, vR (some (0, 0))), (1, vI x1), (2, vR x2), (3, vI x3), (4, vI x4), (5, vI x5)] [] (FI, FL, FR, GR, AI, AL, AR, BR, AN, C) k Φ Ψ := by
  unfold mX1_tiredAt_b8 at hm
  refine oX_iload dX1_tiredAt_8 rfl ?_
  refine oX_aload_n dX1_tiredAt_10 rfl rfl ?_
  refine oX_getI fX1_227 rfl oDs0 dX1_tiredAt_11 ?_
  refine oX_icmp_ge (tgt := 92) dX1_tiredAt_14 (by decide) (fun c1 => ?_) (fun c1 => ?_)
  · have hm := ifp c1 hm
    exact oX_sub [3] rfl (hx1 x3 (Option.some.inj hm).symm)
  · have hm := ifn c1 hm
    refine oX_aload_n dX1_tiredAt_17 rfl rfl ?_
    refine oX_getF fX1_58 rfl oDs0 dX1_tiredAt_18 (ohF316 hH) ?_
    refine oX_iload dX1_tiredAt_21 rfl ?_
    obtain ⟨g2, hm⟩ := gd_s hm
    refine oX_aaldC oDs316 (oIn (ohN316 hH) g2) dX1_tiredAt_23 rfl ?_
    refine oX_astore (ls' := [(6, vR (BR 316 0 x5.toNatClampNeg)), (0, vR (some (0, 0))), (1, vI x1), (2, vR x2), (3, vI x3), (4, vI x4), (5, vI x5)]) dX1_tiredAt_24 (by decide) rfl ?_
    refine oX_aload dX1_tiredAt_26 rfl ?_
    obtain ⟨a3, e3, hm⟩ := bd_s hm
    obtain ⟨r4, g4, hm⟩ := bd_s hm
    refine oX_cV (as := []) dX1_tiredAt_28 rfl e3 rfl (by decide) rfl ok_X15_weight rfl rfl q1543 q1544 q1545 q165 q1546 (by decide) (Nat.le_of_ble_eq_true rfl) (t_X15_weight a3 ((oD_some e3).2) g4) ?_
    refine oX_aload_n dX1_tiredAt_31 rfl rfl ?_
    refine oX_iload_n dX1_tiredAt_32 rfl rfl ?_
    refine oX_aload dX1_tiredAt_33 rfl ?_
    obtain ⟨r5, g5, hm⟩ := bd_s hm
    refine oX_cV (as := [vI x1, vR (BR 316 0 x5.toNatClampNeg)]) dX1_tiredAt_35 rfl oDs0 rfl (by decide) rfl ok_X1_strain rfl rfl q1547 q1549 qs44 q129 q1550 (by decide) (Nat.le_of_ble_eq_true rfl) (t_X1_strain hH n x1 (BR 316 0 x5.toNatClampNeg) g5) ?_
    refine oX_imul dX1_tiredAt_38 ?_
    refine oX_istore (ls' := [(7, vI (r4 * r5)), (6, vR (BR 316 0 x5.toNatClampNeg)), (0, vR (some (0, 0))), (1, vI x1), (2, vR x2), (3, vI x3), (4, vI x4), (5, vI x5)]) dX1_tiredAt_39 (by decide) rfl ?_
    refine oX_iload dX1_tiredAt_41 rfl ?_
    refine oX_if_gt (tgt := 52) dX1_tiredAt_43 (by decide) (fun c6 => ?_) (fun c6 => ?_)
    · have hm := ifp c6 hm
      exact oX_sub [2, 3, 4, 5, 6, 7, 1, 0] rfl (x_mX1_tiredAt_j52 hH n x1 x2 x3 x4 x5 (BR 316 0 x5.toNatClampNeg) (r4 * r5) hm hk hx1 hx2)
    · have hm := ifn c6 hm
      refine oX_aload dX1_tiredAt_46 rfl ?_
      refine oX_aload_n dX1_tiredAt_48 rfl rfl ?_
      obtain ⟨n10, hm⟩ := gd_s hm
      refine oX_acmp_ne (tgt := 77) n10 dX1_tiredAt_49 (by decide) (fun c10 => ?_) (fun c10 => ?_)
      · have hm := ifp c10 hm
        exact oX_sub [2, 3, 4, 5, 6, 7, 1, 0] rfl (x_mX1_tiredAt_j52 hH n x1 x2 x3 x4 x5 (BR 316 0 x5.toNatClampNeg) (r4 * r5) hm hk hx1 hx2)
      · have hm := ifn c10 hm
        exact oX_sub [2, 3, 4, 5, 6, 7, 1] rfl (x_mX1_tiredAt_j77 hH n x1 x2 x3 x4 x5 (BR 316 0 x5.toNatClampNeg) hm hk hx1 hx2)
theorem l_mX1_tiredAt_b8 {G : OhG} {FI : OhI} {FL : OhL} {FR : OhQ} {GR : OhQ} {AI : OhI} {AL : OhL} {AR : OhQ} {BR : OhQ} {AN : OhN} {C : OhC} {k : Nat × Nat} {Φ : OhP} {Ψ : OhX} (hH : ohShH FR AR AN) (n : Nat) (x1 : Int32) (x2 : OhR) : ∀ (f : Nat) (x3 : Int32) (x4 : Int32) (x5 : Int32) (b : ((Int32) ⊕ (Int32))), lpF (fun v => mX1_tiredAt_b8 n FI FR GR AI AR BR AN x1 x2 v.1 v.2.1 v.2.2) f (x3, x4, x5) = some b → (∀ v : Int32, b = (.inl v) → oX G 5 iX1_tiredAt 92 [(3, vI v)] [] (FI, FL, FR, GR, AI, AL, AR, BR, AN, C) k Φ Ψ) → (∀ v : Int32, b = (.inr v) → oX G 5 iX1_tiredAt 83 [(3, vI v)] [] (FI, FL, FR, GR, AI, AL, AR, BR, AN, C) k Φ Ψ) → oX G 5 iX1_tiredAt 8 [(0, vR (some (0, 0))), (1, vI x1), (2, vR x2), (3, vI x3), (4, vI x4), (5, vI x5)] [] (FI, FL, FR, GR, AI, AL, AR, BR, AN, C) k Φ Ψ := by
  intro f
  induction f with
  | zero =>
    intro x3 x4 x5 b hm
    cases hm
  | succ f ih =>
    intro x3 x4 x5 b hm hx1 hx2
    obtain ⟨r, hr, hm⟩ := lp_s hm
    refine x_mX1_tiredAt_b8 hH n x1 x2 x3 x4 x5 hr (fun v e => ?_) (fun v e => ?_) (fun v e => ?_)
    · subst e; exact ih v.1 v.2.1 v.2.2 _ hm hx1 hx2
    · subst e; exact hx1 v hm.symm
    · subst e; exact hx2 v hm.symm
noncomputable def mX1_tiredAt (n : Nat) (FI : OhI) (FR : OhQ) (GR : OhQ) (AI : OhI) (AR : OhQ) (BR : OhQ) (AN : OhN) (x1 : Int32) (x2 : OhR) : Option (Int32) :=
  (lpF (fun v => mX1_tiredAt_b8 n FI FR GR AI AR BR AN x1 x2 v.1 v.2.1 v.2.2) n ((0 : Int32), (0 : Int32), (0 : Int32))).bind (Sum.elim (fun v11 => some v11) (fun v11 => some v11))
theorem x_mX1_tiredAt {G : OhG} {FI AI : OhI} {FL AL : OhL} {FR GR AR BR : OhQ} {AN : OhN} {C : OhC} {k : Nat × Nat} {Φ : OhP} {Ψ : OhX} (hH : ohShH FR AR AN) (n : Nat) (x1 : Int32) (x2 : OhR) {r : Int32} (hm : mX1_tiredAt n FI FR GR AI AR BR AN x1 x2 = some r) (hK : Φ (some (vI r)) (FI, FL, FR, GR, AI, AL, AR, BR, AN, C)) : oX G 5 iX1_tiredAt 0 [(0, vR (some (0, 0))), (1, vI x1), (2, vR x2)] [] (FI, FL, FR, GR, AI, AL, AR, BR, AN, C) k Φ Ψ := by
  unfold mX1_tiredAt at hm
  refine oX_iconst (v := (0 : Int32)) dX1_tiredAt_0 (by decide) ?_
  refine oX_istore_n (ls' := [(3, vI (0 : Int32)), (0, vR (some (0, 0))), (1, vI x1), (2, vR x2)]) dX1_tiredAt_1 rfl (by decide) rfl ?_
  refine oX_iconst (v := (0 : Int32)) dX1_tiredAt_2 (by decide) ?_
  refine oX_istore (ls' := [(4, vI (0 : Int32)), (3, vI (0 : Int32)), (0, vR (some (0, 0))), (1, vI x1), (2, vR x2)]) dX1_tiredAt_3 (by decide) rfl ?_
  refine oX_iconst (v := (0 : Int32)) dX1_tiredAt_5 (by decide) ?_
  refine oX_istore (ls' := [(5, vI (0 : Int32)), (4, vI (0 : Int32)), (3, vI (0 : Int32)), (0, vR (some (0, 0))), (1, vI x1), (2, vR x2)]) dX1_tiredAt_6 (by decide) rfl ?_
  obtain ⟨b11, g11, hm⟩ := bd_s hm
  refine oX_sub [3, 4, 5, 2, 1, 0] rfl (l_mX1_tiredAt_b8 hH n x1 x2 n (0 : Int32) (0 : Int32) (0 : Int32) _ g11 (fun v11 e11 => ?_) (fun v11 e11 => ?_))
  · subst e11
    have hm := el1 hm
    refine oX_iload_n dX1_tiredAt_92 rfl rfl ?_
    obtain rfl := Option.some.inj hm
    exact oX_iret dX1_tiredAt_93 rfl rfl hK
  · subst e11
    have hm := el2 hm
    refine oX_goto (tgt := 92) dX1_tiredAt_83 (by decide) ?_
    refine oX_iload_n dX1_tiredAt_92 rfl rfl ?_
    obtain rfl := Option.some.inj hm
    exact oX_iret dX1_tiredAt_93 rfl rfl hK
theorem t_X1_tiredAt {G : OhG} {FI AI : OhI} {FL AL : OhL} {FR GR AR BR : OhQ} {AN : OhN} {C : OhC} (hH : ohShH FR AR AN) (n : Nat) (x1 : Int32) (x2 : OhR) {o : Int32} (hm : mX1_tiredAt n FI FR GR AI AR BR AN x1 x2 = some o) : oT G 5 iX1_tiredAt [vR (some (0, 0)), vI x1, vR x2] (FI, FL, FR, GR, AI, AL, AR, BR, AN, C) (0, 0) (fun v h => v = (some (vI o)) ∧ h = (FI, FL, FR, GR, AI, AL, AR, BR, AN, C)) ohNo :=
  oT_of (by decide) rfl (Nat.le_of_ble_eq_true rfl) (x_mX1_tiredAt hH n x1 x2 hm ⟨rfl, rfl⟩)
abbrev iX1_judgeRole : OhM := (yX1_judgeRole, cX1_judgeRole, 8, none, [])
theorem ok_X1_judgeRole : oOk iX1_judgeRole 3 := ⟨by decide, by decide, by decide +kernel⟩
noncomputable def mX1_judgeRole_b171 (n : Nat) (FI : OhI) (FR : OhQ) (GR : OhQ) (AI : OhI) (AR : OhQ) (BR : OhQ) (AN : OhN) (x1 : Int32) (x2 : Int32) (x3 : OhR) (x4 : OhR) (x5 : OhR) (x6 : OhR) (x7 : Int32) : Option ((OhR × Int32) ⊕ (OhR)) :=
  (if x1 ≤ x7 then
  some (.inr x6)
else
  gd (vp_in x7 66) <|
    (oD 14 (BR 316 0 x7.toNatClampNeg)).bind fun a31 =>
    (mX15_isSung FI a31).bind fun r32 =>
    (if r32 = 0 then
    some (.inl (x6, x7 + (1 : Int32)))
  else
    (oD 6 x3).bind fun a34 =>
      gd (vp_in x7 66) <|
      (mX1_isCast n FI FR AI AR BR AN (FI a34.1 a34.2 0) (BR 316 0 x7.toNatClampNeg)).bind fun r36 =>
      (if r36 = 0 then
      some (.inl (x6, x7 + (1 : Int32)))
    else
      gd (vp_in x7 66) <|
        some (.inl (BR 316 0 x7.toNatClampNeg, x7 + (1 : Int32))))))
theorem x_mX1_judgeRole_b171 {G : OhG} {FI AI : OhI} {FL AL : OhL} {FR GR AR BR : OhQ} {AN : OhN} {C : OhC} {k : Nat × Nat} {Φ : OhP} {Ψ : OhX} (hH : ohShH FR AR AN) (n : Nat) (x1 : Int32) (x2 : Int32) (x3 : OhR) (x4 : OhR) (x5 : OhR) (x6 : OhR) (x7 : Int32) {r : (OhR × Int32) ⊕ (OhR)} (hm : mX1_judgeRole_b171 n FI FR GR AI AR BR AN x1 x2 x3 x4 x5 x6 x7 = some r) (hk : ∀ v : OhR × Int32, r = .inl v → oX G 6 iX1_judgeRole 171 [(0, vR (some (0, 0))), (1, vI x1), (2, vI x2), (3, vR x3), (4, vR x4), (5, vR x5), (6, vR v.1), (7, vI v.2)] [] (FI, FL, FR, GR, AI, AL, AR, BR, AN, C) k Φ Ψ) (hx1 : ∀ v : OhR, r = .inr v → oX G 6 iX1_judgeRole 223 [(0, vR (some (0, 0))), (2, vI x2), (3, vR x3), (4, vR x4), (5, vR x5), (6, vR v)] [] (FI, FL, FR, GR, AI, AL, AR, BR, AN, C) k Φ Ψ) : oX G 6 iX1_judgeRole 171 [(0, vR (some (0, 0))), (1, vI x1), (2, vI x2), (3, vR x3), (4, vR x4), (5, vR x5), (6, vR x6), (7, vI x7)] [] (FI, FL, FR, GR, AI, AL, AR, BR, AN, C) k Φ Ψ := by
  unfold mX1_judgeRole_b171 at hm
  refine oX_iload dX1_judgeRole_171 rfl ?_
  refine oX_iload_n dX1_judgeRole_173 rfl rfl ?_
  refine oX_icmp_ge (tgt := 223) dX1_judgeRole_174 (by decide) (fun c29 => ?_) (fun c29 => ?_)
  · have hm := ifp c29 hm
    exact oX_sub [0, 2, 3, 4, 5, 6] rfl (hx1 x6 (Option.some.inj hm).symm)
  · have hm := ifn c29 hm
    refine oX_aload_n dX1_judgeRole_177 rfl rfl ?_
    refine oX_getF fX1_58 rfl oDs0 dX1_judgeRole_178 (ohF316 hH) ?_
    refine oX_iload dX1_judgeRole_181 rfl ?_
    obtain ⟨g30, hm⟩ := gd_s hm
    refine oX_aaldC oDs316 (oIn (ohN316 hH) g30) dX1_judgeRole_183 rfl ?_
    obtain ⟨a31, e31, hm⟩ := bd_s hm
    obtain ⟨r32, g32, hm⟩ := bd_s hm
    refine oX_cV (as := []) dX1_judgeRole_184 rfl e31 rfl (by decide) rfl ok_X15_isSung rfl rfl q1527 q1528 q1529 q165 q1530 (by decide) (Nat.le_of_ble_eq_true rfl) (t_X15_isSung a31 ((oD_some e31).2) g32) ?_
    refine oX_if_eq (tgt := 217) dX1_judgeRole_187 (by decide) (fun c33 => ?_) (fun c33 => ?_)
    · have hm := ifp c33 hm
      refine oX_iinc (v := x7 + (1 : Int32)) (ls' := [(7, vI (x7 + (1 : Int32))), (0, vR (some (0, 0))), (1, vI x1), (2, vI x2), (3, vR x3), (4, vR x4), (5, vR x5), (6, vR x6)]) dX1_judgeRole_217 rfl rfl (by decide) rfl ?_
      refine oX_goto (tgt := 171) dX1_judgeRole_220 (by decide) ?_
      exact oX_sub [1, 2, 3, 4, 5, 6, 7, 0] rfl (hk (x6, x7 + (1 : Int32)) (Option.some.inj hm).symm)
    · have hm := ifn c33 hm
      refine oX_aload_n dX1_judgeRole_190 rfl rfl ?_
      refine oX_aload_n dX1_judgeRole_191 rfl rfl ?_
      obtain ⟨a34, e34, hm⟩ := bd_s hm
      refine oX_getI fX1_356 rfl e34 dX1_judgeRole_192 ?_
      refine oX_aload_n dX1_judgeRole_195 rfl rfl ?_
      refine oX_getF fX1_58 rfl oDs0 dX1_judgeRole_196 (ohF316 hH) ?_
      refine oX_iload dX1_judgeRole_199 rfl ?_
      obtain ⟨g35, hm⟩ := gd_s hm
      refine oX_aaldC oDs316 (oIn (ohN316 hH) g35) dX1_judgeRole_201 rfl ?_
      obtain ⟨r36, g36, hm⟩ := bd_s hm
      refine oX_cV (as := [vI (FI a34.1 a34.2 0), vR (BR 316 0 x7.toNatClampNeg)]) dX1_judgeRole_202 rfl oDs0 rfl (by decide) rfl ok_X1_isCast rfl rfl q1523 q1525 qs40 q129 q1526 (by decide) (Nat.le_of_ble_eq_true rfl) (t_X1_isCast hH n (FI a34.1 a34.2 0) (BR 316 0 x7.toNatClampNeg) g36) ?_
      refine oX_if_eq (tgt := 217) dX1_judgeRole_205 (by decide) (fun c37 => ?_) (fun c37 => ?_)
      · have hm := ifp c37 hm
        refine oX_iinc (v := x7 + (1 : Int32)) (ls' := [(7, vI (x7 + (1 : Int32))), (0, vR (some (0, 0))), (1, vI x1), (2, vI x2), (3, vR x3), (4, vR x4), (5, vR x5), (6, vR x6)]) dX1_judgeRole_217 rfl rfl (by decide) rfl ?_
        refine oX_goto (tgt := 171) dX1_judgeRole_220 (by decide) ?_
        exact oX_sub [1, 2, 3, 4, 5, 6, 7, 0] rfl (hk (x6, x7 + (1 : Int32)) (Option.some.inj hm).symm)
      · have hm := ifn c37 hm
        refine oX_aload_n dX1_judgeRole_208 rfl rfl ?_
        refine oX_getF fX1_58 rfl oDs0 dX1_judgeRole_209 (ohF316 hH) ?_
        refine oX_iload dX1_judgeRole_212 rfl ?_
        obtain ⟨g38, hm⟩ := gd_s hm
        refine oX_aaldC oDs316 (oIn (ohN316 hH) g38) dX1_judgeRole_214 rfl ?_
        refine oX_astore (ls' := [(6, vR (BR 316 0 x7.toNatClampNeg)), (0, vR (some (0, 0))), (1, vI x1), (2, vI x2), (3, vR x3), (4, vR x4), (5, vR x5), (7, vI x7)]) dX1_judgeRole_215 (by decide) rfl ?_
        refine oX_iinc (v := x7 + (1 : Int32)) (ls' := [(7, vI (x7 + (1 : Int32))), (6, vR (BR 316 0 x7.toNatClampNeg)), (0, vR (some (0, 0))), (1, vI x1), (2, vI x2), (3, vR x3), (4, vR x4), (5, vR x5)]) dX1_judgeRole_217 rfl rfl (by decide) rfl ?_
        refine oX_goto (tgt := 171) dX1_judgeRole_220 (by decide) ?_
        exact oX_sub [2, 3, 4, 5, 6, 7, 1, 0] rfl (hk (BR 316 0 x7.toNatClampNeg, x7 + (1 : Int32)) (Option.some.inj hm).symm)
theorem l_mX1_judgeRole_b171 {G : OhG} {FI : OhI} {FL : OhL} {FR : OhQ} {GR : OhQ} {AI : OhI} {AL : OhL} {AR : OhQ} {BR : OhQ} {AN : OhN} {C : OhC} {k : Nat × Nat} {Φ : OhP} {Ψ : OhX} (hH : ohShH FR AR AN) (n : Nat) (x1 : Int32) (x2 : Int32) (x3 : OhR) (x4 : OhR) (x5 : OhR) : ∀ (f : Nat) (x6 : OhR) (x7 : Int32) (b : (OhR)), lpF (fun v => mX1_judgeRole_b171 n FI FR GR AI AR BR AN x1 x2 x3 x4 x5 v.1 v.2) f (x6, x7) = some b → (oX G 6 iX1_judgeRole 223 [(0, vR (some (0, 0))), (2, vI x2), (3, vR x3), (4, vR x4), (5, vR x5), (6, vR b)] [] (FI, FL, FR, GR, AI, AL, AR, BR, AN, C) k Φ Ψ) → oX G 6 iX1_judgeRole 171 [(0, vR (some (0, 0))), (1, vI x1), (2, vI x2), (3, vR x3), (4, vR x4), (5, vR x5), (6, vR x6), (7, vI x7)] [] (FI, FL, FR, GR, AI, AL, AR, BR, AN, C) k Φ Ψ := by
  intro f
  induction f with
  | zero =>
    intro x6 x7 b hm
    cases hm
  | succ f ih =>
    intro x6 x7 b hm hx1
    obtain ⟨r, hr, hm⟩ := lp_s hm
    refine x_mX1_judgeRole_b171 hH n x1 x2 x3 x4 x5 x6 x7 hr (fun v e => ?_) (fun v e => ?_)
    · subst e; exact ih v.1 v.2 _ hm hx1
    · subst e; cases (show v = b from hm); exact hx1
noncomputable def mX1_judgeRole_j380 (n : Nat) (FI : OhI) (FR : OhQ) (GR : OhQ) (AI : OhI) (AR : OhQ) (BR : OhQ) (AN : OhN) (y1 : OhR) (y2 : Int32) (y3 : Int32) (y4 : Int32) : Option (OhI) :=
  (mX1_blame FI FR AI AR BR AN y1 y2 y3 y4).bind fun r58 =>
  some r58
theorem x_mX1_judgeRole_j380 {G : OhG} {FI AI : OhI} {FL AL : OhL} {FR GR AR BR : OhQ} {AN : OhN} {C : OhC} {k : Nat × Nat} {Φ : OhP} {Ψ : OhX} (hH : ohShH FR AR AN) (n : Nat) (y1 : OhR) (y2 : Int32) (y3 : Int32) (y4 : Int32) {r : OhI} (hm : mX1_judgeRole_j380 n FI FR GR AI AR BR AN y1 y2 y3 y4 = some r) (hK : Φ none (FI, FL, FR, GR, r, AL, AR, BR, AN, C)) : oX G 6 iX1_judgeRole 380 [] [vI y4, vI y3, vI y2, vR y1, vR (some (0, 0))] (FI, FL, FR, GR, AI, AL, AR, BR, AN, C) k Φ Ψ := by
  unfold mX1_judgeRole_j380 at hm
  obtain ⟨r58, g58, hm⟩ := bd_s hm
  refine oX_cV_ (as := [vR y1, vI y2, vI y3, vI y4]) dX1_judgeRole_380 rfl oDs0 rfl (by decide) rfl ok_X1_blame rfl rfl q1454 q1456 qs30 q129 q1457 (by decide) (Nat.le_of_ble_eq_true rfl) (t_X1_blame hH y1 y2 y3 y4 g58) ?_
  obtain rfl := Option.some.inj hm
  exact oX_vret dX1_judgeRole_383 rfl hK
noncomputable def mX1_judgeRole_j348 (n : Nat) (FI : OhI) (FR : OhQ) (GR : OhQ) (AI : OhI) (AR : OhQ) (BR : OhQ) (AN : OhN) (x2 : Int32) (x3 : OhR) (x4 : OhR) (x5 : OhR) (y1 : OhR) (y2 : Int32) (y3 : Int32) (y4 : Int32) : Option (OhI) :=
  (mX1_blame FI FR AI AR BR AN y1 y2 y3 y4).bind fun r53 =>
  (oD 6 x3).bind fun a54 =>
  (mX1_tiredAt n FI FR GR r53 AR BR AN (FI a54.1 a54.2 0) x4).bind fun r55 =>
  (oD 7 x5).bind fun a56 =>
  (if r55 ≤ (FI a56.1 a56.2 3) then
  mX1_judgeRole_j380 n FI FR GR r53 AR BR AN x4 x2 (15 : Int32) (0 : Int32)
else
  mX1_judgeRole_j380 n FI FR GR r53 AR BR AN x4 x2 (15 : Int32) (1 : Int32))
theorem x_mX1_judgeRole_j348 {G : OhG} {FI AI : OhI} {FL AL : OhL} {FR GR AR BR : OhQ} {AN : OhN} {C : OhC} {k : Nat × Nat} {Φ : OhP} {Ψ : OhX} (hH : ohShH FR AR AN) (n : Nat) (x2 : Int32) (x3 : OhR) (x4 : OhR) (x5 : OhR) (y1 : OhR) (y2 : Int32) (y3 : Int32) (y4 : Int32) {r : OhI} (hm : mX1_judgeRole_j348 n FI FR GR AI AR BR AN x2 x3 x4 x5 y1 y2 y3 y4 = some r) (hK : Φ none (FI, FL, FR, GR, r, AL, AR, BR, AN, C)) : oX G 6 iX1_judgeRole 348 [(0, vR (some (0, 0))), (2, vI x2), (3, vR x3), (4, vR x4), (5, vR x5)] [vI y4, vI y3, vI y2, vR y1, vR (some (0, 0))] (FI, FL, FR, GR, AI, AL, AR, BR, AN, C) k Φ Ψ := by
  unfold mX1_judgeRole_j348 at hm
  obtain ⟨r53, g53, hm⟩ := bd_s hm
  refine oX_cV_ (as := [vR y1, vI y2, vI y3, vI y4]) dX1_judgeRole_348 rfl oDs0 rfl (by decide) rfl ok_X1_blame rfl rfl q1454 q1456 qs30 q129 q1457 (by decide) (Nat.le_of_ble_eq_true rfl) (t_X1_blame hH y1 y2 y3 y4 g53) ?_
  refine oX_aload_n dX1_judgeRole_351 rfl rfl ?_
  refine oX_aload dX1_judgeRole_352 rfl ?_
  refine oX_iload_n dX1_judgeRole_354 rfl rfl ?_
  refine oX_bipush (v := (15 : Int32)) dX1_judgeRole_355 (by decide) ?_
  refine oX_aload_n dX1_judgeRole_357 rfl rfl ?_
  refine oX_aload_n dX1_judgeRole_358 rfl rfl ?_
  obtain ⟨a54, e54, hm⟩ := bd_s hm
  refine oX_getI fX1_356 rfl e54 dX1_judgeRole_359 ?_
  refine oX_aload dX1_judgeRole_362 rfl ?_
  obtain ⟨r55, g55, hm⟩ := bd_s hm
  refine oX_cV (as := [vI (FI a54.1 a54.2 0), vR x4]) dX1_judgeRole_364 rfl oDs0 rfl (by decide) rfl ok_X1_tiredAt rfl rfl q1539 q1541 qs43 q129 q1542 (by decide) (Nat.le_of_ble_eq_true rfl) (t_X1_tiredAt hH n (FI a54.1 a54.2 0) x4 g55) ?_
  refine oX_aload dX1_judgeRole_367 rfl ?_
  obtain ⟨a56, e56, hm⟩ := bd_s hm
  refine oX_getI fX1_394 rfl e56 dX1_judgeRole_369 ?_
  refine oX_icmp_le (tgt := 379) dX1_judgeRole_372 (by decide) (fun c57 => ?_) (fun c57 => ?_)
  · have hm := ifp c57 hm
    refine oX_iconst (v := (0 : Int32)) dX1_judgeRole_379 (by decide) ?_
    exact oX_sub [] rfl (x_mX1_judgeRole_j380 hH n x4 x2 (15 : Int32) (0 : Int32) hm hK)
  · have hm := ifn c57 hm
    refine oX_iconst (v := (1 : Int32)) dX1_judgeRole_375 (by decide) ?_
    refine oX_goto (tgt := 380) dX1_judgeRole_376 (by decide) ?_
    exact oX_sub [] rfl (x_mX1_judgeRole_j380 hH n x4 x2 (15 : Int32) (1 : Int32) hm hK)
noncomputable def mX1_judgeRole_j347 (n : Nat) (FI : OhI) (FR : OhQ) (GR : OhQ) (AI : OhI) (AR : OhQ) (BR : OhQ) (AN : OhN) (x2 : Int32) (x3 : OhR) (x4 : OhR) (x5 : OhR) (y1 : OhR) (y2 : Int32) (y3 : Int32) : Option (OhI) :=
  mX1_judgeRole_j348 n FI FR GR AI AR BR AN x2 x3 x4 x5 y1 y2 y3 (0 : Int32)
theorem x_mX1_judgeRole_j347 {G : OhG} {FI AI : OhI} {FL AL : OhL} {FR GR AR BR : OhQ} {AN : OhN} {C : OhC} {k : Nat × Nat} {Φ : OhP} {Ψ : OhX} (hH : ohShH FR AR AN) (n : Nat) (x2 : Int32) (x3 : OhR) (x4 : OhR) (x5 : OhR) (y1 : OhR) (y2 : Int32) (y3 : Int32) {r : OhI} (hm : mX1_judgeRole_j347 n FI FR GR AI AR BR AN x2 x3 x4 x5 y1 y2 y3 = some r) (hK : Φ none (FI, FL, FR, GR, r, AL, AR, BR, AN, C)) : oX G 6 iX1_judgeRole 347 [(0, vR (some (0, 0))), (2, vI x2), (3, vR x3), (4, vR x4), (5, vR x5)] [vI y3, vI y2, vR y1, vR (some (0, 0))] (FI, FL, FR, GR, AI, AL, AR, BR, AN, C) k Φ Ψ := by
  unfold mX1_judgeRole_j347 at hm
  refine oX_iconst (v := (0 : Int32)) dX1_judgeRole_347 (by decide) ?_
  exact oX_sub [0, 1, 2, 3, 4] rfl (x_mX1_judgeRole_j348 hH n x2 x3 x4 x5 y1 y2 y3 (0 : Int32) hm hK)
noncomputable def mX1_judgeRole_j305 (n : Nat) (FI : OhI) (FR : OhQ) (GR : OhQ) (AI : OhI) (AR : OhQ) (BR : OhQ) (AN : OhN) (x2 : Int32) (x3 : OhR) (x4 : OhR) (x5 : OhR) (y1 : OhR) (y2 : Int32) (y3 : Int32) (y4 : Int32) : Option (OhI) :=
  (mX1_blame FI FR AI AR BR AN y1 y2 y3 y4).bind fun r46 =>
  (oD 14 x4).bind fun a47 =>
  (if (FI a47.1 a47.2 2) = (3 : Int32) then
  (oD 6 x3).bind fun a49 =>
    (mX1_nightsOf n FI FR r46 AR BR AN (FI a49.1 a49.2 0) x4 (7 : Int32)).bind fun r50 =>
    (oD 7 x5).bind fun a51 =>
    (if r50 ≤ (FI a51.1 a51.2 2) then
    mX1_judgeRole_j347 n FI FR GR r46 AR BR AN x2 x3 x4 x5 x4 x2 (14 : Int32)
  else
    mX1_judgeRole_j348 n FI FR GR r46 AR BR AN x2 x3 x4 x5 x4 x2 (14 : Int32) (1 : Int32))
else
  mX1_judgeRole_j347 n FI FR GR r46 AR BR AN x2 x3 x4 x5 x4 x2 (14 : Int32))
theorem x_mX1_judgeRole_j305 {G : OhG} {FI AI : OhI} {FL AL : OhL} {FR GR AR BR : OhQ} {AN : OhN} {C : OhC} {k : Nat × Nat} {Φ : OhP} {Ψ : OhX} (hH : ohShH FR AR AN) (n : Nat) (x2 : Int32) (x3 : OhR) (x4 : OhR) (x5 : OhR) (y1 : OhR) (y2 : Int32) (y3 : Int32) (y4 : Int32) {r : OhI} (hm : mX1_judgeRole_j305 n FI FR GR AI AR BR AN x2 x3 x4 x5 y1 y2 y3 y4 = some r) (hK : Φ none (FI, FL, FR, GR, r, AL, AR, BR, AN, C)) : oX G 6 iX1_judgeRole 305 [(0, vR (some (0, 0))), (2, vI x2), (3, vR x3), (4, vR x4), (5, vR x5)] [vI y4, vI y3, vI y2, vR y1, vR (some (0, 0))] (FI, FL, FR, GR, AI, AL, AR, BR, AN, C) k Φ Ψ := by
  unfold mX1_judgeRole_j305 at hm
  obtain ⟨r46, g46, hm⟩ := bd_s hm
  refine oX_cV_ (as := [vR y1, vI y2, vI y3, vI y4]) dX1_judgeRole_305 rfl oDs0 rfl (by decide) rfl ok_X1_blame rfl rfl q1454 q1456 qs30 q129 q1457 (by decide) (Nat.le_of_ble_eq_true rfl) (t_X1_blame hH y1 y2 y3 y4 g46) ?_
  refine oX_aload_n dX1_judgeRole_308 rfl rfl ?_
  refine oX_aload dX1_judgeRole_309 rfl ?_
  refine oX_iload_n dX1_judgeRole_311 rfl rfl ?_
  refine oX_bipush (v := (14 : Int32)) dX1_judgeRole_312 (by decide) ?_
  refine oX_aload dX1_judgeRole_314 rfl ?_
  obtain ⟨a47, e47, hm⟩ := bd_s hm
  refine oX_getI fX1_281 rfl e47 dX1_judgeRole_316 ?_
  refine oX_iconst (v := (3 : Int32)) dX1_judgeRole_319 (by decide) ?_
  refine oX_icmp_ne (tgt := 347) dX1_judgeRole_320 (by decide) (fun c48 => ?_) (fun c48 => ?_)
  · have hm := ifp c48 hm
    refine oX_aload_n dX1_judgeRole_323 rfl rfl ?_
    refine oX_aload_n dX1_judgeRole_324 rfl rfl ?_
    obtain ⟨a49, e49, hm⟩ := bd_s hm
    refine oX_getI fX1_356 rfl e49 dX1_judgeRole_325 ?_
    refine oX_aload dX1_judgeRole_328 rfl ?_
    refine oX_bipush (v := (7 : Int32)) dX1_judgeRole_330 (by decide) ?_
    obtain ⟨r50, g50, hm⟩ := bd_s hm
    refine oX_cV (as := [vI (FI a49.1 a49.2 0), vR x4, vI (7 : Int32)]) dX1_judgeRole_332 rfl oDs0 rfl (by decide) rfl ok_X1_nightsOf rfl rfl q1535 q1537 qs42 q129 q1538 (by decide) (Nat.le_of_ble_eq_true rfl) (t_X1_nightsOf hH n (FI a49.1 a49.2 0) x4 (7 : Int32) g50) ?_
    refine oX_aload dX1_judgeRole_335 rfl ?_
    obtain ⟨a51, e51, hm⟩ := bd_s hm
    refine oX_getI fX1_388 rfl e51 dX1_judgeRole_337 ?_
    refine oX_icmp_le (tgt := 347) dX1_judgeRole_340 (by decide) (fun c52 => ?_) (fun c52 => ?_)
    · have hm := ifp c52 hm
      exact oX_sub [0, 1, 2, 3, 4] rfl (x_mX1_judgeRole_j347 hH n x2 x3 x4 x5 x4 x2 (14 : Int32) hm hK)
    · have hm := ifn c52 hm
      refine oX_iconst (v := (1 : Int32)) dX1_judgeRole_343 (by decide) ?_
      refine oX_goto (tgt := 348) dX1_judgeRole_344 (by decide) ?_
      exact oX_sub [0, 1, 2, 3, 4] rfl (x_mX1_judgeRole_j348 hH n x2 x3 x4 x5 x4 x2 (14 : Int32) (1 : Int32) hm hK)
  · have hm := ifn c48 hm
    exact oX_sub [0, 1, 2, 3, 4] rfl (x_mX1_judgeRole_j347 hH n x2 x3 x4 x5 x4 x2 (14 : Int32) hm hK)
noncomputable def mX1_judgeRole_j271 (n : Nat) (FI : OhI) (FR : OhQ) (GR : OhQ) (AI : OhI) (AR : OhQ) (BR : OhQ) (AN : OhN) (x2 : Int32) (x3 : OhR) (x4 : OhR) (x5 : OhR) (y1 : OhR) (y2 : Int32) (y3 : Int32) (y4 : Int32) : Option (OhI) :=
  (mX1_blame FI FR AI AR BR AN y1 y2 y3 y4).bind fun r41 =>
  (oD 6 x3).bind fun a42 =>
  (mX1_hoursOn n FI FR r41 AR BR AN (FI a42.1 a42.2 0) x4).bind fun r43 =>
  (oD 7 x5).bind fun a44 =>
  (if r43 ≤ ((FI a44.1 a44.2 1) + (4 : Int32)) then
  mX1_judgeRole_j305 n FI FR GR r41 AR BR AN x2 x3 x4 x5 x4 x2 (13 : Int32) (0 : Int32)
else
  mX1_judgeRole_j305 n FI FR GR r41 AR BR AN x2 x3 x4 x5 x4 x2 (13 : Int32) (1 : Int32))
theorem x_mX1_judgeRole_j271 {G : OhG} {FI AI : OhI} {FL AL : OhL} {FR GR AR BR : OhQ} {AN : OhN} {C : OhC} {k : Nat × Nat} {Φ : OhP} {Ψ : OhX} (hH : ohShH FR AR AN) (n : Nat) (x2 : Int32) (x3 : OhR) (x4 : OhR) (x5 : OhR) (y1 : OhR) (y2 : Int32) (y3 : Int32) (y4 : Int32) {r : OhI} (hm : mX1_judgeRole_j271 n FI FR GR AI AR BR AN x2 x3 x4 x5 y1 y2 y3 y4 = some r) (hK : Φ none (FI, FL, FR, GR, r, AL, AR, BR, AN, C)) : oX G 6 iX1_judgeRole 271 [(0, vR (some (0, 0))), (2, vI x2), (3, vR x3), (4, vR x4), (5, vR x5)] [vI y4, vI y3, vI y2, vR y1, vR (some (0, 0))] (FI, FL, FR, GR, AI, AL, AR, BR, AN, C) k Φ Ψ := by
  unfold mX1_judgeRole_j271 at hm
  obtain ⟨r41, g41, hm⟩ := bd_s hm
  refine oX_cV_ (as := [vR y1, vI y2, vI y3, vI y4]) dX1_judgeRole_271 rfl oDs0 rfl (by decide) rfl ok_X1_blame rfl rfl q1454 q1456 qs30 q129 q1457 (by decide) (Nat.le_of_ble_eq_true rfl) (t_X1_blame hH y1 y2 y3 y4 g41) ?_
  refine oX_aload_n dX1_judgeRole_274 rfl rfl ?_
  refine oX_aload dX1_judgeRole_275 rfl ?_
  refine oX_iload_n dX1_judgeRole_277 rfl rfl ?_
  refine oX_bipush (v := (13 : Int32)) dX1_judgeRole_278 (by decide) ?_
  refine oX_aload_n dX1_judgeRole_280 rfl rfl ?_
  refine oX_aload_n dX1_judgeRole_281 rfl rfl ?_
  obtain ⟨a42, e42, hm⟩ := bd_s hm
  refine oX_getI fX1_356 rfl e42 dX1_judgeRole_282 ?_
  refine oX_aload dX1_judgeRole_285 rfl ?_
  obtain ⟨r43, g43, hm⟩ := bd_s hm
  refine oX_cV (as := [vI (FI a42.1 a42.2 0), vR x4]) dX1_judgeRole_287 rfl oDs0 rfl (by decide) rfl ok_X1_hoursOn rfl rfl q1531 q1533 qs41 q129 q1534 (by decide) (Nat.le_of_ble_eq_true rfl) (t_X1_hoursOn hH n (FI a42.1 a42.2 0) x4 g43) ?_
  refine oX_aload dX1_judgeRole_290 rfl ?_
  obtain ⟨a44, e44, hm⟩ := bd_s hm
  refine oX_getI fX1_383 rfl e44 dX1_judgeRole_292 ?_
  refine oX_iconst (v := (4 : Int32)) dX1_judgeRole_295 (by decide) ?_
  refine oX_iadd dX1_judgeRole_296 ?_
  refine oX_icmp_le (tgt := 304) dX1_judgeRole_297 (by decide) (fun c45 => ?_) (fun c45 => ?_)
  · have hm := ifp c45 hm
    refine oX_iconst (v := (0 : Int32)) dX1_judgeRole_304 (by decide) ?_
    exact oX_sub [0, 1, 2, 3, 4] rfl (x_mX1_judgeRole_j305 hH n x2 x3 x4 x5 x4 x2 (13 : Int32) (0 : Int32) hm hK)
  · have hm := ifn c45 hm
    refine oX_iconst (v := (1 : Int32)) dX1_judgeRole_300 (by decide) ?_
    refine oX_goto (tgt := 305) dX1_judgeRole_301 (by decide) ?_
    exact oX_sub [0, 1, 2, 3, 4] rfl (x_mX1_judgeRole_j305 hH n x2 x3 x4 x5 x4 x2 (13 : Int32) (1 : Int32) hm hK)
noncomputable def mX1_judgeRole_j270 (n : Nat) (FI : OhI) (FR : OhQ) (GR : OhQ) (AI : OhI) (AR : OhQ) (BR : OhQ) (AN : OhN) (x2 : Int32) (x3 : OhR) (x4 : OhR) (x5 : OhR) (y1 : OhR) (y2 : Int32) (y3 : Int32) : Option (OhI) :=
  mX1_judgeRole_j271 n FI FR GR AI AR BR AN x2 x3 x4 x5 y1 y2 y3 (0 : Int32)
theorem x_mX1_judgeRole_j270 {G : OhG} {FI AI : OhI} {FL AL : OhL} {FR GR AR BR : OhQ} {AN : OhN} {C : OhC} {k : Nat × Nat} {Φ : OhP} {Ψ : OhX} (hH : ohShH FR AR AN) (n : Nat) (x2 : Int32) (x3 : OhR) (x4 : OhR) (x5 : OhR) (y1 : OhR) (y2 : Int32) (y3 : Int32) {r : OhI} (hm : mX1_judgeRole_j270 n FI FR GR AI AR BR AN x2 x3 x4 x5 y1 y2 y3 = some r) (hK : Φ none (FI, FL, FR, GR, r, AL, AR, BR, AN, C)) : oX G 6 iX1_judgeRole 270 [(0, vR (some (0, 0))), (2, vI x2), (3, vR x3), (4, vR x4), (5, vR x5)] [vI y3, vI y2, vR y1, vR (some (0, 0))] (FI, FL, FR, GR, AI, AL, AR, BR, AN, C) k Φ Ψ := by
  unfold mX1_judgeRole_j270 at hm
  refine oX_iconst (v := (0 : Int32)) dX1_judgeRole_270 (by decide) ?_
  exact oX_sub [0, 1, 2, 3, 4] rfl (x_mX1_judgeRole_j271 hH n x2 x3 x4 x5 y1 y2 y3 (0 : Int32) hm hK)
noncomputable def mX1_judgeRole_j143 (n : Nat) (FI : OhI) (FR : OhQ) (GR : OhQ) (AI : OhI) (AR : OhQ) (BR : OhQ) (AN : OhN) (x1 : Int32) (x2 : Int32) (x3 : OhR) (x4 : OhR) (x5 : OhR) (y1 : OhR) (y2 : Int32) (y3 : Int32) (y4 : Int32) : Option (OhI) :=
  (mX1_blame FI FR AI AR BR AN y1 y2 y3 y4).bind fun r25 =>
  (oD 6 x3).bind fun a26 =>
  (mX1_isTwice n FI FR r25 AR BR AN x1 x2 (FI a26.1 a26.2 0)).bind fun r27 =>
  (mX1_blame FI FR r25 AR BR AN x4 x2 (11 : Int32) r27).bind fun r28 =>
  (lpF (fun v => mX1_judgeRole_b171 n FI FR GR r28 AR BR AN x1 x2 x3 x4 x5 v.1 v.2) n (none, (0 : Int32))).bind fun v39 =>
  (if v39 = none then
  mX1_judgeRole_j270 n FI FR GR r28 AR BR AN x2 x3 x4 x5 x4 x2 (12 : Int32)
else
  (oD 14 v39).bind fun a59 =>
    (oD 14 x4).bind fun a60 =>
    (if (FI a59.1 a59.2 1) = (FI a60.1 a60.2 1) then
    mX1_judgeRole_j270 n FI FR GR r28 AR BR AN x2 x3 x4 x5 x4 x2 (12 : Int32)
  else
    (oD 7 x5).bind fun a62 =>
      (if (FI a62.1 a62.2 0) ≤ ((FI a60.1 a60.2 4) - (FI a59.1 a59.2 5)) then
      mX1_judgeRole_j270 n FI FR GR r28 AR BR AN x2 x3 x4 x5 x4 x2 (12 : Int32)
    else
      mX1_judgeRole_j271 n FI FR GR r28 AR BR AN x2 x3 x4 x5 x4 x2 (12 : Int32) (1 : Int32))))
theorem x_mX1_judgeRole_j143 {G : OhG} {FI AI : OhI} {FL AL : OhL} {FR GR AR BR : OhQ} {AN : OhN} {C : OhC} {k : Nat × Nat} {Φ : OhP} {Ψ : OhX} (hH : ohShH FR AR AN) (n : Nat) (x1 : Int32) (x2 : Int32) (x3 : OhR) (x4 : OhR) (x5 : OhR) (y1 : OhR) (y2 : Int32) (y3 : Int32) (y4 : Int32) {r : OhI} (hm : mX1_judgeRole_j143 n FI FR GR AI AR BR AN x1 x2 x3 x4 x5 y1 y2 y3 y4 = some r) (hK : Φ none (FI, FL, FR, GR, r, AL, AR, BR, AN, C)) : oX G 6 iX1_judgeRole 143 [(0, vR (some (0, 0))), (1, vI x1), (2, vI x2), (3, vR x3), (4, vR x4), (5, vR x5)] [vI y4, vI y3, vI y2, vR y1, vR (some (0, 0))] (FI, FL, FR, GR, AI, AL, AR, BR, AN, C) k Φ Ψ := by
  unfold mX1_judgeRole_j143 at hm
  obtain ⟨r25, g25, hm⟩ := bd_s hm
  refine oX_cV_ (as := [vR y1, vI y2, vI y3, vI y4]) dX1_judgeRole_143 rfl oDs0 rfl (by decide) rfl ok_X1_blame rfl rfl q1454 q1456 qs30 q129 q1457 (by decide) (Nat.le_of_ble_eq_true rfl) (t_X1_blame hH y1 y2 y3 y4 g25) ?_
  refine oX_aload_n dX1_judgeRole_146 rfl rfl ?_
  refine oX_aload dX1_judgeRole_147 rfl ?_
  refine oX_iload_n dX1_judgeRole_149 rfl rfl ?_
  refine oX_bipush (v := (11 : Int32)) dX1_judgeRole_150 (by decide) ?_
  refine oX_aload_n dX1_judgeRole_152 rfl rfl ?_
  refine oX_iload_n dX1_judgeRole_153 rfl rfl ?_
  refine oX_iload_n dX1_judgeRole_154 rfl rfl ?_
  refine oX_aload_n dX1_judgeRole_155 rfl rfl ?_
  obtain ⟨a26, e26, hm⟩ := bd_s hm
  refine oX_getI fX1_356 rfl e26 dX1_judgeRole_156 ?_
  obtain ⟨r27, g27, hm⟩ := bd_s hm
  refine oX_cV (as := [vI x1, vI x2, vI (FI a26.1 a26.2 0)]) dX1_judgeRole_159 rfl oDs0 rfl (by decide) rfl ok_X1_isTwice rfl rfl q1519 q1521 qs39 q129 q1522 (by decide) (Nat.le_of_ble_eq_true rfl) (t_X1_isTwice hH n x1 x2 (FI a26.1 a26.2 0) g27) ?_
  obtain ⟨r28, g28, hm⟩ := bd_s hm
  refine oX_cV_ (as := [vR x4, vI x2, vI (11 : Int32), vI r27]) dX1_judgeRole_162 rfl oDs0 rfl (by decide) rfl ok_X1_blame rfl rfl q1454 q1456 qs30 q129 q1457 (by decide) (Nat.le_of_ble_eq_true rfl) (t_X1_blame hH x4 x2 (11 : Int32) r27 g28) ?_
  refine oX_null dX1_judgeRole_165 ?_
  refine oX_astore (ls' := [(6, vR none), (0, vR (some (0, 0))), (1, vI x1), (2, vI x2), (3, vR x3), (4, vR x4), (5, vR x5)]) dX1_judgeRole_166 (by decide) rfl ?_
  refine oX_iconst (v := (0 : Int32)) dX1_judgeRole_168 (by decide) ?_
  refine oX_istore (ls' := [(7, vI (0 : Int32)), (6, vR none), (0, vR (some (0, 0))), (1, vI x1), (2, vI x2), (3, vR x3), (4, vR x4), (5, vR x5)]) dX1_judgeRole_169 (by decide) rfl ?_
  obtain ⟨v39, g39, hm⟩ := bd_s hm
  refine oX_sub [2, 3, 4, 5, 6, 7, 1, 0] rfl (l_mX1_judgeRole_b171 hH n x1 x2 x3 x4 x5 n none (0 : Int32) _ g39 ?_)
  refine oX_aload_n dX1_judgeRole_223 rfl rfl ?_
  refine oX_aload dX1_judgeRole_224 rfl ?_
  refine oX_iload_n dX1_judgeRole_226 rfl rfl ?_
  refine oX_bipush (v := (12 : Int32)) dX1_judgeRole_227 (by decide) ?_
  refine oX_aload dX1_judgeRole_229 rfl ?_
  refine oX_ifnull (tgt := 270) dX1_judgeRole_231 (by decide) (fun c40 => ?_) (fun c40 => ?_)
  · have hm := ifp c40 hm
    exact oX_sub [0, 1, 2, 3, 4] rfl (x_mX1_judgeRole_j270 hH n x2 x3 x4 x5 x4 x2 (12 : Int32) hm hK)
  · have hm := ifn c40 hm
    refine oX_aload dX1_judgeRole_234 rfl ?_
    obtain ⟨a59, e59, hm⟩ := bd_s hm
    refine oX_getI fX1_214 rfl e59 dX1_judgeRole_236 ?_
    refine oX_aload dX1_judgeRole_239 rfl ?_
    obtain ⟨a60, e60, hm⟩ := bd_s hm
    refine oX_getI fX1_214 rfl e60 dX1_judgeRole_241 ?_
    refine oX_icmp_eq (tgt := 270) dX1_judgeRole_244 (by decide) (fun c61 => ?_) (fun c61 => ?_)
    · have hm := ifp c61 hm
      exact oX_sub [0, 1, 2, 3, 4] rfl (x_mX1_judgeRole_j270 hH n x2 x3 x4 x5 x4 x2 (12 : Int32) hm hK)
    · have hm := ifn c61 hm
      refine oX_aload dX1_judgeRole_247 rfl ?_
      refine oX_getI fX1_230 rfl e60 dX1_judgeRole_249 ?_
      refine oX_aload dX1_judgeRole_252 rfl ?_
      refine oX_getI fX1_282 rfl e59 dX1_judgeRole_254 ?_
      refine oX_isub dX1_judgeRole_257 ?_
      refine oX_aload dX1_judgeRole_258 rfl ?_
      obtain ⟨a62, e62, hm⟩ := bd_s hm
      refine oX_getI fX1_377 rfl e62 dX1_judgeRole_260 ?_
      refine oX_icmp_ge (tgt := 270) dX1_judgeRole_263 (by decide) (fun c63 => ?_) (fun c63 => ?_)
      · have hm := ifp c63 hm
        exact oX_sub [0, 1, 2, 3, 4] rfl (x_mX1_judgeRole_j270 hH n x2 x3 x4 x5 x4 x2 (12 : Int32) hm hK)
      · have hm := ifn c63 hm
        refine oX_iconst (v := (1 : Int32)) dX1_judgeRole_266 (by decide) ?_
        refine oX_goto (tgt := 271) dX1_judgeRole_267 (by decide) ?_
        exact oX_sub [0, 1, 2, 3, 4] rfl (x_mX1_judgeRole_j271 hH n x2 x3 x4 x5 x4 x2 (12 : Int32) (1 : Int32) hm hK)
noncomputable def mX1_judgeRole_j138 (n : Nat) (FI : OhI) (FR : OhQ) (GR : OhQ) (AI : OhI) (AR : OhQ) (BR : OhQ) (AN : OhN) (x1 : Int32) (x2 : Int32) (x3 : OhR) (x4 : OhR) (x5 : OhR) (y1 : OhR) (y2 : Int32) (y3 : Int32) : Option (OhI) :=
  mX1_judgeRole_j143 n FI FR GR AI AR BR AN x1 x2 x3 x4 x5 y1 y2 y3 (1 : Int32)
theorem x_mX1_judgeRole_j138 {G : OhG} {FI AI : OhI} {FL AL : OhL} {FR GR AR BR : OhQ} {AN : OhN} {C : OhC} {k : Nat × Nat} {Φ : OhP} {Ψ : OhX} (hH : ohShH FR AR AN) (n : Nat) (x1 : Int32) (x2 : Int32) (x3 : OhR) (x4 : OhR) (x5 : OhR) (y1 : OhR) (y2 : Int32) (y3 : Int32) {r : OhI} (hm : mX1_judgeRole_j138 n FI FR GR AI AR BR AN x1 x2 x3 x4 x5 y1 y2 y3 = some r) (hK : Φ none (FI, FL, FR, GR, r, AL, AR, BR, AN, C)) : oX G 6 iX1_judgeRole 138 [(0, vR (some (0, 0))), (1, vI x1), (2, vI x2), (3, vR x3), (4, vR x4), (5, vR x5)] [vI y3, vI y2, vR y1, vR (some (0, 0))] (FI, FL, FR, GR, AI, AL, AR, BR, AN, C) k Φ Ψ := by
  unfold mX1_judgeRole_j138 at hm
  refine oX_iconst (v := (1 : Int32)) dX1_judgeRole_138 (by decide) ?_
  refine oX_goto (tgt := 143) dX1_judgeRole_139 (by decide) ?_
  exact oX_sub [0, 1, 2, 3, 4, 5] rfl (x_mX1_judgeRole_j143 hH n x1 x2 x3 x4 x5 y1 y2 y3 (1 : Int32) hm hK)
noncomputable def mX1_judgeRole_j100 (n : Nat) (FI : OhI) (FR : OhQ) (GR : OhQ) (AI : OhI) (AR : OhQ) (BR : OhQ) (AN : OhN) (x1 : Int32) (x2 : Int32) (x3 : OhR) (x4 : OhR) (x5 : OhR) (y1 : OhR) (y2 : Int32) (y3 : Int32) (y4 : Int32) : Option (OhI) :=
  (mX1_blame FI FR AI AR BR AN y1 y2 y3 y4).bind fun r17 =>
  (oD 14 x4).bind fun a18 =>
  (oD 7 x5).bind fun a19 =>
  (mX8_isAway n FI FR GR AR BR AN a19 (FI a18.1 a18.2 1)).bind fun r20 =>
  (if r20 = 0 then
  (oD 6 x3).bind fun a22 =>
    (mX1_isIll n FI FR GR AR BR AN (FI a22.1 a22.2 0) (FI a18.1 a18.2 1)).bind fun r23 =>
    (if r23 = 0 then
    mX1_judgeRole_j143 n FI FR GR r17 AR BR AN x1 x2 x3 x4 x5 x4 x2 (10 : Int32) (0 : Int32)
  else
    mX1_judgeRole_j138 n FI FR GR r17 AR BR AN x1 x2 x3 x4 x5 x4 x2 (10 : Int32))
else
  mX1_judgeRole_j138 n FI FR GR r17 AR BR AN x1 x2 x3 x4 x5 x4 x2 (10 : Int32))
theorem x_mX1_judgeRole_j100 {G : OhG} {FI AI : OhI} {FL AL : OhL} {FR GR AR BR : OhQ} {AN : OhN} {C : OhC} {k : Nat × Nat} {Φ : OhP} {Ψ : OhX} (hH : ohShH FR AR AN) (n : Nat) (x1 : Int32) (x2 : Int32) (x3 : OhR) (x4 : OhR) (x5 : OhR) (y1 : OhR) (y2 : Int32) (y3 : Int32) (y4 : Int32) {r : OhI} (hm : mX1_judgeRole_j100 n FI FR GR AI AR BR AN x1 x2 x3 x4 x5 y1 y2 y3 y4 = some r) (hK : Φ none (FI, FL, FR, GR, r, AL, AR, BR, AN, C)) : oX G 6 iX1_judgeRole 100 [(0, vR (some (0, 0))), (1, vI x1), (2, vI x2), (3, vR x3), (4, vR x4), (5, vR x5)] [vI y4, vI y3, vI y2, vR y1, vR (some (0, 0))] (FI, FL, FR, GR, AI, AL, AR, BR, AN, C) k Φ Ψ := by
  unfold mX1_judgeRole_j100 at hm
  obtain ⟨r17, g17, hm⟩ := bd_s hm
  refine oX_cV_ (as := [vR y1, vI y2, vI y3, vI y4]) dX1_judgeRole_100 rfl oDs0 rfl (by decide) rfl ok_X1_blame rfl rfl q1454 q1456 qs30 q129 q1457 (by decide) (Nat.le_of_ble_eq_true rfl) (t_X1_blame hH y1 y2 y3 y4 g17) ?_
  refine oX_aload_n dX1_judgeRole_103 rfl rfl ?_
  refine oX_aload dX1_judgeRole_104 rfl ?_
  refine oX_iload_n dX1_judgeRole_106 rfl rfl ?_
  refine oX_bipush (v := (10 : Int32)) dX1_judgeRole_107 (by decide) ?_
  refine oX_aload dX1_judgeRole_109 rfl ?_
  refine oX_aload dX1_judgeRole_111 rfl ?_
  obtain ⟨a18, e18, hm⟩ := bd_s hm
  refine oX_getI fX1_214 rfl e18 dX1_judgeRole_113 ?_
  obtain ⟨a19, e19, hm⟩ := bd_s hm
  obtain ⟨r20, g20, hm⟩ := bd_s hm
  refine oX_cV (as := [vI (FI a18.1 a18.2 1)]) dX1_judgeRole_116 rfl e19 rfl (by decide) rfl ok_X8_isAway rfl rfl q1507 q1508 q1509 q143 q1510 (by decide) (Nat.le_of_ble_eq_true rfl) (t_X8_isAway n a19 ((oD_some e19).2) (FI a18.1 a18.2 1) g20) ?_
  refine oX_if_ne (tgt := 138) dX1_judgeRole_119 (by decide) (fun c21 => ?_) (fun c21 => ?_)
  · have hm := ifp c21 hm
    refine oX_aload_n dX1_judgeRole_122 rfl rfl ?_
    refine oX_aload_n dX1_judgeRole_123 rfl rfl ?_
    obtain ⟨a22, e22, hm⟩ := bd_s hm
    refine oX_getI fX1_356 rfl e22 dX1_judgeRole_124 ?_
    refine oX_aload dX1_judgeRole_127 rfl ?_
    refine oX_getI fX1_214 rfl e18 dX1_judgeRole_129 ?_
    obtain ⟨r23, g23, hm⟩ := bd_s hm
    refine oX_cV (as := [vI (FI a22.1 a22.2 0), vI (FI a18.1 a18.2 1)]) dX1_judgeRole_132 rfl oDs0 rfl (by decide) rfl ok_X1_isIll rfl rfl q1515 q1517 qs38 q129 q1518 (by decide) (Nat.le_of_ble_eq_true rfl) (t_X1_isIll hH n (FI a22.1 a22.2 0) (FI a18.1 a18.2 1) g23) ?_
    refine oX_if_eq (tgt := 142) dX1_judgeRole_135 (by decide) (fun c24 => ?_) (fun c24 => ?_)
    · have hm := ifp c24 hm
      refine oX_iconst (v := (0 : Int32)) dX1_judgeRole_142 (by decide) ?_
      exact oX_sub [0, 1, 2, 3, 4, 5] rfl (x_mX1_judgeRole_j143 hH n x1 x2 x3 x4 x5 x4 x2 (10 : Int32) (0 : Int32) hm hK)
    · have hm := ifn c24 hm
      exact oX_sub [0, 1, 2, 3, 4, 5] rfl (x_mX1_judgeRole_j138 hH n x1 x2 x3 x4 x5 x4 x2 (10 : Int32) hm hK)
  · have hm := ifn c21 hm
    exact oX_sub [0, 1, 2, 3, 4, 5] rfl (x_mX1_judgeRole_j138 hH n x1 x2 x3 x4 x5 x4 x2 (10 : Int32) hm hK)
noncomputable def mX1_judgeRole_j99 (n : Nat) (FI : OhI) (FR : OhQ) (GR : OhQ) (AI : OhI) (AR : OhQ) (BR : OhQ) (AN : OhN) (x1 : Int32) (x2 : Int32) (x3 : OhR) (x4 : OhR) (x5 : OhR) (y1 : OhR) (y2 : Int32) (y3 : Int32) : Option (OhI) :=
  mX1_judgeRole_j100 n FI FR GR AI AR BR AN x1 x2 x3 x4 x5 y1 y2 y3 (0 : Int32)
theorem x_mX1_judgeRole_j99 {G : OhG} {FI AI : OhI} {FL AL : OhL} {FR GR AR BR : OhQ} {AN : OhN} {C : OhC} {k : Nat × Nat} {Φ : OhP} {Ψ : OhX} (hH : ohShH FR AR AN) (n : Nat) (x1 : Int32) (x2 : Int32) (x3 : OhR) (x4 : OhR) (x5 : OhR) (y1 : OhR) (y2 : Int32) (y3 : Int32) {r : OhI} (hm : mX1_judgeRole_j99 n FI FR GR AI AR BR AN x1 x2 x3 x4 x5 y1 y2 y3 = some r) (hK : Φ none (FI, FL, FR, GR, r, AL, AR, BR, AN, C)) : oX G 6 iX1_judgeRole 99 [(0, vR (some (0, 0))), (1, vI x1), (2, vI x2), (3, vR x3), (4, vR x4), (5, vR x5)] [vI y3, vI y2, vR y1, vR (some (0, 0))] (FI, FL, FR, GR, AI, AL, AR, BR, AN, C) k Φ Ψ := by
  unfold mX1_judgeRole_j99 at hm
  refine oX_iconst (v := (0 : Int32)) dX1_judgeRole_99 (by decide) ?_
  exact oX_sub [0, 1, 2, 3, 4, 5] rfl (x_mX1_judgeRole_j100 hH n x1 x2 x3 x4 x5 y1 y2 y3 (0 : Int32) hm hK)
noncomputable def mX1_judgeRole_j47 (n : Nat) (FI : OhI) (FR : OhQ) (GR : OhQ) (AI : OhI) (AR : OhQ) (BR : OhQ) (AN : OhN) (x1 : Int32) (x2 : Int32) (x3 : OhR) (x4 : OhR) (x5 : OhR) (y1 : OhR) (y2 : Int32) (y3 : Int32) (y4 : Int32) : Option (OhI) :=
  (mX1_blame FI FR AI AR BR AN y1 y2 y3 y4).bind fun r10 =>
  (oD 14 x4).bind fun a11 =>
  (if (FI a11.1 a11.2 2) = (3 : Int32) then
  (oD 6 x3).bind fun a13 =>
    (mX1_learnedOf n FI FR GR r10 AR BR AN (FI a13.1 a13.2 0) (FR a11.1 a11.2 6) x2 (FI a11.1 a11.2 4)).bind fun r14 =>
    (oD 4 (FR a11.1 a11.2 6)).bind fun a15 =>
    (if (FI a15.1 a15.2 3) ≤ r14 then
    mX1_judgeRole_j99 n FI FR GR r10 AR BR AN x1 x2 x3 x4 x5 x4 x2 (9 : Int32)
  else
    mX1_judgeRole_j100 n FI FR GR r10 AR BR AN x1 x2 x3 x4 x5 x4 x2 (9 : Int32) (1 : Int32))
else
  mX1_judgeRole_j99 n FI FR GR r10 AR BR AN x1 x2 x3 x4 x5 x4 x2 (9 : Int32))
theorem x_mX1_judgeRole_j47 {G : OhG} {FI AI : OhI} {FL AL : OhL} {FR GR AR BR : OhQ} {AN : OhN} {C : OhC} {k : Nat × Nat} {Φ : OhP} {Ψ : OhX} (hH : ohShH FR AR AN) (n : Nat) (x1 : Int32) (x2 : Int32) (x3 : OhR) (x4 : OhR) (x5 : OhR) (y1 : OhR) (y2 : Int32) (y3 : Int32) (y4 : Int32) {r : OhI} (hm : mX1_judgeRole_j47 n FI FR GR AI AR BR AN x1 x2 x3 x4 x5 y1 y2 y3 y4 = some r) (hK : Φ none (FI, FL, FR, GR, r, AL, AR, BR, AN, C)) : oX G 6 iX1_judgeRole 47 [(0, vR (some (0, 0))), (1, vI x1), (2, vI x2), (3, vR x3), (4, vR x4), (5, vR x5)] [vI y4, vI y3, vI y2, vR y1, vR (some (0, 0))] (FI, FL, FR, GR, AI, AL, AR, BR, AN, C) k Φ Ψ := by
  unfold mX1_judgeRole_j47 at hm
  obtain ⟨r10, g10, hm⟩ := bd_s hm
  refine oX_cV_ (as := [vR y1, vI y2, vI y3, vI y4]) dX1_judgeRole_47 rfl oDs0 rfl (by decide) rfl ok_X1_blame rfl rfl q1454 q1456 qs30 q129 q1457 (by decide) (Nat.le_of_ble_eq_true rfl) (t_X1_blame hH y1 y2 y3 y4 g10) ?_
  refine oX_aload_n dX1_judgeRole_50 rfl rfl ?_
  refine oX_aload dX1_judgeRole_51 rfl ?_
  refine oX_iload_n dX1_judgeRole_53 rfl rfl ?_
  refine oX_bipush (v := (9 : Int32)) dX1_judgeRole_54 (by decide) ?_
  refine oX_aload dX1_judgeRole_56 rfl ?_
  obtain ⟨a11, e11, hm⟩ := bd_s hm
  refine oX_getI fX1_281 rfl e11 dX1_judgeRole_58 ?_
  refine oX_iconst (v := (3 : Int32)) dX1_judgeRole_61 (by decide) ?_
  refine oX_icmp_ne (tgt := 99) dX1_judgeRole_62 (by decide) (fun c12 => ?_) (fun c12 => ?_)
  · have hm := ifp c12 hm
    refine oX_aload_n dX1_judgeRole_65 rfl rfl ?_
    refine oX_aload_n dX1_judgeRole_66 rfl rfl ?_
    obtain ⟨a13, e13, hm⟩ := bd_s hm
    refine oX_getI fX1_356 rfl e13 dX1_judgeRole_67 ?_
    refine oX_aload dX1_judgeRole_70 rfl ?_
    refine oX_getF fX1_258 rfl e11 dX1_judgeRole_72 rfl ?_
    refine oX_iload_n dX1_judgeRole_75 rfl rfl ?_
    refine oX_aload dX1_judgeRole_76 rfl ?_
    refine oX_getI fX1_230 rfl e11 dX1_judgeRole_78 ?_
    obtain ⟨r14, g14, hm⟩ := bd_s hm
    refine oX_cV (as := [vI (FI a13.1 a13.2 0), vR (FR a11.1 a11.2 6), vI x2, vI (FI a11.1 a11.2 4)]) dX1_judgeRole_81 rfl oDs0 rfl (by decide) rfl ok_X1_learnedOf rfl rfl q1503 q1505 qs37 q129 q1506 (by decide) (Nat.le_of_ble_eq_true rfl) (t_X1_learnedOf hH n (FI a13.1 a13.2 0) (FR a11.1 a11.2 6) x2 (FI a11.1 a11.2 4) g14) ?_
    refine oX_aload dX1_judgeRole_84 rfl ?_
    refine oX_getF fX1_258 rfl e11 dX1_judgeRole_86 rfl ?_
    obtain ⟨a15, e15, hm⟩ := bd_s hm
    refine oX_getI fX1_361 rfl e15 dX1_judgeRole_89 ?_
    refine oX_icmp_ge (tgt := 99) dX1_judgeRole_92 (by decide) (fun c16 => ?_) (fun c16 => ?_)
    · have hm := ifp c16 hm
      exact oX_sub [0, 1, 2, 3, 4, 5] rfl (x_mX1_judgeRole_j99 hH n x1 x2 x3 x4 x5 x4 x2 (9 : Int32) hm hK)
    · have hm := ifn c16 hm
      refine oX_iconst (v := (1 : Int32)) dX1_judgeRole_95 (by decide) ?_
      refine oX_goto (tgt := 100) dX1_judgeRole_96 (by decide) ?_
      exact oX_sub [0, 1, 2, 3, 4, 5] rfl (x_mX1_judgeRole_j100 hH n x1 x2 x3 x4 x5 x4 x2 (9 : Int32) (1 : Int32) hm hK)
  · have hm := ifn c12 hm
    exact oX_sub [0, 1, 2, 3, 4, 5] rfl (x_mX1_judgeRole_j99 hH n x1 x2 x3 x4 x5 x4 x2 (9 : Int32) hm hK)
noncomputable def mX1_judgeRole (n : Nat) (FI : OhI) (FR : OhQ) (GR : OhQ) (AI : OhI) (AR : OhQ) (BR : OhQ) (AN : OhN) (x1 : Int32) (x2 : Int32) (x3 : OhR) : Option (OhI) :=
  gd (vp_in x1 66) <|
  (oD 6 x3).bind fun a2 =>
  (oD 14 (BR 316 0 x1.toNatClampNeg)).bind fun a3 =>
  (oD 4 (FR a3.1 a3.2 6)).bind fun a4 =>
  (oD 17 (FR a4.1 a4.2 6)).bind fun a5 =>
  (mJ2_get FI GR AR BR AN a5 x2).bind fun r6 =>
  (oD 5 r6).bind fun a7 =>
  (mX7_suits FI a2 (some a7)).bind fun r8 =>
  (if r8 = 0 then
  mX1_judgeRole_j47 n FI FR GR AI AR BR AN x1 x2 x3 (BR 316 0 x1.toNatClampNeg) (GR a2.1 a2.2 4) (BR 316 0 x1.toNatClampNeg) x2 (8 : Int32) (1 : Int32)
else
  mX1_judgeRole_j47 n FI FR GR AI AR BR AN x1 x2 x3 (BR 316 0 x1.toNatClampNeg) (GR a2.1 a2.2 4) (BR 316 0 x1.toNatClampNeg) x2 (8 : Int32) (0 : Int32))
theorem x_mX1_judgeRole {G : OhG} {FI AI : OhI} {FL AL : OhL} {FR GR AR BR : OhQ} {AN : OhN} {C : OhC} {k : Nat × Nat} {Φ : OhP} {Ψ : OhX} (hH : ohShH FR AR AN) (n : Nat) (x1 : Int32) (x2 : Int32) (x3 : OhR) {r : OhI} (hm : mX1_judgeRole n FI FR GR AI AR BR AN x1 x2 x3 = some r) (hK : Φ none (FI, FL, FR, GR, r, AL, AR, BR, AN, C)) : oX G 6 iX1_judgeRole 0 [(0, vR (some (0, 0))), (1, vI x1), (2, vI x2), (3, vR x3)] [] (FI, FL, FR, GR, AI, AL, AR, BR, AN, C) k Φ Ψ := by
  unfold mX1_judgeRole at hm
  refine oX_aload_n dX1_judgeRole_0 rfl rfl ?_
  refine oX_getF fX1_58 rfl oDs0 dX1_judgeRole_1 (ohF316 hH) ?_
  refine oX_iload_n dX1_judgeRole_4 rfl rfl ?_
  obtain ⟨g1, hm⟩ := gd_s hm
  refine oX_aaldC oDs316 (oIn (ohN316 hH) g1) dX1_judgeRole_5 rfl ?_
  refine oX_astore (ls' := [(4, vR (BR 316 0 x1.toNatClampNeg)), (0, vR (some (0, 0))), (1, vI x1), (2, vI x2), (3, vR x3)]) dX1_judgeRole_6 (by decide) rfl ?_
  refine oX_aload_n dX1_judgeRole_8 rfl rfl ?_
  obtain ⟨a2, e2, hm⟩ := bd_s hm
  refine oX_getG fX1_175 rfl e2 dX1_judgeRole_9 ?_
  refine oX_astore (ls' := [(5, vR (GR a2.1 a2.2 4)), (4, vR (BR 316 0 x1.toNatClampNeg)), (0, vR (some (0, 0))), (1, vI x1), (2, vI x2), (3, vR x3)]) dX1_judgeRole_12 (by decide) rfl ?_
  refine oX_aload_n dX1_judgeRole_14 rfl rfl ?_
  refine oX_aload dX1_judgeRole_15 rfl ?_
  refine oX_iload_n dX1_judgeRole_17 rfl rfl ?_
  refine oX_bipush (v := (8 : Int32)) dX1_judgeRole_18 (by decide) ?_
  refine oX_aload_n dX1_judgeRole_20 rfl rfl ?_
  refine oX_aload dX1_judgeRole_21 rfl ?_
  obtain ⟨a3, e3, hm⟩ := bd_s hm
  refine oX_getF fX1_258 rfl e3 dX1_judgeRole_23 rfl ?_
  obtain ⟨a4, e4, hm⟩ := bd_s hm
  refine oX_getF fX1_137 rfl e4 dX1_judgeRole_26 rfl ?_
  refine oX_iload_n dX1_judgeRole_29 rfl rfl ?_
  obtain ⟨a5, e5, hm⟩ := bd_s hm
  obtain ⟨r6, g6, hm⟩ := bd_s hm
  refine oX_cV (as := [vI x2]) dX1_judgeRole_30 rfl e5 rfl (by decide) rfl ok_J2_get rfl rfl q648 q649 q650 q132 q651 (by decide) (Nat.le_of_ble_eq_true rfl) (t_J2_get a5 ((oD_some e5).2) x2 g6) ?_
  obtain ⟨a7, e7, hm⟩ := bd_s hm
  refine oX_cast e7 rfl (by decide) q472 dX1_judgeRole_33 ?_
  obtain ⟨r8, g8, hm⟩ := bd_s hm
  refine oX_cV (as := [vR (some a7)]) dX1_judgeRole_36 rfl e2 rfl (by decide) rfl ok_X7_suits rfl rfl q1496 q1497 q1498 q142 q1499 (by decide) (Nat.le_of_ble_eq_true rfl) (t_X7_suits a2 ((oD_some e2).2) (some a7) g8) ?_
  refine oX_if_ne (tgt := 46) dX1_judgeRole_39 (by decide) (fun c9 => ?_) (fun c9 => ?_)
  · have hm := ifp c9 hm
    refine oX_iconst (v := (1 : Int32)) dX1_judgeRole_42 (by decide) ?_
    refine oX_goto (tgt := 47) dX1_judgeRole_43 (by decide) ?_
    exact oX_sub [2, 3, 4, 5, 1, 0] rfl (x_mX1_judgeRole_j47 hH n x1 x2 x3 (BR 316 0 x1.toNatClampNeg) (GR a2.1 a2.2 4) (BR 316 0 x1.toNatClampNeg) x2 (8 : Int32) (1 : Int32) hm hK)
  · have hm := ifn c9 hm
    refine oX_iconst (v := (0 : Int32)) dX1_judgeRole_46 (by decide) ?_
    exact oX_sub [2, 3, 4, 5, 1, 0] rfl (x_mX1_judgeRole_j47 hH n x1 x2 x3 (BR 316 0 x1.toNatClampNeg) (GR a2.1 a2.2 4) (BR 316 0 x1.toNatClampNeg) x2 (8 : Int32) (0 : Int32) hm hK)
theorem t_X1_judgeRole {G : OhG} {FI AI : OhI} {FL AL : OhL} {FR GR AR BR : OhQ} {AN : OhN} {C : OhC} (hH : ohShH FR AR AN) (n : Nat) (x1 : Int32) (x2 : Int32) (x3 : OhR) {o : OhI} (hm : mX1_judgeRole n FI FR GR AI AR BR AN x1 x2 x3 = some o) : oT G 6 iX1_judgeRole [vR (some (0, 0)), vI x1, vI x2, vR x3] (FI, FL, FR, GR, AI, AL, AR, BR, AN, C) (0, 0) (fun v h => v = none ∧ h = (FI, FL, FR, GR, o, AL, AR, BR, AN, C)) ohNo :=
  oT_of (by decide) rfl (Nat.le_of_ble_eq_true rfl) (x_mX1_judgeRole hH n x1 x2 x3 hm ⟨rfl, rfl⟩)
abbrev iX1_judge : OhM := (yX1_judge, cX1_judge, 5, none, [])
theorem ok_X1_judge : oOk iX1_judge 0 := ⟨by decide, by decide, by decide +kernel⟩
noncomputable def mX1_judge_b23 (n : Nat) (FI : OhI) (FR : OhQ) (GR : OhQ) (AI : OhI) (AR : OhQ) (BR : OhQ) (AN : OhN) (x1 : Int32) (x2 : OhR) (x3 : Int32) : Option ((Int32 × OhI) ⊕ (OhI)) :=
  (if (8 : Int32) ≤ x3 then
  some (.inr AI)
else
  (oD 14 x2).bind fun a5 =>
    gd (vp_in (FI a5.1 a5.2 0) 66) <|
    gd (vp_in x3 9) <|
    oLet (sA AI 422 ((FI a5.1 a5.2 0).toNatClampNeg) (uA (AI 422 ((FI a5.1 a5.2 0).toNatClampNeg)) x3.toNatClampNeg (0 : Int32))) fun AI7 =>
    some (.inl (x3 + (1 : Int32), AI7)))
theorem x_mX1_judge_b23 {G : OhG} {FI AI : OhI} {FL AL : OhL} {FR GR AR BR : OhQ} {AN : OhN} {C : OhC} {k : Nat × Nat} {Φ : OhP} {Ψ : OhX} (hH : ohShH FR AR AN) (n : Nat) (x1 : Int32) (x2 : OhR) (x3 : Int32) {r : (Int32 × OhI) ⊕ (OhI)} (hm : mX1_judge_b23 n FI FR GR AI AR BR AN x1 x2 x3 = some r) (hk : ∀ v : Int32 × OhI, r = .inl v → oX G 7 iX1_judge 23 [(0, vR (some (0, 0))), (1, vI x1), (2, vR x2), (3, vI v.1)] [] (FI, FL, FR, GR, v.2, AL, AR, BR, AN, C) k Φ Ψ) (hx1 : ∀ v : OhI, r = .inr v → oX G 7 iX1_judge 47 [(0, vR (some (0, 0))), (1, vI x1), (2, vR x2)] [] (FI, FL, FR, GR, v, AL, AR, BR, AN, C) k Φ Ψ) : oX G 7 iX1_judge 23 [(0, vR (some (0, 0))), (1, vI x1), (2, vR x2), (3, vI x3)] [] (FI, FL, FR, GR, AI, AL, AR, BR, AN, C) k Φ Ψ := by
  unfold mX1_judge_b23 at hm
  refine oX_iload_n dX1_judge_23 rfl rfl ?_
  refine oX_bipush (v := (8 : Int32)) dX1_judge_24 (by decide) ?_
  refine oX_icmp_ge (tgt := 47) dX1_judge_26 (by decide) (fun c4 => ?_) (fun c4 => ?_)
  · have hm := ifp c4 hm
    exact oX_sub [0, 1, 2] rfl (hx1 AI (Option.some.inj hm).symm)
  · have hm := ifn c4 hm
    refine oX_aload_n dX1_judge_29 rfl rfl ?_
    refine oX_getF fX1_73 rfl oDs0 dX1_judge_30 (ohF322 hH) ?_
    refine oX_aload_n dX1_judge_33 rfl rfl ?_
    obtain ⟨a5, e5, hm⟩ := bd_s hm
    refine oX_getI fX1_233 rfl e5 dX1_judge_34 ?_
    obtain ⟨g6, hm⟩ := gd_s hm
    refine oX_aaldR oDs322 (oIn (ohN322 hH) g6) dX1_judge_37 (ohA322 hH (oLt g6)) ?_
    refine oX_iload_n dX1_judge_38 rfl rfl ?_
    refine oX_iconst (v := (0 : Int32)) dX1_judge_39 (by decide) ?_
    obtain ⟨g7, hm⟩ := gd_s hm
    obtain ⟨AI7, hAI7, hm⟩ := oLs hm
    refine oX_iast oDs422 (oIn (ohM422 hH (oLt g6)) g7) dX1_judge_40 hAI7 ?_
    refine oX_iinc (v := x3 + (1 : Int32)) (ls' := [(3, vI (x3 + (1 : Int32))), (0, vR (some (0, 0))), (1, vI x1), (2, vR x2)]) dX1_judge_41 rfl rfl (by decide) rfl ?_
    refine oX_goto (tgt := 23) dX1_judge_44 (by decide) ?_
    exact oX_sub [1, 2, 3, 0] rfl (hk (x3 + (1 : Int32), AI7) (Option.some.inj hm).symm)
theorem l_mX1_judge_b23 {G : OhG} {FI : OhI} {FL : OhL} {FR : OhQ} {GR : OhQ} {AL : OhL} {AR : OhQ} {BR : OhQ} {AN : OhN} {C : OhC} {k : Nat × Nat} {Φ : OhP} {Ψ : OhX} (hH : ohShH FR AR AN) (n : Nat) (x1 : Int32) (x2 : OhR) : ∀ (f : Nat) (x3 : Int32) (AI : OhI) (b : (OhI)), lpF (fun v => mX1_judge_b23 n FI FR GR v.2 AR BR AN x1 x2 v.1) f (x3, AI) = some b → (oX G 7 iX1_judge 47 [(0, vR (some (0, 0))), (1, vI x1), (2, vR x2)] [] (FI, FL, FR, GR, b, AL, AR, BR, AN, C) k Φ Ψ) → oX G 7 iX1_judge 23 [(0, vR (some (0, 0))), (1, vI x1), (2, vR x2), (3, vI x3)] [] (FI, FL, FR, GR, AI, AL, AR, BR, AN, C) k Φ Ψ := by
  intro f
  induction f with
  | zero =>
    intro x3 AI b hm
    cases hm
  | succ f ih =>
    intro x3 AI b hm hx1
    obtain ⟨r, hr, hm⟩ := lp_s hm
    refine x_mX1_judge_b23 hH n x1 x2 x3 hr (fun v e => ?_) (fun v e => ?_)
    · subst e; exact ih v.1 v.2 _ hm hx1
    · subst e; cases (show v = b from hm); exact hx1
noncomputable def mX1_judge_j198 (n : Nat) (FI : OhI) (FR : OhQ) (GR : OhQ) (AI : OhI) (AR : OhQ) (BR : OhQ) (AN : OhN) (x1 : Int32) (x2 : OhR) (x3 : Int32) (x4 : Int32) (y1 : OhR) (y2 : Int32) (y3 : Int32) (y4 : Int32) : Option ((Int32 × OhI) ⊕ (OhI)) :=
  (mX1_blame FI FR AI AR BR AN y1 y2 y3 y4).bind fun r32 =>
  (if x4 = (-1 : Int32) then
  some (.inl (x3 + (1 : Int32), r32))
else
  (mJ2_get FI GR AR BR AN (310, 0) x4).bind fun r34 =>
    (oD 6 r34).bind fun a35 =>
    (mX1_judgeRole n FI FR GR r32 AR BR AN x1 x3 (some a35)).bind fun r36 =>
    some (.inl (x3 + (1 : Int32), r36)))
theorem x_mX1_judge_j198 {G : OhG} {FI AI : OhI} {FL AL : OhL} {FR GR AR BR : OhQ} {AN : OhN} {C : OhC} {k : Nat × Nat} {Φ : OhP} {Ψ : OhX} (hH : ohShH FR AR AN) (n : Nat) (x1 : Int32) (x2 : OhR) (x3 : Int32) (x4 : Int32) (y1 : OhR) (y2 : Int32) (y3 : Int32) (y4 : Int32) {r : (Int32 × OhI) ⊕ (OhI)} (hm : mX1_judge_j198 n FI FR GR AI AR BR AN x1 x2 x3 x4 y1 y2 y3 y4 = some r) (hk : ∀ v : Int32 × OhI, r = .inl v → oX G 7 iX1_judge 161 [(0, vR (some (0, 0))), (1, vI x1), (2, vR x2), (3, vI v.1)] [] (FI, FL, FR, GR, v.2, AL, AR, BR, AN, C) k Φ Ψ) (hx1 : ∀ v : OhI, r = .inr v → oX G 7 iX1_judge 231 [(0, vR (some (0, 0))), (1, vI x1)] [] (FI, FL, FR, GR, v, AL, AR, BR, AN, C) k Φ Ψ) : oX G 7 iX1_judge 198 [(0, vR (some (0, 0))), (1, vI x1), (2, vR x2), (3, vI x3), (4, vI x4)] [vI y4, vI y3, vI y2, vR y1, vR (some (0, 0))] (FI, FL, FR, GR, AI, AL, AR, BR, AN, C) k Φ Ψ := by
  unfold mX1_judge_j198 at hm
  obtain ⟨r32, g32, hm⟩ := bd_s hm
  refine oX_cV_ (as := [vR y1, vI y2, vI y3, vI y4]) dX1_judge_198 rfl oDs0 rfl (by decide) rfl ok_X1_blame rfl rfl q1454 q1456 qs30 q129 q1457 (by decide) (Nat.le_of_ble_eq_true rfl) (t_X1_blame hH y1 y2 y3 y4 g32) ?_
  refine oX_iload dX1_judge_201 rfl ?_
  refine oX_iconst (v := (-1 : Int32)) dX1_judge_203 (by decide) ?_
  refine oX_icmp_eq (tgt := 225) dX1_judge_204 (by decide) (fun c33 => ?_) (fun c33 => ?_)
  · have hm := ifp c33 hm
    refine oX_iinc (v := x3 + (1 : Int32)) (ls' := [(3, vI (x3 + (1 : Int32))), (0, vR (some (0, 0))), (1, vI x1), (2, vR x2), (4, vI x4)]) dX1_judge_225 rfl rfl (by decide) rfl ?_
    refine oX_goto (tgt := 161) dX1_judge_228 (by decide) ?_
    exact oX_sub [1, 2, 3, 0] rfl (hk (x3 + (1 : Int32), r32) (Option.some.inj hm).symm)
  · have hm := ifn c33 hm
    refine oX_aload_n dX1_judge_207 rfl rfl ?_
    refine oX_iload_n dX1_judge_208 rfl rfl ?_
    refine oX_iload_n dX1_judge_209 rfl rfl ?_
    refine oX_aload_n dX1_judge_210 rfl rfl ?_
    refine oX_getF fX1_34 rfl oDs0 dX1_judge_211 (ohF310 hH) ?_
    refine oX_iload dX1_judge_214 rfl ?_
    obtain ⟨r34, g34, hm⟩ := bd_s hm
    refine oX_cV (as := [vI x4]) dX1_judge_216 rfl oDs310 rfl (by decide) rfl ok_J2_get rfl rfl q648 q649 q650 q132 q651 (by decide) (Nat.le_of_ble_eq_true rfl) (t_J2_get (310, 0) rfl x4 g34) ?_
    obtain ⟨a35, e35, hm⟩ := bd_s hm
    refine oX_cast e35 rfl (by decide) q565 dX1_judge_219 ?_
    obtain ⟨r36, g36, hm⟩ := bd_s hm
    refine oX_cV_ (as := [vI x1, vI x3, vR (some a35)]) dX1_judge_222 rfl oDs0 rfl (by decide) rfl ok_X1_judgeRole rfl rfl q1492 q1494 qs36 q129 q1495 (by decide) (Nat.le_of_ble_eq_true rfl) (t_X1_judgeRole hH n x1 x3 (some a35) g36) ?_
    refine oX_iinc (v := x3 + (1 : Int32)) (ls' := [(3, vI (x3 + (1 : Int32))), (0, vR (some (0, 0))), (1, vI x1), (2, vR x2), (4, vI x4)]) dX1_judge_225 rfl rfl (by decide) rfl ?_
    refine oX_goto (tgt := 161) dX1_judge_228 (by decide) ?_
    exact oX_sub [1, 2, 3, 0] rfl (hk (x3 + (1 : Int32), r36) (Option.some.inj hm).symm)
noncomputable def mX1_judge_b161 (n : Nat) (FI : OhI) (FR : OhQ) (GR : OhQ) (AI : OhI) (AR : OhQ) (BR : OhQ) (AN : OhN) (x1 : Int32) (x2 : OhR) (x3 : Int32) : Option ((Int32 × OhI) ⊕ (OhI)) :=
  (oD 14 x2).bind fun a26 =>
  (mX15_roles FI FR a26).bind fun r27 =>
  (if r27 ≤ x3 then
  some (.inr AI)
else
  gd (vp_in (FI a26.1 a26.2 0) 66) <|
    gd (vp_in x3 8) <|
    (if (AI 419 ((FI a26.1 a26.2 0).toNatClampNeg) x3.toNatClampNeg) = (-1 : Int32) then
    mX1_judge_j198 n FI FR GR AI AR BR AN x1 x2 x3 (AI 419 ((FI a26.1 a26.2 0).toNatClampNeg) x3.toNatClampNeg) x2 x3 (7 : Int32) (1 : Int32)
  else
    mX1_judge_j198 n FI FR GR AI AR BR AN x1 x2 x3 (AI 419 ((FI a26.1 a26.2 0).toNatClampNeg) x3.toNatClampNeg) x2 x3 (7 : Int32) (0 : Int32)))
theorem x_mX1_judge_b161 {G : OhG} {FI AI : OhI} {FL AL : OhL} {FR GR AR BR : OhQ} {AN : OhN} {C : OhC} {k : Nat × Nat} {Φ : OhP} {Ψ : OhX} (hH : ohShH FR AR AN) (n : Nat) (x1 : Int32) (x2 : OhR) (x3 : Int32) {r : (Int32 × OhI) ⊕ (OhI)} (hm : mX1_judge_b161 n FI FR GR AI AR BR AN x1 x2 x3 = some r) (hk : ∀ v : Int32 × OhI, r = .inl v → oX G 7 iX1_judge 161 [(0, vR (some (0, 0))), (1, vI x1), (2, vR x2), (3, vI v.1)] [] (FI, FL, FR, GR, v.2, AL, AR, BR, AN, C) k Φ Ψ) (hx1 : ∀ v : OhI, r = .inr v → oX G 7 iX1_judge 231 [(0, vR (some (0, 0))), (1, vI x1)] [] (FI, FL, FR, GR, v, AL, AR, BR, AN, C) k Φ Ψ) : oX G 7 iX1_judge 161 [(0, vR (some (0, 0))), (1, vI x1), (2, vR x2), (3, vI x3)] [] (FI, FL, FR, GR, AI, AL, AR, BR, AN, C) k Φ Ψ := by
  unfold mX1_judge_b161 at hm
  refine oX_iload_n dX1_judge_161 rfl rfl ?_
  refine oX_aload_n dX1_judge_162 rfl rfl ?_
  obtain ⟨a26, e26, hm⟩ := bd_s hm
  obtain ⟨r27, g27, hm⟩ := bd_s hm
  refine oX_cV (as := []) dX1_judge_163 rfl e26 rfl (by decide) rfl ok_X15_roles rfl rfl q1352 q1353 q1354 q165 q1355 (by decide) (Nat.le_of_ble_eq_true rfl) (t_X15_roles a26 ((oD_some e26).2) g27) ?_
  refine oX_icmp_ge (tgt := 231) dX1_judge_166 (by decide) (fun c28 => ?_) (fun c28 => ?_)
  · have hm := ifp c28 hm
    exact oX_sub [0, 1] rfl (hx1 AI (Option.some.inj hm).symm)
  · have hm := ifn c28 hm
    refine oX_aload_n dX1_judge_169 rfl rfl ?_
    refine oX_getF fX1_64 rfl oDs0 dX1_judge_170 (ohF319 hH) ?_
    refine oX_aload_n dX1_judge_173 rfl rfl ?_
    refine oX_getI fX1_233 rfl e26 dX1_judge_174 ?_
    obtain ⟨g29, hm⟩ := gd_s hm
    refine oX_aaldR oDs319 (oIn (ohN319 hH) g29) dX1_judge_177 (ohA319 hH (oLt g29)) ?_
    refine oX_iload_n dX1_judge_178 rfl rfl ?_
    obtain ⟨g30, hm⟩ := gd_s hm
    refine oX_iald oDs419 (oIn (ohM419 hH (oLt g29)) g30) dX1_judge_179 ?_
    refine oX_istore (ls' := [(4, vI (AI 419 ((FI a26.1 a26.2 0).toNatClampNeg) x3.toNatClampNeg)), (0, vR (some (0, 0))), (1, vI x1), (2, vR x2), (3, vI x3)]) dX1_judge_180 (by decide) rfl ?_
    refine oX_aload_n dX1_judge_182 rfl rfl ?_
    refine oX_aload_n dX1_judge_183 rfl rfl ?_
    refine oX_iload_n dX1_judge_184 rfl rfl ?_
    refine oX_bipush (v := (7 : Int32)) dX1_judge_185 (by decide) ?_
    refine oX_iload dX1_judge_187 rfl ?_
    refine oX_iconst (v := (-1 : Int32)) dX1_judge_189 (by decide) ?_
    refine oX_icmp_ne (tgt := 197) dX1_judge_190 (by decide) (fun c31 => ?_) (fun c31 => ?_)
    · have hm := ifp c31 hm
      refine oX_iconst (v := (1 : Int32)) dX1_judge_193 (by decide) ?_
      refine oX_goto (tgt := 198) dX1_judge_194 (by decide) ?_
      exact oX_sub [1, 2, 3, 4, 0] rfl (x_mX1_judge_j198 hH n x1 x2 x3 (AI 419 ((FI a26.1 a26.2 0).toNatClampNeg) x3.toNatClampNeg) x2 x3 (7 : Int32) (1 : Int32) hm hk hx1)
    · have hm := ifn c31 hm
      refine oX_iconst (v := (0 : Int32)) dX1_judge_197 (by decide) ?_
      exact oX_sub [1, 2, 3, 4, 0] rfl (x_mX1_judge_j198 hH n x1 x2 x3 (AI 419 ((FI a26.1 a26.2 0).toNatClampNeg) x3.toNatClampNeg) x2 x3 (7 : Int32) (0 : Int32) hm hk hx1)
theorem l_mX1_judge_b161 {G : OhG} {FI : OhI} {FL : OhL} {FR : OhQ} {GR : OhQ} {AL : OhL} {AR : OhQ} {BR : OhQ} {AN : OhN} {C : OhC} {k : Nat × Nat} {Φ : OhP} {Ψ : OhX} (hH : ohShH FR AR AN) (n : Nat) (x1 : Int32) (x2 : OhR) : ∀ (f : Nat) (x3 : Int32) (AI : OhI) (b : (OhI)), lpF (fun v => mX1_judge_b161 n FI FR GR v.2 AR BR AN x1 x2 v.1) f (x3, AI) = some b → (oX G 7 iX1_judge 231 [(0, vR (some (0, 0))), (1, vI x1)] [] (FI, FL, FR, GR, b, AL, AR, BR, AN, C) k Φ Ψ) → oX G 7 iX1_judge 161 [(0, vR (some (0, 0))), (1, vI x1), (2, vR x2), (3, vI x3)] [] (FI, FL, FR, GR, AI, AL, AR, BR, AN, C) k Φ Ψ := by
  intro f
  induction f with
  | zero =>
    intro x3 AI b hm
    cases hm
  | succ f ih =>
    intro x3 AI b hm hx1
    obtain ⟨r, hr, hm⟩ := lp_s hm
    refine x_mX1_judge_b161 hH n x1 x2 x3 hr (fun v e => ?_) (fun v e => ?_)
    · subst e; exact ih v.1 v.2 _ hm hx1
    · subst e; cases (show v = b from hm); exact hx1
noncomputable def mX1_judge_j156 (n : Nat) (FI : OhI) (FR : OhQ) (GR : OhQ) (AI : OhI) (AR : OhQ) (BR : OhQ) (AN : OhN) (x1 : Int32) (x2 : OhR) (y1 : OhR) (y2 : Int32) (y3 : Int32) (y4 : Int32) : Option ((Int32 × OhI) ⊕ (OhI)) :=
  (mX1_blame FI FR AI AR BR AN y1 y2 y3 y4).bind fun r25 =>
  (lpF (fun v => mX1_judge_b161 n FI FR GR v.2 AR BR AN x1 x2 v.1) n ((0 : Int32), r25)).bind fun v37 =>
  some (.inl (x1 + (1 : Int32), v37))
theorem x_mX1_judge_j156 {G : OhG} {FI AI : OhI} {FL AL : OhL} {FR GR AR BR : OhQ} {AN : OhN} {C : OhC} {k : Nat × Nat} {Φ : OhP} {Ψ : OhX} (hH : ohShH FR AR AN) (n : Nat) (x1 : Int32) (x2 : OhR) (y1 : OhR) (y2 : Int32) (y3 : Int32) (y4 : Int32) {r : (Int32 × OhI) ⊕ (OhI)} (hm : mX1_judge_j156 n FI FR GR AI AR BR AN x1 x2 y1 y2 y3 y4 = some r) (hk : ∀ v : Int32 × OhI, r = .inl v → oX G 7 iX1_judge 6 [(0, vR (some (0, 0))), (1, vI v.1)] [] (FI, FL, FR, GR, v.2, AL, AR, BR, AN, C) k Φ Ψ) (hx1 : ∀ v : OhI, r = .inr v → oX G 7 iX1_judge 237 [] [] (FI, FL, FR, GR, v, AL, AR, BR, AN, C) k Φ Ψ) : oX G 7 iX1_judge 156 [(0, vR (some (0, 0))), (1, vI x1), (2, vR x2)] [vI y4, vI y3, vI y2, vR y1, vR (some (0, 0))] (FI, FL, FR, GR, AI, AL, AR, BR, AN, C) k Φ Ψ := by
  unfold mX1_judge_j156 at hm
  obtain ⟨r25, g25, hm⟩ := bd_s hm
  refine oX_cV_ (as := [vR y1, vI y2, vI y3, vI y4]) dX1_judge_156 rfl oDs0 rfl (by decide) rfl ok_X1_blame rfl rfl q1454 q1456 qs30 q129 q1457 (by decide) (Nat.le_of_ble_eq_true rfl) (t_X1_blame hH y1 y2 y3 y4 g25) ?_
  refine oX_iconst (v := (0 : Int32)) dX1_judge_159 (by decide) ?_
  refine oX_istore_n (ls' := [(3, vI (0 : Int32)), (0, vR (some (0, 0))), (1, vI x1), (2, vR x2)]) dX1_judge_160 rfl (by decide) rfl ?_
  obtain ⟨v37, g37, hm⟩ := bd_s hm
  refine oX_sub [1, 2, 3, 0] rfl (l_mX1_judge_b161 hH n x1 x2 n (0 : Int32) r25 _ g37 ?_)
  refine oX_iinc (v := x1 + (1 : Int32)) (ls' := [(1, vI (x1 + (1 : Int32))), (0, vR (some (0, 0)))]) dX1_judge_231 rfl rfl (by decide) rfl ?_
  refine oX_goto (tgt := 6) dX1_judge_234 (by decide) ?_
  exact oX_sub [1, 0] rfl (hk (x1 + (1 : Int32), v37) (Option.some.inj hm).symm)
noncomputable def mX1_judge_j155 (n : Nat) (FI : OhI) (FR : OhQ) (GR : OhQ) (AI : OhI) (AR : OhQ) (BR : OhQ) (AN : OhN) (x1 : Int32) (x2 : OhR) (y1 : OhR) (y2 : Int32) (y3 : Int32) : Option ((Int32 × OhI) ⊕ (OhI)) :=
  mX1_judge_j156 n FI FR GR AI AR BR AN x1 x2 y1 y2 y3 (0 : Int32)
theorem x_mX1_judge_j155 {G : OhG} {FI AI : OhI} {FL AL : OhL} {FR GR AR BR : OhQ} {AN : OhN} {C : OhC} {k : Nat × Nat} {Φ : OhP} {Ψ : OhX} (hH : ohShH FR AR AN) (n : Nat) (x1 : Int32) (x2 : OhR) (y1 : OhR) (y2 : Int32) (y3 : Int32) {r : (Int32 × OhI) ⊕ (OhI)} (hm : mX1_judge_j155 n FI FR GR AI AR BR AN x1 x2 y1 y2 y3 = some r) (hk : ∀ v : Int32 × OhI, r = .inl v → oX G 7 iX1_judge 6 [(0, vR (some (0, 0))), (1, vI v.1)] [] (FI, FL, FR, GR, v.2, AL, AR, BR, AN, C) k Φ Ψ) (hx1 : ∀ v : OhI, r = .inr v → oX G 7 iX1_judge 237 [] [] (FI, FL, FR, GR, v, AL, AR, BR, AN, C) k Φ Ψ) : oX G 7 iX1_judge 155 [(0, vR (some (0, 0))), (1, vI x1), (2, vR x2)] [vI y3, vI y2, vR y1, vR (some (0, 0))] (FI, FL, FR, GR, AI, AL, AR, BR, AN, C) k Φ Ψ := by
  unfold mX1_judge_j155 at hm
  refine oX_iconst (v := (0 : Int32)) dX1_judge_155 (by decide) ?_
  exact oX_sub [0, 1, 2] rfl (x_mX1_judge_j156 hH n x1 x2 y1 y2 y3 (0 : Int32) hm hk hx1)
noncomputable def mX1_judge_j114 (n : Nat) (FI : OhI) (FR : OhQ) (GR : OhQ) (AI : OhI) (AR : OhQ) (BR : OhQ) (AN : OhN) (x1 : Int32) (x2 : OhR) (y1 : OhR) (y2 : Int32) (y3 : Int32) (y4 : Int32) : Option ((Int32 × OhI) ⊕ (OhI)) :=
  (mX1_blame FI FR AI AR BR AN y1 y2 y3 y4).bind fun r19 =>
  (mX1_isPlaying n FI FR AR BR AN x1).bind fun r20 =>
  (mX1_blame FI FR r19 AR BR AN x2 (8 : Int32) (5 : Int32) r20).bind fun r21 =>
  (oD 14 x2).bind fun a22 =>
  (mX15_hasChorus FI FR a22).bind fun r23 =>
  (if r23 = 0 then
  mX1_judge_j155 n FI FR GR r21 AR BR AN x1 x2 x2 (8 : Int32) (6 : Int32)
else
  (mX1_isChorusOver n FI FR AR BR AN x1).bind fun r38 =>
    (if r38 = 0 then
    mX1_judge_j155 n FI FR GR r21 AR BR AN x1 x2 x2 (8 : Int32) (6 : Int32)
  else
    mX1_judge_j156 n FI FR GR r21 AR BR AN x1 x2 x2 (8 : Int32) (6 : Int32) (1 : Int32)))
theorem x_mX1_judge_j114 {G : OhG} {FI AI : OhI} {FL AL : OhL} {FR GR AR BR : OhQ} {AN : OhN} {C : OhC} {k : Nat × Nat} {Φ : OhP} {Ψ : OhX} (hH : ohShH FR AR AN) (n : Nat) (x1 : Int32) (x2 : OhR) (y1 : OhR) (y2 : Int32) (y3 : Int32) (y4 : Int32) {r : (Int32 × OhI) ⊕ (OhI)} (hm : mX1_judge_j114 n FI FR GR AI AR BR AN x1 x2 y1 y2 y3 y4 = some r) (hk : ∀ v : Int32 × OhI, r = .inl v → oX G 7 iX1_judge 6 [(0, vR (some (0, 0))), (1, vI v.1)] [] (FI, FL, FR, GR, v.2, AL, AR, BR, AN, C) k Φ Ψ) (hx1 : ∀ v : OhI, r = .inr v → oX G 7 iX1_judge 237 [] [] (FI, FL, FR, GR, v, AL, AR, BR, AN, C) k Φ Ψ) : oX G 7 iX1_judge 114 [(0, vR (some (0, 0))), (1, vI x1), (2, vR x2)] [vI y4, vI y3, vI y2, vR y1, vR (some (0, 0))] (FI, FL, FR, GR, AI, AL, AR, BR, AN, C) k Φ Ψ := by
  unfold mX1_judge_j114 at hm
  obtain ⟨r19, g19, hm⟩ := bd_s hm
  refine oX_cV_ (as := [vR y1, vI y2, vI y3, vI y4]) dX1_judge_114 rfl oDs0 rfl (by decide) rfl ok_X1_blame rfl rfl q1454 q1456 qs30 q129 q1457 (by decide) (Nat.le_of_ble_eq_true rfl) (t_X1_blame hH y1 y2 y3 y4 g19) ?_
  refine oX_aload_n dX1_judge_117 rfl rfl ?_
  refine oX_aload_n dX1_judge_118 rfl rfl ?_
  refine oX_bipush (v := (8 : Int32)) dX1_judge_119 (by decide) ?_
  refine oX_iconst (v := (5 : Int32)) dX1_judge_121 (by decide) ?_
  refine oX_aload_n dX1_judge_122 rfl rfl ?_
  refine oX_iload_n dX1_judge_123 rfl rfl ?_
  obtain ⟨r20, g20, hm⟩ := bd_s hm
  refine oX_cV (as := [vI x1]) dX1_judge_124 rfl oDs0 rfl (by decide) rfl ok_X1_isPlaying rfl rfl q1476 q1478 qs34 q129 q1479 (by decide) (Nat.le_of_ble_eq_true rfl) (t_X1_isPlaying hH n x1 g20) ?_
  obtain ⟨r21, g21, hm⟩ := bd_s hm
  refine oX_cV_ (as := [vR x2, vI (8 : Int32), vI (5 : Int32), vI r20]) dX1_judge_127 rfl oDs0 rfl (by decide) rfl ok_X1_blame rfl rfl q1454 q1456 qs30 q129 q1457 (by decide) (Nat.le_of_ble_eq_true rfl) (t_X1_blame hH x2 (8 : Int32) (5 : Int32) r20 g21) ?_
  refine oX_aload_n dX1_judge_130 rfl rfl ?_
  refine oX_aload_n dX1_judge_131 rfl rfl ?_
  refine oX_bipush (v := (8 : Int32)) dX1_judge_132 (by decide) ?_
  refine oX_bipush (v := (6 : Int32)) dX1_judge_134 (by decide) ?_
  refine oX_aload_n dX1_judge_136 rfl rfl ?_
  obtain ⟨a22, e22, hm⟩ := bd_s hm
  obtain ⟨r23, g23, hm⟩ := bd_s hm
  refine oX_cV (as := []) dX1_judge_137 rfl e22 rfl (by decide) rfl ok_X15_hasChorus rfl rfl q1480 q1481 q1482 q165 q1483 (by decide) (Nat.le_of_ble_eq_true rfl) (t_X15_hasChorus a22 ((oD_some e22).2) g23) ?_
  refine oX_if_eq (tgt := 155) dX1_judge_140 (by decide) (fun c24 => ?_) (fun c24 => ?_)
  · have hm := ifp c24 hm
    exact oX_sub [0, 1, 2] rfl (x_mX1_judge_j155 hH n x1 x2 x2 (8 : Int32) (6 : Int32) hm hk hx1)
  · have hm := ifn c24 hm
    refine oX_aload_n dX1_judge_143 rfl rfl ?_
    refine oX_iload_n dX1_judge_144 rfl rfl ?_
    obtain ⟨r38, g38, hm⟩ := bd_s hm
    refine oX_cV (as := [vI x1]) dX1_judge_145 rfl oDs0 rfl (by decide) rfl ok_X1_isChorusOver rfl rfl q1484 q1486 qs35 q129 q1487 (by decide) (Nat.le_of_ble_eq_true rfl) (t_X1_isChorusOver hH n x1 g38) ?_
    refine oX_if_eq (tgt := 155) dX1_judge_148 (by decide) (fun c39 => ?_) (fun c39 => ?_)
    · have hm := ifp c39 hm
      exact oX_sub [0, 1, 2] rfl (x_mX1_judge_j155 hH n x1 x2 x2 (8 : Int32) (6 : Int32) hm hk hx1)
    · have hm := ifn c39 hm
      refine oX_iconst (v := (1 : Int32)) dX1_judge_151 (by decide) ?_
      refine oX_goto (tgt := 156) dX1_judge_152 (by decide) ?_
      exact oX_sub [0, 1, 2] rfl (x_mX1_judge_j156 hH n x1 x2 x2 (8 : Int32) (6 : Int32) (1 : Int32) hm hk hx1)
noncomputable def mX1_judge_j113 (n : Nat) (FI : OhI) (FR : OhQ) (GR : OhQ) (AI : OhI) (AR : OhQ) (BR : OhQ) (AN : OhN) (x1 : Int32) (x2 : OhR) (y1 : OhR) (y2 : Int32) (y3 : Int32) : Option ((Int32 × OhI) ⊕ (OhI)) :=
  mX1_judge_j114 n FI FR GR AI AR BR AN x1 x2 y1 y2 y3 (0 : Int32)
theorem x_mX1_judge_j113 {G : OhG} {FI AI : OhI} {FL AL : OhL} {FR GR AR BR : OhQ} {AN : OhN} {C : OhC} {k : Nat × Nat} {Φ : OhP} {Ψ : OhX} (hH : ohShH FR AR AN) (n : Nat) (x1 : Int32) (x2 : OhR) (y1 : OhR) (y2 : Int32) (y3 : Int32) {r : (Int32 × OhI) ⊕ (OhI)} (hm : mX1_judge_j113 n FI FR GR AI AR BR AN x1 x2 y1 y2 y3 = some r) (hk : ∀ v : Int32 × OhI, r = .inl v → oX G 7 iX1_judge 6 [(0, vR (some (0, 0))), (1, vI v.1)] [] (FI, FL, FR, GR, v.2, AL, AR, BR, AN, C) k Φ Ψ) (hx1 : ∀ v : OhI, r = .inr v → oX G 7 iX1_judge 237 [] [] (FI, FL, FR, GR, v, AL, AR, BR, AN, C) k Φ Ψ) : oX G 7 iX1_judge 113 [(0, vR (some (0, 0))), (1, vI x1), (2, vR x2)] [vI y3, vI y2, vR y1, vR (some (0, 0))] (FI, FL, FR, GR, AI, AL, AR, BR, AN, C) k Φ Ψ := by
  unfold mX1_judge_j113 at hm
  refine oX_iconst (v := (0 : Int32)) dX1_judge_113 (by decide) ?_
  exact oX_sub [0, 1, 2] rfl (x_mX1_judge_j114 hH n x1 x2 y1 y2 y3 (0 : Int32) hm hk hx1)
noncomputable def mX1_judge_j86 (n : Nat) (FI : OhI) (FR : OhQ) (GR : OhQ) (AI : OhI) (AR : OhQ) (BR : OhQ) (AN : OhN) (x1 : Int32) (x2 : OhR) (y1 : OhR) (y2 : Int32) (y3 : Int32) (y4 : Int32) : Option ((Int32 × OhI) ⊕ (OhI)) :=
  (mX1_blame FI FR AI AR BR AN y1 y2 y3 y4).bind fun r15 =>
  (oD 14 x2).bind fun a16 =>
  (mX15_hasSet FI a16).bind fun r17 =>
  (if r17 = 0 then
  mX1_judge_j113 n FI FR GR r15 AR BR AN x1 x2 x2 (8 : Int32) (4 : Int32)
else
  (mX1_lacks n FI FR r15 AN x2).bind fun r40 =>
    (if r40 = 0 then
    mX1_judge_j113 n FI FR GR r15 AR BR AN x1 x2 x2 (8 : Int32) (4 : Int32)
  else
    mX1_judge_j114 n FI FR GR r15 AR BR AN x1 x2 x2 (8 : Int32) (4 : Int32) (1 : Int32)))
theorem x_mX1_judge_j86 {G : OhG} {FI AI : OhI} {FL AL : OhL} {FR GR AR BR : OhQ} {AN : OhN} {C : OhC} {k : Nat × Nat} {Φ : OhP} {Ψ : OhX} (hH : ohShH FR AR AN) (n : Nat) (x1 : Int32) (x2 : OhR) (y1 : OhR) (y2 : Int32) (y3 : Int32) (y4 : Int32) {r : (Int32 × OhI) ⊕ (OhI)} (hm : mX1_judge_j86 n FI FR GR AI AR BR AN x1 x2 y1 y2 y3 y4 = some r) (hk : ∀ v : Int32 × OhI, r = .inl v → oX G 7 iX1_judge 6 [(0, vR (some (0, 0))), (1, vI v.1)] [] (FI, FL, FR, GR, v.2, AL, AR, BR, AN, C) k Φ Ψ) (hx1 : ∀ v : OhI, r = .inr v → oX G 7 iX1_judge 237 [] [] (FI, FL, FR, GR, v, AL, AR, BR, AN, C) k Φ Ψ) : oX G 7 iX1_judge 86 [(0, vR (some (0, 0))), (1, vI x1), (2, vR x2)] [vI y4, vI y3, vI y2, vR y1, vR (some (0, 0))] (FI, FL, FR, GR, AI, AL, AR, BR, AN, C) k Φ Ψ := by
  unfold mX1_judge_j86 at hm
  obtain ⟨r15, g15, hm⟩ := bd_s hm
  refine oX_cV_ (as := [vR y1, vI y2, vI y3, vI y4]) dX1_judge_86 rfl oDs0 rfl (by decide) rfl ok_X1_blame rfl rfl q1454 q1456 qs30 q129 q1457 (by decide) (Nat.le_of_ble_eq_true rfl) (t_X1_blame hH y1 y2 y3 y4 g15) ?_
  refine oX_aload_n dX1_judge_89 rfl rfl ?_
  refine oX_aload_n dX1_judge_90 rfl rfl ?_
  refine oX_bipush (v := (8 : Int32)) dX1_judge_91 (by decide) ?_
  refine oX_iconst (v := (4 : Int32)) dX1_judge_93 (by decide) ?_
  refine oX_aload_n dX1_judge_94 rfl rfl ?_
  obtain ⟨a16, e16, hm⟩ := bd_s hm
  obtain ⟨r17, g17, hm⟩ := bd_s hm
  refine oX_cV (as := []) dX1_judge_95 rfl e16 rfl (by decide) rfl ok_X15_hasSet rfl rfl q1446 q1447 q1448 q165 q1449 (by decide) (Nat.le_of_ble_eq_true rfl) (t_X15_hasSet a16 ((oD_some e16).2) g17) ?_
  refine oX_if_eq (tgt := 113) dX1_judge_98 (by decide) (fun c18 => ?_) (fun c18 => ?_)
  · have hm := ifp c18 hm
    exact oX_sub [0, 1, 2] rfl (x_mX1_judge_j113 hH n x1 x2 x2 (8 : Int32) (4 : Int32) hm hk hx1)
  · have hm := ifn c18 hm
    refine oX_aload_n dX1_judge_101 rfl rfl ?_
    refine oX_aload_n dX1_judge_102 rfl rfl ?_
    obtain ⟨r40, g40, hm⟩ := bd_s hm
    refine oX_cV (as := [vR x2]) dX1_judge_103 rfl oDs0 rfl (by decide) rfl ok_X1_lacks rfl rfl q1472 q1474 qs33 q129 q1475 (by decide) (Nat.le_of_ble_eq_true rfl) (t_X1_lacks hH n x2 g40) ?_
    refine oX_if_eq (tgt := 113) dX1_judge_106 (by decide) (fun c41 => ?_) (fun c41 => ?_)
    · have hm := ifp c41 hm
      exact oX_sub [0, 1, 2] rfl (x_mX1_judge_j113 hH n x1 x2 x2 (8 : Int32) (4 : Int32) hm hk hx1)
    · have hm := ifn c41 hm
      refine oX_iconst (v := (1 : Int32)) dX1_judge_109 (by decide) ?_
      refine oX_goto (tgt := 114) dX1_judge_110 (by decide) ?_
      exact oX_sub [0, 1, 2] rfl (x_mX1_judge_j114 hH n x1 x2 x2 (8 : Int32) (4 : Int32) (1 : Int32) hm hk hx1)
noncomputable def mX1_judge_j85 (n : Nat) (FI : OhI) (FR : OhQ) (GR : OhQ) (AI : OhI) (AR : OhQ) (BR : OhQ) (AN : OhN) (x1 : Int32) (x2 : OhR) (y1 : OhR) (y2 : Int32) (y3 : Int32) : Option ((Int32 × OhI) ⊕ (OhI)) :=
  mX1_judge_j86 n FI FR GR AI AR BR AN x1 x2 y1 y2 y3 (0 : Int32)
theorem x_mX1_judge_j85 {G : OhG} {FI AI : OhI} {FL AL : OhL} {FR GR AR BR : OhQ} {AN : OhN} {C : OhC} {k : Nat × Nat} {Φ : OhP} {Ψ : OhX} (hH : ohShH FR AR AN) (n : Nat) (x1 : Int32) (x2 : OhR) (y1 : OhR) (y2 : Int32) (y3 : Int32) {r : (Int32 × OhI) ⊕ (OhI)} (hm : mX1_judge_j85 n FI FR GR AI AR BR AN x1 x2 y1 y2 y3 = some r) (hk : ∀ v : Int32 × OhI, r = .inl v → oX G 7 iX1_judge 6 [(0, vR (some (0, 0))), (1, vI v.1)] [] (FI, FL, FR, GR, v.2, AL, AR, BR, AN, C) k Φ Ψ) (hx1 : ∀ v : OhI, r = .inr v → oX G 7 iX1_judge 237 [] [] (FI, FL, FR, GR, v, AL, AR, BR, AN, C) k Φ Ψ) : oX G 7 iX1_judge 85 [(0, vR (some (0, 0))), (1, vI x1), (2, vR x2)] [vI y3, vI y2, vR y1, vR (some (0, 0))] (FI, FL, FR, GR, AI, AL, AR, BR, AN, C) k Φ Ψ := by
  unfold mX1_judge_j85 at hm
  refine oX_iconst (v := (0 : Int32)) dX1_judge_85 (by decide) ?_
  exact oX_sub [0, 1, 2] rfl (x_mX1_judge_j86 hH n x1 x2 y1 y2 y3 (0 : Int32) hm hk hx1)
noncomputable def mX1_judge_b6 (n : Nat) (FI : OhI) (FR : OhQ) (GR : OhQ) (AI : OhI) (AR : OhQ) (BR : OhQ) (AN : OhN) (x1 : Int32) : Option ((Int32 × OhI) ⊕ (OhI)) :=
  (if (FI 0 0 17) ≤ x1 then
  some (.inr AI)
else
  gd (vp_in x1 66) <|
    (lpF (fun v => mX1_judge_b23 n FI FR GR v.2 AR BR AN x1 (BR 316 0 x1.toNatClampNeg) v.1) n ((0 : Int32), AI)).bind fun v8 =>
    (mX1_isTaken n FI FR AR BR AN x1).bind fun r9 =>
    (mX1_blame FI FR v8 AR BR AN (BR 316 0 x1.toNatClampNeg) (8 : Int32) (1 : Int32) r9).bind fun r10 =>
    (oD 14 (BR 316 0 x1.toNatClampNeg)).bind fun a11 =>
    (if (FI a11.1 a11.2 2) = (3 : Int32) then
    (mX1_isRehearsed n FI FR AR BR AN (BR 316 0 x1.toNatClampNeg)).bind fun r13 =>
      (if r13 = 0 then
      mX1_judge_j86 n FI FR GR r10 AR BR AN x1 (BR 316 0 x1.toNatClampNeg) (BR 316 0 x1.toNatClampNeg) (8 : Int32) (3 : Int32) (1 : Int32)
    else
      mX1_judge_j85 n FI FR GR r10 AR BR AN x1 (BR 316 0 x1.toNatClampNeg) (BR 316 0 x1.toNatClampNeg) (8 : Int32) (3 : Int32))
  else
    mX1_judge_j85 n FI FR GR r10 AR BR AN x1 (BR 316 0 x1.toNatClampNeg) (BR 316 0 x1.toNatClampNeg) (8 : Int32) (3 : Int32)))
theorem x_mX1_judge_b6 {G : OhG} {FI AI : OhI} {FL AL : OhL} {FR GR AR BR : OhQ} {AN : OhN} {C : OhC} {k : Nat × Nat} {Φ : OhP} {Ψ : OhX} (hH : ohShH FR AR AN) (n : Nat) (x1 : Int32) {r : (Int32 × OhI) ⊕ (OhI)} (hm : mX1_judge_b6 n FI FR GR AI AR BR AN x1 = some r) (hk : ∀ v : Int32 × OhI, r = .inl v → oX G 7 iX1_judge 6 [(0, vR (some (0, 0))), (1, vI v.1)] [] (FI, FL, FR, GR, v.2, AL, AR, BR, AN, C) k Φ Ψ) (hx1 : ∀ v : OhI, r = .inr v → oX G 7 iX1_judge 237 [] [] (FI, FL, FR, GR, v, AL, AR, BR, AN, C) k Φ Ψ) : oX G 7 iX1_judge 6 [(0, vR (some (0, 0))), (1, vI x1)] [] (FI, FL, FR, GR, AI, AL, AR, BR, AN, C) k Φ Ψ := by
  unfold mX1_judge_b6 at hm
  refine oX_iload_n dX1_judge_6 rfl rfl ?_
  refine oX_aload_n dX1_judge_7 rfl rfl ?_
  refine oX_getI fX1_227 rfl oDs0 dX1_judge_8 ?_
  refine oX_icmp_ge (tgt := 237) dX1_judge_11 (by decide) (fun c2 => ?_) (fun c2 => ?_)
  · have hm := ifp c2 hm
    exact oX_sub [] rfl (hx1 AI (Option.some.inj hm).symm)
  · have hm := ifn c2 hm
    refine oX_aload_n dX1_judge_14 rfl rfl ?_
    refine oX_getF fX1_58 rfl oDs0 dX1_judge_15 (ohF316 hH) ?_
    refine oX_iload_n dX1_judge_18 rfl rfl ?_
    obtain ⟨g3, hm⟩ := gd_s hm
    refine oX_aaldC oDs316 (oIn (ohN316 hH) g3) dX1_judge_19 rfl ?_
    refine oX_astore_n (ls' := [(2, vR (BR 316 0 x1.toNatClampNeg)), (0, vR (some (0, 0))), (1, vI x1)]) dX1_judge_20 rfl (by decide) rfl ?_
    refine oX_iconst (v := (0 : Int32)) dX1_judge_21 (by decide) ?_
    refine oX_istore_n (ls' := [(3, vI (0 : Int32)), (2, vR (BR 316 0 x1.toNatClampNeg)), (0, vR (some (0, 0))), (1, vI x1)]) dX1_judge_22 rfl (by decide) rfl ?_
    obtain ⟨v8, g8, hm⟩ := bd_s hm
    refine oX_sub [2, 3, 1, 0] rfl (l_mX1_judge_b23 hH n x1 (BR 316 0 x1.toNatClampNeg) n (0 : Int32) AI _ g8 ?_)
    refine oX_aload_n dX1_judge_47 rfl rfl ?_
    refine oX_aload_n dX1_judge_48 rfl rfl ?_
    refine oX_bipush (v := (8 : Int32)) dX1_judge_49 (by decide) ?_
    refine oX_iconst (v := (1 : Int32)) dX1_judge_51 (by decide) ?_
    refine oX_aload_n dX1_judge_52 rfl rfl ?_
    refine oX_iload_n dX1_judge_53 rfl rfl ?_
    obtain ⟨r9, g9, hm⟩ := bd_s hm
    refine oX_cV (as := [vI x1]) dX1_judge_54 rfl oDs0 rfl (by decide) rfl ok_X1_isTaken rfl rfl q1458 q1460 qs31 q129 q1461 (by decide) (Nat.le_of_ble_eq_true rfl) (t_X1_isTaken hH n x1 g9) ?_
    obtain ⟨r10, g10, hm⟩ := bd_s hm
    refine oX_cV_ (as := [vR (BR 316 0 x1.toNatClampNeg), vI (8 : Int32), vI (1 : Int32), vI r9]) dX1_judge_57 rfl oDs0 rfl (by decide) rfl ok_X1_blame rfl rfl q1454 q1456 qs30 q129 q1457 (by decide) (Nat.le_of_ble_eq_true rfl) (t_X1_blame hH (BR 316 0 x1.toNatClampNeg) (8 : Int32) (1 : Int32) r9 g10) ?_
    refine oX_aload_n dX1_judge_60 rfl rfl ?_
    refine oX_aload_n dX1_judge_61 rfl rfl ?_
    refine oX_bipush (v := (8 : Int32)) dX1_judge_62 (by decide) ?_
    refine oX_iconst (v := (3 : Int32)) dX1_judge_64 (by decide) ?_
    refine oX_aload_n dX1_judge_65 rfl rfl ?_
    obtain ⟨a11, e11, hm⟩ := bd_s hm
    refine oX_getI fX1_281 rfl e11 dX1_judge_66 ?_
    refine oX_iconst (v := (3 : Int32)) dX1_judge_69 (by decide) ?_
    refine oX_icmp_ne (tgt := 85) dX1_judge_70 (by decide) (fun c12 => ?_) (fun c12 => ?_)
    · have hm := ifp c12 hm
      refine oX_aload_n dX1_judge_73 rfl rfl ?_
      refine oX_aload_n dX1_judge_74 rfl rfl ?_
      obtain ⟨r13, g13, hm⟩ := bd_s hm
      refine oX_cV (as := [vR (BR 316 0 x1.toNatClampNeg)]) dX1_judge_75 rfl oDs0 rfl (by decide) rfl ok_X1_isRehearsed rfl rfl q1466 q1468 qs32 q129 q1469 (by decide) (Nat.le_of_ble_eq_true rfl) (t_X1_isRehearsed hH n (BR 316 0 x1.toNatClampNeg) g13) ?_
      refine oX_if_ne (tgt := 85) dX1_judge_78 (by decide) (fun c14 => ?_) (fun c14 => ?_)
      · have hm := ifp c14 hm
        refine oX_iconst (v := (1 : Int32)) dX1_judge_81 (by decide) ?_
        refine oX_goto (tgt := 86) dX1_judge_82 (by decide) ?_
        exact oX_sub [0, 1, 2] rfl (x_mX1_judge_j86 hH n x1 (BR 316 0 x1.toNatClampNeg) (BR 316 0 x1.toNatClampNeg) (8 : Int32) (3 : Int32) (1 : Int32) hm hk hx1)
      · have hm := ifn c14 hm
        exact oX_sub [0, 1, 2] rfl (x_mX1_judge_j85 hH n x1 (BR 316 0 x1.toNatClampNeg) (BR 316 0 x1.toNatClampNeg) (8 : Int32) (3 : Int32) hm hk hx1)
    · have hm := ifn c12 hm
      exact oX_sub [0, 1, 2] rfl (x_mX1_judge_j85 hH n x1 (BR 316 0 x1.toNatClampNeg) (BR 316 0 x1.toNatClampNeg) (8 : Int32) (3 : Int32) hm hk hx1)
theorem l_mX1_judge_b6 {G : OhG} {FI : OhI} {FL : OhL} {FR : OhQ} {GR : OhQ} {AL : OhL} {AR : OhQ} {BR : OhQ} {AN : OhN} {C : OhC} {k : Nat × Nat} {Φ : OhP} {Ψ : OhX} (hH : ohShH FR AR AN) (n : Nat) : ∀ (f : Nat) (x1 : Int32) (AI : OhI) (b : (OhI)), lpF (fun v => mX1_judge_b6 n FI FR GR v.2 AR BR AN v.1) f (x1, AI) = some b → (oX G 7 iX1_judge 237 [] [] (FI, FL, FR, GR, b, AL, AR, BR, AN, C) k Φ Ψ) → oX G 7 iX1_judge 6 [(0, vR (some (0, 0))), (1, vI x1)] [] (FI, FL, FR, GR, AI, AL, AR, BR, AN, C) k Φ Ψ := by
  intro f
  induction f with
  | zero =>
    intro x1 AI b hm
    cases hm
  | succ f ih =>
    intro x1 AI b hm hx1
    obtain ⟨r, hr, hm⟩ := lp_s hm
    refine x_mX1_judge_b6 hH n x1 hr (fun v e => ?_) (fun v e => ?_)
    · subst e; exact ih v.1 v.2 _ hm hx1
    · subst e; cases (show v = b from hm); exact hx1
noncomputable def mX1_judge (n : Nat) (FI : OhI) (FR : OhQ) (GR : OhQ) (AI : OhI) (AR : OhQ) (BR : OhQ) (AN : OhN) : Option (OhI) :=
  (mX1_judgeSets n FI FR AI AR BR AN).bind fun r1 =>
  (lpF (fun v => mX1_judge_b6 n FI FR GR v.2 AR BR AN v.1) n ((0 : Int32), r1)).bind fun v42 =>
  some v42
theorem x_mX1_judge {G : OhG} {FI AI : OhI} {FL AL : OhL} {FR GR AR BR : OhQ} {AN : OhN} {C : OhC} {k : Nat × Nat} {Φ : OhP} {Ψ : OhX} (hH : ohShH FR AR AN) (n : Nat) {r : OhI} (hm : mX1_judge n FI FR GR AI AR BR AN = some r) (hK : Φ none (FI, FL, FR, GR, r, AL, AR, BR, AN, C)) : oX G 7 iX1_judge 0 [(0, vR (some (0, 0)))] [] (FI, FL, FR, GR, AI, AL, AR, BR, AN, C) k Φ Ψ := by
  unfold mX1_judge at hm
  refine oX_aload_n dX1_judge_0 rfl rfl ?_
  obtain ⟨r1, g1, hm⟩ := bd_s hm
  refine oX_cV_ (as := []) dX1_judge_1 rfl oDs0 rfl (by decide) rfl ok_X1_judgeSets rfl rfl q1438 q1440 qs29 q129 q1441 (by decide) (Nat.le_of_ble_eq_true rfl) (t_X1_judgeSets hH n g1) ?_
  refine oX_iconst (v := (0 : Int32)) dX1_judge_4 (by decide) ?_
  refine oX_istore_n (ls' := [(1, vI (0 : Int32)), (0, vR (some (0, 0)))]) dX1_judge_5 rfl (by decide) rfl ?_
  obtain ⟨v42, g42, hm⟩ := bd_s hm
  refine oX_sub [1, 0] rfl (l_mX1_judge_b6 hH n n (0 : Int32) r1 _ g42 ?_)
  obtain rfl := Option.some.inj hm
  exact oX_vret dX1_judge_237 rfl hK
theorem t_X1_judge {G : OhG} {FI AI : OhI} {FL AL : OhL} {FR GR AR BR : OhQ} {AN : OhN} {C : OhC} (hH : ohShH FR AR AN) (n : Nat) {o : OhI} (hm : mX1_judge n FI FR GR AI AR BR AN = some o) : oT G 7 iX1_judge [vR (some (0, 0))] (FI, FL, FR, GR, AI, AL, AR, BR, AN, C) (0, 0) (fun v h => v = none ∧ h = (FI, FL, FR, GR, o, AL, AR, BR, AN, C)) ohNo :=
  oT_of (by decide) rfl (Nat.le_of_ble_eq_true rfl) (x_mX1_judge hH n hm ⟨rfl, rfl⟩)
abbrev iJ18_bitCount : OhM := (yJ18_bitCount, cJ18_bitCount, 1, (some .int), [])
theorem ok_J18_bitCount : oOk iJ18_bitCount 1 := ⟨by decide, by decide, by decide +kernel⟩
noncomputable def mJ18_bitCount (x0 : Int32) : Option (Int32) :=
  some ((((((((x0 - (((x0.toUInt32 >>> ((1 : Int32).toUInt32 &&& Int32.toUInt32 31)).toInt32) &&& (1431655765 : Int32))) &&& (858993459 : Int32)) + ((((x0 - (((x0.toUInt32 >>> ((1 : Int32).toUInt32 &&& Int32.toUInt32 31)).toInt32) &&& (1431655765 : Int32))).toUInt32 >>> ((2 : Int32).toUInt32 &&& Int32.toUInt32 31)).toInt32) &&& (858993459 : Int32))) + (((((x0 - (((x0.toUInt32 >>> ((1 : Int32).toUInt32 &&& Int32.toUInt32 31)).toInt32) &&& (1431655765 : Int32))) &&& (858993459 : Int32)) + ((((x0 - (((x0.toUInt32 >>> ((1 : Int32).toUInt32 &&& Int32.toUInt32 31)).toInt32) &&& (1431655765 : Int32))).toUInt32 >>> ((2 : Int32).toUInt32 &&& Int32.toUInt32 31)).toInt32) &&& (858993459 : Int32))).toUInt32 >>> ((4 : Int32).toUInt32 &&& Int32.toUInt32 31)).toInt32)) &&& (252645135 : Int32)) + (((((((x0 - (((x0.toUInt32 >>> ((1 : Int32).toUInt32 &&& Int32.toUInt32 31)).toInt32) &&& (1431655765 : Int32))) &&& (858993459 : Int32)) + ((((x0 - (((x0.toUInt32 >>> ((1 : Int32).toUInt32 &&& Int32.toUInt32 31)).toInt32) &&& (1431655765 : Int32))).toUInt32 >>> ((2 : Int32).toUInt32 &&& Int32.toUInt32 31)).toInt32) &&& (858993459 : Int32))) + (((((x0 - (((x0.toUInt32 >>> ((1 : Int32).toUInt32 &&& Int32.toUInt32 31)).toInt32) &&& (1431655765 : Int32))) &&& (858993459 : Int32)) + ((((x0 - (((x0.toUInt32 >>> ((1 : Int32).toUInt32 &&& Int32.toUInt32 31)).toInt32) &&& (1431655765 : Int32))).toUInt32 >>> ((2 : Int32).toUInt32 &&& Int32.toUInt32 31)).toInt32) &&& (858993459 : Int32))).toUInt32 >>> ((4 : Int32).toUInt32 &&& Int32.toUInt32 31)).toInt32)) &&& (252645135 : Int32)).toUInt32 >>> ((8 : Int32).toUInt32 &&& Int32.toUInt32 31)).toInt32)) + ((((((((x0 - (((x0.toUInt32 >>> ((1 : Int32).toUInt32 &&& Int32.toUInt32 31)).toInt32) &&& (1431655765 : Int32))) &&& (858993459 : Int32)) + ((((x0 - (((x0.toUInt32 >>> ((1 : Int32).toUInt32 &&& Int32.toUInt32 31)).toInt32) &&& (1431655765 : Int32))).toUInt32 >>> ((2 : Int32).toUInt32 &&& Int32.toUInt32 31)).toInt32) &&& (858993459 : Int32))) + (((((x0 - (((x0.toUInt32 >>> ((1 : Int32).toUInt32 &&& Int32.toUInt32 31)).toInt32) &&& (1431655765 : Int32))) &&& (858993459 : Int32)) + ((((x0 - (((x0.toUInt32 >>> ((1 : Int32).toUInt32 &&& Int32.toUInt32 31)).toInt32) &&& (1431655765 : Int32))).toUInt32 >>> ((2 : Int32).toUInt32 &&& Int32.toUInt32 31)).toInt32) &&& (858993459 : Int32))).toUInt32 >>> ((4 : Int32).toUInt32 &&& Int32.toUInt32 31)).toInt32)) &&& (252645135 : Int32)) + (((((((x0 - (((x0.toUInt32 >>> ((1 : Int32).toUInt32 &&& Int32.toUInt32 31)).toInt32) &&& (1431655765 : Int32))) &&& (858993459 : Int32)) + ((((x0 - (((x0.toUInt32 >>> ((1 : Int32).toUInt32 &&& Int32.toUInt32 31)).toInt32) &&& (1431655765 : Int32))).toUInt32 >>> ((2 : Int32).toUInt32 &&& Int32.toUInt32 31)).toInt32) &&& (858993459 : Int32))) + (((((x0 - (((x0.toUInt32 >>> ((1 : Int32).toUInt32 &&& Int32.toUInt32 31)).toInt32) &&& (1431655765 : Int32))) &&& (858993459 : Int32)) + ((((x0 - (((x0.toUInt32 >>> ((1 : Int32).toUInt32 &&& Int32.toUInt32 31)).toInt32) &&& (1431655765 : Int32))).toUInt32 >>> ((2 : Int32).toUInt32 &&& Int32.toUInt32 31)).toInt32) &&& (858993459 : Int32))).toUInt32 >>> ((4 : Int32).toUInt32 &&& Int32.toUInt32 31)).toInt32)) &&& (252645135 : Int32)).toUInt32 >>> ((8 : Int32).toUInt32 &&& Int32.toUInt32 31)).toInt32)).toUInt32 >>> ((16 : Int32).toUInt32 &&& Int32.toUInt32 31)).toInt32)) &&& (63 : Int32))
theorem x_mJ18_bitCount {G : OhG} {FI AI : OhI} {FL AL : OhL} {FR GR AR BR : OhQ} {AN : OhN} {C : OhC} {k : Nat × Nat} {Φ : OhP} {Ψ : OhX} (x0 : Int32) {r : Int32} (hm : mJ18_bitCount x0 = some r) (hK : Φ (some (vI r)) (FI, FL, FR, GR, AI, AL, AR, BR, AN, C)) : oX G 1 iJ18_bitCount 0 [(0, vI x0)] [] (FI, FL, FR, GR, AI, AL, AR, BR, AN, C) k Φ Ψ := by
  unfold mJ18_bitCount at hm
  refine oX_iload_n dJ18_bitCount_0 rfl rfl ?_
  refine oX_iload_n dJ18_bitCount_1 rfl rfl ?_
  refine oX_iconst (v := (1 : Int32)) dJ18_bitCount_2 (by decide) ?_
  refine oX_iushr dJ18_bitCount_3 ?_
  refine oX_ldcw q1555 dJ18_bitCount_4 ?_
  refine oX_iand dJ18_bitCount_7 ?_
  refine oX_isub dJ18_bitCount_8 ?_
  refine oX_istore_n (ls' := [(0, vI (x0 - (((x0.toUInt32 >>> ((1 : Int32).toUInt32 &&& Int32.toUInt32 31)).toInt32) &&& (1431655765 : Int32))))]) dJ18_bitCount_9 rfl (by decide) rfl ?_
  refine oX_iload_n dJ18_bitCount_10 rfl rfl ?_
  refine oX_ldcw q1556 dJ18_bitCount_11 ?_
  refine oX_iand dJ18_bitCount_14 ?_
  refine oX_iload_n dJ18_bitCount_15 rfl rfl ?_
  refine oX_iconst (v := (2 : Int32)) dJ18_bitCount_16 (by decide) ?_
  refine oX_iushr dJ18_bitCount_17 ?_
  refine oX_ldcw q1556 dJ18_bitCount_18 ?_
  refine oX_iand dJ18_bitCount_21 ?_
  refine oX_iadd dJ18_bitCount_22 ?_
  refine oX_istore_n (ls' := [(0, vI (((x0 - (((x0.toUInt32 >>> ((1 : Int32).toUInt32 &&& Int32.toUInt32 31)).toInt32) &&& (1431655765 : Int32))) &&& (858993459 : Int32)) + ((((x0 - (((x0.toUInt32 >>> ((1 : Int32).toUInt32 &&& Int32.toUInt32 31)).toInt32) &&& (1431655765 : Int32))).toUInt32 >>> ((2 : Int32).toUInt32 &&& Int32.toUInt32 31)).toInt32) &&& (858993459 : Int32))))]) dJ18_bitCount_23 rfl (by decide) rfl ?_
  refine oX_iload_n dJ18_bitCount_24 rfl rfl ?_
  refine oX_iload_n dJ18_bitCount_25 rfl rfl ?_
  refine oX_iconst (v := (4 : Int32)) dJ18_bitCount_26 (by decide) ?_
  refine oX_iushr dJ18_bitCount_27 ?_
  refine oX_iadd dJ18_bitCount_28 ?_
  refine oX_ldcw q1557 dJ18_bitCount_29 ?_
  refine oX_iand dJ18_bitCount_32 ?_
  refine oX_istore_n (ls' := [(0, vI (((((x0 - (((x0.toUInt32 >>> ((1 : Int32).toUInt32 &&& Int32.toUInt32 31)).toInt32) &&& (1431655765 : Int32))) &&& (858993459 : Int32)) + ((((x0 - (((x0.toUInt32 >>> ((1 : Int32).toUInt32 &&& Int32.toUInt32 31)).toInt32) &&& (1431655765 : Int32))).toUInt32 >>> ((2 : Int32).toUInt32 &&& Int32.toUInt32 31)).toInt32) &&& (858993459 : Int32))) + (((((x0 - (((x0.toUInt32 >>> ((1 : Int32).toUInt32 &&& Int32.toUInt32 31)).toInt32) &&& (1431655765 : Int32))) &&& (858993459 : Int32)) + ((((x0 - (((x0.toUInt32 >>> ((1 : Int32).toUInt32 &&& Int32.toUInt32 31)).toInt32) &&& (1431655765 : Int32))).toUInt32 >>> ((2 : Int32).toUInt32 &&& Int32.toUInt32 31)).toInt32) &&& (858993459 : Int32))).toUInt32 >>> ((4 : Int32).toUInt32 &&& Int32.toUInt32 31)).toInt32)) &&& (252645135 : Int32)))]) dJ18_bitCount_33 rfl (by decide) rfl ?_
  refine oX_iload_n dJ18_bitCount_34 rfl rfl ?_
  refine oX_iload_n dJ18_bitCount_35 rfl rfl ?_
  refine oX_bipush (v := (8 : Int32)) dJ18_bitCount_36 (by decide) ?_
  refine oX_iushr dJ18_bitCount_38 ?_
  refine oX_iadd dJ18_bitCount_39 ?_
  refine oX_istore_n (ls' := [(0, vI ((((((x0 - (((x0.toUInt32 >>> ((1 : Int32).toUInt32 &&& Int32.toUInt32 31)).toInt32) &&& (1431655765 : Int32))) &&& (858993459 : Int32)) + ((((x0 - (((x0.toUInt32 >>> ((1 : Int32).toUInt32 &&& Int32.toUInt32 31)).toInt32) &&& (1431655765 : Int32))).toUInt32 >>> ((2 : Int32).toUInt32 &&& Int32.toUInt32 31)).toInt32) &&& (858993459 : Int32))) + (((((x0 - (((x0.toUInt32 >>> ((1 : Int32).toUInt32 &&& Int32.toUInt32 31)).toInt32) &&& (1431655765 : Int32))) &&& (858993459 : Int32)) + ((((x0 - (((x0.toUInt32 >>> ((1 : Int32).toUInt32 &&& Int32.toUInt32 31)).toInt32) &&& (1431655765 : Int32))).toUInt32 >>> ((2 : Int32).toUInt32 &&& Int32.toUInt32 31)).toInt32) &&& (858993459 : Int32))).toUInt32 >>> ((4 : Int32).toUInt32 &&& Int32.toUInt32 31)).toInt32)) &&& (252645135 : Int32)) + (((((((x0 - (((x0.toUInt32 >>> ((1 : Int32).toUInt32 &&& Int32.toUInt32 31)).toInt32) &&& (1431655765 : Int32))) &&& (858993459 : Int32)) + ((((x0 - (((x0.toUInt32 >>> ((1 : Int32).toUInt32 &&& Int32.toUInt32 31)).toInt32) &&& (1431655765 : Int32))).toUInt32 >>> ((2 : Int32).toUInt32 &&& Int32.toUInt32 31)).toInt32) &&& (858993459 : Int32))) + (((((x0 - (((x0.toUInt32 >>> ((1 : Int32).toUInt32 &&& Int32.toUInt32 31)).toInt32) &&& (1431655765 : Int32))) &&& (858993459 : Int32)) + ((((x0 - (((x0.toUInt32 >>> ((1 : Int32).toUInt32 &&& Int32.toUInt32 31)).toInt32) &&& (1431655765 : Int32))).toUInt32 >>> ((2 : Int32).toUInt32 &&& Int32.toUInt32 31)).toInt32) &&& (858993459 : Int32))).toUInt32 >>> ((4 : Int32).toUInt32 &&& Int32.toUInt32 31)).toInt32)) &&& (252645135 : Int32)).toUInt32 >>> ((8 : Int32).toUInt32 &&& Int32.toUInt32 31)).toInt32)))]) dJ18_bitCount_40 rfl (by decide) rfl ?_
  refine oX_iload_n dJ18_bitCount_41 rfl rfl ?_
  refine oX_iload_n dJ18_bitCount_42 rfl rfl ?_
  refine oX_bipush (v := (16 : Int32)) dJ18_bitCount_43 (by decide) ?_
  refine oX_iushr dJ18_bitCount_45 ?_
  refine oX_iadd dJ18_bitCount_46 ?_
  refine oX_istore_n (ls' := [(0, vI (((((((x0 - (((x0.toUInt32 >>> ((1 : Int32).toUInt32 &&& Int32.toUInt32 31)).toInt32) &&& (1431655765 : Int32))) &&& (858993459 : Int32)) + ((((x0 - (((x0.toUInt32 >>> ((1 : Int32).toUInt32 &&& Int32.toUInt32 31)).toInt32) &&& (1431655765 : Int32))).toUInt32 >>> ((2 : Int32).toUInt32 &&& Int32.toUInt32 31)).toInt32) &&& (858993459 : Int32))) + (((((x0 - (((x0.toUInt32 >>> ((1 : Int32).toUInt32 &&& Int32.toUInt32 31)).toInt32) &&& (1431655765 : Int32))) &&& (858993459 : Int32)) + ((((x0 - (((x0.toUInt32 >>> ((1 : Int32).toUInt32 &&& Int32.toUInt32 31)).toInt32) &&& (1431655765 : Int32))).toUInt32 >>> ((2 : Int32).toUInt32 &&& Int32.toUInt32 31)).toInt32) &&& (858993459 : Int32))).toUInt32 >>> ((4 : Int32).toUInt32 &&& Int32.toUInt32 31)).toInt32)) &&& (252645135 : Int32)) + (((((((x0 - (((x0.toUInt32 >>> ((1 : Int32).toUInt32 &&& Int32.toUInt32 31)).toInt32) &&& (1431655765 : Int32))) &&& (858993459 : Int32)) + ((((x0 - (((x0.toUInt32 >>> ((1 : Int32).toUInt32 &&& Int32.toUInt32 31)).toInt32) &&& (1431655765 : Int32))).toUInt32 >>> ((2 : Int32).toUInt32 &&& Int32.toUInt32 31)).toInt32) &&& (858993459 : Int32))) + (((((x0 - (((x0.toUInt32 >>> ((1 : Int32).toUInt32 &&& Int32.toUInt32 31)).toInt32) &&& (1431655765 : Int32))) &&& (858993459 : Int32)) + ((((x0 - (((x0.toUInt32 >>> ((1 : Int32).toUInt32 &&& Int32.toUInt32 31)).toInt32) &&& (1431655765 : Int32))).toUInt32 >>> ((2 : Int32).toUInt32 &&& Int32.toUInt32 31)).toInt32) &&& (858993459 : Int32))).toUInt32 >>> ((4 : Int32).toUInt32 &&& Int32.toUInt32 31)).toInt32)) &&& (252645135 : Int32)).toUInt32 >>> ((8 : Int32).toUInt32 &&& Int32.toUInt32 31)).toInt32)) + ((((((((x0 - (((x0.toUInt32 >>> ((1 : Int32).toUInt32 &&& Int32.toUInt32 31)).toInt32) &&& (1431655765 : Int32))) &&& (858993459 : Int32)) + ((((x0 - (((x0.toUInt32 >>> ((1 : Int32).toUInt32 &&& Int32.toUInt32 31)).toInt32) &&& (1431655765 : Int32))).toUInt32 >>> ((2 : Int32).toUInt32 &&& Int32.toUInt32 31)).toInt32) &&& (858993459 : Int32))) + (((((x0 - (((x0.toUInt32 >>> ((1 : Int32).toUInt32 &&& Int32.toUInt32 31)).toInt32) &&& (1431655765 : Int32))) &&& (858993459 : Int32)) + ((((x0 - (((x0.toUInt32 >>> ((1 : Int32).toUInt32 &&& Int32.toUInt32 31)).toInt32) &&& (1431655765 : Int32))).toUInt32 >>> ((2 : Int32).toUInt32 &&& Int32.toUInt32 31)).toInt32) &&& (858993459 : Int32))).toUInt32 >>> ((4 : Int32).toUInt32 &&& Int32.toUInt32 31)).toInt32)) &&& (252645135 : Int32)) + (((((((x0 - (((x0.toUInt32 >>> ((1 : Int32).toUInt32 &&& Int32.toUInt32 31)).toInt32) &&& (1431655765 : Int32))) &&& (858993459 : Int32)) + ((((x0 - (((x0.toUInt32 >>> ((1 : Int32).toUInt32 &&& Int32.toUInt32 31)).toInt32) &&& (1431655765 : Int32))).toUInt32 >>> ((2 : Int32).toUInt32 &&& Int32.toUInt32 31)).toInt32) &&& (858993459 : Int32))) + (((((x0 - (((x0.toUInt32 >>> ((1 : Int32).toUInt32 &&& Int32.toUInt32 31)).toInt32) &&& (1431655765 : Int32))) &&& (858993459 : Int32)) + ((((x0 - (((x0.toUInt32 >>> ((1 : Int32).toUInt32 &&& Int32.toUInt32 31)).toInt32) &&& (1431655765 : Int32))).toUInt32 >>> ((2 : Int32).toUInt32 &&& Int32.toUInt32 31)).toInt32) &&& (858993459 : Int32))).toUInt32 >>> ((4 : Int32).toUInt32 &&& Int32.toUInt32 31)).toInt32)) &&& (252645135 : Int32)).toUInt32 >>> ((8 : Int32).toUInt32 &&& Int32.toUInt32 31)).toInt32)).toUInt32 >>> ((16 : Int32).toUInt32 &&& Int32.toUInt32 31)).toInt32)))]) dJ18_bitCount_47 rfl (by decide) rfl ?_
  refine oX_iload_n dJ18_bitCount_48 rfl rfl ?_
  refine oX_bipush (v := (63 : Int32)) dJ18_bitCount_49 (by decide) ?_
  refine oX_iand dJ18_bitCount_51 ?_
  obtain rfl := Option.some.inj hm
  exact oX_iret dJ18_bitCount_52 rfl rfl hK
theorem t_J18_bitCount {G : OhG} {FI AI : OhI} {FL AL : OhL} {FR GR AR BR : OhQ} {AN : OhN} {C : OhC} (x0 : Int32) {o : Int32} (hm : mJ18_bitCount x0 = some o) : oT G 1 iJ18_bitCount [vI x0] (FI, FL, FR, GR, AI, AL, AR, BR, AN, C) (0, 0) (fun v h => v = (some (vI o)) ∧ h = (FI, FL, FR, GR, AI, AL, AR, BR, AN, C)) ohNo :=
  oT_of (by decide) rfl (Nat.le_of_ble_eq_true rfl) (x_mJ18_bitCount x0 hm ⟨rfl, rfl⟩)
abbrev iX1_learned : OhM := (yX1_learned, cX1_learned, 6, (some .int), [])
theorem ok_X1_learned : oOk iX1_learned 4 := ⟨by decide, by decide, by decide +kernel⟩
noncomputable def mX1_learned (n : Nat) (FI : OhI) (FR : OhQ) (GR : OhQ) (AI : OhI) (AR : OhQ) (BR : OhQ) (AN : OhN) (x1 : Int32) (x2 : Int32) (x3 : Int32) (x4 : Int32) : Option (Int32 × OhI × OhI × OhQ) :=
  (mX1_callOf FI FR GR AR BR AN x2).bind fun r1 =>
  (mX1_singerOf FI FR GR AR BR AN x1).bind fun r2 =>
  (if r2 = none then
  some ((-1 : Int32), FI, AI, BR)
else
  (if r1 = none then
    some ((-1 : Int32), FI, AI, BR)
  else
    (oD 14 r1).bind fun a5 =>
      (mX15_roles FI FR a5).bind fun r6 =>
      (mX1_isIn x3 (0 : Int32) (r6 - (1 : Int32))).bind fun r7 =>
      (if r7 = 0 then
      some ((-1 : Int32), FI, AI, BR)
    else
      (mX1_layOut n FI FR GR AI AR BR AN x4).bind fun r9 =>
        (mX1_learnedOf n r9.1 FR GR r9.2.1 AR r9.2.2 AN x1 (FR a5.1 a5.2 6) x3 (r9.1 a5.1 a5.2 4)).bind fun r10 =>
        some (r10, r9.1, r9.2.1, r9.2.2))))
theorem x_mX1_learned {G : OhG} {FI AI : OhI} {FL AL : OhL} {FR GR AR BR : OhQ} {AN : OhN} {C : OhC} {k : Nat × Nat} {Φ : OhP} {Ψ : OhX} (hH : ohShH FR AR AN) (n : Nat) (x1 : Int32) (x2 : Int32) (x3 : Int32) (x4 : Int32) {r : Int32 × OhI × OhI × OhQ} (hm : mX1_learned n FI FR GR AI AR BR AN x1 x2 x3 x4 = some r) (hK : Φ (some (vI r.1)) (r.2.1, FL, FR, GR, r.2.2.1, AL, AR, r.2.2.2, AN, C)) : oX G 5 iX1_learned 0 [(0, vR (some (0, 0))), (1, vI x1), (2, vI x2), (3, vI x3), (4, vI x4)] [] (FI, FL, FR, GR, AI, AL, AR, BR, AN, C) k Φ Ψ := by
  unfold mX1_learned at hm
  refine oX_aload_n dX1_learned_0 rfl rfl ?_
  refine oX_iload_n dX1_learned_1 rfl rfl ?_
  obtain ⟨r1, g1, hm⟩ := bd_s hm
  refine oX_cV (as := [vI x2]) dX1_learned_2 rfl oDs0 rfl (by decide) rfl ok_X1_callOf rfl rfl q1348 q1350 qs24 q129 q1351 (by decide) (Nat.le_of_ble_eq_true rfl) (t_X1_callOf hH x2 g1) ?_
  refine oX_astore (ls' := [(5, vR r1), (0, vR (some (0, 0))), (1, vI x1), (2, vI x2), (3, vI x3), (4, vI x4)]) dX1_learned_5 (by decide) rfl ?_
  refine oX_aload_n dX1_learned_7 rfl rfl ?_
  refine oX_iload_n dX1_learned_8 rfl rfl ?_
  obtain ⟨r2, g2, hm⟩ := bd_s hm
  refine oX_cV (as := [vI x1]) dX1_learned_9 rfl oDs0 rfl (by decide) rfl ok_X1_singerOf rfl rfl q644 q646 qs7 q129 q647 (by decide) (Nat.le_of_ble_eq_true rfl) (t_X1_singerOf hH x1 g2) ?_
  refine oX_ifnull (tgt := 35) dX1_learned_12 (by decide) (fun c3 => ?_) (fun c3 => ?_)
  · have hm := ifp c3 hm
    refine oX_iconst (v := (-1 : Int32)) dX1_learned_35 (by decide) ?_
    obtain rfl := Option.some.inj hm
    exact oX_iret dX1_learned_36 rfl rfl hK
  · have hm := ifn c3 hm
    refine oX_aload dX1_learned_15 rfl ?_
    refine oX_ifnull (tgt := 35) dX1_learned_17 (by decide) (fun c4 => ?_) (fun c4 => ?_)
    · have hm := ifp c4 hm
      refine oX_iconst (v := (-1 : Int32)) dX1_learned_35 (by decide) ?_
      obtain rfl := Option.some.inj hm
      exact oX_iret dX1_learned_36 rfl rfl hK
    · have hm := ifn c4 hm
      refine oX_iload_n dX1_learned_20 rfl rfl ?_
      refine oX_iconst (v := (0 : Int32)) dX1_learned_21 (by decide) ?_
      refine oX_aload dX1_learned_22 rfl ?_
      obtain ⟨a5, e5, hm⟩ := bd_s hm
      obtain ⟨r6, g6, hm⟩ := bd_s hm
      refine oX_cV (as := []) dX1_learned_24 rfl e5 rfl (by decide) rfl ok_X15_roles rfl rfl q1352 q1353 q1354 q165 q1355 (by decide) (Nat.le_of_ble_eq_true rfl) (t_X15_roles a5 ((oD_some e5).2) g6) ?_
      refine oX_iconst (v := (1 : Int32)) dX1_learned_27 (by decide) ?_
      refine oX_isub dX1_learned_28 ?_
      obtain ⟨r7, g7, hm⟩ := bd_s hm
      refine oX_cS (as := [vI x3, vI (0 : Int32), vI (r6 - (1 : Int32))]) dX1_learned_29 rfl ok_X1_isIn rfl rfl q421 q238 q129 q239 (by decide) (Nat.le_of_ble_eq_true rfl) (t_X1_isIn x3 (0 : Int32) (r6 - (1 : Int32)) g7) ?_
      refine oX_if_ne (tgt := 37) dX1_learned_32 (by decide) (fun c8 => ?_) (fun c8 => ?_)
      · have hm := ifp c8 hm
        refine oX_iconst (v := (-1 : Int32)) dX1_learned_35 (by decide) ?_
        obtain rfl := Option.some.inj hm
        exact oX_iret dX1_learned_36 rfl rfl hK
      · have hm := ifn c8 hm
        refine oX_aload_n dX1_learned_37 rfl rfl ?_
        refine oX_iload dX1_learned_38 rfl ?_
        obtain ⟨r9, g9, hm⟩ := bd_s hm
        refine oX_cV_ (as := [vI x4]) dX1_learned_40 rfl oDs0 rfl (by decide) rfl ok_X1_layOut rfl rfl q1418 q1420 qs25 q129 q1421 (by decide) (Nat.le_of_ble_eq_true rfl) (t_X1_layOut hH n x4 g9) ?_
        refine oX_aload_n dX1_learned_43 rfl rfl ?_
        refine oX_iload_n dX1_learned_44 rfl rfl ?_
        refine oX_aload dX1_learned_45 rfl ?_
        refine oX_getF fX1_258 rfl e5 dX1_learned_47 rfl ?_
        refine oX_iload_n dX1_learned_50 rfl rfl ?_
        refine oX_aload dX1_learned_51 rfl ?_
        refine oX_getI fX1_230 rfl e5 dX1_learned_53 ?_
        obtain ⟨r10, g10, hm⟩ := bd_s hm
        refine oX_cV (as := [vI x1, vR (FR a5.1 a5.2 6), vI x3, vI (r9.1 a5.1 a5.2 4)]) dX1_learned_56 rfl oDs0 rfl (by decide) rfl ok_X1_learnedOf rfl rfl q1503 q1505 qs37 q129 q1506 (by decide) (Nat.le_of_ble_eq_true rfl) (t_X1_learnedOf hH n x1 (FR a5.1 a5.2 6) x3 (r9.1 a5.1 a5.2 4) g10) ?_
        obtain rfl := Option.some.inj hm
        exact oX_iret dX1_learned_59 rfl rfl hK
theorem t_X1_learned {G : OhG} {FI AI : OhI} {FL AL : OhL} {FR GR AR BR : OhQ} {AN : OhN} {C : OhC} (hH : ohShH FR AR AN) (n : Nat) (x1 : Int32) (x2 : Int32) (x3 : Int32) (x4 : Int32) {o : Int32 × OhI × OhI × OhQ} (hm : mX1_learned n FI FR GR AI AR BR AN x1 x2 x3 x4 = some o) : oT G 5 iX1_learned [vR (some (0, 0)), vI x1, vI x2, vI x3, vI x4] (FI, FL, FR, GR, AI, AL, AR, BR, AN, C) (0, 0) (fun v h => v = (some (vI o.1)) ∧ h = (o.2.1, FL, FR, GR, o.2.2.1, AL, AR, o.2.2.2, AN, C)) ohNo :=
  oT_of (by decide) rfl (Nat.le_of_ble_eq_true rfl) (x_mX1_learned hH n x1 x2 x3 x4 hm ⟨rfl, rfl⟩)
abbrev iX1_tired : OhM := (yX1_tired, cX1_tired, 5, (some .int), [])
theorem ok_X1_tired : oOk iX1_tired 3 := ⟨by decide, by decide, by decide +kernel⟩
noncomputable def mX1_tired (n : Nat) (FI : OhI) (FR : OhQ) (GR : OhQ) (AI : OhI) (AR : OhQ) (BR : OhQ) (AN : OhN) (x1 : Int32) (x2 : Int32) (x3 : Int32) : Option (Int32 × OhI × OhI × OhQ) :=
  (mX1_callOf FI FR GR AR BR AN x2).bind fun r1 =>
  (mX1_singerOf FI FR GR AR BR AN x1).bind fun r2 =>
  (if r2 = none then
  some ((-1 : Int32), FI, AI, BR)
else
  (if r1 = none then
    some ((-1 : Int32), FI, AI, BR)
  else
    (mX1_layOut n FI FR GR AI AR BR AN x3).bind fun r5 =>
      (mX1_tiredAt n r5.1 FR GR r5.2.1 AR r5.2.2 AN x1 r1).bind fun r6 =>
      some (r6, r5.1, r5.2.1, r5.2.2)))
theorem x_mX1_tired {G : OhG} {FI AI : OhI} {FL AL : OhL} {FR GR AR BR : OhQ} {AN : OhN} {C : OhC} {k : Nat × Nat} {Φ : OhP} {Ψ : OhX} (hH : ohShH FR AR AN) (n : Nat) (x1 : Int32) (x2 : Int32) (x3 : Int32) {r : Int32 × OhI × OhI × OhQ} (hm : mX1_tired n FI FR GR AI AR BR AN x1 x2 x3 = some r) (hK : Φ (some (vI r.1)) (r.2.1, FL, FR, GR, r.2.2.1, AL, AR, r.2.2.2, AN, C)) : oX G 6 iX1_tired 0 [(0, vR (some (0, 0))), (1, vI x1), (2, vI x2), (3, vI x3)] [] (FI, FL, FR, GR, AI, AL, AR, BR, AN, C) k Φ Ψ := by
  unfold mX1_tired at hm
  refine oX_aload_n dX1_tired_0 rfl rfl ?_
  refine oX_iload_n dX1_tired_1 rfl rfl ?_
  obtain ⟨r1, g1, hm⟩ := bd_s hm
  refine oX_cV (as := [vI x2]) dX1_tired_2 rfl oDs0 rfl (by decide) rfl ok_X1_callOf rfl rfl q1348 q1350 qs24 q129 q1351 (by decide) (Nat.le_of_ble_eq_true rfl) (t_X1_callOf hH x2 g1) ?_
  refine oX_astore (ls' := [(4, vR r1), (0, vR (some (0, 0))), (1, vI x1), (2, vI x2), (3, vI x3)]) dX1_tired_5 (by decide) rfl ?_
  refine oX_aload_n dX1_tired_7 rfl rfl ?_
  refine oX_iload_n dX1_tired_8 rfl rfl ?_
  obtain ⟨r2, g2, hm⟩ := bd_s hm
  refine oX_cV (as := [vI x1]) dX1_tired_9 rfl oDs0 rfl (by decide) rfl ok_X1_singerOf rfl rfl q644 q646 qs7 q129 q647 (by decide) (Nat.le_of_ble_eq_true rfl) (t_X1_singerOf hH x1 g2) ?_
  refine oX_ifnull (tgt := 20) dX1_tired_12 (by decide) (fun c3 => ?_) (fun c3 => ?_)
  · have hm := ifp c3 hm
    refine oX_iconst (v := (-1 : Int32)) dX1_tired_20 (by decide) ?_
    obtain rfl := Option.some.inj hm
    exact oX_iret dX1_tired_21 rfl rfl hK
  · have hm := ifn c3 hm
    refine oX_aload dX1_tired_15 rfl ?_
    refine oX_ifnonnull (tgt := 22) dX1_tired_17 (by decide) (fun c4 => ?_) (fun c4 => ?_)
    · have hm := ifp c4 hm
      refine oX_iconst (v := (-1 : Int32)) dX1_tired_20 (by decide) ?_
      obtain rfl := Option.some.inj hm
      exact oX_iret dX1_tired_21 rfl rfl hK
    · have hm := ifn c4 hm
      refine oX_aload_n dX1_tired_22 rfl rfl ?_
      refine oX_iload_n dX1_tired_23 rfl rfl ?_
      obtain ⟨r5, g5, hm⟩ := bd_s hm
      refine oX_cV_ (as := [vI x3]) dX1_tired_24 rfl oDs0 rfl (by decide) rfl ok_X1_layOut rfl rfl q1418 q1420 qs25 q129 q1421 (by decide) (Nat.le_of_ble_eq_true rfl) (t_X1_layOut hH n x3 g5) ?_
      refine oX_aload_n dX1_tired_27 rfl rfl ?_
      refine oX_iload_n dX1_tired_28 rfl rfl ?_
      refine oX_aload dX1_tired_29 rfl ?_
      obtain ⟨r6, g6, hm⟩ := bd_s hm
      refine oX_cV (as := [vI x1, vR r1]) dX1_tired_31 rfl oDs0 rfl (by decide) rfl ok_X1_tiredAt rfl rfl q1539 q1541 qs43 q129 q1542 (by decide) (Nat.le_of_ble_eq_true rfl) (t_X1_tiredAt hH n x1 r1 g6) ?_
      obtain rfl := Option.some.inj hm
      exact oX_iret dX1_tired_34 rfl rfl hK
theorem t_X1_tired {G : OhG} {FI AI : OhI} {FL AL : OhL} {FR GR AR BR : OhQ} {AN : OhN} {C : OhC} (hH : ohShH FR AR AN) (n : Nat) (x1 : Int32) (x2 : Int32) (x3 : Int32) {o : Int32 × OhI × OhI × OhQ} (hm : mX1_tired n FI FR GR AI AR BR AN x1 x2 x3 = some o) : oT G 6 iX1_tired [vR (some (0, 0)), vI x1, vI x2, vI x3] (FI, FL, FR, GR, AI, AL, AR, BR, AN, C) (0, 0) (fun v h => v = (some (vI o.1)) ∧ h = (o.2.1, FL, FR, GR, o.2.2.1, AL, AR, o.2.2.2, AN, C)) ohNo :=
  oT_of (by decide) rfl (Nat.le_of_ble_eq_true rfl) (x_mX1_tired hH n x1 x2 x3 hm ⟨rfl, rfl⟩)
abbrev iX1_moves : OhM := (yX1_moves, cX1_moves, 5, (some .int), [])
theorem ok_X1_moves : oOk iX1_moves 2 := ⟨by decide, by decide, by decide +kernel⟩
noncomputable def mX1_moves_j46 (n : Nat) (FI : OhI) (FR : OhQ) (AI : OhI) (AR : OhQ) (BR : OhQ) (AN : OhN) (x1 : Int32) (x2 : Int32) (x3 : Int32) (y1 : Int32) (y2 : Int32) : Option ((Int32 × OhI) ⊕ (OhI)) :=
  gd (vp_in y1 120) <|
  oLet (sA AI 323 0 (uA (AI 323 0) y1.toNatClampNeg (vp_nar .boolean y2))) fun AI7 =>
  some (.inl (x3 + (1 : Int32), AI7))
theorem x_mX1_moves_j46 {G : OhG} {FI AI : OhI} {FL AL : OhL} {FR GR AR BR : OhQ} {AN : OhN} {C : OhC} {k : Nat × Nat} {Φ : OhP} {Ψ : OhX} (hH : ohShH FR AR AN) (n : Nat) (x1 : Int32) (x2 : Int32) (x3 : Int32) (y1 : Int32) (y2 : Int32) {r : (Int32 × OhI) ⊕ (OhI)} (hm : mX1_moves_j46 n FI FR AI AR BR AN x1 x2 x3 y1 y2 = some r) (hk : ∀ v : Int32 × OhI, r = .inl v → oX G 2 iX1_moves 23 [(0, vR (some (0, 0))), (1, vI x1), (2, vI x2), (3, vI v.1)] [] (FI, FL, FR, GR, v.2, AL, AR, BR, AN, C) k Φ Ψ) (hx1 : ∀ v : OhI, r = .inr v → oX G 2 iX1_moves 53 [(0, vR (some (0, 0))), (1, vI x1), (2, vI x2)] [] (FI, FL, FR, GR, v, AL, AR, BR, AN, C) k Φ Ψ) : oX G 2 iX1_moves 46 [(0, vR (some (0, 0))), (1, vI x1), (2, vI x2), (3, vI x3)] [vI y2, vI y1, vR (some (323, 0))] (FI, FL, FR, GR, AI, AL, AR, BR, AN, C) k Φ Ψ := by
  unfold mX1_moves_j46 at hm
  obtain ⟨g7, hm⟩ := gd_s hm
  obtain ⟨AI7, hAI7, hm⟩ := oLs hm
  refine oX_zast oDs323 (oIn (ohN323 hH) g7) dX1_moves_46 hAI7 ?_
  refine oX_iinc (v := x3 + (1 : Int32)) (ls' := [(3, vI (x3 + (1 : Int32))), (0, vR (some (0, 0))), (1, vI x1), (2, vI x2)]) dX1_moves_47 rfl rfl (by decide) rfl ?_
  refine oX_goto (tgt := 23) dX1_moves_50 (by decide) ?_
  exact oX_sub [1, 2, 3, 0] rfl (hk (x3 + (1 : Int32), AI7) (Option.some.inj hm).symm)
noncomputable def mX1_moves_b23 (n : Nat) (FI : OhI) (FR : OhQ) (AI : OhI) (AR : OhQ) (BR : OhQ) (AN : OhN) (x1 : Int32) (x2 : Int32) (x3 : Int32) : Option ((Int32 × OhI) ⊕ (OhI)) :=
  (if (Int32.ofNat (AN 323 0)) ≤ x3 then
  some (.inr AI)
else
  (if x3 = 0 then
    mX1_moves_j46 n FI FR AI AR BR AN x1 x2 x3 x3 (1 : Int32)
  else
    mX1_moves_j46 n FI FR AI AR BR AN x1 x2 x3 x3 (0 : Int32)))
theorem x_mX1_moves_b23 {G : OhG} {FI AI : OhI} {FL AL : OhL} {FR GR AR BR : OhQ} {AN : OhN} {C : OhC} {k : Nat × Nat} {Φ : OhP} {Ψ : OhX} (hH : ohShH FR AR AN) (n : Nat) (x1 : Int32) (x2 : Int32) (x3 : Int32) {r : (Int32 × OhI) ⊕ (OhI)} (hm : mX1_moves_b23 n FI FR AI AR BR AN x1 x2 x3 = some r) (hk : ∀ v : Int32 × OhI, r = .inl v → oX G 2 iX1_moves 23 [(0, vR (some (0, 0))), (1, vI x1), (2, vI x2), (3, vI v.1)] [] (FI, FL, FR, GR, v.2, AL, AR, BR, AN, C) k Φ Ψ) (hx1 : ∀ v : OhI, r = .inr v → oX G 2 iX1_moves 53 [(0, vR (some (0, 0))), (1, vI x1), (2, vI x2)] [] (FI, FL, FR, GR, v, AL, AR, BR, AN, C) k Φ Ψ) : oX G 2 iX1_moves 23 [(0, vR (some (0, 0))), (1, vI x1), (2, vI x2), (3, vI x3)] [] (FI, FL, FR, GR, AI, AL, AR, BR, AN, C) k Φ Ψ := by
  unfold mX1_moves_b23 at hm
  refine oX_iload_n dX1_moves_23 rfl rfl ?_
  refine oX_aload_n dX1_moves_24 rfl rfl ?_
  refine oX_getF fX1_76 rfl oDs0 dX1_moves_25 (ohF323 hH) ?_
  refine oX_alen 1 (by decide) oDs323 dX1_moves_28 ?_
  refine oX_icmp_ge (tgt := 53) dX1_moves_29 (by decide) (fun c5 => ?_) (fun c5 => ?_)
  · have hm := ifp c5 hm
    exact oX_sub [0, 1, 2] rfl (hx1 AI (Option.some.inj hm).symm)
  · have hm := ifn c5 hm
    refine oX_aload_n dX1_moves_32 rfl rfl ?_
    refine oX_getF fX1_76 rfl oDs0 dX1_moves_33 (ohF323 hH) ?_
    refine oX_iload_n dX1_moves_36 rfl rfl ?_
    refine oX_iload_n dX1_moves_37 rfl rfl ?_
    refine oX_if_ne (tgt := 45) dX1_moves_38 (by decide) (fun c6 => ?_) (fun c6 => ?_)
    · have hm := ifp c6 hm
      refine oX_iconst (v := (1 : Int32)) dX1_moves_41 (by decide) ?_
      refine oX_goto (tgt := 46) dX1_moves_42 (by decide) ?_
      exact oX_sub [0, 1, 2, 3] rfl (x_mX1_moves_j46 hH n x1 x2 x3 x3 (1 : Int32) hm hk hx1)
    · have hm := ifn c6 hm
      refine oX_iconst (v := (0 : Int32)) dX1_moves_45 (by decide) ?_
      exact oX_sub [0, 1, 2, 3] rfl (x_mX1_moves_j46 hH n x1 x2 x3 x3 (0 : Int32) hm hk hx1)
theorem l_mX1_moves_b23 {G : OhG} {FI : OhI} {FL : OhL} {FR : OhQ} {GR : OhQ} {AL : OhL} {AR : OhQ} {BR : OhQ} {AN : OhN} {C : OhC} {k : Nat × Nat} {Φ : OhP} {Ψ : OhX} (hH : ohShH FR AR AN) (n : Nat) (x1 : Int32) (x2 : Int32) : ∀ (f : Nat) (x3 : Int32) (AI : OhI) (b : (OhI)), lpF (fun v => mX1_moves_b23 n FI FR v.2 AR BR AN x1 x2 v.1) f (x3, AI) = some b → (oX G 2 iX1_moves 53 [(0, vR (some (0, 0))), (1, vI x1), (2, vI x2)] [] (FI, FL, FR, GR, b, AL, AR, BR, AN, C) k Φ Ψ) → oX G 2 iX1_moves 23 [(0, vR (some (0, 0))), (1, vI x1), (2, vI x2), (3, vI x3)] [] (FI, FL, FR, GR, AI, AL, AR, BR, AN, C) k Φ Ψ := by
  intro f
  induction f with
  | zero =>
    intro x3 AI b hm
    cases hm
  | succ f ih =>
    intro x3 AI b hm hx1
    obtain ⟨r, hr, hm⟩ := lp_s hm
    refine x_mX1_moves_b23 hH n x1 x2 x3 hr (fun v e => ?_) (fun v e => ?_)
    · subst e; exact ih v.1 v.2 _ hm hx1
    · subst e; cases (show v = b from hm); exact hx1
noncomputable def mX1_moves_b63 (n : Nat) (FI : OhI) (FR : OhQ) (AI : OhI) (AR : OhQ) (BR : OhQ) (AN : OhN) (x1 : Int32) (x2 : Int32) (x3 : Int32) (x4 : Int32) : Option ((Int32) ⊕ ((Unit) ⊕ (Unit))) :=
  (if (Int32.ofNat (AN 323 0)) ≤ x4 then
  some (.inr (.inl ()))
else
  gd (vp_in x4 120) <|
    (if (AI 323 0 x4.toNatClampNeg) = 0 then
    some (.inl (x4 + (1 : Int32)))
  else
    gd (vp_in x4 120) <|
      (if (AI 61 0 x4.toNatClampNeg) = x1 then
      some (.inr (.inr ()))
    else
      some (.inl (x4 + (1 : Int32))))))
theorem x_mX1_moves_b63 {G : OhG} {FI AI : OhI} {FL AL : OhL} {FR GR AR BR : OhQ} {AN : OhN} {C : OhC} {k : Nat × Nat} {Φ : OhP} {Ψ : OhX} (hH : ohShH FR AR AN) (n : Nat) (x1 : Int32) (x2 : Int32) (x3 : Int32) (x4 : Int32) {r : (Int32) ⊕ ((Unit) ⊕ (Unit))} (hm : mX1_moves_b63 n FI FR AI AR BR AN x1 x2 x3 x4 = some r) (hk : ∀ v : Int32, r = .inl v → oX G 2 iX1_moves 63 [(0, vR (some (0, 0))), (1, vI x1), (2, vI x2), (3, vI x3), (4, vI v)] [] (FI, FL, FR, GR, AI, AL, AR, BR, AN, C) k Φ Ψ) (hx1 : ∀ v : Unit, r = .inr (.inl v) → oX G 2 iX1_moves 105 [(0, vR (some (0, 0))), (1, vI x1), (2, vI x2), (3, vI x3)] [] (FI, FL, FR, GR, AI, AL, AR, BR, AN, C) k Φ Ψ) (hx2 : ∀ v : Unit, r = .inr (.inr v) → oX G 2 iX1_moves 97 [(3, vI x3)] [] (FI, FL, FR, GR, AI, AL, AR, BR, AN, C) k Φ Ψ) : oX G 2 iX1_moves 63 [(0, vR (some (0, 0))), (1, vI x1), (2, vI x2), (3, vI x3), (4, vI x4)] [] (FI, FL, FR, GR, AI, AL, AR, BR, AN, C) k Φ Ψ := by
  unfold mX1_moves_b63 at hm
  refine oX_iload dX1_moves_63 rfl ?_
  refine oX_aload_n dX1_moves_65 rfl rfl ?_
  refine oX_getF fX1_76 rfl oDs0 dX1_moves_66 (ohF323 hH) ?_
  refine oX_alen 1 (by decide) oDs323 dX1_moves_69 ?_
  refine oX_icmp_ge (tgt := 105) dX1_moves_70 (by decide) (fun c10 => ?_) (fun c10 => ?_)
  · have hm := ifp c10 hm
    exact oX_sub [0, 1, 2, 3] rfl (hx1 () (Option.some.inj hm).symm)
  · have hm := ifn c10 hm
    refine oX_aload_n dX1_moves_73 rfl rfl ?_
    refine oX_getF fX1_76 rfl oDs0 dX1_moves_74 (ohF323 hH) ?_
    refine oX_iload dX1_moves_77 rfl ?_
    obtain ⟨g11, hm⟩ := gd_s hm
    refine oX_zald oDs323 (oIn (ohN323 hH) g11) dX1_moves_79 ?_
    refine oX_if_eq (tgt := 99) dX1_moves_80 (by decide) (fun c12 => ?_) (fun c12 => ?_)
    · have hm := ifp c12 hm
      refine oX_iinc (v := x4 + (1 : Int32)) (ls' := [(4, vI (x4 + (1 : Int32))), (0, vR (some (0, 0))), (1, vI x1), (2, vI x2), (3, vI x3)]) dX1_moves_99 rfl rfl (by decide) rfl ?_
      refine oX_goto (tgt := 63) dX1_moves_102 (by decide) ?_
      exact oX_sub [1, 2, 3, 4, 0] rfl (hk (x4 + (1 : Int32)) (Option.some.inj hm).symm)
    · have hm := ifn c12 hm
      refine oX_aload_n dX1_moves_83 rfl rfl ?_
      refine oX_getF fX1_52 rfl oDs0 dX1_moves_84 (ohF315 hH) ?_
      refine oX_getF fX1_401 rfl oDs315 dX1_moves_87 (ohF61 (ohShH_W hH)) ?_
      refine oX_iload dX1_moves_90 rfl ?_
      obtain ⟨g13, hm⟩ := gd_s hm
      refine oX_iald oDs61 (oIn (ohN61 (ohShH_W hH)) g13) dX1_moves_92 ?_
      refine oX_iload_n dX1_moves_93 rfl rfl ?_
      refine oX_icmp_ne (tgt := 99) dX1_moves_94 (by decide) (fun c14 => ?_) (fun c14 => ?_)
      · have hm := ifp c14 hm
        exact oX_sub [3] rfl (hx2 () (Option.some.inj hm).symm)
      · have hm := ifn c14 hm
        refine oX_iinc (v := x4 + (1 : Int32)) (ls' := [(4, vI (x4 + (1 : Int32))), (0, vR (some (0, 0))), (1, vI x1), (2, vI x2), (3, vI x3)]) dX1_moves_99 rfl rfl (by decide) rfl ?_
        refine oX_goto (tgt := 63) dX1_moves_102 (by decide) ?_
        exact oX_sub [1, 2, 3, 4, 0] rfl (hk (x4 + (1 : Int32)) (Option.some.inj hm).symm)
theorem l_mX1_moves_b63 {G : OhG} {FI : OhI} {FL : OhL} {FR : OhQ} {GR : OhQ} {AI : OhI} {AL : OhL} {AR : OhQ} {BR : OhQ} {AN : OhN} {C : OhC} {k : Nat × Nat} {Φ : OhP} {Ψ : OhX} (hH : ohShH FR AR AN) (n : Nat) (x1 : Int32) (x2 : Int32) (x3 : Int32) : ∀ (f : Nat) (x4 : Int32) (b : ((Unit) ⊕ (Unit))), lpF (fun v => mX1_moves_b63 n FI FR AI AR BR AN x1 x2 x3 v) f x4 = some b → (∀ v : Unit, b = (.inl v) → oX G 2 iX1_moves 105 [(0, vR (some (0, 0))), (1, vI x1), (2, vI x2), (3, vI x3)] [] (FI, FL, FR, GR, AI, AL, AR, BR, AN, C) k Φ Ψ) → (∀ v : Unit, b = (.inr v) → oX G 2 iX1_moves 97 [(3, vI x3)] [] (FI, FL, FR, GR, AI, AL, AR, BR, AN, C) k Φ Ψ) → oX G 2 iX1_moves 63 [(0, vR (some (0, 0))), (1, vI x1), (2, vI x2), (3, vI x3), (4, vI x4)] [] (FI, FL, FR, GR, AI, AL, AR, BR, AN, C) k Φ Ψ := by
  intro f
  induction f with
  | zero =>
    intro x4 b hm
    cases hm
  | succ f ih =>
    intro x4 b hm hx1 hx2
    obtain ⟨r, hr, hm⟩ := lp_s hm
    refine x_mX1_moves_b63 hH n x1 x2 x3 x4 hr (fun v e => ?_) (fun v e => ?_) (fun v e => ?_)
    · subst e; exact ih v _ hm hx1 hx2
    · subst e; exact hx1 v hm.symm
    · subst e; exact hx2 v hm.symm
noncomputable def mX1_moves_b55 (n : Nat) (FI : OhI) (FR : OhQ) (AI : OhI) (AR : OhQ) (BR : OhQ) (AN : OhN) (x1 : Int32) (x2 : Int32) (x3 : Int32) : Option ((Int32 × OhI) ⊕ ((OhI) ⊕ (Int32 × OhI))) :=
  (if x2 < x3 then
  some (.inr (.inl AI))
else
  (lpF (fun v => mX1_moves_b63 n FI FR AI AR BR AN x1 x2 x3 v) n (0 : Int32)).bind (Sum.elim (fun v15 => (mX2_spread n FI FR AI AR BR AN (some (323, 0)) (some (324, 0))).bind fun r16 =>
    some (.inl (x3 + (1 : Int32), r16.2))) (fun v15 => some (.inr (.inr (x3, AI))))))
theorem x_mX1_moves_b55 {G : OhG} {FI AI : OhI} {FL AL : OhL} {FR GR AR BR : OhQ} {AN : OhN} {C : OhC} {k : Nat × Nat} {Φ : OhP} {Ψ : OhX} (hH : ohShH FR AR AN) (n : Nat) (x1 : Int32) (x2 : Int32) (x3 : Int32) {r : (Int32 × OhI) ⊕ ((OhI) ⊕ (Int32 × OhI))} (hm : mX1_moves_b55 n FI FR AI AR BR AN x1 x2 x3 = some r) (hk : ∀ v : Int32 × OhI, r = .inl v → oX G 2 iX1_moves 55 [(0, vR (some (0, 0))), (1, vI x1), (2, vI x2), (3, vI v.1)] [] (FI, FL, FR, GR, v.2, AL, AR, BR, AN, C) k Φ Ψ) (hx1 : ∀ v : OhI, r = .inr (.inl v) → oX G 2 iX1_moves 127 [] [] (FI, FL, FR, GR, v, AL, AR, BR, AN, C) k Φ Ψ) (hx2 : ∀ v : Int32 × OhI, r = .inr (.inr v) → oX G 2 iX1_moves 97 [(3, vI v.1)] [] (FI, FL, FR, GR, v.2, AL, AR, BR, AN, C) k Φ Ψ) : oX G 2 iX1_moves 55 [(0, vR (some (0, 0))), (1, vI x1), (2, vI x2), (3, vI x3)] [] (FI, FL, FR, GR, AI, AL, AR, BR, AN, C) k Φ Ψ := by
  unfold mX1_moves_b55 at hm
  refine oX_iload_n dX1_moves_55 rfl rfl ?_
  refine oX_iload_n dX1_moves_56 rfl rfl ?_
  refine oX_icmp_gt (tgt := 127) dX1_moves_57 (by decide) (fun c9 => ?_) (fun c9 => ?_)
  · have hm := ifp c9 hm
    exact oX_sub [] rfl (hx1 AI (Option.some.inj hm).symm)
  · have hm := ifn c9 hm
    refine oX_iconst (v := (0 : Int32)) dX1_moves_60 (by decide) ?_
    refine oX_istore (ls' := [(4, vI (0 : Int32)), (0, vR (some (0, 0))), (1, vI x1), (2, vI x2), (3, vI x3)]) dX1_moves_61 (by decide) rfl ?_
    obtain ⟨b15, g15, hm⟩ := bd_s hm
    refine oX_sub [1, 2, 3, 4, 0] rfl (l_mX1_moves_b63 hH n x1 x2 x3 n (0 : Int32) _ g15 (fun v15 e15 => ?_) (fun v15 e15 => ?_))
    · subst e15
      have hm := el1 hm
      refine oX_aload_n dX1_moves_105 rfl rfl ?_
      refine oX_getF fX1_52 rfl oDs0 dX1_moves_106 (ohF315 hH) ?_
      refine oX_aload_n dX1_moves_109 rfl rfl ?_
      refine oX_getF fX1_76 rfl oDs0 dX1_moves_110 (ohF323 hH) ?_
      refine oX_aload_n dX1_moves_113 rfl rfl ?_
      refine oX_getF fX1_80 rfl oDs0 dX1_moves_114 (ohF324 hH) ?_
      obtain ⟨r16, g16, hm⟩ := bd_s hm
      refine oX_cV (as := [vR (some (323, 0)), vR (some (324, 0))]) dX1_moves_117 rfl oDs315 rfl (by decide) rfl ok_X2_spread rfl rfl q1450 q1451 q1452 q133 q1453 (by decide) (Nat.le_of_ble_eq_true rfl) (t_X2_spread (ohShH_W hH) n (some (323, 0)) (some (324, 0)) g16) ?_
      refine oX_pop dX1_moves_120 trivial ?_
      refine oX_iinc (v := x3 + (1 : Int32)) (ls' := [(3, vI (x3 + (1 : Int32))), (0, vR (some (0, 0))), (1, vI x1), (2, vI x2)]) dX1_moves_121 rfl rfl (by decide) rfl ?_
      refine oX_goto (tgt := 55) dX1_moves_124 (by decide) ?_
      exact oX_sub [1, 2, 3, 0] rfl (hk (x3 + (1 : Int32), r16.2) (Option.some.inj hm).symm)
    · subst e15
      have hm := el2 hm
      exact oX_sub [0] rfl (hx2 (x3, AI) (Option.some.inj hm).symm)
theorem l_mX1_moves_b55 {G : OhG} {FI : OhI} {FL : OhL} {FR : OhQ} {GR : OhQ} {AL : OhL} {AR : OhQ} {BR : OhQ} {AN : OhN} {C : OhC} {k : Nat × Nat} {Φ : OhP} {Ψ : OhX} (hH : ohShH FR AR AN) (n : Nat) (x1 : Int32) (x2 : Int32) : ∀ (f : Nat) (x3 : Int32) (AI : OhI) (b : ((OhI) ⊕ (Int32 × OhI))), lpF (fun v => mX1_moves_b55 n FI FR v.2 AR BR AN x1 x2 v.1) f (x3, AI) = some b → (∀ v : OhI, b = (.inl v) → oX G 2 iX1_moves 127 [] [] (FI, FL, FR, GR, v, AL, AR, BR, AN, C) k Φ Ψ) → (∀ v : Int32 × OhI, b = (.inr v) → oX G 2 iX1_moves 97 [(3, vI v.1)] [] (FI, FL, FR, GR, v.2, AL, AR, BR, AN, C) k Φ Ψ) → oX G 2 iX1_moves 55 [(0, vR (some (0, 0))), (1, vI x1), (2, vI x2), (3, vI x3)] [] (FI, FL, FR, GR, AI, AL, AR, BR, AN, C) k Φ Ψ := by
  intro f
  induction f with
  | zero =>
    intro x3 AI b hm
    cases hm
  | succ f ih =>
    intro x3 AI b hm hx1 hx2
    obtain ⟨r, hr, hm⟩ := lp_s hm
    refine x_mX1_moves_b55 hH n x1 x2 x3 hr (fun v e => ?_) (fun v e => ?_) (fun v e => ?_)
    · subst e; exact ih v.1 v.2 _ hm hx1 hx2
    · subst e; exact hx1 v hm.symm
    · subst e; exact hx2 v hm.symm
noncomputable def mX1_moves (n : Nat) (FI : OhI) (FR : OhQ) (AI : OhI) (AR : OhQ) (BR : OhQ) (AN : OhN) (x1 : Int32) (x2 : Int32) : Option (Int32 × OhI) :=
  (mX1_isIn x1 (0 : Int32) (3 : Int32)).bind fun r1 =>
  (if r1 = 0 then
  some ((-1 : Int32), AI)
else
  (mX1_isIn x2 (0 : Int32) (40 : Int32)).bind fun r3 =>
    (if r3 = 0 then
    some ((-1 : Int32), AI)
  else
    (lpF (fun v => mX1_moves_b23 n FI FR v.2 AR BR AN x1 x2 v.1) n ((0 : Int32), AI)).bind fun v8 =>
      (lpF (fun v => mX1_moves_b55 n FI FR v.2 AR BR AN x1 x2 v.1) n ((0 : Int32), v8)).bind (Sum.elim (fun v17 => some ((-1 : Int32), v17)) (fun v17 => some (v17.1, v17.2)))))
theorem x_mX1_moves {G : OhG} {FI AI : OhI} {FL AL : OhL} {FR GR AR BR : OhQ} {AN : OhN} {C : OhC} {k : Nat × Nat} {Φ : OhP} {Ψ : OhX} (hH : ohShH FR AR AN) (n : Nat) (x1 : Int32) (x2 : Int32) {r : Int32 × OhI} (hm : mX1_moves n FI FR AI AR BR AN x1 x2 = some r) (hK : Φ (some (vI r.1)) (FI, FL, FR, GR, r.2, AL, AR, BR, AN, C)) : oX G 2 iX1_moves 0 [(0, vR (some (0, 0))), (1, vI x1), (2, vI x2)] [] (FI, FL, FR, GR, AI, AL, AR, BR, AN, C) k Φ Ψ := by
  unfold mX1_moves at hm
  refine oX_iload_n dX1_moves_0 rfl rfl ?_
  refine oX_iconst (v := (0 : Int32)) dX1_moves_1 (by decide) ?_
  refine oX_iconst (v := (3 : Int32)) dX1_moves_2 (by decide) ?_
  obtain ⟨r1, g1, hm⟩ := bd_s hm
  refine oX_cS (as := [vI x1, vI (0 : Int32), vI (3 : Int32)]) dX1_moves_3 rfl ok_X1_isIn rfl rfl q421 q238 q129 q239 (by decide) (Nat.le_of_ble_eq_true rfl) (t_X1_isIn x1 (0 : Int32) (3 : Int32) g1) ?_
  refine oX_if_eq (tgt := 19) dX1_moves_6 (by decide) (fun c2 => ?_) (fun c2 => ?_)
  · have hm := ifp c2 hm
    refine oX_iconst (v := (-1 : Int32)) dX1_moves_19 (by decide) ?_
    obtain rfl := Option.some.inj hm
    exact oX_iret dX1_moves_20 rfl rfl hK
  · have hm := ifn c2 hm
    refine oX_iload_n dX1_moves_9 rfl rfl ?_
    refine oX_iconst (v := (0 : Int32)) dX1_moves_10 (by decide) ?_
    refine oX_bipush (v := (40 : Int32)) dX1_moves_11 (by decide) ?_
    obtain ⟨r3, g3, hm⟩ := bd_s hm
    refine oX_cS (as := [vI x2, vI (0 : Int32), vI (40 : Int32)]) dX1_moves_13 rfl ok_X1_isIn rfl rfl q421 q238 q129 q239 (by decide) (Nat.le_of_ble_eq_true rfl) (t_X1_isIn x2 (0 : Int32) (40 : Int32) g3) ?_
    refine oX_if_ne (tgt := 21) dX1_moves_16 (by decide) (fun c4 => ?_) (fun c4 => ?_)
    · have hm := ifp c4 hm
      refine oX_iconst (v := (-1 : Int32)) dX1_moves_19 (by decide) ?_
      obtain rfl := Option.some.inj hm
      exact oX_iret dX1_moves_20 rfl rfl hK
    · have hm := ifn c4 hm
      refine oX_iconst (v := (0 : Int32)) dX1_moves_21 (by decide) ?_
      refine oX_istore_n (ls' := [(3, vI (0 : Int32)), (0, vR (some (0, 0))), (1, vI x1), (2, vI x2)]) dX1_moves_22 rfl (by decide) rfl ?_
      obtain ⟨v8, g8, hm⟩ := bd_s hm
      refine oX_sub [1, 2, 3, 0] rfl (l_mX1_moves_b23 hH n x1 x2 n (0 : Int32) AI _ g8 ?_)
      refine oX_iconst (v := (0 : Int32)) dX1_moves_53 (by decide) ?_
      refine oX_istore_n (ls' := [(3, vI (0 : Int32)), (0, vR (some (0, 0))), (1, vI x1), (2, vI x2)]) dX1_moves_54 rfl (by decide) rfl ?_
      obtain ⟨b17, g17, hm⟩ := bd_s hm
      refine oX_sub [1, 2, 3, 0] rfl (l_mX1_moves_b55 hH n x1 x2 n (0 : Int32) v8 _ g17 (fun v17 e17 => ?_) (fun v17 e17 => ?_))
      · subst e17
        have hm := el1 hm
        refine oX_iconst (v := (-1 : Int32)) dX1_moves_127 (by decide) ?_
        obtain rfl := Option.some.inj hm
        exact oX_iret dX1_moves_128 rfl rfl hK
      · subst e17
        have hm := el2 hm
        refine oX_iload_n dX1_moves_97 rfl rfl ?_
        obtain rfl := Option.some.inj hm
        exact oX_iret dX1_moves_98 rfl rfl hK
theorem t_X1_moves {G : OhG} {FI AI : OhI} {FL AL : OhL} {FR GR AR BR : OhQ} {AN : OhN} {C : OhC} (hH : ohShH FR AR AN) (n : Nat) (x1 : Int32) (x2 : Int32) {o : Int32 × OhI} (hm : mX1_moves n FI FR AI AR BR AN x1 x2 = some o) : oT G 2 iX1_moves [vR (some (0, 0)), vI x1, vI x2] (FI, FL, FR, GR, AI, AL, AR, BR, AN, C) (0, 0) (fun v h => v = (some (vI o.1)) ∧ h = (FI, FL, FR, GR, o.2, AL, AR, BR, AN, C)) ohNo :=
  oT_of (by decide) rfl (Nat.le_of_ble_eq_true rfl) (x_mX1_moves hH n x1 x2 hm ⟨rfl, rfl⟩)
abbrev iX1_isRole : OhM := (yX1_isRole, cX1_isRole, 3, (some .boolean), [])
theorem ok_X1_isRole : oOk iX1_isRole 2 := ⟨by decide, by decide, by decide +kernel⟩
noncomputable def mX1_isRole (FI : OhI) (FR : OhQ) (x1 : OhR) (x2 : Int32) : Option (Int32) :=
  (if x1 = none then
  some (0 : Int32)
else
  (oD 14 x1).bind fun a2 =>
    (mX15_roles FI FR a2).bind fun r3 =>
    (mX1_isIn x2 (0 : Int32) (r3 - (1 : Int32))).bind fun r4 =>
    (if r4 = 0 then
    some (0 : Int32)
  else
    some (1 : Int32)))
theorem x_mX1_isRole {G : OhG} {FI AI : OhI} {FL AL : OhL} {FR GR AR BR : OhQ} {AN : OhN} {C : OhC} {k : Nat × Nat} {Φ : OhP} {Ψ : OhX} (x1 : OhR) (x2 : Int32) {r : Int32} (hm : mX1_isRole FI FR x1 x2 = some r) (hK : Φ (some (vI r)) (FI, FL, FR, GR, AI, AL, AR, BR, AN, C)) : oX G 3 iX1_isRole 0 [(0, vR (some (0, 0))), (1, vR x1), (2, vI x2)] [] (FI, FL, FR, GR, AI, AL, AR, BR, AN, C) k Φ Ψ := by
  unfold mX1_isRole at hm
  refine oX_aload_n dX1_isRole_0 rfl rfl ?_
  refine oX_ifnull (tgt := 22) dX1_isRole_1 (by decide) (fun c1 => ?_) (fun c1 => ?_)
  · have hm := ifp c1 hm
    refine oX_iconst (v := (0 : Int32)) dX1_isRole_22 (by decide) ?_
    obtain rfl := Option.some.inj hm
    exact oX_iret dX1_isRole_23 rfl (by decide) hK
  · have hm := ifn c1 hm
    refine oX_iload_n dX1_isRole_4 rfl rfl ?_
    refine oX_iconst (v := (0 : Int32)) dX1_isRole_5 (by decide) ?_
    refine oX_aload_n dX1_isRole_6 rfl rfl ?_
    obtain ⟨a2, e2, hm⟩ := bd_s hm
    obtain ⟨r3, g3, hm⟩ := bd_s hm
    refine oX_cV (as := []) dX1_isRole_7 rfl e2 rfl (by decide) rfl ok_X15_roles rfl rfl q1352 q1353 q1354 q165 q1355 (by decide) (Nat.le_of_ble_eq_true rfl) (t_X15_roles a2 ((oD_some e2).2) g3) ?_
    refine oX_iconst (v := (1 : Int32)) dX1_isRole_10 (by decide) ?_
    refine oX_isub dX1_isRole_11 ?_
    obtain ⟨r4, g4, hm⟩ := bd_s hm
    refine oX_cS (as := [vI x2, vI (0 : Int32), vI (r3 - (1 : Int32))]) dX1_isRole_12 rfl ok_X1_isIn rfl rfl q421 q238 q129 q239 (by decide) (Nat.le_of_ble_eq_true rfl) (t_X1_isIn x2 (0 : Int32) (r3 - (1 : Int32)) g4) ?_
    refine oX_if_eq (tgt := 22) dX1_isRole_15 (by decide) (fun c5 => ?_) (fun c5 => ?_)
    · have hm := ifp c5 hm
      refine oX_iconst (v := (0 : Int32)) dX1_isRole_22 (by decide) ?_
      obtain rfl := Option.some.inj hm
      exact oX_iret dX1_isRole_23 rfl (by decide) hK
    · have hm := ifn c5 hm
      refine oX_iconst (v := (1 : Int32)) dX1_isRole_18 (by decide) ?_
      refine oX_goto (tgt := 23) dX1_isRole_19 (by decide) ?_
      obtain rfl := Option.some.inj hm
      exact oX_iret dX1_isRole_23 rfl (by decide) hK
theorem t_X1_isRole {G : OhG} {FI AI : OhI} {FL AL : OhL} {FR GR AR BR : OhQ} {AN : OhN} {C : OhC} (x1 : OhR) (x2 : Int32) {o : Int32} (hm : mX1_isRole FI FR x1 x2 = some o) : oT G 3 iX1_isRole [vR (some (0, 0)), vR x1, vI x2] (FI, FL, FR, GR, AI, AL, AR, BR, AN, C) (0, 0) (fun v h => v = (some (vI o)) ∧ h = (FI, FL, FR, GR, AI, AL, AR, BR, AN, C)) ohNo :=
  oT_of (by decide) rfl (Nat.le_of_ble_eq_true rfl) (x_mX1_isRole x1 x2 hm ⟨rfl, rfl⟩)
abbrev iX1_keepWrongs : OhM := (yX1_keepWrongs, cX1_keepWrongs, 5, none, [])
theorem ok_X1_keepWrongs : oOk iX1_keepWrongs 1 := ⟨by decide, by decide, by decide +kernel⟩
noncomputable def mX1_keepWrongs_j68 (n : Nat) (FI : OhI) (FR : OhQ) (AI : OhI) (AR : OhQ) (BR : OhQ) (AN : OhN) (x1 : Int32) (x2 : Int32) (x3 : Int32) (x4 : Int32) (y0 : OhR) (y1 : Int32) (y2 : Int32) : Option ((Int32 × OhI) ⊕ (OhI)) :=
  (oD 100 y0).bind fun a11 =>
  gd (vp_in y1 (AN a11.1 a11.2)) <|
  oLet (sA AI a11.1 a11.2 (uA (AI a11.1 a11.2) y1.toNatClampNeg y2)) fun AI12 =>
  some (.inl (x4 + (1 : Int32), AI12))
theorem x_mX1_keepWrongs_j68 {G : OhG} {FI AI : OhI} {FL AL : OhL} {FR GR AR BR : OhQ} {AN : OhN} {C : OhC} {k : Nat × Nat} {Φ : OhP} {Ψ : OhX} (hH : ohShH FR AR AN) (n : Nat) (x1 : Int32) (x2 : Int32) (x3 : Int32) (x4 : Int32) (y0 : OhR) (y1 : Int32) (y2 : Int32) {r : (Int32 × OhI) ⊕ (OhI)} (hm : mX1_keepWrongs_j68 n FI FR AI AR BR AN x1 x2 x3 x4 y0 y1 y2 = some r) (hk : ∀ v : Int32 × OhI, r = .inl v → oX G 1 iX1_keepWrongs 23 [(0, vR (some (0, 0))), (1, vI x1), (2, vI x2), (3, vI x3), (4, vI v.1)] [] (FI, FL, FR, GR, v.2, AL, AR, BR, AN, C) k Φ Ψ) (hx1 : ∀ v : OhI, r = .inr v → oX G 1 iX1_keepWrongs 75 [(0, vR (some (0, 0))), (1, vI x1), (2, vI x2)] [] (FI, FL, FR, GR, v, AL, AR, BR, AN, C) k Φ Ψ) : oX G 1 iX1_keepWrongs 68 [(0, vR (some (0, 0))), (1, vI x1), (2, vI x2), (3, vI x3), (4, vI x4)] [vI y2, vI y1, vR y0] (FI, FL, FR, GR, AI, AL, AR, BR, AN, C) k Φ Ψ := by
  unfold mX1_keepWrongs_j68 at hm
  obtain ⟨a11, e11, hm⟩ := bd_s hm
  obtain ⟨g12, hm⟩ := gd_s hm
  obtain ⟨AI12, hAI12, hm⟩ := oLs hm
  refine oX_iast e11 g12 dX1_keepWrongs_68 hAI12 ?_
  refine oX_iinc (v := x4 + (1 : Int32)) (ls' := [(4, vI (x4 + (1 : Int32))), (0, vR (some (0, 0))), (1, vI x1), (2, vI x2), (3, vI x3)]) dX1_keepWrongs_69 rfl rfl (by decide) rfl ?_
  refine oX_goto (tgt := 23) dX1_keepWrongs_72 (by decide) ?_
  exact oX_sub [1, 2, 3, 4, 0] rfl (hk (x4 + (1 : Int32), AI12) (Option.some.inj hm).symm)
noncomputable def mX1_keepWrongs_b23 (n : Nat) (FI : OhI) (FR : OhQ) (AI : OhI) (AR : OhQ) (BR : OhQ) (AN : OhN) (x1 : Int32) (x2 : Int32) (x3 : Int32) (x4 : Int32) : Option ((Int32 × OhI) ⊕ (OhI)) :=
  (if (8 : Int32) ≤ x4 then
  some (.inr AI)
else
  gd (vp_in x3 66) <|
    gd (vp_in x3 66) <|
    gd (vp_in x4 8) <|
    (if (AI 419 x3.toNatClampNeg x4.toNatClampNeg) = x1 then
    gd (vp_in x3 66) <|
      gd (vp_in x4 9) <|
      mX1_keepWrongs_j68 n FI FR AI AR BR AN x1 x2 x3 x4 (some (428, x3.toNatClampNeg)) x4 ((AI 422 x3.toNatClampNeg x4.toNatClampNeg) &&& (64768 : Int32))
  else
    mX1_keepWrongs_j68 n FI FR AI AR BR AN x1 x2 x3 x4 (some (428, x3.toNatClampNeg)) x4 (0 : Int32)))
theorem x_mX1_keepWrongs_b23 {G : OhG} {FI AI : OhI} {FL AL : OhL} {FR GR AR BR : OhQ} {AN : OhN} {C : OhC} {k : Nat × Nat} {Φ : OhP} {Ψ : OhX} (hH : ohShH FR AR AN) (n : Nat) (x1 : Int32) (x2 : Int32) (x3 : Int32) (x4 : Int32) {r : (Int32 × OhI) ⊕ (OhI)} (hm : mX1_keepWrongs_b23 n FI FR AI AR BR AN x1 x2 x3 x4 = some r) (hk : ∀ v : Int32 × OhI, r = .inl v → oX G 1 iX1_keepWrongs 23 [(0, vR (some (0, 0))), (1, vI x1), (2, vI x2), (3, vI x3), (4, vI v.1)] [] (FI, FL, FR, GR, v.2, AL, AR, BR, AN, C) k Φ Ψ) (hx1 : ∀ v : OhI, r = .inr v → oX G 1 iX1_keepWrongs 75 [(0, vR (some (0, 0))), (1, vI x1), (2, vI x2)] [] (FI, FL, FR, GR, v, AL, AR, BR, AN, C) k Φ Ψ) : oX G 1 iX1_keepWrongs 23 [(0, vR (some (0, 0))), (1, vI x1), (2, vI x2), (3, vI x3), (4, vI x4)] [] (FI, FL, FR, GR, AI, AL, AR, BR, AN, C) k Φ Ψ := by
  unfold mX1_keepWrongs_b23 at hm
  refine oX_iload dX1_keepWrongs_23 rfl ?_
  refine oX_bipush (v := (8 : Int32)) dX1_keepWrongs_25 (by decide) ?_
  refine oX_icmp_ge (tgt := 75) dX1_keepWrongs_27 (by decide) (fun c4 => ?_) (fun c4 => ?_)
  · have hm := ifp c4 hm
    exact oX_sub [0, 1, 2] rfl (hx1 AI (Option.some.inj hm).symm)
  · have hm := ifn c4 hm
    refine oX_aload_n dX1_keepWrongs_30 rfl rfl ?_
    refine oX_getF fX1_96 rfl oDs0 dX1_keepWrongs_31 (ohF328 hH) ?_
    refine oX_iload_n dX1_keepWrongs_34 rfl rfl ?_
    obtain ⟨g5, hm⟩ := gd_s hm
    refine oX_aaldR oDs328 (oIn (ohN328 hH) g5) dX1_keepWrongs_35 (ohA328 hH (oLt g5)) ?_
    refine oX_iload dX1_keepWrongs_36 rfl ?_
    refine oX_aload_n dX1_keepWrongs_38 rfl rfl ?_
    refine oX_getF fX1_64 rfl oDs0 dX1_keepWrongs_39 (ohF319 hH) ?_
    refine oX_iload_n dX1_keepWrongs_42 rfl rfl ?_
    obtain ⟨g6, hm⟩ := gd_s hm
    refine oX_aaldR oDs319 (oIn (ohN319 hH) g6) dX1_keepWrongs_43 (ohA319 hH (oLt g6)) ?_
    refine oX_iload dX1_keepWrongs_44 rfl ?_
    obtain ⟨g7, hm⟩ := gd_s hm
    refine oX_iald oDs419 (oIn (ohM419 hH (oLt g6)) g7) dX1_keepWrongs_46 ?_
    refine oX_iload_n dX1_keepWrongs_47 rfl rfl ?_
    refine oX_icmp_ne (tgt := 67) dX1_keepWrongs_48 (by decide) (fun c8 => ?_) (fun c8 => ?_)
    · have hm := ifp c8 hm
      refine oX_aload_n dX1_keepWrongs_51 rfl rfl ?_
      refine oX_getF fX1_73 rfl oDs0 dX1_keepWrongs_52 (ohF322 hH) ?_
      refine oX_iload_n dX1_keepWrongs_55 rfl rfl ?_
      obtain ⟨g9, hm⟩ := gd_s hm
      refine oX_aaldR oDs322 (oIn (ohN322 hH) g9) dX1_keepWrongs_56 (ohA322 hH (oLt g9)) ?_
      refine oX_iload dX1_keepWrongs_57 rfl ?_
      obtain ⟨g10, hm⟩ := gd_s hm
      refine oX_iald oDs422 (oIn (ohM422 hH (oLt g9)) g10) dX1_keepWrongs_59 ?_
      refine oX_ldcw q1612 dX1_keepWrongs_60 ?_
      refine oX_iand dX1_keepWrongs_63 ?_
      refine oX_goto (tgt := 68) dX1_keepWrongs_64 (by decide) ?_
      exact oX_sub [0, 1, 2, 3, 4] rfl (x_mX1_keepWrongs_j68 hH n x1 x2 x3 x4 (some (428, x3.toNatClampNeg)) x4 ((AI 422 x3.toNatClampNeg x4.toNatClampNeg) &&& (64768 : Int32)) hm hk hx1)
    · have hm := ifn c8 hm
      refine oX_iconst (v := (0 : Int32)) dX1_keepWrongs_67 (by decide) ?_
      exact oX_sub [0, 1, 2, 3, 4] rfl (x_mX1_keepWrongs_j68 hH n x1 x2 x3 x4 (some (428, x3.toNatClampNeg)) x4 (0 : Int32) hm hk hx1)
theorem l_mX1_keepWrongs_b23 {G : OhG} {FI : OhI} {FL : OhL} {FR : OhQ} {GR : OhQ} {AL : OhL} {AR : OhQ} {BR : OhQ} {AN : OhN} {C : OhC} {k : Nat × Nat} {Φ : OhP} {Ψ : OhX} (hH : ohShH FR AR AN) (n : Nat) (x1 : Int32) (x2 : Int32) (x3 : Int32) : ∀ (f : Nat) (x4 : Int32) (AI : OhI) (b : (OhI)), lpF (fun v => mX1_keepWrongs_b23 n FI FR v.2 AR BR AN x1 x2 x3 v.1) f (x4, AI) = some b → (oX G 1 iX1_keepWrongs 75 [(0, vR (some (0, 0))), (1, vI x1), (2, vI x2)] [] (FI, FL, FR, GR, b, AL, AR, BR, AN, C) k Φ Ψ) → oX G 1 iX1_keepWrongs 23 [(0, vR (some (0, 0))), (1, vI x1), (2, vI x2), (3, vI x3), (4, vI x4)] [] (FI, FL, FR, GR, AI, AL, AR, BR, AN, C) k Φ Ψ := by
  intro f
  induction f with
  | zero =>
    intro x4 AI b hm
    cases hm
  | succ f ih =>
    intro x4 AI b hm hx1
    obtain ⟨r, hr, hm⟩ := lp_s hm
    refine x_mX1_keepWrongs_b23 hH n x1 x2 x3 x4 hr (fun v e => ?_) (fun v e => ?_)
    · subst e; exact ih v.1 v.2 _ hm hx1
    · subst e; cases (show v = b from hm); exact hx1
noncomputable def mX1_keepWrongs_b2 (n : Nat) (FI : OhI) (FR : OhQ) (AI : OhI) (AR : OhQ) (BR : OhQ) (AN : OhN) (x1 : Int32) (x2 : Int32) : Option ((Int32 × OhI) ⊕ (OhI)) :=
  (if (FI 0 0 17) ≤ x2 then
  some (.inr AI)
else
  gd (vp_in x2 66) <|
    (oD 14 (BR 316 0 x2.toNatClampNeg)).bind fun a3 =>
    (lpF (fun v => mX1_keepWrongs_b23 n FI FR v.2 AR BR AN x1 x2 (FI a3.1 a3.2 0) v.1) n ((0 : Int32), AI)).bind fun v13 =>
    some (.inl (x2 + (1 : Int32), v13)))
theorem x_mX1_keepWrongs_b2 {G : OhG} {FI AI : OhI} {FL AL : OhL} {FR GR AR BR : OhQ} {AN : OhN} {C : OhC} {k : Nat × Nat} {Φ : OhP} {Ψ : OhX} (hH : ohShH FR AR AN) (n : Nat) (x1 : Int32) (x2 : Int32) {r : (Int32 × OhI) ⊕ (OhI)} (hm : mX1_keepWrongs_b2 n FI FR AI AR BR AN x1 x2 = some r) (hk : ∀ v : Int32 × OhI, r = .inl v → oX G 1 iX1_keepWrongs 2 [(0, vR (some (0, 0))), (1, vI x1), (2, vI v.1)] [] (FI, FL, FR, GR, v.2, AL, AR, BR, AN, C) k Φ Ψ) (hx1 : ∀ v : OhI, r = .inr v → oX G 1 iX1_keepWrongs 81 [] [] (FI, FL, FR, GR, v, AL, AR, BR, AN, C) k Φ Ψ) : oX G 1 iX1_keepWrongs 2 [(0, vR (some (0, 0))), (1, vI x1), (2, vI x2)] [] (FI, FL, FR, GR, AI, AL, AR, BR, AN, C) k Φ Ψ := by
  unfold mX1_keepWrongs_b2 at hm
  refine oX_iload_n dX1_keepWrongs_2 rfl rfl ?_
  refine oX_aload_n dX1_keepWrongs_3 rfl rfl ?_
  refine oX_getI fX1_227 rfl oDs0 dX1_keepWrongs_4 ?_
  refine oX_icmp_ge (tgt := 81) dX1_keepWrongs_7 (by decide) (fun c1 => ?_) (fun c1 => ?_)
  · have hm := ifp c1 hm
    exact oX_sub [] rfl (hx1 AI (Option.some.inj hm).symm)
  · have hm := ifn c1 hm
    refine oX_aload_n dX1_keepWrongs_10 rfl rfl ?_
    refine oX_getF fX1_58 rfl oDs0 dX1_keepWrongs_11 (ohF316 hH) ?_
    refine oX_iload_n dX1_keepWrongs_14 rfl rfl ?_
    obtain ⟨g2, hm⟩ := gd_s hm
    refine oX_aaldC oDs316 (oIn (ohN316 hH) g2) dX1_keepWrongs_15 rfl ?_
    obtain ⟨a3, e3, hm⟩ := bd_s hm
    refine oX_getI fX1_233 rfl e3 dX1_keepWrongs_16 ?_
    refine oX_istore_n (ls' := [(3, vI (FI a3.1 a3.2 0)), (0, vR (some (0, 0))), (1, vI x1), (2, vI x2)]) dX1_keepWrongs_19 rfl (by decide) rfl ?_
    refine oX_iconst (v := (0 : Int32)) dX1_keepWrongs_20 (by decide) ?_
    refine oX_istore (ls' := [(4, vI (0 : Int32)), (3, vI (FI a3.1 a3.2 0)), (0, vR (some (0, 0))), (1, vI x1), (2, vI x2)]) dX1_keepWrongs_21 (by decide) rfl ?_
    obtain ⟨v13, g13, hm⟩ := bd_s hm
    refine oX_sub [2, 3, 4, 1, 0] rfl (l_mX1_keepWrongs_b23 hH n x1 x2 (FI a3.1 a3.2 0) n (0 : Int32) AI _ g13 ?_)
    refine oX_iinc (v := x2 + (1 : Int32)) (ls' := [(2, vI (x2 + (1 : Int32))), (0, vR (some (0, 0))), (1, vI x1)]) dX1_keepWrongs_75 rfl rfl (by decide) rfl ?_
    refine oX_goto (tgt := 2) dX1_keepWrongs_78 (by decide) ?_
    exact oX_sub [1, 2, 0] rfl (hk (x2 + (1 : Int32), v13) (Option.some.inj hm).symm)
theorem l_mX1_keepWrongs_b2 {G : OhG} {FI : OhI} {FL : OhL} {FR : OhQ} {GR : OhQ} {AL : OhL} {AR : OhQ} {BR : OhQ} {AN : OhN} {C : OhC} {k : Nat × Nat} {Φ : OhP} {Ψ : OhX} (hH : ohShH FR AR AN) (n : Nat) (x1 : Int32) : ∀ (f : Nat) (x2 : Int32) (AI : OhI) (b : (OhI)), lpF (fun v => mX1_keepWrongs_b2 n FI FR v.2 AR BR AN x1 v.1) f (x2, AI) = some b → (oX G 1 iX1_keepWrongs 81 [] [] (FI, FL, FR, GR, b, AL, AR, BR, AN, C) k Φ Ψ) → oX G 1 iX1_keepWrongs 2 [(0, vR (some (0, 0))), (1, vI x1), (2, vI x2)] [] (FI, FL, FR, GR, AI, AL, AR, BR, AN, C) k Φ Ψ := by
  intro f
  induction f with
  | zero =>
    intro x2 AI b hm
    cases hm
  | succ f ih =>
    intro x2 AI b hm hx1
    obtain ⟨r, hr, hm⟩ := lp_s hm
    refine x_mX1_keepWrongs_b2 hH n x1 x2 hr (fun v e => ?_) (fun v e => ?_)
    · subst e; exact ih v.1 v.2 _ hm hx1
    · subst e; cases (show v = b from hm); exact hx1
noncomputable def mX1_keepWrongs (n : Nat) (FI : OhI) (FR : OhQ) (AI : OhI) (AR : OhQ) (BR : OhQ) (AN : OhN) (x1 : Int32) : Option (OhI) :=
  (lpF (fun v => mX1_keepWrongs_b2 n FI FR v.2 AR BR AN x1 v.1) n ((0 : Int32), AI)).bind fun v14 =>
  some v14
theorem x_mX1_keepWrongs {G : OhG} {FI AI : OhI} {FL AL : OhL} {FR GR AR BR : OhQ} {AN : OhN} {C : OhC} {k : Nat × Nat} {Φ : OhP} {Ψ : OhX} (hH : ohShH FR AR AN) (n : Nat) (x1 : Int32) {r : OhI} (hm : mX1_keepWrongs n FI FR AI AR BR AN x1 = some r) (hK : Φ none (FI, FL, FR, GR, r, AL, AR, BR, AN, C)) : oX G 1 iX1_keepWrongs 0 [(0, vR (some (0, 0))), (1, vI x1)] [] (FI, FL, FR, GR, AI, AL, AR, BR, AN, C) k Φ Ψ := by
  unfold mX1_keepWrongs at hm
  refine oX_iconst (v := (0 : Int32)) dX1_keepWrongs_0 (by decide) ?_
  refine oX_istore_n (ls' := [(2, vI (0 : Int32)), (0, vR (some (0, 0))), (1, vI x1)]) dX1_keepWrongs_1 rfl (by decide) rfl ?_
  obtain ⟨v14, g14, hm⟩ := bd_s hm
  refine oX_sub [1, 2, 0] rfl (l_mX1_keepWrongs_b2 hH n x1 n (0 : Int32) AI _ g14 ?_)
  obtain rfl := Option.some.inj hm
  exact oX_vret dX1_keepWrongs_81 rfl hK
theorem t_X1_keepWrongs {G : OhG} {FI AI : OhI} {FL AL : OhL} {FR GR AR BR : OhQ} {AN : OhN} {C : OhC} (hH : ohShH FR AR AN) (n : Nat) (x1 : Int32) {o : OhI} (hm : mX1_keepWrongs n FI FR AI AR BR AN x1 = some o) : oT G 1 iX1_keepWrongs [vR (some (0, 0)), vI x1] (FI, FL, FR, GR, AI, AL, AR, BR, AN, C) (0, 0) (fun v h => v = none ∧ h = (FI, FL, FR, GR, o, AL, AR, BR, AN, C)) ohNo :=
  oT_of (by decide) rfl (Nat.le_of_ble_eq_true rfl) (x_mX1_keepWrongs hH n x1 hm ⟨rfl, rfl⟩)
abbrev iX1_isAnythingNew : OhM := (yX1_isAnythingNew, cX1_isAnythingNew, 5, (some .boolean), [])
theorem ok_X1_isAnythingNew : oOk iX1_isAnythingNew 1 := ⟨by decide, by decide, by decide +kernel⟩
noncomputable def mX1_isAnythingNew_b23 (n : Nat) (FI : OhI) (FR : OhQ) (AI : OhI) (AR : OhQ) (BR : OhQ) (AN : OhN) (x1 : Int32) (x2 : Int32) (x3 : Int32) (x4 : Int32) : Option ((Int32) ⊕ ((Unit) ⊕ (Unit))) :=
  (if (8 : Int32) ≤ x4 then
  some (.inr (.inl ()))
else
  gd (vp_in x3 66) <|
    gd (vp_in x4 8) <|
    (if (AI 419 x3.toNatClampNeg x4.toNatClampNeg) = x1 then
    gd (vp_in x3 66) <|
      gd (vp_in x4 9) <|
      gd (vp_in x3 66) <|
      gd (vp_in x4 9) <|
      (if (((AI 422 x3.toNatClampNeg x4.toNatClampNeg) &&& (64768 : Int32)) &&& ((AI 428 x3.toNatClampNeg x4.toNatClampNeg) ^^^ (-1 : Int32))) = 0 then
      some (.inl (x4 + (1 : Int32)))
    else
      some (.inr (.inr ())))
  else
    some (.inl (x4 + (1 : Int32)))))
theorem x_mX1_isAnythingNew_b23 {G : OhG} {FI AI : OhI} {FL AL : OhL} {FR GR AR BR : OhQ} {AN : OhN} {C : OhC} {k : Nat × Nat} {Φ : OhP} {Ψ : OhX} (hH : ohShH FR AR AN) (n : Nat) (x1 : Int32) (x2 : Int32) (x3 : Int32) (x4 : Int32) {r : (Int32) ⊕ ((Unit) ⊕ (Unit))} (hm : mX1_isAnythingNew_b23 n FI FR AI AR BR AN x1 x2 x3 x4 = some r) (hk : ∀ v : Int32, r = .inl v → oX G 1 iX1_isAnythingNew 23 [(0, vR (some (0, 0))), (1, vI x1), (2, vI x2), (3, vI x3), (4, vI v)] [] (FI, FL, FR, GR, AI, AL, AR, BR, AN, C) k Φ Ψ) (hx1 : ∀ v : Unit, r = .inr (.inl v) → oX G 1 iX1_isAnythingNew 79 [(0, vR (some (0, 0))), (1, vI x1), (2, vI x2)] [] (FI, FL, FR, GR, AI, AL, AR, BR, AN, C) k Φ Ψ) (hx2 : ∀ v : Unit, r = .inr (.inr v) → oX G 1 iX1_isAnythingNew 71 [] [] (FI, FL, FR, GR, AI, AL, AR, BR, AN, C) k Φ Ψ) : oX G 1 iX1_isAnythingNew 23 [(0, vR (some (0, 0))), (1, vI x1), (2, vI x2), (3, vI x3), (4, vI x4)] [] (FI, FL, FR, GR, AI, AL, AR, BR, AN, C) k Φ Ψ := by
  unfold mX1_isAnythingNew_b23 at hm
  refine oX_iload dX1_isAnythingNew_23 rfl ?_
  refine oX_bipush (v := (8 : Int32)) dX1_isAnythingNew_25 (by decide) ?_
  refine oX_icmp_ge (tgt := 79) dX1_isAnythingNew_27 (by decide) (fun c4 => ?_) (fun c4 => ?_)
  · have hm := ifp c4 hm
    exact oX_sub [0, 1, 2] rfl (hx1 () (Option.some.inj hm).symm)
  · have hm := ifn c4 hm
    refine oX_aload_n dX1_isAnythingNew_30 rfl rfl ?_
    refine oX_getF fX1_64 rfl oDs0 dX1_isAnythingNew_31 (ohF319 hH) ?_
    refine oX_iload_n dX1_isAnythingNew_34 rfl rfl ?_
    obtain ⟨g5, hm⟩ := gd_s hm
    refine oX_aaldR oDs319 (oIn (ohN319 hH) g5) dX1_isAnythingNew_35 (ohA319 hH (oLt g5)) ?_
    refine oX_iload dX1_isAnythingNew_36 rfl ?_
    obtain ⟨g6, hm⟩ := gd_s hm
    refine oX_iald oDs419 (oIn (ohM419 hH (oLt g5)) g6) dX1_isAnythingNew_38 ?_
    refine oX_iload_n dX1_isAnythingNew_39 rfl rfl ?_
    refine oX_icmp_ne (tgt := 73) dX1_isAnythingNew_40 (by decide) (fun c7 => ?_) (fun c7 => ?_)
    · have hm := ifp c7 hm
      refine oX_aload_n dX1_isAnythingNew_43 rfl rfl ?_
      refine oX_getF fX1_73 rfl oDs0 dX1_isAnythingNew_44 (ohF322 hH) ?_
      refine oX_iload_n dX1_isAnythingNew_47 rfl rfl ?_
      obtain ⟨g8, hm⟩ := gd_s hm
      refine oX_aaldR oDs322 (oIn (ohN322 hH) g8) dX1_isAnythingNew_48 (ohA322 hH (oLt g8)) ?_
      refine oX_iload dX1_isAnythingNew_49 rfl ?_
      obtain ⟨g9, hm⟩ := gd_s hm
      refine oX_iald oDs422 (oIn (ohM422 hH (oLt g8)) g9) dX1_isAnythingNew_51 ?_
      refine oX_ldcw q1612 dX1_isAnythingNew_52 ?_
      refine oX_iand dX1_isAnythingNew_55 ?_
      refine oX_aload_n dX1_isAnythingNew_56 rfl rfl ?_
      refine oX_getF fX1_96 rfl oDs0 dX1_isAnythingNew_57 (ohF328 hH) ?_
      refine oX_iload_n dX1_isAnythingNew_60 rfl rfl ?_
      obtain ⟨g10, hm⟩ := gd_s hm
      refine oX_aaldR oDs328 (oIn (ohN328 hH) g10) dX1_isAnythingNew_61 (ohA328 hH (oLt g10)) ?_
      refine oX_iload dX1_isAnythingNew_62 rfl ?_
      obtain ⟨g11, hm⟩ := gd_s hm
      refine oX_iald oDs428 (oIn (ohM428 hH (oLt g10)) g11) dX1_isAnythingNew_64 ?_
      refine oX_iconst (v := (-1 : Int32)) dX1_isAnythingNew_65 (by decide) ?_
      refine oX_ixor dX1_isAnythingNew_66 ?_
      refine oX_iand dX1_isAnythingNew_67 ?_
      refine oX_if_eq (tgt := 73) dX1_isAnythingNew_68 (by decide) (fun c12 => ?_) (fun c12 => ?_)
      · have hm := ifp c12 hm
        refine oX_iinc (v := x4 + (1 : Int32)) (ls' := [(4, vI (x4 + (1 : Int32))), (0, vR (some (0, 0))), (1, vI x1), (2, vI x2), (3, vI x3)]) dX1_isAnythingNew_73 rfl rfl (by decide) rfl ?_
        refine oX_goto (tgt := 23) dX1_isAnythingNew_76 (by decide) ?_
        exact oX_sub [1, 2, 3, 4, 0] rfl (hk (x4 + (1 : Int32)) (Option.some.inj hm).symm)
      · have hm := ifn c12 hm
        exact oX_sub [] rfl (hx2 () (Option.some.inj hm).symm)
    · have hm := ifn c7 hm
      refine oX_iinc (v := x4 + (1 : Int32)) (ls' := [(4, vI (x4 + (1 : Int32))), (0, vR (some (0, 0))), (1, vI x1), (2, vI x2), (3, vI x3)]) dX1_isAnythingNew_73 rfl rfl (by decide) rfl ?_
      refine oX_goto (tgt := 23) dX1_isAnythingNew_76 (by decide) ?_
      exact oX_sub [1, 2, 3, 4, 0] rfl (hk (x4 + (1 : Int32)) (Option.some.inj hm).symm)
theorem l_mX1_isAnythingNew_b23 {G : OhG} {FI : OhI} {FL : OhL} {FR : OhQ} {GR : OhQ} {AI : OhI} {AL : OhL} {AR : OhQ} {BR : OhQ} {AN : OhN} {C : OhC} {k : Nat × Nat} {Φ : OhP} {Ψ : OhX} (hH : ohShH FR AR AN) (n : Nat) (x1 : Int32) (x2 : Int32) (x3 : Int32) : ∀ (f : Nat) (x4 : Int32) (b : ((Unit) ⊕ (Unit))), lpF (fun v => mX1_isAnythingNew_b23 n FI FR AI AR BR AN x1 x2 x3 v) f x4 = some b → (∀ v : Unit, b = (.inl v) → oX G 1 iX1_isAnythingNew 79 [(0, vR (some (0, 0))), (1, vI x1), (2, vI x2)] [] (FI, FL, FR, GR, AI, AL, AR, BR, AN, C) k Φ Ψ) → (∀ v : Unit, b = (.inr v) → oX G 1 iX1_isAnythingNew 71 [] [] (FI, FL, FR, GR, AI, AL, AR, BR, AN, C) k Φ Ψ) → oX G 1 iX1_isAnythingNew 23 [(0, vR (some (0, 0))), (1, vI x1), (2, vI x2), (3, vI x3), (4, vI x4)] [] (FI, FL, FR, GR, AI, AL, AR, BR, AN, C) k Φ Ψ := by
  intro f
  induction f with
  | zero =>
    intro x4 b hm
    cases hm
  | succ f ih =>
    intro x4 b hm hx1 hx2
    obtain ⟨r, hr, hm⟩ := lp_s hm
    refine x_mX1_isAnythingNew_b23 hH n x1 x2 x3 x4 hr (fun v e => ?_) (fun v e => ?_) (fun v e => ?_)
    · subst e; exact ih v _ hm hx1 hx2
    · subst e; exact hx1 v hm.symm
    · subst e; exact hx2 v hm.symm
noncomputable def mX1_isAnythingNew_b2 (n : Nat) (FI : OhI) (FR : OhQ) (AI : OhI) (AR : OhQ) (BR : OhQ) (AN : OhN) (x1 : Int32) (x2 : Int32) : Option ((Int32) ⊕ ((Unit) ⊕ (Unit))) :=
  (if (FI 0 0 17) ≤ x2 then
  some (.inr (.inl ()))
else
  gd (vp_in x2 66) <|
    (oD 14 (BR 316 0 x2.toNatClampNeg)).bind fun a3 =>
    (lpF (fun v => mX1_isAnythingNew_b23 n FI FR AI AR BR AN x1 x2 (FI a3.1 a3.2 0) v) n (0 : Int32)).bind (Sum.elim (fun v13 => some (.inl (x2 + (1 : Int32)))) (fun v13 => some (.inr (.inr ())))))
theorem x_mX1_isAnythingNew_b2 {G : OhG} {FI AI : OhI} {FL AL : OhL} {FR GR AR BR : OhQ} {AN : OhN} {C : OhC} {k : Nat × Nat} {Φ : OhP} {Ψ : OhX} (hH : ohShH FR AR AN) (n : Nat) (x1 : Int32) (x2 : Int32) {r : (Int32) ⊕ ((Unit) ⊕ (Unit))} (hm : mX1_isAnythingNew_b2 n FI FR AI AR BR AN x1 x2 = some r) (hk : ∀ v : Int32, r = .inl v → oX G 1 iX1_isAnythingNew 2 [(0, vR (some (0, 0))), (1, vI x1), (2, vI v)] [] (FI, FL, FR, GR, AI, AL, AR, BR, AN, C) k Φ Ψ) (hx1 : ∀ v : Unit, r = .inr (.inl v) → oX G 1 iX1_isAnythingNew 85 [] [] (FI, FL, FR, GR, AI, AL, AR, BR, AN, C) k Φ Ψ) (hx2 : ∀ v : Unit, r = .inr (.inr v) → oX G 1 iX1_isAnythingNew 71 [] [] (FI, FL, FR, GR, AI, AL, AR, BR, AN, C) k Φ Ψ) : oX G 1 iX1_isAnythingNew 2 [(0, vR (some (0, 0))), (1, vI x1), (2, vI x2)] [] (FI, FL, FR, GR, AI, AL, AR, BR, AN, C) k Φ Ψ := by
  unfold mX1_isAnythingNew_b2 at hm
  refine oX_iload_n dX1_isAnythingNew_2 rfl rfl ?_
  refine oX_aload_n dX1_isAnythingNew_3 rfl rfl ?_
  refine oX_getI fX1_227 rfl oDs0 dX1_isAnythingNew_4 ?_
  refine oX_icmp_ge (tgt := 85) dX1_isAnythingNew_7 (by decide) (fun c1 => ?_) (fun c1 => ?_)
  · have hm := ifp c1 hm
    exact oX_sub [] rfl (hx1 () (Option.some.inj hm).symm)
  · have hm := ifn c1 hm
    refine oX_aload_n dX1_isAnythingNew_10 rfl rfl ?_
    refine oX_getF fX1_58 rfl oDs0 dX1_isAnythingNew_11 (ohF316 hH) ?_
    refine oX_iload_n dX1_isAnythingNew_14 rfl rfl ?_
    obtain ⟨g2, hm⟩ := gd_s hm
    refine oX_aaldC oDs316 (oIn (ohN316 hH) g2) dX1_isAnythingNew_15 rfl ?_
    obtain ⟨a3, e3, hm⟩ := bd_s hm
    refine oX_getI fX1_233 rfl e3 dX1_isAnythingNew_16 ?_
    refine oX_istore_n (ls' := [(3, vI (FI a3.1 a3.2 0)), (0, vR (some (0, 0))), (1, vI x1), (2, vI x2)]) dX1_isAnythingNew_19 rfl (by decide) rfl ?_
    refine oX_iconst (v := (0 : Int32)) dX1_isAnythingNew_20 (by decide) ?_
    refine oX_istore (ls' := [(4, vI (0 : Int32)), (3, vI (FI a3.1 a3.2 0)), (0, vR (some (0, 0))), (1, vI x1), (2, vI x2)]) dX1_isAnythingNew_21 (by decide) rfl ?_
    obtain ⟨b13, g13, hm⟩ := bd_s hm
    refine oX_sub [2, 3, 4, 1, 0] rfl (l_mX1_isAnythingNew_b23 hH n x1 x2 (FI a3.1 a3.2 0) n (0 : Int32) _ g13 (fun v13 e13 => ?_) (fun v13 e13 => ?_))
    · subst e13
      have hm := el1 hm
      refine oX_iinc (v := x2 + (1 : Int32)) (ls' := [(2, vI (x2 + (1 : Int32))), (0, vR (some (0, 0))), (1, vI x1)]) dX1_isAnythingNew_79 rfl rfl (by decide) rfl ?_
      refine oX_goto (tgt := 2) dX1_isAnythingNew_82 (by decide) ?_
      exact oX_sub [1, 2, 0] rfl (hk (x2 + (1 : Int32)) (Option.some.inj hm).symm)
    · subst e13
      have hm := el2 hm
      exact oX_sub [] rfl (hx2 () (Option.some.inj hm).symm)
theorem l_mX1_isAnythingNew_b2 {G : OhG} {FI : OhI} {FL : OhL} {FR : OhQ} {GR : OhQ} {AI : OhI} {AL : OhL} {AR : OhQ} {BR : OhQ} {AN : OhN} {C : OhC} {k : Nat × Nat} {Φ : OhP} {Ψ : OhX} (hH : ohShH FR AR AN) (n : Nat) (x1 : Int32) : ∀ (f : Nat) (x2 : Int32) (b : ((Unit) ⊕ (Unit))), lpF (fun v => mX1_isAnythingNew_b2 n FI FR AI AR BR AN x1 v) f x2 = some b → (∀ v : Unit, b = (.inl v) → oX G 1 iX1_isAnythingNew 85 [] [] (FI, FL, FR, GR, AI, AL, AR, BR, AN, C) k Φ Ψ) → (∀ v : Unit, b = (.inr v) → oX G 1 iX1_isAnythingNew 71 [] [] (FI, FL, FR, GR, AI, AL, AR, BR, AN, C) k Φ Ψ) → oX G 1 iX1_isAnythingNew 2 [(0, vR (some (0, 0))), (1, vI x1), (2, vI x2)] [] (FI, FL, FR, GR, AI, AL, AR, BR, AN, C) k Φ Ψ := by
  intro f
  induction f with
  | zero =>
    intro x2 b hm
    cases hm
  | succ f ih =>
    intro x2 b hm hx1 hx2
    obtain ⟨r, hr, hm⟩ := lp_s hm
    refine x_mX1_isAnythingNew_b2 hH n x1 x2 hr (fun v e => ?_) (fun v e => ?_) (fun v e => ?_)
    · subst e; exact ih v _ hm hx1 hx2
    · subst e; exact hx1 v hm.symm
    · subst e; exact hx2 v hm.symm
noncomputable def mX1_isAnythingNew (n : Nat) (FI : OhI) (FR : OhQ) (AI : OhI) (AR : OhQ) (BR : OhQ) (AN : OhN) (x1 : Int32) : Option (Int32) :=
  (lpF (fun v => mX1_isAnythingNew_b2 n FI FR AI AR BR AN x1 v) n (0 : Int32)).bind (Sum.elim (fun v14 => some (0 : Int32)) (fun v14 => some (1 : Int32)))
theorem x_mX1_isAnythingNew {G : OhG} {FI AI : OhI} {FL AL : OhL} {FR GR AR BR : OhQ} {AN : OhN} {C : OhC} {k : Nat × Nat} {Φ : OhP} {Ψ : OhX} (hH : ohShH FR AR AN) (n : Nat) (x1 : Int32) {r : Int32} (hm : mX1_isAnythingNew n FI FR AI AR BR AN x1 = some r) (hK : Φ (some (vI r)) (FI, FL, FR, GR, AI, AL, AR, BR, AN, C)) : oX G 1 iX1_isAnythingNew 0 [(0, vR (some (0, 0))), (1, vI x1)] [] (FI, FL, FR, GR, AI, AL, AR, BR, AN, C) k Φ Ψ := by
  unfold mX1_isAnythingNew at hm
  refine oX_iconst (v := (0 : Int32)) dX1_isAnythingNew_0 (by decide) ?_
  refine oX_istore_n (ls' := [(2, vI (0 : Int32)), (0, vR (some (0, 0))), (1, vI x1)]) dX1_isAnythingNew_1 rfl (by decide) rfl ?_
  obtain ⟨b14, g14, hm⟩ := bd_s hm
  refine oX_sub [1, 2, 0] rfl (l_mX1_isAnythingNew_b2 hH n x1 n (0 : Int32) _ g14 (fun v14 e14 => ?_) (fun v14 e14 => ?_))
  · subst e14
    have hm := el1 hm
    refine oX_iconst (v := (0 : Int32)) dX1_isAnythingNew_85 (by decide) ?_
    obtain rfl := Option.some.inj hm
    exact oX_iret dX1_isAnythingNew_86 rfl (by decide) hK
  · subst e14
    have hm := el2 hm
    refine oX_iconst (v := (1 : Int32)) dX1_isAnythingNew_71 (by decide) ?_
    obtain rfl := Option.some.inj hm
    exact oX_iret dX1_isAnythingNew_72 rfl (by decide) hK
theorem t_X1_isAnythingNew {G : OhG} {FI AI : OhI} {FL AL : OhL} {FR GR AR BR : OhQ} {AN : OhN} {C : OhC} (hH : ohShH FR AR AN) (n : Nat) (x1 : Int32) {o : Int32} (hm : mX1_isAnythingNew n FI FR AI AR BR AN x1 = some o) : oT G 1 iX1_isAnythingNew [vR (some (0, 0)), vI x1] (FI, FL, FR, GR, AI, AL, AR, BR, AN, C) (0, 0) (fun v h => v = (some (vI o)) ∧ h = (FI, FL, FR, GR, AI, AL, AR, BR, AN, C)) ohNo :=
  oT_of (by decide) rfl (Nat.le_of_ble_eq_true rfl) (x_mX1_isAnythingNew hH n x1 hm ⟨rfl, rfl⟩)
abbrev iX1_mayHave : OhM := (yX1_mayHave, cX1_mayHave, 7, (some .boolean), [])
theorem ok_X1_mayHave : oOk iX1_mayHave 3 := ⟨by decide, by decide, by decide +kernel⟩
noncomputable def mX1_mayHave_j84 (n : Nat) (FI : OhI) (FR : OhQ) (GR : OhQ) (AI : OhI) (AR : OhQ) (BR : OhQ) (AN : OhN) (x2 : OhR) (x3 : Int32) (x4 : Int32) (x5 : Int32) (y0 : Int32) : Option (Int32 × OhI) :=
  (oD 14 x2).bind fun a15 =>
  gd (vp_in (FI a15.1 a15.2 0) 66) <|
  gd (vp_in x3 8) <|
  oLet (sA AI 419 ((FI a15.1 a15.2 0).toNatClampNeg) (uA (AI 419 ((FI a15.1 a15.2 0).toNatClampNeg)) x3.toNatClampNeg x4)) fun AI17 =>
  gd (vp_in (FI a15.1 a15.2 0) 66) <|
  gd (vp_in x3 8) <|
  oLet (sA AI17 420 ((FI a15.1 a15.2 0).toNatClampNeg) (uA (AI17 420 ((FI a15.1 a15.2 0).toNatClampNeg)) x3.toNatClampNeg x5)) fun AI19 =>
  gd (y0 = 0 ∨ y0 = 1) <|
  some (y0, AI19)
theorem x_mX1_mayHave_j84 {G : OhG} {FI AI : OhI} {FL AL : OhL} {FR GR AR BR : OhQ} {AN : OhN} {C : OhC} {k : Nat × Nat} {Φ : OhP} {Ψ : OhX} (hH : ohShH FR AR AN) (n : Nat) (x2 : OhR) (x3 : Int32) (x4 : Int32) (x5 : Int32) (y0 : Int32) {r : Int32 × OhI} (hm : mX1_mayHave_j84 n FI FR GR AI AR BR AN x2 x3 x4 x5 y0 = some r) (hK : Φ (some (vI r.1)) (FI, FL, FR, GR, r.2, AL, AR, BR, AN, C)) : oX G 8 iX1_mayHave 84 [(0, vR (some (0, 0))), (2, vR x2), (3, vI x3), (4, vI x4), (5, vI x5)] [vI y0] (FI, FL, FR, GR, AI, AL, AR, BR, AN, C) k Φ Ψ := by
  unfold mX1_mayHave_j84 at hm
  refine oX_istore (ls' := [(6, vI y0), (0, vR (some (0, 0))), (2, vR x2), (3, vI x3), (4, vI x4), (5, vI x5)]) dX1_mayHave_84 (by decide) rfl ?_
  refine oX_aload_n dX1_mayHave_86 rfl rfl ?_
  refine oX_getF fX1_64 rfl oDs0 dX1_mayHave_87 (ohF319 hH) ?_
  refine oX_aload_n dX1_mayHave_90 rfl rfl ?_
  obtain ⟨a15, e15, hm⟩ := bd_s hm
  refine oX_getI fX1_233 rfl e15 dX1_mayHave_91 ?_
  obtain ⟨g16, hm⟩ := gd_s hm
  refine oX_aaldR oDs319 (oIn (ohN319 hH) g16) dX1_mayHave_94 (ohA319 hH (oLt g16)) ?_
  refine oX_iload_n dX1_mayHave_95 rfl rfl ?_
  refine oX_iload dX1_mayHave_96 rfl ?_
  obtain ⟨g17, hm⟩ := gd_s hm
  obtain ⟨AI17, hAI17, hm⟩ := oLs hm
  refine oX_iast oDs419 (oIn (ohM419 hH (oLt g16)) g17) dX1_mayHave_98 hAI17 ?_
  refine oX_aload_n dX1_mayHave_99 rfl rfl ?_
  refine oX_getF fX1_67 rfl oDs0 dX1_mayHave_100 (ohF320 hH) ?_
  refine oX_aload_n dX1_mayHave_103 rfl rfl ?_
  refine oX_getI fX1_233 rfl e15 dX1_mayHave_104 ?_
  obtain ⟨g18, hm⟩ := gd_s hm
  refine oX_aaldR oDs320 (oIn (ohN320 hH) g18) dX1_mayHave_107 (ohA320 hH (oLt g18)) ?_
  refine oX_iload_n dX1_mayHave_108 rfl rfl ?_
  refine oX_iload dX1_mayHave_109 rfl ?_
  obtain ⟨g19, hm⟩ := gd_s hm
  obtain ⟨AI19, hAI19, hm⟩ := oLs hm
  refine oX_iast oDs420 (oIn (ohM420 hH (oLt g18)) g19) dX1_mayHave_111 hAI19 ?_
  refine oX_iload dX1_mayHave_112 rfl ?_
  obtain ⟨g20, hm⟩ := gd_s hm
  obtain rfl := Option.some.inj hm
  exact oX_iret dX1_mayHave_114 rfl (oNz g20) hK
noncomputable def mX1_mayHave (n : Nat) (FI : OhI) (FR : OhQ) (GR : OhQ) (AI : OhI) (AR : OhQ) (BR : OhQ) (AN : OhN) (x1 : Int32) (x2 : OhR) (x3 : Int32) : Option (Int32 × OhI) :=
  (oD 14 x2).bind fun a1 =>
  (if (FI a1.1 a1.2 1) < (FI 0 0 3) then
  some ((0 : Int32), AI)
else
  (mX1_isCast n FI FR AI AR BR AN x1 x2).bind fun r3 =>
    (if r3 = 0 then
    (mX1_judge n FI FR GR AI AR BR AN).bind fun r5 =>
      (mX1_keepWrongs n FI FR r5 AR BR AN x1).bind fun r6 =>
      gd (vp_in (FI a1.1 a1.2 0) 66) <|
      gd (vp_in x3 8) <|
      gd (vp_in (FI a1.1 a1.2 0) 66) <|
      gd (vp_in x3 8) <|
      (mX1_give FR r6 AR BR AN (FI a1.1 a1.2 0) x3 x1).bind fun r11 =>
      (mX1_judge n FI FR GR r11 AR BR AN).bind fun r12 =>
      (mX1_isAnythingNew n FI FR r12 AR BR AN x1).bind fun r13 =>
      (if r13 = 0 then
      mX1_mayHave_j84 n FI FR GR r12 AR BR AN x2 x3 (r6 419 ((FI a1.1 a1.2 0).toNatClampNeg) x3.toNatClampNeg) (r6 420 ((FI a1.1 a1.2 0).toNatClampNeg) x3.toNatClampNeg) (1 : Int32)
    else
      mX1_mayHave_j84 n FI FR GR r12 AR BR AN x2 x3 (r6 419 ((FI a1.1 a1.2 0).toNatClampNeg) x3.toNatClampNeg) (r6 420 ((FI a1.1 a1.2 0).toNatClampNeg) x3.toNatClampNeg) (0 : Int32))
  else
    some ((0 : Int32), AI)))
theorem x_mX1_mayHave {G : OhG} {FI AI : OhI} {FL AL : OhL} {FR GR AR BR : OhQ} {AN : OhN} {C : OhC} {k : Nat × Nat} {Φ : OhP} {Ψ : OhX} (hH : ohShH FR AR AN) (n : Nat) (x1 : Int32) (x2 : OhR) (x3 : Int32) {r : Int32 × OhI} (hm : mX1_mayHave n FI FR GR AI AR BR AN x1 x2 x3 = some r) (hK : Φ (some (vI r.1)) (FI, FL, FR, GR, r.2, AL, AR, BR, AN, C)) : oX G 8 iX1_mayHave 0 [(0, vR (some (0, 0))), (1, vI x1), (2, vR x2), (3, vI x3)] [] (FI, FL, FR, GR, AI, AL, AR, BR, AN, C) k Φ Ψ := by
  unfold mX1_mayHave at hm
  refine oX_aload_n dX1_mayHave_0 rfl rfl ?_
  obtain ⟨a1, e1, hm⟩ := bd_s hm
  refine oX_getI fX1_214 rfl e1 dX1_mayHave_1 ?_
  refine oX_aload_n dX1_mayHave_4 rfl rfl ?_
  refine oX_getI fX1_116 rfl oDs0 dX1_mayHave_5 ?_
  refine oX_icmp_lt (tgt := 20) dX1_mayHave_8 (by decide) (fun c2 => ?_) (fun c2 => ?_)
  · have hm := ifp c2 hm
    refine oX_iconst (v := (0 : Int32)) dX1_mayHave_20 (by decide) ?_
    obtain rfl := Option.some.inj hm
    exact oX_iret dX1_mayHave_21 rfl (by decide) hK
  · have hm := ifn c2 hm
    refine oX_aload_n dX1_mayHave_11 rfl rfl ?_
    refine oX_iload_n dX1_mayHave_12 rfl rfl ?_
    refine oX_aload_n dX1_mayHave_13 rfl rfl ?_
    obtain ⟨r3, g3, hm⟩ := bd_s hm
    refine oX_cV (as := [vI x1, vR x2]) dX1_mayHave_14 rfl oDs0 rfl (by decide) rfl ok_X1_isCast rfl rfl q1523 q1525 qs40 q129 q1526 (by decide) (Nat.le_of_ble_eq_true rfl) (t_X1_isCast hH n x1 x2 g3) ?_
    refine oX_if_eq (tgt := 22) dX1_mayHave_17 (by decide) (fun c4 => ?_) (fun c4 => ?_)
    · have hm := ifp c4 hm
      refine oX_aload_n dX1_mayHave_22 rfl rfl ?_
      obtain ⟨r5, g5, hm⟩ := bd_s hm
      refine oX_cV_ (as := []) dX1_mayHave_23 rfl oDs0 rfl (by decide) rfl ok_X1_judge rfl rfl q1434 q1436 qs28 q129 q1437 (by decide) (Nat.le_of_ble_eq_true rfl) (t_X1_judge hH n g5) ?_
      refine oX_aload_n dX1_mayHave_26 rfl rfl ?_
      refine oX_iload_n dX1_mayHave_27 rfl rfl ?_
      obtain ⟨r6, g6, hm⟩ := bd_s hm
      refine oX_cV_ (as := [vI x1]) dX1_mayHave_28 rfl oDs0 rfl (by decide) rfl ok_X1_keepWrongs rfl rfl q1608 q1610 qs49 q129 q1611 (by decide) (Nat.le_of_ble_eq_true rfl) (t_X1_keepWrongs hH n x1 g6) ?_
      refine oX_aload_n dX1_mayHave_31 rfl rfl ?_
      refine oX_getF fX1_64 rfl oDs0 dX1_mayHave_32 (ohF319 hH) ?_
      refine oX_aload_n dX1_mayHave_35 rfl rfl ?_
      refine oX_getI fX1_233 rfl e1 dX1_mayHave_36 ?_
      obtain ⟨g7, hm⟩ := gd_s hm
      refine oX_aaldR oDs319 (oIn (ohN319 hH) g7) dX1_mayHave_39 (ohA319 hH (oLt g7)) ?_
      refine oX_iload_n dX1_mayHave_40 rfl rfl ?_
      obtain ⟨g8, hm⟩ := gd_s hm
      refine oX_iald oDs419 (oIn (ohM419 hH (oLt g7)) g8) dX1_mayHave_41 ?_
      refine oX_istore (ls' := [(4, vI (r6 419 ((FI a1.1 a1.2 0).toNatClampNeg) x3.toNatClampNeg)), (0, vR (some (0, 0))), (1, vI x1), (2, vR x2), (3, vI x3)]) dX1_mayHave_42 (by decide) rfl ?_
      refine oX_aload_n dX1_mayHave_44 rfl rfl ?_
      refine oX_getF fX1_67 rfl oDs0 dX1_mayHave_45 (ohF320 hH) ?_
      refine oX_aload_n dX1_mayHave_48 rfl rfl ?_
      refine oX_getI fX1_233 rfl e1 dX1_mayHave_49 ?_
      obtain ⟨g9, hm⟩ := gd_s hm
      refine oX_aaldR oDs320 (oIn (ohN320 hH) g9) dX1_mayHave_52 (ohA320 hH (oLt g9)) ?_
      refine oX_iload_n dX1_mayHave_53 rfl rfl ?_
      obtain ⟨g10, hm⟩ := gd_s hm
      refine oX_iald oDs420 (oIn (ohM420 hH (oLt g9)) g10) dX1_mayHave_54 ?_
      refine oX_istore (ls' := [(5, vI (r6 420 ((FI a1.1 a1.2 0).toNatClampNeg) x3.toNatClampNeg)), (4, vI (r6 419 ((FI a1.1 a1.2 0).toNatClampNeg) x3.toNatClampNeg)), (0, vR (some (0, 0))), (1, vI x1), (2, vR x2), (3, vI x3)]) dX1_mayHave_55 (by decide) rfl ?_
      refine oX_aload_n dX1_mayHave_57 rfl rfl ?_
      refine oX_aload_n dX1_mayHave_58 rfl rfl ?_
      refine oX_getI fX1_233 rfl e1 dX1_mayHave_59 ?_
      refine oX_iload_n dX1_mayHave_62 rfl rfl ?_
      refine oX_iload_n dX1_mayHave_63 rfl rfl ?_
      obtain ⟨r11, g11, hm⟩ := bd_s hm
      refine oX_cV_ (as := [vI (FI a1.1 a1.2 0), vI x3, vI x1]) dX1_mayHave_64 rfl oDs0 rfl (by decide) rfl ok_X1_give rfl rfl q1426 q1428 qs27 q129 q1429 (by decide) (Nat.le_of_ble_eq_true rfl) (t_X1_give hH (FI a1.1 a1.2 0) x3 x1 g11) ?_
      refine oX_aload_n dX1_mayHave_67 rfl rfl ?_
      obtain ⟨r12, g12, hm⟩ := bd_s hm
      refine oX_cV_ (as := []) dX1_mayHave_68 rfl oDs0 rfl (by decide) rfl ok_X1_judge rfl rfl q1434 q1436 qs28 q129 q1437 (by decide) (Nat.le_of_ble_eq_true rfl) (t_X1_judge hH n g12) ?_
      refine oX_aload_n dX1_mayHave_71 rfl rfl ?_
      refine oX_iload_n dX1_mayHave_72 rfl rfl ?_
      obtain ⟨r13, g13, hm⟩ := bd_s hm
      refine oX_cV (as := [vI x1]) dX1_mayHave_73 rfl oDs0 rfl (by decide) rfl ok_X1_isAnythingNew rfl rfl q1613 q1615 qs50 q129 q1616 (by decide) (Nat.le_of_ble_eq_true rfl) (t_X1_isAnythingNew hH n x1 g13) ?_
      refine oX_if_ne (tgt := 83) dX1_mayHave_76 (by decide) (fun c14 => ?_) (fun c14 => ?_)
      · have hm := ifp c14 hm
        refine oX_iconst (v := (1 : Int32)) dX1_mayHave_79 (by decide) ?_
        refine oX_goto (tgt := 84) dX1_mayHave_80 (by decide) ?_
        exact oX_sub [2, 4, 5, 1, 0] rfl (x_mX1_mayHave_j84 hH n x2 x3 (r6 419 ((FI a1.1 a1.2 0).toNatClampNeg) x3.toNatClampNeg) (r6 420 ((FI a1.1 a1.2 0).toNatClampNeg) x3.toNatClampNeg) (1 : Int32) hm hK)
      · have hm := ifn c14 hm
        refine oX_iconst (v := (0 : Int32)) dX1_mayHave_83 (by decide) ?_
        exact oX_sub [2, 4, 5, 1, 0] rfl (x_mX1_mayHave_j84 hH n x2 x3 (r6 419 ((FI a1.1 a1.2 0).toNatClampNeg) x3.toNatClampNeg) (r6 420 ((FI a1.1 a1.2 0).toNatClampNeg) x3.toNatClampNeg) (0 : Int32) hm hK)
    · have hm := ifn c4 hm
      refine oX_iconst (v := (0 : Int32)) dX1_mayHave_20 (by decide) ?_
      obtain rfl := Option.some.inj hm
      exact oX_iret dX1_mayHave_21 rfl (by decide) hK
theorem t_X1_mayHave {G : OhG} {FI AI : OhI} {FL AL : OhL} {FR GR AR BR : OhQ} {AN : OhN} {C : OhC} (hH : ohShH FR AR AN) (n : Nat) (x1 : Int32) (x2 : OhR) (x3 : Int32) {o : Int32 × OhI} (hm : mX1_mayHave n FI FR GR AI AR BR AN x1 x2 x3 = some o) : oT G 8 iX1_mayHave [vR (some (0, 0)), vI x1, vR x2, vI x3] (FI, FL, FR, GR, AI, AL, AR, BR, AN, C) (0, 0) (fun v h => v = (some (vI o.1)) ∧ h = (FI, FL, FR, GR, o.2, AL, AR, BR, AN, C)) ohNo :=
  oT_of (by decide) rfl (Nat.le_of_ble_eq_true rfl) (x_mX1_mayHave hH n x1 x2 x3 hm ⟨rfl, rfl⟩)
abbrev iX1_may : OhM := (yX1_may, cX1_may, 5, (some .boolean), [])
theorem ok_X1_may : oOk iX1_may 3 := ⟨by decide, by decide, by decide +kernel⟩
noncomputable def mX1_may (n : Nat) (FI : OhI) (FR : OhQ) (GR : OhQ) (AI : OhI) (AR : OhQ) (BR : OhQ) (AN : OhN) (x1 : Int32) (x2 : Int32) (x3 : Int32) : Option (Int32 × OhI × OhI × OhQ) :=
  (mX1_callOf FI FR GR AR BR AN x2).bind fun r1 =>
  (mX1_singerOf FI FR GR AR BR AN x1).bind fun r2 =>
  (if r2 = none then
  some ((0 : Int32), FI, AI, BR)
else
  (mX1_isRole FI FR r1 x3).bind fun r4 =>
    (if r4 = 0 then
    some ((0 : Int32), FI, AI, BR)
  else
    (mX1_layOut n FI FR GR AI AR BR AN (FI 0 0 3)).bind fun r6 =>
      (mX1_mayHave n r6.1 FR GR r6.2.1 AR r6.2.2 AN x1 r1 x3).bind fun r7 =>
      gd (r7.1 = 0 ∨ r7.1 = 1) <|
      some (r7.1, r6.1, r7.2, r6.2.2)))
theorem x_mX1_may {G : OhG} {FI AI : OhI} {FL AL : OhL} {FR GR AR BR : OhQ} {AN : OhN} {C : OhC} {k : Nat × Nat} {Φ : OhP} {Ψ : OhX} (hH : ohShH FR AR AN) (n : Nat) (x1 : Int32) (x2 : Int32) (x3 : Int32) {r : Int32 × OhI × OhI × OhQ} (hm : mX1_may n FI FR GR AI AR BR AN x1 x2 x3 = some r) (hK : Φ (some (vI r.1)) (r.2.1, FL, FR, GR, r.2.2.1, AL, AR, r.2.2.2, AN, C)) : oX G 9 iX1_may 0 [(0, vR (some (0, 0))), (1, vI x1), (2, vI x2), (3, vI x3)] [] (FI, FL, FR, GR, AI, AL, AR, BR, AN, C) k Φ Ψ := by
  unfold mX1_may at hm
  refine oX_aload_n dX1_may_0 rfl rfl ?_
  refine oX_iload_n dX1_may_1 rfl rfl ?_
  obtain ⟨r1, g1, hm⟩ := bd_s hm
  refine oX_cV (as := [vI x2]) dX1_may_2 rfl oDs0 rfl (by decide) rfl ok_X1_callOf rfl rfl q1348 q1350 qs24 q129 q1351 (by decide) (Nat.le_of_ble_eq_true rfl) (t_X1_callOf hH x2 g1) ?_
  refine oX_astore (ls' := [(4, vR r1), (0, vR (some (0, 0))), (1, vI x1), (2, vI x2), (3, vI x3)]) dX1_may_5 (by decide) rfl ?_
  refine oX_aload_n dX1_may_7 rfl rfl ?_
  refine oX_iload_n dX1_may_8 rfl rfl ?_
  obtain ⟨r2, g2, hm⟩ := bd_s hm
  refine oX_cV (as := [vI x1]) dX1_may_9 rfl oDs0 rfl (by decide) rfl ok_X1_singerOf rfl rfl q644 q646 qs7 q129 q647 (by decide) (Nat.le_of_ble_eq_true rfl) (t_X1_singerOf hH x1 g2) ?_
  refine oX_ifnull (tgt := 25) dX1_may_12 (by decide) (fun c3 => ?_) (fun c3 => ?_)
  · have hm := ifp c3 hm
    refine oX_iconst (v := (0 : Int32)) dX1_may_25 (by decide) ?_
    obtain rfl := Option.some.inj hm
    exact oX_iret dX1_may_26 rfl (by decide) hK
  · have hm := ifn c3 hm
    refine oX_aload_n dX1_may_15 rfl rfl ?_
    refine oX_aload dX1_may_16 rfl ?_
    refine oX_iload_n dX1_may_18 rfl rfl ?_
    obtain ⟨r4, g4, hm⟩ := bd_s hm
    refine oX_cV (as := [vR r1, vI x3]) dX1_may_19 rfl oDs0 rfl (by decide) rfl ok_X1_isRole rfl rfl q1600 q1602 qs47 q129 q1603 (by decide) (Nat.le_of_ble_eq_true rfl) (t_X1_isRole r1 x3 g4) ?_
    refine oX_if_ne (tgt := 27) dX1_may_22 (by decide) (fun c5 => ?_) (fun c5 => ?_)
    · have hm := ifp c5 hm
      refine oX_iconst (v := (0 : Int32)) dX1_may_25 (by decide) ?_
      obtain rfl := Option.some.inj hm
      exact oX_iret dX1_may_26 rfl (by decide) hK
    · have hm := ifn c5 hm
      refine oX_aload_n dX1_may_27 rfl rfl ?_
      refine oX_aload_n dX1_may_28 rfl rfl ?_
      refine oX_getI fX1_116 rfl oDs0 dX1_may_29 ?_
      obtain ⟨r6, g6, hm⟩ := bd_s hm
      refine oX_cV_ (as := [vI (FI 0 0 3)]) dX1_may_32 rfl oDs0 rfl (by decide) rfl ok_X1_layOut rfl rfl q1418 q1420 qs25 q129 q1421 (by decide) (Nat.le_of_ble_eq_true rfl) (t_X1_layOut hH n (FI 0 0 3) g6) ?_
      refine oX_aload_n dX1_may_35 rfl rfl ?_
      refine oX_iload_n dX1_may_36 rfl rfl ?_
      refine oX_aload dX1_may_37 rfl ?_
      refine oX_iload_n dX1_may_39 rfl rfl ?_
      obtain ⟨r7, g7, hm⟩ := bd_s hm
      refine oX_cV (as := [vI x1, vR r1, vI x3]) dX1_may_40 rfl oDs0 rfl (by decide) rfl ok_X1_mayHave rfl rfl q1604 q1606 qs48 q129 q1607 (by decide) (Nat.le_of_ble_eq_true rfl) (t_X1_mayHave hH n x1 r1 x3 g7) ?_
      obtain ⟨g8, hm⟩ := gd_s hm
      obtain rfl := Option.some.inj hm
      exact oX_iret dX1_may_43 rfl (oNz g8) hK
theorem t_X1_may {G : OhG} {FI AI : OhI} {FL AL : OhL} {FR GR AR BR : OhQ} {AN : OhN} {C : OhC} (hH : ohShH FR AR AN) (n : Nat) (x1 : Int32) (x2 : Int32) (x3 : Int32) {o : Int32 × OhI × OhI × OhQ} (hm : mX1_may n FI FR GR AI AR BR AN x1 x2 x3 = some o) : oT G 9 iX1_may [vR (some (0, 0)), vI x1, vI x2, vI x3] (FI, FL, FR, GR, AI, AL, AR, BR, AN, C) (0, 0) (fun v h => v = (some (vI o.1)) ∧ h = (o.2.1, FL, FR, GR, o.2.2.1, AL, AR, o.2.2.2, AN, C)) ohNo :=
  oT_of (by decide) rfl (Nat.le_of_ble_eq_true rfl) (x_mX1_may hH n x1 x2 x3 hm ⟨rfl, rfl⟩)
abbrev iX1_keepAllWrongs : OhM := (yX1_keepAllWrongs, cX1_keepAllWrongs, 3, none, [])
theorem ok_X1_keepAllWrongs : oOk iX1_keepAllWrongs 0 := ⟨by decide, by decide, by decide +kernel⟩
noncomputable def mX1_keepAllWrongs_b15 (n : Nat) (FI : OhI) (FR : OhQ) (AI : OhI) (AR : OhQ) (BR : OhQ) (AN : OhN) (x1 : Int32) (x2 : Int32) : Option ((Int32 × OhI) ⊕ (OhI)) :=
  (if (8 : Int32) < x2 then
  some (.inr AI)
else
  gd (vp_in x1 66) <|
    gd (vp_in x1 66) <|
    gd (vp_in x2 9) <|
    gd (vp_in x2 9) <|
    oLet (sA AI 428 x1.toNatClampNeg (uA (AI 428 x1.toNatClampNeg) x2.toNatClampNeg (AI 422 x1.toNatClampNeg x2.toNatClampNeg))) fun AI7 =>
    some (.inl (x2 + (1 : Int32), AI7)))
theorem x_mX1_keepAllWrongs_b15 {G : OhG} {FI AI : OhI} {FL AL : OhL} {FR GR AR BR : OhQ} {AN : OhN} {C : OhC} {k : Nat × Nat} {Φ : OhP} {Ψ : OhX} (hH : ohShH FR AR AN) (n : Nat) (x1 : Int32) (x2 : Int32) {r : (Int32 × OhI) ⊕ (OhI)} (hm : mX1_keepAllWrongs_b15 n FI FR AI AR BR AN x1 x2 = some r) (hk : ∀ v : Int32 × OhI, r = .inl v → oX G 2 iX1_keepAllWrongs 15 [(0, vR (some (0, 0))), (1, vI x1), (2, vI v.1)] [] (FI, FL, FR, GR, v.2, AL, AR, BR, AN, C) k Φ Ψ) (hx1 : ∀ v : OhI, r = .inr v → oX G 2 iX1_keepAllWrongs 43 [(0, vR (some (0, 0))), (1, vI x1)] [] (FI, FL, FR, GR, v, AL, AR, BR, AN, C) k Φ Ψ) : oX G 2 iX1_keepAllWrongs 15 [(0, vR (some (0, 0))), (1, vI x1), (2, vI x2)] [] (FI, FL, FR, GR, AI, AL, AR, BR, AN, C) k Φ Ψ := by
  unfold mX1_keepAllWrongs_b15 at hm
  refine oX_iload_n dX1_keepAllWrongs_15 rfl rfl ?_
  refine oX_bipush (v := (8 : Int32)) dX1_keepAllWrongs_16 (by decide) ?_
  refine oX_icmp_gt (tgt := 43) dX1_keepAllWrongs_18 (by decide) (fun c3 => ?_) (fun c3 => ?_)
  · have hm := ifp c3 hm
    exact oX_sub [0, 1] rfl (hx1 AI (Option.some.inj hm).symm)
  · have hm := ifn c3 hm
    refine oX_aload_n dX1_keepAllWrongs_21 rfl rfl ?_
    refine oX_getF fX1_96 rfl oDs0 dX1_keepAllWrongs_22 (ohF328 hH) ?_
    refine oX_iload_n dX1_keepAllWrongs_25 rfl rfl ?_
    obtain ⟨g4, hm⟩ := gd_s hm
    refine oX_aaldR oDs328 (oIn (ohN328 hH) g4) dX1_keepAllWrongs_26 (ohA328 hH (oLt g4)) ?_
    refine oX_iload_n dX1_keepAllWrongs_27 rfl rfl ?_
    refine oX_aload_n dX1_keepAllWrongs_28 rfl rfl ?_
    refine oX_getF fX1_73 rfl oDs0 dX1_keepAllWrongs_29 (ohF322 hH) ?_
    refine oX_iload_n dX1_keepAllWrongs_32 rfl rfl ?_
    obtain ⟨g5, hm⟩ := gd_s hm
    refine oX_aaldR oDs322 (oIn (ohN322 hH) g5) dX1_keepAllWrongs_33 (ohA322 hH (oLt g5)) ?_
    refine oX_iload_n dX1_keepAllWrongs_34 rfl rfl ?_
    obtain ⟨g6, hm⟩ := gd_s hm
    refine oX_iald oDs422 (oIn (ohM422 hH (oLt g5)) g6) dX1_keepAllWrongs_35 ?_
    obtain ⟨g7, hm⟩ := gd_s hm
    obtain ⟨AI7, hAI7, hm⟩ := oLs hm
    refine oX_iast oDs428 (oIn (ohM428 hH (oLt g4)) g7) dX1_keepAllWrongs_36 hAI7 ?_
    refine oX_iinc (v := x2 + (1 : Int32)) (ls' := [(2, vI (x2 + (1 : Int32))), (0, vR (some (0, 0))), (1, vI x1)]) dX1_keepAllWrongs_37 rfl rfl (by decide) rfl ?_
    refine oX_goto (tgt := 15) dX1_keepAllWrongs_40 (by decide) ?_
    exact oX_sub [1, 2, 0] rfl (hk (x2 + (1 : Int32), AI7) (Option.some.inj hm).symm)
theorem l_mX1_keepAllWrongs_b15 {G : OhG} {FI : OhI} {FL : OhL} {FR : OhQ} {GR : OhQ} {AL : OhL} {AR : OhQ} {BR : OhQ} {AN : OhN} {C : OhC} {k : Nat × Nat} {Φ : OhP} {Ψ : OhX} (hH : ohShH FR AR AN) (n : Nat) (x1 : Int32) : ∀ (f : Nat) (x2 : Int32) (AI : OhI) (b : (OhI)), lpF (fun v => mX1_keepAllWrongs_b15 n FI FR v.2 AR BR AN x1 v.1) f (x2, AI) = some b → (oX G 2 iX1_keepAllWrongs 43 [(0, vR (some (0, 0))), (1, vI x1)] [] (FI, FL, FR, GR, b, AL, AR, BR, AN, C) k Φ Ψ) → oX G 2 iX1_keepAllWrongs 15 [(0, vR (some (0, 0))), (1, vI x1), (2, vI x2)] [] (FI, FL, FR, GR, AI, AL, AR, BR, AN, C) k Φ Ψ := by
  intro f
  induction f with
  | zero =>
    intro x2 AI b hm
    cases hm
  | succ f ih =>
    intro x2 AI b hm hx1
    obtain ⟨r, hr, hm⟩ := lp_s hm
    refine x_mX1_keepAllWrongs_b15 hH n x1 x2 hr (fun v e => ?_) (fun v e => ?_)
    · subst e; exact ih v.1 v.2 _ hm hx1
    · subst e; cases (show v = b from hm); exact hx1
noncomputable def mX1_keepAllWrongs_b2 (n : Nat) (FI : OhI) (FR : OhQ) (AI : OhI) (AR : OhQ) (BR : OhQ) (AN : OhN) (x1 : Int32) : Option ((Int32 × OhI) ⊕ (OhI)) :=
  (mJ2_size FI (311, 0)).bind fun r1 =>
  (if r1 ≤ x1 then
  some (.inr AI)
else
  (lpF (fun v => mX1_keepAllWrongs_b15 n FI FR v.2 AR BR AN x1 v.1) n ((0 : Int32), AI)).bind fun v8 =>
    some (.inl (x1 + (1 : Int32), v8)))
theorem x_mX1_keepAllWrongs_b2 {G : OhG} {FI AI : OhI} {FL AL : OhL} {FR GR AR BR : OhQ} {AN : OhN} {C : OhC} {k : Nat × Nat} {Φ : OhP} {Ψ : OhX} (hH : ohShH FR AR AN) (n : Nat) (x1 : Int32) {r : (Int32 × OhI) ⊕ (OhI)} (hm : mX1_keepAllWrongs_b2 n FI FR AI AR BR AN x1 = some r) (hk : ∀ v : Int32 × OhI, r = .inl v → oX G 2 iX1_keepAllWrongs 2 [(0, vR (some (0, 0))), (1, vI v.1)] [] (FI, FL, FR, GR, v.2, AL, AR, BR, AN, C) k Φ Ψ) (hx1 : ∀ v : OhI, r = .inr v → oX G 2 iX1_keepAllWrongs 49 [] [] (FI, FL, FR, GR, v, AL, AR, BR, AN, C) k Φ Ψ) : oX G 2 iX1_keepAllWrongs 2 [(0, vR (some (0, 0))), (1, vI x1)] [] (FI, FL, FR, GR, AI, AL, AR, BR, AN, C) k Φ Ψ := by
  unfold mX1_keepAllWrongs_b2 at hm
  refine oX_iload_n dX1_keepAllWrongs_2 rfl rfl ?_
  refine oX_aload_n dX1_keepAllWrongs_3 rfl rfl ?_
  refine oX_getF fX1_37 rfl oDs0 dX1_keepAllWrongs_4 (ohF311 hH) ?_
  obtain ⟨r1, g1, hm⟩ := bd_s hm
  refine oX_cV (as := []) dX1_keepAllWrongs_7 rfl oDs311 rfl (by decide) rfl ok_J2_size rfl rfl q430 q431 q432 q132 q433 (by decide) (Nat.le_of_ble_eq_true rfl) (t_J2_size (311, 0) rfl g1) ?_
  refine oX_icmp_ge (tgt := 49) dX1_keepAllWrongs_10 (by decide) (fun c2 => ?_) (fun c2 => ?_)
  · have hm := ifp c2 hm
    exact oX_sub [] rfl (hx1 AI (Option.some.inj hm).symm)
  · have hm := ifn c2 hm
    refine oX_iconst (v := (0 : Int32)) dX1_keepAllWrongs_13 (by decide) ?_
    refine oX_istore_n (ls' := [(2, vI (0 : Int32)), (0, vR (some (0, 0))), (1, vI x1)]) dX1_keepAllWrongs_14 rfl (by decide) rfl ?_
    obtain ⟨v8, g8, hm⟩ := bd_s hm
    refine oX_sub [1, 2, 0] rfl (l_mX1_keepAllWrongs_b15 hH n x1 n (0 : Int32) AI _ g8 ?_)
    refine oX_iinc (v := x1 + (1 : Int32)) (ls' := [(1, vI (x1 + (1 : Int32))), (0, vR (some (0, 0)))]) dX1_keepAllWrongs_43 rfl rfl (by decide) rfl ?_
    refine oX_goto (tgt := 2) dX1_keepAllWrongs_46 (by decide) ?_
    exact oX_sub [1, 0] rfl (hk (x1 + (1 : Int32), v8) (Option.some.inj hm).symm)
theorem l_mX1_keepAllWrongs_b2 {G : OhG} {FI : OhI} {FL : OhL} {FR : OhQ} {GR : OhQ} {AL : OhL} {AR : OhQ} {BR : OhQ} {AN : OhN} {C : OhC} {k : Nat × Nat} {Φ : OhP} {Ψ : OhX} (hH : ohShH FR AR AN) (n : Nat) : ∀ (f : Nat) (x1 : Int32) (AI : OhI) (b : (OhI)), lpF (fun v => mX1_keepAllWrongs_b2 n FI FR v.2 AR BR AN v.1) f (x1, AI) = some b → (oX G 2 iX1_keepAllWrongs 49 [] [] (FI, FL, FR, GR, b, AL, AR, BR, AN, C) k Φ Ψ) → oX G 2 iX1_keepAllWrongs 2 [(0, vR (some (0, 0))), (1, vI x1)] [] (FI, FL, FR, GR, AI, AL, AR, BR, AN, C) k Φ Ψ := by
  intro f
  induction f with
  | zero =>
    intro x1 AI b hm
    cases hm
  | succ f ih =>
    intro x1 AI b hm hx1
    obtain ⟨r, hr, hm⟩ := lp_s hm
    refine x_mX1_keepAllWrongs_b2 hH n x1 hr (fun v e => ?_) (fun v e => ?_)
    · subst e; exact ih v.1 v.2 _ hm hx1
    · subst e; cases (show v = b from hm); exact hx1
noncomputable def mX1_keepAllWrongs (n : Nat) (FI : OhI) (FR : OhQ) (AI : OhI) (AR : OhQ) (BR : OhQ) (AN : OhN) : Option (OhI) :=
  (lpF (fun v => mX1_keepAllWrongs_b2 n FI FR v.2 AR BR AN v.1) n ((0 : Int32), AI)).bind fun v9 =>
  some v9
theorem x_mX1_keepAllWrongs {G : OhG} {FI AI : OhI} {FL AL : OhL} {FR GR AR BR : OhQ} {AN : OhN} {C : OhC} {k : Nat × Nat} {Φ : OhP} {Ψ : OhX} (hH : ohShH FR AR AN) (n : Nat) {r : OhI} (hm : mX1_keepAllWrongs n FI FR AI AR BR AN = some r) (hK : Φ none (FI, FL, FR, GR, r, AL, AR, BR, AN, C)) : oX G 2 iX1_keepAllWrongs 0 [(0, vR (some (0, 0)))] [] (FI, FL, FR, GR, AI, AL, AR, BR, AN, C) k Φ Ψ := by
  unfold mX1_keepAllWrongs at hm
  refine oX_iconst (v := (0 : Int32)) dX1_keepAllWrongs_0 (by decide) ?_
  refine oX_istore_n (ls' := [(1, vI (0 : Int32)), (0, vR (some (0, 0)))]) dX1_keepAllWrongs_1 rfl (by decide) rfl ?_
  obtain ⟨v9, g9, hm⟩ := bd_s hm
  refine oX_sub [1, 0] rfl (l_mX1_keepAllWrongs_b2 hH n n (0 : Int32) AI _ g9 ?_)
  obtain rfl := Option.some.inj hm
  exact oX_vret dX1_keepAllWrongs_49 rfl hK
theorem t_X1_keepAllWrongs {G : OhG} {FI AI : OhI} {FL AL : OhL} {FR GR AR BR : OhQ} {AN : OhN} {C : OhC} (hH : ohShH FR AR AN) (n : Nat) {o : OhI} (hm : mX1_keepAllWrongs n FI FR AI AR BR AN = some o) : oT G 2 iX1_keepAllWrongs [vR (some (0, 0))] (FI, FL, FR, GR, AI, AL, AR, BR, AN, C) (0, 0) (fun v h => v = none ∧ h = (FI, FL, FR, GR, o, AL, AR, BR, AN, C)) ohNo :=
  oT_of (by decide) rfl (Nat.le_of_ble_eq_true rfl) (x_mX1_keepAllWrongs hH n hm ⟨rfl, rfl⟩)
abbrev iX1_firstOf : OhM := (yX1_firstOf, cX1_firstOf, 3, (some (FieldType.object "OperaHouse$Call")), [])
theorem ok_X1_firstOf : oOk iX1_firstOf 1 := ⟨by decide, by decide, by decide +kernel⟩
noncomputable def mX1_firstOf_b2 (n : Nat) (FI : OhI) (FR : OhQ) (GR : OhQ) (AR : OhQ) (BR : OhQ) (AN : OhN) (x1 : OhR) (x2 : Int32) : Option ((Int32) ⊕ ((Unit) ⊕ (Int32))) :=
  (mJ2_size FI (311, 0)).bind fun r1 =>
  (if r1 ≤ x2 then
  some (.inr (.inl ()))
else
  (mJ2_get FI GR AR BR AN (311, 0) x2).bind fun r3 =>
    (oD 14 r3).bind fun a4 =>
    gd (oNm (FR a4.1 a4.2 6) x1) <|
    (if (FR a4.1 a4.2 6) = x1 then
    some (.inr (.inr x2))
  else
    some (.inl (x2 + (1 : Int32)))))
theorem x_mX1_firstOf_b2 {G : OhG} {FI AI : OhI} {FL AL : OhL} {FR GR AR BR : OhQ} {AN : OhN} {C : OhC} {k : Nat × Nat} {Φ : OhP} {Ψ : OhX} (hH : ohShH FR AR AN) (n : Nat) (x1 : OhR) (x2 : Int32) {r : (Int32) ⊕ ((Unit) ⊕ (Int32))} (hm : mX1_firstOf_b2 n FI FR GR AR BR AN x1 x2 = some r) (hk : ∀ v : Int32, r = .inl v → oX G 4 iX1_firstOf 2 [(0, vR (some (0, 0))), (1, vR x1), (2, vI v)] [] (FI, FL, FR, GR, AI, AL, AR, BR, AN, C) k Φ Ψ) (hx1 : ∀ v : Unit, r = .inr (.inl v) → oX G 4 iX1_firstOf 49 [] [] (FI, FL, FR, GR, AI, AL, AR, BR, AN, C) k Φ Ψ) (hx2 : ∀ v : Int32, r = .inr (.inr v) → oX G 4 iX1_firstOf 31 [(0, vR (some (0, 0))), (2, vI v)] [] (FI, FL, FR, GR, AI, AL, AR, BR, AN, C) k Φ Ψ) : oX G 4 iX1_firstOf 2 [(0, vR (some (0, 0))), (1, vR x1), (2, vI x2)] [] (FI, FL, FR, GR, AI, AL, AR, BR, AN, C) k Φ Ψ := by
  unfold mX1_firstOf_b2 at hm
  refine oX_iload_n dX1_firstOf_2 rfl rfl ?_
  refine oX_aload_n dX1_firstOf_3 rfl rfl ?_
  refine oX_getF fX1_37 rfl oDs0 dX1_firstOf_4 (ohF311 hH) ?_
  obtain ⟨r1, g1, hm⟩ := bd_s hm
  refine oX_cV (as := []) dX1_firstOf_7 rfl oDs311 rfl (by decide) rfl ok_J2_size rfl rfl q430 q431 q432 q132 q433 (by decide) (Nat.le_of_ble_eq_true rfl) (t_J2_size (311, 0) rfl g1) ?_
  refine oX_icmp_ge (tgt := 49) dX1_firstOf_10 (by decide) (fun c2 => ?_) (fun c2 => ?_)
  · have hm := ifp c2 hm
    exact oX_sub [] rfl (hx1 () (Option.some.inj hm).symm)
  · have hm := ifn c2 hm
    refine oX_aload_n dX1_firstOf_13 rfl rfl ?_
    refine oX_getF fX1_37 rfl oDs0 dX1_firstOf_14 (ohF311 hH) ?_
    refine oX_iload_n dX1_firstOf_17 rfl rfl ?_
    obtain ⟨r3, g3, hm⟩ := bd_s hm
    refine oX_cV (as := [vI x2]) dX1_firstOf_18 rfl oDs311 rfl (by decide) rfl ok_J2_get rfl rfl q648 q649 q650 q132 q651 (by decide) (Nat.le_of_ble_eq_true rfl) (t_J2_get (311, 0) rfl x2 g3) ?_
    obtain ⟨a4, e4, hm⟩ := bd_s hm
    refine oX_cast e4 rfl (by decide) q254 dX1_firstOf_21 ?_
    refine oX_getF fX1_258 rfl (oD_self e4) dX1_firstOf_24 rfl ?_
    refine oX_aload_n dX1_firstOf_27 rfl rfl ?_
    obtain ⟨n5, hm⟩ := gd_s hm
    refine oX_acmp_ne (tgt := 43) n5 dX1_firstOf_28 (by decide) (fun c5 => ?_) (fun c5 => ?_)
    · have hm := ifp c5 hm
      exact oX_sub [0, 2] rfl (hx2 x2 (Option.some.inj hm).symm)
    · have hm := ifn c5 hm
      refine oX_iinc (v := x2 + (1 : Int32)) (ls' := [(2, vI (x2 + (1 : Int32))), (0, vR (some (0, 0))), (1, vR x1)]) dX1_firstOf_43 rfl rfl (by decide) rfl ?_
      refine oX_goto (tgt := 2) dX1_firstOf_46 (by decide) ?_
      exact oX_sub [1, 2, 0] rfl (hk (x2 + (1 : Int32)) (Option.some.inj hm).symm)
theorem l_mX1_firstOf_b2 {G : OhG} {FI : OhI} {FL : OhL} {FR : OhQ} {GR : OhQ} {AI : OhI} {AL : OhL} {AR : OhQ} {BR : OhQ} {AN : OhN} {C : OhC} {k : Nat × Nat} {Φ : OhP} {Ψ : OhX} (hH : ohShH FR AR AN) (n : Nat) (x1 : OhR) : ∀ (f : Nat) (x2 : Int32) (b : ((Unit) ⊕ (Int32))), lpF (fun v => mX1_firstOf_b2 n FI FR GR AR BR AN x1 v) f x2 = some b → (∀ v : Unit, b = (.inl v) → oX G 4 iX1_firstOf 49 [] [] (FI, FL, FR, GR, AI, AL, AR, BR, AN, C) k Φ Ψ) → (∀ v : Int32, b = (.inr v) → oX G 4 iX1_firstOf 31 [(0, vR (some (0, 0))), (2, vI v)] [] (FI, FL, FR, GR, AI, AL, AR, BR, AN, C) k Φ Ψ) → oX G 4 iX1_firstOf 2 [(0, vR (some (0, 0))), (1, vR x1), (2, vI x2)] [] (FI, FL, FR, GR, AI, AL, AR, BR, AN, C) k Φ Ψ := by
  intro f
  induction f with
  | zero =>
    intro x2 b hm
    cases hm
  | succ f ih =>
    intro x2 b hm hx1 hx2
    obtain ⟨r, hr, hm⟩ := lp_s hm
    refine x_mX1_firstOf_b2 hH n x1 x2 hr (fun v e => ?_) (fun v e => ?_) (fun v e => ?_)
    · subst e; exact ih v _ hm hx1 hx2
    · subst e; exact hx1 v hm.symm
    · subst e; exact hx2 v hm.symm
noncomputable def mX1_firstOf (n : Nat) (FI : OhI) (FR : OhQ) (GR : OhQ) (AR : OhQ) (BR : OhQ) (AN : OhN) (x1 : OhR) : Option (OhR) :=
  (lpF (fun v => mX1_firstOf_b2 n FI FR GR AR BR AN x1 v) n (0 : Int32)).bind (Sum.elim (fun v6 => some none) (fun v6 => (mJ2_get FI GR AR BR AN (311, 0) v6).bind fun r7 =>
  (oD 14 r7).bind fun a8 =>
  some (some a8)))
theorem x_mX1_firstOf {G : OhG} {FI AI : OhI} {FL AL : OhL} {FR GR AR BR : OhQ} {AN : OhN} {C : OhC} {k : Nat × Nat} {Φ : OhP} {Ψ : OhX} (hH : ohShH FR AR AN) (n : Nat) (x1 : OhR) {r : OhR} (hm : mX1_firstOf n FI FR GR AR BR AN x1 = some r) (hK : Φ (some (vR r)) (FI, FL, FR, GR, AI, AL, AR, BR, AN, C)) : oX G 4 iX1_firstOf 0 [(0, vR (some (0, 0))), (1, vR x1)] [] (FI, FL, FR, GR, AI, AL, AR, BR, AN, C) k Φ Ψ := by
  unfold mX1_firstOf at hm
  refine oX_iconst (v := (0 : Int32)) dX1_firstOf_0 (by decide) ?_
  refine oX_istore_n (ls' := [(2, vI (0 : Int32)), (0, vR (some (0, 0))), (1, vR x1)]) dX1_firstOf_1 rfl (by decide) rfl ?_
  obtain ⟨b6, g6, hm⟩ := bd_s hm
  refine oX_sub [1, 2, 0] rfl (l_mX1_firstOf_b2 hH n x1 n (0 : Int32) _ g6 (fun v6 e6 => ?_) (fun v6 e6 => ?_))
  · subst e6
    have hm := el1 hm
    refine oX_null dX1_firstOf_49 ?_
    obtain rfl := Option.some.inj hm
    exact oX_aret dX1_firstOf_50 rfl (by first | exact Or.inl ⟨_, rfl⟩ | exact Or.inr ⟨_, rfl⟩) hK
  · subst e6
    have hm := el2 hm
    refine oX_aload_n dX1_firstOf_31 rfl rfl ?_
    refine oX_getF fX1_37 rfl oDs0 dX1_firstOf_32 (ohF311 hH) ?_
    refine oX_iload_n dX1_firstOf_35 rfl rfl ?_
    obtain ⟨r7, g7, hm⟩ := bd_s hm
    refine oX_cV (as := [vI v6]) dX1_firstOf_36 rfl oDs311 rfl (by decide) rfl ok_J2_get rfl rfl q648 q649 q650 q132 q651 (by decide) (Nat.le_of_ble_eq_true rfl) (t_J2_get (311, 0) rfl v6 g7) ?_
    obtain ⟨a8, e8, hm⟩ := bd_s hm
    refine oX_cast e8 rfl (by decide) q254 dX1_firstOf_39 ?_
    obtain rfl := Option.some.inj hm
    exact oX_aret dX1_firstOf_42 rfl (by first | exact Or.inl ⟨_, rfl⟩ | exact Or.inr ⟨_, rfl⟩) hK
theorem t_X1_firstOf {G : OhG} {FI AI : OhI} {FL AL : OhL} {FR GR AR BR : OhQ} {AN : OhN} {C : OhC} (hH : ohShH FR AR AN) (n : Nat) (x1 : OhR) {o : OhR} (hm : mX1_firstOf n FI FR GR AR BR AN x1 = some o) : oT G 4 iX1_firstOf [vR (some (0, 0)), vR x1] (FI, FL, FR, GR, AI, AL, AR, BR, AN, C) (0, 0) (fun v h => v = (some (vR o)) ∧ h = (FI, FL, FR, GR, AI, AL, AR, BR, AN, C)) ohNo :=
  oT_of (by decide) rfl (Nat.le_of_ble_eq_true rfl) (x_mX1_firstOf hH n x1 hm ⟨rfl, rfl⟩)
abbrev iX1_holds : OhM := (yX1_holds, cX1_holds, 4, (some .boolean), [])
theorem ok_X1_holds : oOk iX1_holds 1 := ⟨by decide, by decide, by decide +kernel⟩
noncomputable def mX1_holds_j58 (n : Nat) (FI : OhI) (FR : OhQ) (GR : OhQ) (AI : OhI) (AR : OhQ) (BR : OhQ) (AN : OhN) (x1 : Int32) (x2 : Int32) (x3 : Int32) (y0 : Int32) (y1 : Int32) : Option ((Int32) ⊕ ((Unit) ⊕ (Unit))) :=
  (if (y0 &&& (y1 ^^^ (-1 : Int32))) = 0 then
  some (.inl (x3 + (1 : Int32)))
else
  some (.inr (.inr ())))
theorem x_mX1_holds_j58 {G : OhG} {FI AI : OhI} {FL AL : OhL} {FR GR AR BR : OhQ} {AN : OhN} {C : OhC} {k : Nat × Nat} {Φ : OhP} {Ψ : OhX} (hH : ohShH FR AR AN) (n : Nat) (x1 : Int32) (x2 : Int32) (x3 : Int32) (y0 : Int32) (y1 : Int32) {r : (Int32) ⊕ ((Unit) ⊕ (Unit))} (hm : mX1_holds_j58 n FI FR GR AI AR BR AN x1 x2 x3 y0 y1 = some r) (hk : ∀ v : Int32, r = .inl v → oX G 8 iX1_holds 21 [(0, vR (some (0, 0))), (1, vI x1), (2, vI x2), (3, vI v)] [] (FI, FL, FR, GR, AI, AL, AR, BR, AN, C) k Φ Ψ) (hx1 : ∀ v : Unit, r = .inr (.inl v) → oX G 8 iX1_holds 72 [(0, vR (some (0, 0))), (1, vI x1), (2, vI x2)] [] (FI, FL, FR, GR, AI, AL, AR, BR, AN, C) k Φ Ψ) (hx2 : ∀ v : Unit, r = .inr (.inr v) → oX G 8 iX1_holds 64 [] [] (FI, FL, FR, GR, AI, AL, AR, BR, AN, C) k Φ Ψ) : oX G 8 iX1_holds 58 [(0, vR (some (0, 0))), (1, vI x1), (2, vI x2), (3, vI x3)] [vI y1, vI y0] (FI, FL, FR, GR, AI, AL, AR, BR, AN, C) k Φ Ψ := by
  unfold mX1_holds_j58 at hm
  refine oX_iconst (v := (-1 : Int32)) dX1_holds_58 (by decide) ?_
  refine oX_ixor dX1_holds_59 ?_
  refine oX_iand dX1_holds_60 ?_
  refine oX_if_eq (tgt := 66) dX1_holds_61 (by decide) (fun c9 => ?_) (fun c9 => ?_)
  · have hm := ifp c9 hm
    refine oX_iinc (v := x3 + (1 : Int32)) (ls' := [(3, vI (x3 + (1 : Int32))), (0, vR (some (0, 0))), (1, vI x1), (2, vI x2)]) dX1_holds_66 rfl rfl (by decide) rfl ?_
    refine oX_goto (tgt := 21) dX1_holds_69 (by decide) ?_
    exact oX_sub [1, 2, 3, 0] rfl (hk (x3 + (1 : Int32)) (Option.some.inj hm).symm)
  · have hm := ifn c9 hm
    exact oX_sub [] rfl (hx2 () (Option.some.inj hm).symm)
noncomputable def mX1_holds_b21 (n : Nat) (FI : OhI) (FR : OhQ) (GR : OhQ) (AI : OhI) (AR : OhQ) (BR : OhQ) (AN : OhN) (x1 : Int32) (x2 : Int32) (x3 : Int32) : Option ((Int32) ⊕ ((Unit) ⊕ (Unit))) :=
  (if (8 : Int32) < x3 then
  some (.inr (.inl ()))
else
  gd (vp_in x2 66) <|
    gd (vp_in x3 9) <|
    (mJ2_size FI (311, 0)).bind fun r7 =>
    (if r7 ≤ x2 then
    mX1_holds_j58 n FI FR GR AI AR BR AN x1 x2 x3 (AI 422 x2.toNatClampNeg x3.toNatClampNeg) (0 : Int32)
  else
    gd (vp_in x2 66) <|
      gd (vp_in x3 9) <|
      mX1_holds_j58 n FI FR GR AI AR BR AN x1 x2 x3 (AI 422 x2.toNatClampNeg x3.toNatClampNeg) (AI 428 x2.toNatClampNeg x3.toNatClampNeg)))
theorem x_mX1_holds_b21 {G : OhG} {FI AI : OhI} {FL AL : OhL} {FR GR AR BR : OhQ} {AN : OhN} {C : OhC} {k : Nat × Nat} {Φ : OhP} {Ψ : OhX} (hH : ohShH FR AR AN) (n : Nat) (x1 : Int32) (x2 : Int32) (x3 : Int32) {r : (Int32) ⊕ ((Unit) ⊕ (Unit))} (hm : mX1_holds_b21 n FI FR GR AI AR BR AN x1 x2 x3 = some r) (hk : ∀ v : Int32, r = .inl v → oX G 8 iX1_holds 21 [(0, vR (some (0, 0))), (1, vI x1), (2, vI x2), (3, vI v)] [] (FI, FL, FR, GR, AI, AL, AR, BR, AN, C) k Φ Ψ) (hx1 : ∀ v : Unit, r = .inr (.inl v) → oX G 8 iX1_holds 72 [(0, vR (some (0, 0))), (1, vI x1), (2, vI x2)] [] (FI, FL, FR, GR, AI, AL, AR, BR, AN, C) k Φ Ψ) (hx2 : ∀ v : Unit, r = .inr (.inr v) → oX G 8 iX1_holds 64 [] [] (FI, FL, FR, GR, AI, AL, AR, BR, AN, C) k Φ Ψ) : oX G 8 iX1_holds 21 [(0, vR (some (0, 0))), (1, vI x1), (2, vI x2), (3, vI x3)] [] (FI, FL, FR, GR, AI, AL, AR, BR, AN, C) k Φ Ψ := by
  unfold mX1_holds_b21 at hm
  refine oX_iload_n dX1_holds_21 rfl rfl ?_
  refine oX_bipush (v := (8 : Int32)) dX1_holds_22 (by decide) ?_
  refine oX_icmp_gt (tgt := 72) dX1_holds_24 (by decide) (fun c4 => ?_) (fun c4 => ?_)
  · have hm := ifp c4 hm
    exact oX_sub [0, 1, 2] rfl (hx1 () (Option.some.inj hm).symm)
  · have hm := ifn c4 hm
    refine oX_aload_n dX1_holds_27 rfl rfl ?_
    refine oX_getF fX1_73 rfl oDs0 dX1_holds_28 (ohF322 hH) ?_
    refine oX_iload_n dX1_holds_31 rfl rfl ?_
    obtain ⟨g5, hm⟩ := gd_s hm
    refine oX_aaldR oDs322 (oIn (ohN322 hH) g5) dX1_holds_32 (ohA322 hH (oLt g5)) ?_
    refine oX_iload_n dX1_holds_33 rfl rfl ?_
    obtain ⟨g6, hm⟩ := gd_s hm
    refine oX_iald oDs422 (oIn (ohM422 hH (oLt g5)) g6) dX1_holds_34 ?_
    refine oX_iload_n dX1_holds_35 rfl rfl ?_
    refine oX_aload_n dX1_holds_36 rfl rfl ?_
    refine oX_getF fX1_37 rfl oDs0 dX1_holds_37 (ohF311 hH) ?_
    obtain ⟨r7, g7, hm⟩ := bd_s hm
    refine oX_cV (as := []) dX1_holds_40 rfl oDs311 rfl (by decide) rfl ok_J2_size rfl rfl q430 q431 q432 q132 q433 (by decide) (Nat.le_of_ble_eq_true rfl) (t_J2_size (311, 0) rfl g7) ?_
    refine oX_icmp_ge (tgt := 57) dX1_holds_43 (by decide) (fun c8 => ?_) (fun c8 => ?_)
    · have hm := ifp c8 hm
      refine oX_iconst (v := (0 : Int32)) dX1_holds_57 (by decide) ?_
      exact oX_sub [0, 1, 2, 3] rfl (x_mX1_holds_j58 hH n x1 x2 x3 (AI 422 x2.toNatClampNeg x3.toNatClampNeg) (0 : Int32) hm hk hx1 hx2)
    · have hm := ifn c8 hm
      refine oX_aload_n dX1_holds_46 rfl rfl ?_
      refine oX_getF fX1_96 rfl oDs0 dX1_holds_47 (ohF328 hH) ?_
      refine oX_iload_n dX1_holds_50 rfl rfl ?_
      obtain ⟨g10, hm⟩ := gd_s hm
      refine oX_aaldR oDs328 (oIn (ohN328 hH) g10) dX1_holds_51 (ohA328 hH (oLt g10)) ?_
      refine oX_iload_n dX1_holds_52 rfl rfl ?_
      obtain ⟨g11, hm⟩ := gd_s hm
      refine oX_iald oDs428 (oIn (ohM428 hH (oLt g10)) g11) dX1_holds_53 ?_
      refine oX_goto (tgt := 58) dX1_holds_54 (by decide) ?_
      exact oX_sub [0, 1, 2, 3] rfl (x_mX1_holds_j58 hH n x1 x2 x3 (AI 422 x2.toNatClampNeg x3.toNatClampNeg) (AI 428 x2.toNatClampNeg x3.toNatClampNeg) hm hk hx1 hx2)
theorem l_mX1_holds_b21 {G : OhG} {FI : OhI} {FL : OhL} {FR : OhQ} {GR : OhQ} {AI : OhI} {AL : OhL} {AR : OhQ} {BR : OhQ} {AN : OhN} {C : OhC} {k : Nat × Nat} {Φ : OhP} {Ψ : OhX} (hH : ohShH FR AR AN) (n : Nat) (x1 : Int32) (x2 : Int32) : ∀ (f : Nat) (x3 : Int32) (b : ((Unit) ⊕ (Unit))), lpF (fun v => mX1_holds_b21 n FI FR GR AI AR BR AN x1 x2 v) f x3 = some b → (∀ v : Unit, b = (.inl v) → oX G 8 iX1_holds 72 [(0, vR (some (0, 0))), (1, vI x1), (2, vI x2)] [] (FI, FL, FR, GR, AI, AL, AR, BR, AN, C) k Φ Ψ) → (∀ v : Unit, b = (.inr v) → oX G 8 iX1_holds 64 [] [] (FI, FL, FR, GR, AI, AL, AR, BR, AN, C) k Φ Ψ) → oX G 8 iX1_holds 21 [(0, vR (some (0, 0))), (1, vI x1), (2, vI x2), (3, vI x3)] [] (FI, FL, FR, GR, AI, AL, AR, BR, AN, C) k Φ Ψ := by
  intro f
  induction f with
  | zero =>
    intro x3 b hm
    cases hm
  | succ f ih =>
    intro x3 b hm hx1 hx2
    obtain ⟨r, hr, hm⟩ := lp_s hm
    refine x_mX1_holds_b21 hH n x1 x2 x3 hr (fun v e => ?_) (fun v e => ?_) (fun v e => ?_)
    · subst e; exact ih v _ hm hx1 hx2
    · subst e; exact hx1 v hm.symm
    · subst e; exact hx2 v hm.symm
noncomputable def mX1_holds_b6 (n : Nat) (FI : OhI) (FR : OhQ) (GR : OhQ) (AI : OhI) (AR : OhQ) (BR : OhQ) (AN : OhN) (x1 : Int32) (x2 : Int32) : Option ((Int32) ⊕ ((Unit) ⊕ (Unit))) :=
  (mJ2_size FI (311, 0)).bind fun r2 =>
  (if (r2 + x1) ≤ x2 then
  some (.inr (.inl ()))
else
  (lpF (fun v => mX1_holds_b21 n FI FR GR AI AR BR AN x1 x2 v) n (0 : Int32)).bind (Sum.elim (fun v12 => some (.inl (x2 + (1 : Int32)))) (fun v12 => some (.inr (.inr ())))))
theorem x_mX1_holds_b6 {G : OhG} {FI AI : OhI} {FL AL : OhL} {FR GR AR BR : OhQ} {AN : OhN} {C : OhC} {k : Nat × Nat} {Φ : OhP} {Ψ : OhX} (hH : ohShH FR AR AN) (n : Nat) (x1 : Int32) (x2 : Int32) {r : (Int32) ⊕ ((Unit) ⊕ (Unit))} (hm : mX1_holds_b6 n FI FR GR AI AR BR AN x1 x2 = some r) (hk : ∀ v : Int32, r = .inl v → oX G 8 iX1_holds 6 [(0, vR (some (0, 0))), (1, vI x1), (2, vI v)] [] (FI, FL, FR, GR, AI, AL, AR, BR, AN, C) k Φ Ψ) (hx1 : ∀ v : Unit, r = .inr (.inl v) → oX G 8 iX1_holds 78 [] [] (FI, FL, FR, GR, AI, AL, AR, BR, AN, C) k Φ Ψ) (hx2 : ∀ v : Unit, r = .inr (.inr v) → oX G 8 iX1_holds 64 [] [] (FI, FL, FR, GR, AI, AL, AR, BR, AN, C) k Φ Ψ) : oX G 8 iX1_holds 6 [(0, vR (some (0, 0))), (1, vI x1), (2, vI x2)] [] (FI, FL, FR, GR, AI, AL, AR, BR, AN, C) k Φ Ψ := by
  unfold mX1_holds_b6 at hm
  refine oX_iload_n dX1_holds_6 rfl rfl ?_
  refine oX_aload_n dX1_holds_7 rfl rfl ?_
  refine oX_getF fX1_37 rfl oDs0 dX1_holds_8 (ohF311 hH) ?_
  obtain ⟨r2, g2, hm⟩ := bd_s hm
  refine oX_cV (as := []) dX1_holds_11 rfl oDs311 rfl (by decide) rfl ok_J2_size rfl rfl q430 q431 q432 q132 q433 (by decide) (Nat.le_of_ble_eq_true rfl) (t_J2_size (311, 0) rfl g2) ?_
  refine oX_iload_n dX1_holds_14 rfl rfl ?_
  refine oX_iadd dX1_holds_15 ?_
  refine oX_icmp_ge (tgt := 78) dX1_holds_16 (by decide) (fun c3 => ?_) (fun c3 => ?_)
  · have hm := ifp c3 hm
    exact oX_sub [] rfl (hx1 () (Option.some.inj hm).symm)
  · have hm := ifn c3 hm
    refine oX_iconst (v := (0 : Int32)) dX1_holds_19 (by decide) ?_
    refine oX_istore_n (ls' := [(3, vI (0 : Int32)), (0, vR (some (0, 0))), (1, vI x1), (2, vI x2)]) dX1_holds_20 rfl (by decide) rfl ?_
    obtain ⟨b12, g12, hm⟩ := bd_s hm
    refine oX_sub [1, 2, 3, 0] rfl (l_mX1_holds_b21 hH n x1 x2 n (0 : Int32) _ g12 (fun v12 e12 => ?_) (fun v12 e12 => ?_))
    · subst e12
      have hm := el1 hm
      refine oX_iinc (v := x2 + (1 : Int32)) (ls' := [(2, vI (x2 + (1 : Int32))), (0, vR (some (0, 0))), (1, vI x1)]) dX1_holds_72 rfl rfl (by decide) rfl ?_
      refine oX_goto (tgt := 6) dX1_holds_75 (by decide) ?_
      exact oX_sub [1, 2, 0] rfl (hk (x2 + (1 : Int32)) (Option.some.inj hm).symm)
    · subst e12
      have hm := el2 hm
      exact oX_sub [] rfl (hx2 () (Option.some.inj hm).symm)
theorem l_mX1_holds_b6 {G : OhG} {FI : OhI} {FL : OhL} {FR : OhQ} {GR : OhQ} {AI : OhI} {AL : OhL} {AR : OhQ} {BR : OhQ} {AN : OhN} {C : OhC} {k : Nat × Nat} {Φ : OhP} {Ψ : OhX} (hH : ohShH FR AR AN) (n : Nat) (x1 : Int32) : ∀ (f : Nat) (x2 : Int32) (b : ((Unit) ⊕ (Unit))), lpF (fun v => mX1_holds_b6 n FI FR GR AI AR BR AN x1 v) f x2 = some b → (∀ v : Unit, b = (.inl v) → oX G 8 iX1_holds 78 [] [] (FI, FL, FR, GR, AI, AL, AR, BR, AN, C) k Φ Ψ) → (∀ v : Unit, b = (.inr v) → oX G 8 iX1_holds 64 [] [] (FI, FL, FR, GR, AI, AL, AR, BR, AN, C) k Φ Ψ) → oX G 8 iX1_holds 6 [(0, vR (some (0, 0))), (1, vI x1), (2, vI x2)] [] (FI, FL, FR, GR, AI, AL, AR, BR, AN, C) k Φ Ψ := by
  intro f
  induction f with
  | zero =>
    intro x2 b hm
    cases hm
  | succ f ih =>
    intro x2 b hm hx1 hx2
    obtain ⟨r, hr, hm⟩ := lp_s hm
    refine x_mX1_holds_b6 hH n x1 x2 hr (fun v e => ?_) (fun v e => ?_) (fun v e => ?_)
    · subst e; exact ih v _ hm hx1 hx2
    · subst e; exact hx1 v hm.symm
    · subst e; exact hx2 v hm.symm
noncomputable def mX1_holds (n : Nat) (FI : OhI) (FR : OhQ) (GR : OhQ) (AI : OhI) (AR : OhQ) (BR : OhQ) (AN : OhN) (x1 : Int32) : Option (Int32 × OhI) :=
  (mX1_judge n FI FR GR AI AR BR AN).bind fun r1 =>
  (lpF (fun v => mX1_holds_b6 n FI FR GR r1 AR BR AN x1 v) n (0 : Int32)).bind (Sum.elim (fun v13 => some ((1 : Int32), r1)) (fun v13 => some ((0 : Int32), r1)))
theorem x_mX1_holds {G : OhG} {FI AI : OhI} {FL AL : OhL} {FR GR AR BR : OhQ} {AN : OhN} {C : OhC} {k : Nat × Nat} {Φ : OhP} {Ψ : OhX} (hH : ohShH FR AR AN) (n : Nat) (x1 : Int32) {r : Int32 × OhI} (hm : mX1_holds n FI FR GR AI AR BR AN x1 = some r) (hK : Φ (some (vI r.1)) (FI, FL, FR, GR, r.2, AL, AR, BR, AN, C)) : oX G 8 iX1_holds 0 [(0, vR (some (0, 0))), (1, vI x1)] [] (FI, FL, FR, GR, AI, AL, AR, BR, AN, C) k Φ Ψ := by
  unfold mX1_holds at hm
  refine oX_aload_n dX1_holds_0 rfl rfl ?_
  obtain ⟨r1, g1, hm⟩ := bd_s hm
  refine oX_cV_ (as := []) dX1_holds_1 rfl oDs0 rfl (by decide) rfl ok_X1_judge rfl rfl q1434 q1436 qs28 q129 q1437 (by decide) (Nat.le_of_ble_eq_true rfl) (t_X1_judge hH n g1) ?_
  refine oX_iconst (v := (0 : Int32)) dX1_holds_4 (by decide) ?_
  refine oX_istore_n (ls' := [(2, vI (0 : Int32)), (0, vR (some (0, 0))), (1, vI x1)]) dX1_holds_5 rfl (by decide) rfl ?_
  obtain ⟨b13, g13, hm⟩ := bd_s hm
  refine oX_sub [1, 2, 0] rfl (l_mX1_holds_b6 hH n x1 n (0 : Int32) _ g13 (fun v13 e13 => ?_) (fun v13 e13 => ?_))
  · subst e13
    have hm := el1 hm
    refine oX_iconst (v := (1 : Int32)) dX1_holds_78 (by decide) ?_
    obtain rfl := Option.some.inj hm
    exact oX_iret dX1_holds_79 rfl (by decide) hK
  · subst e13
    have hm := el2 hm
    refine oX_iconst (v := (0 : Int32)) dX1_holds_64 (by decide) ?_
    obtain rfl := Option.some.inj hm
    exact oX_iret dX1_holds_65 rfl (by decide) hK
theorem t_X1_holds {G : OhG} {FI AI : OhI} {FL AL : OhL} {FR GR AR BR : OhQ} {AN : OhN} {C : OhC} (hH : ohShH FR AR AN) (n : Nat) (x1 : Int32) {o : Int32 × OhI} (hm : mX1_holds n FI FR GR AI AR BR AN x1 = some o) : oT G 8 iX1_holds [vR (some (0, 0)), vI x1] (FI, FL, FR, GR, AI, AL, AR, BR, AN, C) (0, 0) (fun v h => v = (some (vI o.1)) ∧ h = (FI, FL, FR, GR, o.2, AL, AR, BR, AN, C)) ohNo :=
  oT_of (by decide) rfl (Nat.le_of_ble_eq_true rfl) (x_mX1_holds hH n x1 hm ⟨rfl, rfl⟩)
abbrev iX1_leave : OhM := (yX1_leave, cX1_leave, 4, none, [])
theorem ok_X1_leave : oOk iX1_leave 1 := ⟨by decide, by decide, by decide +kernel⟩
noncomputable def mX1_leave_b2 (n : Nat) (FI : OhI) (FR : OhQ) (AR : OhQ) (BR : OhQ) (AN : OhN) (x1 : OhR) (x2 : Int32) : Option ((Int32) ⊕ (Int32)) :=
  gd (vp_in x2 66) <|
  gd (oNm (BR 316 0 x2.toNatClampNeg) x1) <|
  (if (BR 316 0 x2.toNatClampNeg) = x1 then
  some (.inr x2)
else
  some (.inl (x2 + (1 : Int32))))
theorem x_mX1_leave_b2 {G : OhG} {FI AI : OhI} {FL AL : OhL} {FR GR AR BR : OhQ} {AN : OhN} {C : OhC} {k : Nat × Nat} {Φ : OhP} {Ψ : OhX} (hH : ohShH FR AR AN) (n : Nat) (x1 : OhR) (x2 : Int32) {r : (Int32) ⊕ (Int32)} (hm : mX1_leave_b2 n FI FR AR BR AN x1 x2 = some r) (hk : ∀ v : Int32, r = .inl v → oX G 1 iX1_leave 2 [(0, vR (some (0, 0))), (1, vR x1), (2, vI v)] [] (FI, FL, FR, GR, AI, AL, AR, BR, AN, C) k Φ Ψ) (hx1 : ∀ v : Int32, r = .inr v → oX G 1 iX1_leave 18 [(0, vR (some (0, 0))), (2, vI v)] [] (FI, FL, FR, GR, AI, AL, AR, BR, AN, C) k Φ Ψ) : oX G 1 iX1_leave 2 [(0, vR (some (0, 0))), (1, vR x1), (2, vI x2)] [] (FI, FL, FR, GR, AI, AL, AR, BR, AN, C) k Φ Ψ := by
  unfold mX1_leave_b2 at hm
  refine oX_aload_n dX1_leave_2 rfl rfl ?_
  refine oX_getF fX1_58 rfl oDs0 dX1_leave_3 (ohF316 hH) ?_
  refine oX_iload_n dX1_leave_6 rfl rfl ?_
  obtain ⟨g1, hm⟩ := gd_s hm
  refine oX_aaldC oDs316 (oIn (ohN316 hH) g1) dX1_leave_7 rfl ?_
  refine oX_aload_n dX1_leave_8 rfl rfl ?_
  obtain ⟨n2, hm⟩ := gd_s hm
  refine oX_acmp_eq (tgt := 18) n2 dX1_leave_9 (by decide) (fun c2 => ?_) (fun c2 => ?_)
  · have hm := ifp c2 hm
    exact oX_sub [0, 2] rfl (hx1 x2 (Option.some.inj hm).symm)
  · have hm := ifn c2 hm
    refine oX_iinc (v := x2 + (1 : Int32)) (ls' := [(2, vI (x2 + (1 : Int32))), (0, vR (some (0, 0))), (1, vR x1)]) dX1_leave_12 rfl rfl (by decide) rfl ?_
    refine oX_goto (tgt := 2) dX1_leave_15 (by decide) ?_
    exact oX_sub [1, 2, 0] rfl (hk (x2 + (1 : Int32)) (Option.some.inj hm).symm)
theorem l_mX1_leave_b2 {G : OhG} {FI : OhI} {FL : OhL} {FR : OhQ} {GR : OhQ} {AI : OhI} {AL : OhL} {AR : OhQ} {BR : OhQ} {AN : OhN} {C : OhC} {k : Nat × Nat} {Φ : OhP} {Ψ : OhX} (hH : ohShH FR AR AN) (n : Nat) (x1 : OhR) : ∀ (f : Nat) (x2 : Int32) (b : (Int32)), lpF (fun v => mX1_leave_b2 n FI FR AR BR AN x1 v) f x2 = some b → (oX G 1 iX1_leave 18 [(0, vR (some (0, 0))), (2, vI b)] [] (FI, FL, FR, GR, AI, AL, AR, BR, AN, C) k Φ Ψ) → oX G 1 iX1_leave 2 [(0, vR (some (0, 0))), (1, vR x1), (2, vI x2)] [] (FI, FL, FR, GR, AI, AL, AR, BR, AN, C) k Φ Ψ := by
  intro f
  induction f with
  | zero =>
    intro x2 b hm
    cases hm
  | succ f ih =>
    intro x2 b hm hx1
    obtain ⟨r, hr, hm⟩ := lp_s hm
    refine x_mX1_leave_b2 hH n x1 x2 hr (fun v e => ?_) (fun v e => ?_)
    · subst e; exact ih v _ hm hx1
    · subst e; cases (show v = b from hm); exact hx1
noncomputable def mX1_leave_b30 (n : Nat) (FI : OhI) (FR : OhQ) (AR : OhQ) (BR : OhQ) (AN : OhN) (x3 : Int32) : Option ((Int32 × OhQ) ⊕ (OhQ)) :=
  (if (FI 0 0 17) ≤ x3 then
  some (.inr BR)
else
  gd (vp_in (x3 + (1 : Int32)) 66) <|
    gd (vp_in x3 66) <|
    gd ((BR 316 0 (x3 + (1 : Int32)).toNatClampNeg) = none ∨ ∃ b, oD 14 (BR 316 0 (x3 + (1 : Int32)).toNatClampNeg) = some b) <|
    oLet (sA BR 316 0 (uA (BR 316 0) x3.toNatClampNeg (BR 316 0 (x3 + (1 : Int32)).toNatClampNeg))) fun BR7 =>
    some (.inl (x3 + (1 : Int32), BR7)))
theorem x_mX1_leave_b30 {G : OhG} {FI AI : OhI} {FL AL : OhL} {FR GR AR BR : OhQ} {AN : OhN} {C : OhC} {k : Nat × Nat} {Φ : OhP} {Ψ : OhX} (hH : ohShH FR AR AN) (n : Nat) (x3 : Int32) {r : (Int32 × OhQ) ⊕ (OhQ)} (hm : mX1_leave_b30 n FI FR AR BR AN x3 = some r) (hk : ∀ v : Int32 × OhQ, r = .inl v → oX G 1 iX1_leave 30 [(0, vR (some (0, 0))), (3, vI v.1)] [] (FI, FL, FR, GR, AI, AL, AR, v.2, AN, C) k Φ Ψ) (hx1 : ∀ v : OhQ, r = .inr v → oX G 1 iX1_leave 58 [] [] (FI, FL, FR, GR, AI, AL, AR, v, AN, C) k Φ Ψ) : oX G 1 iX1_leave 30 [(0, vR (some (0, 0))), (3, vI x3)] [] (FI, FL, FR, GR, AI, AL, AR, BR, AN, C) k Φ Ψ := by
  unfold mX1_leave_b30 at hm
  refine oX_iload_n dX1_leave_30 rfl rfl ?_
  refine oX_aload_n dX1_leave_31 rfl rfl ?_
  refine oX_getI fX1_227 rfl oDs0 dX1_leave_32 ?_
  refine oX_icmp_ge (tgt := 58) dX1_leave_35 (by decide) (fun c5 => ?_) (fun c5 => ?_)
  · have hm := ifp c5 hm
    exact oX_sub [] rfl (hx1 BR (Option.some.inj hm).symm)
  · have hm := ifn c5 hm
    refine oX_aload_n dX1_leave_38 rfl rfl ?_
    refine oX_getF fX1_58 rfl oDs0 dX1_leave_39 (ohF316 hH) ?_
    refine oX_iload_n dX1_leave_42 rfl rfl ?_
    refine oX_aload_n dX1_leave_43 rfl rfl ?_
    refine oX_getF fX1_58 rfl oDs0 dX1_leave_44 (ohF316 hH) ?_
    refine oX_iload_n dX1_leave_47 rfl rfl ?_
    refine oX_iconst (v := (1 : Int32)) dX1_leave_48 (by decide) ?_
    refine oX_iadd dX1_leave_49 ?_
    obtain ⟨g6, hm⟩ := gd_s hm
    refine oX_aaldC oDs316 (oIn (ohN316 hH) g6) dX1_leave_50 rfl ?_
    obtain ⟨g7, hm⟩ := gd_s hm
    obtain ⟨g8, hm⟩ := gd_s hm
    obtain ⟨BR7, hBR7, hm⟩ := oLs hm
    refine oX_aast5 oDs316 (oIn (ohN316 hH) g7) g8 dX1_leave_51 hBR7 ?_
    refine oX_iinc (v := x3 + (1 : Int32)) (ls' := [(3, vI (x3 + (1 : Int32))), (0, vR (some (0, 0)))]) dX1_leave_52 rfl rfl (by decide) rfl ?_
    refine oX_goto (tgt := 30) dX1_leave_55 (by decide) ?_
    exact oX_sub [1, 0] rfl (hk (x3 + (1 : Int32), BR7) (Option.some.inj hm).symm)
theorem l_mX1_leave_b30 {G : OhG} {FI : OhI} {FL : OhL} {FR : OhQ} {GR : OhQ} {AI : OhI} {AL : OhL} {AR : OhQ} {AN : OhN} {C : OhC} {k : Nat × Nat} {Φ : OhP} {Ψ : OhX} (hH : ohShH FR AR AN) (n : Nat) : ∀ (f : Nat) (x3 : Int32) (BR : OhQ) (b : (OhQ)), lpF (fun v => mX1_leave_b30 n FI FR AR v.2 AN v.1) f (x3, BR) = some b → (oX G 1 iX1_leave 58 [] [] (FI, FL, FR, GR, AI, AL, AR, b, AN, C) k Φ Ψ) → oX G 1 iX1_leave 30 [(0, vR (some (0, 0))), (3, vI x3)] [] (FI, FL, FR, GR, AI, AL, AR, BR, AN, C) k Φ Ψ := by
  intro f
  induction f with
  | zero =>
    intro x3 BR b hm
    cases hm
  | succ f ih =>
    intro x3 BR b hm hx1
    obtain ⟨r, hr, hm⟩ := lp_s hm
    refine x_mX1_leave_b30 hH n x3 hr (fun v e => ?_) (fun v e => ?_)
    · subst e; exact ih v.1 v.2 _ hm hx1
    · subst e; cases (show v = b from hm); exact hx1
noncomputable def mX1_leave (n : Nat) (FI : OhI) (FR : OhQ) (AR : OhQ) (BR : OhQ) (AN : OhN) (x1 : OhR) : Option (OhI × OhQ) :=
  (lpF (fun v => mX1_leave_b2 n FI FR AR BR AN x1 v) n (0 : Int32)).bind fun v3 =>
  oLet (sA FI 0 0 (uA (FI 0 0) 17 ((FI 0 0 17) - (1 : Int32)))) fun FI4 =>
  (lpF (fun v => mX1_leave_b30 n FI4 FR AR v.2 AN v.1) n (v3, BR)).bind fun v9 =>
  some (FI4, v9)
theorem x_mX1_leave {G : OhG} {FI AI : OhI} {FL AL : OhL} {FR GR AR BR : OhQ} {AN : OhN} {C : OhC} {k : Nat × Nat} {Φ : OhP} {Ψ : OhX} (hH : ohShH FR AR AN) (n : Nat) (x1 : OhR) {r : OhI × OhQ} (hm : mX1_leave n FI FR AR BR AN x1 = some r) (hK : Φ none (r.1, FL, FR, GR, AI, AL, AR, r.2, AN, C)) : oX G 1 iX1_leave 0 [(0, vR (some (0, 0))), (1, vR x1)] [] (FI, FL, FR, GR, AI, AL, AR, BR, AN, C) k Φ Ψ := by
  unfold mX1_leave at hm
  refine oX_iconst (v := (0 : Int32)) dX1_leave_0 (by decide) ?_
  refine oX_istore_n (ls' := [(2, vI (0 : Int32)), (0, vR (some (0, 0))), (1, vR x1)]) dX1_leave_1 rfl (by decide) rfl ?_
  obtain ⟨v3, g3, hm⟩ := bd_s hm
  refine oX_sub [1, 2, 0] rfl (l_mX1_leave_b2 hH n x1 n (0 : Int32) _ g3 ?_)
  refine oX_aload_n dX1_leave_18 rfl rfl ?_
  refine oX_dup dX1_leave_19 trivial ?_
  refine oX_getI fX1_227 rfl oDs0 dX1_leave_20 ?_
  refine oX_iconst (v := (1 : Int32)) dX1_leave_23 (by decide) ?_
  refine oX_isub dX1_leave_24 ?_
  obtain ⟨FI4, hFI4, hm⟩ := oLs hm
  refine oX_putI fX1_227 rfl (fun h9 => by cases h9) oDs0 dX1_leave_25 ⟨rfl, rfl⟩ hFI4 ?_
  refine oX_iload_n dX1_leave_28 rfl rfl ?_
  refine oX_istore_n (ls' := [(3, vI v3), (0, vR (some (0, 0))), (2, vI v3)]) dX1_leave_29 rfl (by decide) rfl ?_
  obtain ⟨v9, g9, hm⟩ := bd_s hm
  refine oX_sub [1, 0] rfl (l_mX1_leave_b30 hH n n v3 BR _ g9 ?_)
  obtain rfl := Option.some.inj hm
  exact oX_vret dX1_leave_58 rfl hK
theorem t_X1_leave {G : OhG} {FI AI : OhI} {FL AL : OhL} {FR GR AR BR : OhQ} {AN : OhN} {C : OhC} (hH : ohShH FR AR AN) (n : Nat) (x1 : OhR) {o : OhI × OhQ} (hm : mX1_leave n FI FR AR BR AN x1 = some o) : oT G 1 iX1_leave [vR (some (0, 0)), vR x1] (FI, FL, FR, GR, AI, AL, AR, BR, AN, C) (0, 0) (fun v h => v = none ∧ h = (o.1, FL, FR, GR, AI, AL, AR, o.2, AN, C)) ohNo :=
  oT_of (by decide) rfl (Nat.le_of_ble_eq_true rfl) (x_mX1_leave hH n x1 hm ⟨rfl, rfl⟩)
abbrev iX1_laid : OhM := (yX1_laid, cX1_laid, 2, (some .int), [])
theorem ok_X1_laid : oOk iX1_laid 1 := ⟨by decide, by decide, by decide +kernel⟩
noncomputable def mX1_laid (FI : OhI) (FR : OhQ) (AR : OhQ) (BR : OhQ) (AN : OhN) (x1 : Int32) : Option (Int32) :=
  (mX1_isIn x1 (0 : Int32) ((FI 0 0 35) - (1 : Int32))).bind fun r1 =>
  (if r1 = 0 then
  some (-1 : Int32)
else
  gd (vp_in x1 6) <|
    (oD 14 (BR 329 0 x1.toNatClampNeg)).bind fun a4 =>
    some (FI a4.1 a4.2 1))
theorem x_mX1_laid {G : OhG} {FI AI : OhI} {FL AL : OhL} {FR GR AR BR : OhQ} {AN : OhN} {C : OhC} {k : Nat × Nat} {Φ : OhP} {Ψ : OhX} (hH : ohShH FR AR AN) (x1 : Int32) {r : Int32} (hm : mX1_laid FI FR AR BR AN x1 = some r) (hK : Φ (some (vI r)) (FI, FL, FR, GR, AI, AL, AR, BR, AN, C)) : oX G 2 iX1_laid 0 [(0, vR (some (0, 0))), (1, vI x1)] [] (FI, FL, FR, GR, AI, AL, AR, BR, AN, C) k Φ Ψ := by
  unfold mX1_laid at hm
  refine oX_iload_n dX1_laid_0 rfl rfl ?_
  refine oX_iconst (v := (0 : Int32)) dX1_laid_1 (by decide) ?_
  refine oX_aload_n dX1_laid_2 rfl rfl ?_
  refine oX_getI fX1_497 rfl oDs0 dX1_laid_3 ?_
  refine oX_iconst (v := (1 : Int32)) dX1_laid_6 (by decide) ?_
  refine oX_isub dX1_laid_7 ?_
  obtain ⟨r1, g1, hm⟩ := bd_s hm
  refine oX_cS (as := [vI x1, vI (0 : Int32), vI ((FI 0 0 35) - (1 : Int32))]) dX1_laid_8 rfl ok_X1_isIn rfl rfl q421 q238 q129 q239 (by decide) (Nat.le_of_ble_eq_true rfl) (t_X1_isIn x1 (0 : Int32) ((FI 0 0 35) - (1 : Int32)) g1) ?_
  refine oX_if_eq (tgt := 26) dX1_laid_11 (by decide) (fun c2 => ?_) (fun c2 => ?_)
  · have hm := ifp c2 hm
    refine oX_iconst (v := (-1 : Int32)) dX1_laid_26 (by decide) ?_
    obtain rfl := Option.some.inj hm
    exact oX_iret dX1_laid_27 rfl rfl hK
  · have hm := ifn c2 hm
    refine oX_aload_n dX1_laid_14 rfl rfl ?_
    refine oX_getF fX1_99 rfl oDs0 dX1_laid_15 (ohF329 hH) ?_
    refine oX_iload_n dX1_laid_18 rfl rfl ?_
    obtain ⟨g3, hm⟩ := gd_s hm
    refine oX_aaldC oDs329 (oIn (ohN329 hH) g3) dX1_laid_19 rfl ?_
    obtain ⟨a4, e4, hm⟩ := bd_s hm
    refine oX_getI fX1_214 rfl e4 dX1_laid_20 ?_
    refine oX_goto (tgt := 27) dX1_laid_23 (by decide) ?_
    obtain rfl := Option.some.inj hm
    exact oX_iret dX1_laid_27 rfl rfl hK
theorem t_X1_laid {G : OhG} {FI AI : OhI} {FL AL : OhL} {FR GR AR BR : OhQ} {AN : OhN} {C : OhC} (hH : ohShH FR AR AN) (x1 : Int32) {o : Int32} (hm : mX1_laid FI FR AR BR AN x1 = some o) : oT G 2 iX1_laid [vR (some (0, 0)), vI x1] (FI, FL, FR, GR, AI, AL, AR, BR, AN, C) (0, 0) (fun v h => v = (some (vI o)) ∧ h = (FI, FL, FR, GR, AI, AL, AR, BR, AN, C)) ohNo :=
  oT_of (by decide) rfl (Nat.le_of_ble_eq_true rfl) (x_mX1_laid hH x1 hm ⟨rfl, rfl⟩)
abbrev iX1_castOfFirst : OhM := (yX1_castOfFirst, cX1_castOfFirst, 4, (some .int), [])
theorem ok_X1_castOfFirst : oOk iX1_castOfFirst 2 := ⟨by decide, by decide, by decide +kernel⟩
noncomputable def mX1_castOfFirst (n : Nat) (FI : OhI) (FR : OhQ) (GR : OhQ) (AI : OhI) (AR : OhQ) (BR : OhQ) (AN : OhN) (x1 : Int32) (x2 : Int32) : Option (Int32) :=
  gd (vp_in x1 6) <|
  (oD 14 (BR 329 0 x1.toNatClampNeg)).bind fun a2 =>
  (mX1_firstOf n FI FR GR AR BR AN (FR a2.1 a2.2 6)).bind fun r3 =>
  (if r3 = none then
  some (-1 : Int32)
else
  (oD 14 r3).bind fun a5 =>
    gd (vp_in (FI a5.1 a5.2 0) 66) <|
    gd (vp_in x2 8) <|
    some (AI 419 ((FI a5.1 a5.2 0).toNatClampNeg) x2.toNatClampNeg))
theorem x_mX1_castOfFirst {G : OhG} {FI AI : OhI} {FL AL : OhL} {FR GR AR BR : OhQ} {AN : OhN} {C : OhC} {k : Nat × Nat} {Φ : OhP} {Ψ : OhX} (hH : ohShH FR AR AN) (n : Nat) (x1 : Int32) (x2 : Int32) {r : Int32} (hm : mX1_castOfFirst n FI FR GR AI AR BR AN x1 x2 = some r) (hK : Φ (some (vI r)) (FI, FL, FR, GR, AI, AL, AR, BR, AN, C)) : oX G 5 iX1_castOfFirst 0 [(0, vR (some (0, 0))), (1, vI x1), (2, vI x2)] [] (FI, FL, FR, GR, AI, AL, AR, BR, AN, C) k Φ Ψ := by
  unfold mX1_castOfFirst at hm
  refine oX_aload_n dX1_castOfFirst_0 rfl rfl ?_
  refine oX_aload_n dX1_castOfFirst_1 rfl rfl ?_
  refine oX_getF fX1_99 rfl oDs0 dX1_castOfFirst_2 (ohF329 hH) ?_
  refine oX_iload_n dX1_castOfFirst_5 rfl rfl ?_
  obtain ⟨g1, hm⟩ := gd_s hm
  refine oX_aaldC oDs329 (oIn (ohN329 hH) g1) dX1_castOfFirst_6 rfl ?_
  obtain ⟨a2, e2, hm⟩ := bd_s hm
  refine oX_getF fX1_258 rfl e2 dX1_castOfFirst_7 rfl ?_
  obtain ⟨r3, g3, hm⟩ := bd_s hm
  refine oX_cV (as := [vR (FR a2.1 a2.2 6)]) dX1_castOfFirst_10 rfl oDs0 rfl (by decide) rfl ok_X1_firstOf rfl rfl q1646 q1648 qs55 q129 q1649 (by decide) (Nat.le_of_ble_eq_true rfl) (t_X1_firstOf hH n (FR a2.1 a2.2 6) g3) ?_
  refine oX_astore_n (ls' := [(3, vR r3), (0, vR (some (0, 0))), (1, vI x1), (2, vI x2)]) dX1_castOfFirst_13 rfl (by decide) rfl ?_
  refine oX_aload_n dX1_castOfFirst_14 rfl rfl ?_
  refine oX_ifnonnull (tgt := 22) dX1_castOfFirst_15 (by decide) (fun c4 => ?_) (fun c4 => ?_)
  · have hm := ifp c4 hm
    refine oX_iconst (v := (-1 : Int32)) dX1_castOfFirst_18 (by decide) ?_
    refine oX_goto (tgt := 33) dX1_castOfFirst_19 (by decide) ?_
    obtain rfl := Option.some.inj hm
    exact oX_iret dX1_castOfFirst_33 rfl rfl hK
  · have hm := ifn c4 hm
    refine oX_aload_n dX1_castOfFirst_22 rfl rfl ?_
    refine oX_getF fX1_64 rfl oDs0 dX1_castOfFirst_23 (ohF319 hH) ?_
    refine oX_aload_n dX1_castOfFirst_26 rfl rfl ?_
    obtain ⟨a5, e5, hm⟩ := bd_s hm
    refine oX_getI fX1_233 rfl e5 dX1_castOfFirst_27 ?_
    obtain ⟨g6, hm⟩ := gd_s hm
    refine oX_aaldR oDs319 (oIn (ohN319 hH) g6) dX1_castOfFirst_30 (ohA319 hH (oLt g6)) ?_
    refine oX_iload_n dX1_castOfFirst_31 rfl rfl ?_
    obtain ⟨g7, hm⟩ := gd_s hm
    refine oX_iald oDs419 (oIn (ohM419 hH (oLt g6)) g7) dX1_castOfFirst_32 ?_
    obtain rfl := Option.some.inj hm
    exact oX_iret dX1_castOfFirst_33 rfl rfl hK
theorem t_X1_castOfFirst {G : OhG} {FI AI : OhI} {FL AL : OhL} {FR GR AR BR : OhQ} {AN : OhN} {C : OhC} (hH : ohShH FR AR AN) (n : Nat) (x1 : Int32) (x2 : Int32) {o : Int32} (hm : mX1_castOfFirst n FI FR GR AI AR BR AN x1 x2 = some o) : oT G 5 iX1_castOfFirst [vR (some (0, 0)), vI x1, vI x2] (FI, FL, FR, GR, AI, AL, AR, BR, AN, C) (0, 0) (fun v h => v = (some (vI o)) ∧ h = (FI, FL, FR, GR, AI, AL, AR, BR, AN, C)) ohNo :=
  oT_of (by decide) rfl (Nat.le_of_ble_eq_true rfl) (x_mX1_castOfFirst hH n x1 x2 hm ⟨rfl, rfl⟩)
abbrev iX1_count : OhM := (yX1_count, cX1_count, 2, (some .int), [])
theorem ok_X1_count : oOk iX1_count 1 := ⟨by decide, by decide, by decide +kernel⟩
noncomputable def mX1_count (FI : OhI) (FR : OhQ) (x1 : Int32) : Option (Int32) :=
  (if x1 = (0 : Int32) then
  some (FI 0 0 3)
else
if x1 = (1 : Int32) then
  (mJ2_size FI (309, 0)).bind fun r3 =>
    some r3
else
if x1 = (2 : Int32) then
  (mJ2_size FI (310, 0)).bind fun r5 =>
    some r5
else
if x1 = (3 : Int32) then
  (mJ2_size FI (311, 0)).bind fun r7 =>
    some r7
else
if x1 = (4 : Int32) then
  (mJ2_size FI (312, 0)).bind fun r9 =>
    some r9
else
if x1 = (5 : Int32) then
  (mJ2_size FI (313, 0)).bind fun r11 =>
    some r11
else
if x1 = (6 : Int32) then
  some (FI 0 0 1)
else
  some (-1 : Int32))
theorem x_mX1_count {G : OhG} {FI AI : OhI} {FL AL : OhL} {FR GR AR BR : OhQ} {AN : OhN} {C : OhC} {k : Nat × Nat} {Φ : OhP} {Ψ : OhX} (hH : ohShH FR AR AN) (x1 : Int32) {r : Int32} (hm : mX1_count FI FR x1 = some r) (hK : Φ (some (vI r)) (FI, FL, FR, GR, AI, AL, AR, BR, AN, C)) : oX G 2 iX1_count 0 [(0, vR (some (0, 0))), (1, vI x1)] [] (FI, FL, FR, GR, AI, AL, AR, BR, AN, C) k Φ Ψ := by
  unfold mX1_count at hm
  refine oX_iload_n dX1_count_0 rfl rfl ?_
  by_cases c1 : x1 = (0 : Int32)
  · have hm := ifp c1 hm
    refine oX_tin (tgt := 44) dX1_count_1 c1 (by decide) (by decide) rfl (by decide) ?_
    refine oX_aload_n dX1_count_44 rfl rfl ?_
    refine oX_getI fX1_116 rfl oDs0 dX1_count_45 ?_
    obtain rfl := Option.some.inj hm
    exact oX_iret dX1_count_48 rfl rfl hK
  have hm := ifn c1 hm
  by_cases c2 : x1 = (1 : Int32)
  · have hm := ifp c2 hm
    refine oX_tin (tgt := 49) dX1_count_1 c2 (by decide) (by decide) rfl (by decide) ?_
    refine oX_aload_n dX1_count_49 rfl rfl ?_
    refine oX_getF fX1_30 rfl oDs0 dX1_count_50 (ohF309 hH) ?_
    obtain ⟨r3, g3, hm⟩ := bd_s hm
    refine oX_cV (as := []) dX1_count_53 rfl oDs309 rfl (by decide) rfl ok_J2_size rfl rfl q430 q431 q432 q132 q433 (by decide) (Nat.le_of_ble_eq_true rfl) (t_J2_size (309, 0) rfl g3) ?_
    obtain rfl := Option.some.inj hm
    exact oX_iret dX1_count_56 rfl rfl hK
  have hm := ifn c2 hm
  by_cases c4 : x1 = (2 : Int32)
  · have hm := ifp c4 hm
    refine oX_tin (tgt := 57) dX1_count_1 c4 (by decide) (by decide) rfl (by decide) ?_
    refine oX_aload_n dX1_count_57 rfl rfl ?_
    refine oX_getF fX1_34 rfl oDs0 dX1_count_58 (ohF310 hH) ?_
    obtain ⟨r5, g5, hm⟩ := bd_s hm
    refine oX_cV (as := []) dX1_count_61 rfl oDs310 rfl (by decide) rfl ok_J2_size rfl rfl q430 q431 q432 q132 q433 (by decide) (Nat.le_of_ble_eq_true rfl) (t_J2_size (310, 0) rfl g5) ?_
    obtain rfl := Option.some.inj hm
    exact oX_iret dX1_count_64 rfl rfl hK
  have hm := ifn c4 hm
  by_cases c6 : x1 = (3 : Int32)
  · have hm := ifp c6 hm
    refine oX_tin (tgt := 65) dX1_count_1 c6 (by decide) (by decide) rfl (by decide) ?_
    refine oX_aload_n dX1_count_65 rfl rfl ?_
    refine oX_getF fX1_37 rfl oDs0 dX1_count_66 (ohF311 hH) ?_
    obtain ⟨r7, g7, hm⟩ := bd_s hm
    refine oX_cV (as := []) dX1_count_69 rfl oDs311 rfl (by decide) rfl ok_J2_size rfl rfl q430 q431 q432 q132 q433 (by decide) (Nat.le_of_ble_eq_true rfl) (t_J2_size (311, 0) rfl g7) ?_
    obtain rfl := Option.some.inj hm
    exact oX_iret dX1_count_72 rfl rfl hK
  have hm := ifn c6 hm
  by_cases c8 : x1 = (4 : Int32)
  · have hm := ifp c8 hm
    refine oX_tin (tgt := 73) dX1_count_1 c8 (by decide) (by decide) rfl (by decide) ?_
    refine oX_aload_n dX1_count_73 rfl rfl ?_
    refine oX_getF fX1_40 rfl oDs0 dX1_count_74 (ohF312 hH) ?_
    obtain ⟨r9, g9, hm⟩ := bd_s hm
    refine oX_cV (as := []) dX1_count_77 rfl oDs312 rfl (by decide) rfl ok_J2_size rfl rfl q430 q431 q432 q132 q433 (by decide) (Nat.le_of_ble_eq_true rfl) (t_J2_size (312, 0) rfl g9) ?_
    obtain rfl := Option.some.inj hm
    exact oX_iret dX1_count_80 rfl rfl hK
  have hm := ifn c8 hm
  by_cases c10 : x1 = (5 : Int32)
  · have hm := ifp c10 hm
    refine oX_tin (tgt := 81) dX1_count_1 c10 (by decide) (by decide) rfl (by decide) ?_
    refine oX_aload_n dX1_count_81 rfl rfl ?_
    refine oX_getF fX1_43 rfl oDs0 dX1_count_82 (ohF313 hH) ?_
    obtain ⟨r11, g11, hm⟩ := bd_s hm
    refine oX_cV (as := []) dX1_count_85 rfl oDs313 rfl (by decide) rfl ok_J2_size rfl rfl q430 q431 q432 q132 q433 (by decide) (Nat.le_of_ble_eq_true rfl) (t_J2_size (313, 0) rfl g11) ?_
    obtain rfl := Option.some.inj hm
    exact oX_iret dX1_count_88 rfl rfl hK
  have hm := ifn c10 hm
  by_cases c12 : x1 = (6 : Int32)
  · have hm := ifp c12 hm
    refine oX_tin (tgt := 89) dX1_count_1 c12 (by decide) (by decide) rfl (by decide) ?_
    refine oX_aload_n dX1_count_89 rfl rfl ?_
    refine oX_getI fX1_105 rfl oDs0 dX1_count_90 ?_
    obtain rfl := Option.some.inj hm
    exact oX_iret dX1_count_93 rfl rfl hK
  have hm := ifn c12 hm
  refine oX_tout (tgt := 94) 7 (l := [(0 : Int32), (1 : Int32), (2 : Int32), (3 : Int32), (4 : Int32), (5 : Int32), (6 : Int32)]) dX1_count_1 (by decide) (fun c hc => by simp only [List.mem_cons, List.not_mem_nil, or_false] at hc; rcases hc with rfl | rfl | rfl | rfl | rfl | rfl | rfl <;> assumption) (by decide) (by decide) ?_
  refine oX_iconst (v := (-1 : Int32)) dX1_count_94 (by decide) ?_
  obtain rfl := Option.some.inj hm
  exact oX_iret dX1_count_95 rfl rfl hK
theorem t_X1_count {G : OhG} {FI AI : OhI} {FL AL : OhL} {FR GR AR BR : OhQ} {AN : OhN} {C : OhC} (hH : ohShH FR AR AN) (x1 : Int32) {o : Int32} (hm : mX1_count FI FR x1 = some o) : oT G 2 iX1_count [vR (some (0, 0)), vI x1] (FI, FL, FR, GR, AI, AL, AR, BR, AN, C) (0, 0) (fun v h => v = (some (vI o)) ∧ h = (FI, FL, FR, GR, AI, AL, AR, BR, AN, C)) ohNo :=
  oT_of (by decide) rfl (Nat.le_of_ble_eq_true rfl) (x_mX1_count hH x1 hm ⟨rfl, rfl⟩)
