/-! MIRRORS of methods that make things: printed by gen/mk_alloc.py -/
abbrev iX1_learn : OhM := (yX1_learn, cX1_learn, 5, (some .boolean), [])
theorem ok_X1_learn : oOk iX1_learn 4 := ⟨by decide, by decide, by decide +kernel⟩
abbrev iX1_call : OhM := (yX1_call, cX1_call, 6, (some .int), [])
theorem ok_X1_call : oOk iX1_call 5 := ⟨by decide, by decide, by decide +kernel⟩
abbrev iX1_cast : OhM := (yX1_cast, cX1_cast, 6, (some .boolean), [])
theorem ok_X1_cast : oOk iX1_cast 4 := ⟨by decide, by decide, by decide +kernel⟩
abbrev iX1_ill : OhM := (yX1_ill, cX1_ill, 4, (some .boolean), [])
theorem ok_X1_ill : oOk iX1_ill 3 := ⟨by decide, by decide, by decide +kernel⟩
abbrev iX1_singer : OhM := (yX1_singer, cX1_singer, 4, (some .int), [])
theorem ok_X1_singer : oOk iX1_singer 3 := ⟨by decide, by decide, by decide +kernel⟩
abbrev iX1_opera : OhM := (yX1_opera, cX1_opera, 8, (some .int), [])
theorem ok_X1_opera : oOk iX1_opera 4 := ⟨by decide, by decide, by decide +kernel⟩
noncomputable def mX1_learn (FI : OhI) (FR : OhQ) (GR : OhQ) (AR : OhQ) (BR : OhQ) (AN : OhN) (C : OhC) (x1 : Int32) (x2 : Int32) (x3 : Int32) (x4 : Int32) : Option ((Int32 × OhI × OhQ × OhQ × OhN × OhC) × (Nat × Nat)) :=
  gd (ohShH FR AR AN) <|
  (mX1_singerOf FI FR GR AR BR AN x1).bind fun r2 =>
  (if r2 = none then
  some (((0 : Int32), FI, GR, BR, AN, C), (0, 0))
else
  (mJ2_size FI (309, 0)).bind fun r4 =>
    (mX1_isIn x2 (0 : Int32) (r4 - (1 : Int32))).bind fun r5 =>
    (if r5 = 0 then
    some (((0 : Int32), FI, GR, BR, AN, C), (0, 0))
  else
    (mJ2_get FI GR AR BR AN (309, 0) x2).bind fun r7 =>
      (oD 4 r7).bind fun a8 =>
      (oD 17 (FR a8.1 a8.2 6)).bind fun a9 =>
      (mJ2_size FI a9).bind fun r10 =>
      (mX1_isIn x3 (0 : Int32) (r10 - (1 : Int32))).bind fun r11 =>
      (if r11 = 0 then
      some (((0 : Int32), FI, GR, BR, AN, C), (0, 0))
    else
      (mX1_isIn x4 (1 : Int32) (99 : Int32)).bind fun r13 =>
        (if r13 = 0 then
        some (((0 : Int32), FI, GR, BR, AN, C), (0, 0))
      else
        (mJ2_size FI (314, 0)).bind fun r15 =>
          (if r15 = (200 : Int32) then
          some (((0 : Int32), FI, GR, BR, AN, C), (0, 0))
        else
          oLet (sA FI 14 (C 14) (fun _ => 0)) fun FI17 =>
            oLet (uA C 14 (C 14 + 1)) fun C17 =>
            oCost (1, 5) <|
            (mX14_init FI17 (14, C 14) x1 x2 x3 x4 (FI17 0 0 3)).bind fun r18 =>
            (mJ2_add r18 GR BR AN C17 (314, 0) (some (14, C 14))).bind fun r19 =>
            oCost r19.2 <|
            oLet (sA r19.1.2.1 0 0 (uA (r19.1.2.1 0 0) 6 ((r19.1.2.1 0 0 6) + (1 : Int32)))) fun FI20 =>
            some (((1 : Int32), FI20, r19.1.2.2.1, r19.1.2.2.2.1, r19.1.2.2.2.2.1, r19.1.2.2.2.2.2), (0, 0)))))))
theorem x_mX1_learn {G : OhG} {FI AI : OhI} {FL AL : OhL} {FR GR AR BR : OhQ} {AN : OhN} {C : OhC} {k : Nat × Nat} {Φ : OhP} {Ψ : OhX} (x1 : Int32) (x2 : Int32) (x3 : Int32) (x4 : Int32) {r : (Int32 × OhI × OhQ × OhQ × OhN × OhC) × (Nat × Nat)} (hm : mX1_learn FI FR GR AR BR AN C x1 x2 x3 x4 = some r) (hK : Φ (some (vI r.1.1)) (r.1.2.1, FL, FR, r.1.2.2.1, AI, AL, AR, r.1.2.2.2.1, r.1.2.2.2.2.1, r.1.2.2.2.2.2)) : oX G 8 iX1_learn 0 [(0, vR (some (0, 0))), (1, vI x1), (2, vI x2), (3, vI x3), (4, vI x4)] [] (FI, FL, FR, GR, AI, AL, AR, BR, AN, C) (oPl r.2 k) Φ Ψ := by
  obtain ⟨r, q0⟩ := r
  unfold mX1_learn at hm
  refine oX_aload_n dX1_learn_0 rfl rfl ?_
  refine oX_iload_n dX1_learn_1 rfl rfl ?_
  obtain ⟨s1, hm⟩ := gd_s hm
  obtain ⟨r2, g2, hm⟩ := bd_s hm
  refine oX_cV (as := [vI x1]) dX1_learn_2 rfl oDs0 rfl (by decide) rfl ok_X1_singerOf rfl rfl q644 q646 qs7 q129 q647 (by decide) (Nat.le_of_ble_eq_true rfl) (t_X1_singerOf s1 x1 g2) ?_
  refine oX_ifnull (tgt := 76) dX1_learn_5 (by decide) (fun c3 => ?_) (fun c3 => ?_)
  · have hm := ifp c3 hm
    refine oX_iconst (v := (0 : Int32)) dX1_learn_76 (by decide) ?_
    obtain ⟨rfl, rfl⟩ := oEnd hm
    exact oX_iret dX1_learn_77 rfl (by decide) hK
  · have hm := ifn c3 hm
    refine oX_iload_n dX1_learn_8 rfl rfl ?_
    refine oX_iconst (v := (0 : Int32)) dX1_learn_9 (by decide) ?_
    refine oX_aload_n dX1_learn_10 rfl rfl ?_
    refine oX_getF fX1_30 rfl oDs0 dX1_learn_11 (ohF309 s1) ?_
    obtain ⟨r4, g4, hm⟩ := bd_s hm
    refine oX_cV (as := []) dX1_learn_14 rfl oDs309 rfl (by decide) rfl ok_J2_size rfl rfl q430 q431 q432 q132 q433 (by decide) (Nat.le_of_ble_eq_true rfl) (t_J2_size (309, 0) rfl g4) ?_
    refine oX_iconst (v := (1 : Int32)) dX1_learn_17 (by decide) ?_
    refine oX_isub dX1_learn_18 ?_
    obtain ⟨r5, g5, hm⟩ := bd_s hm
    refine oX_cS (as := [vI x2, vI (0 : Int32), vI (r4 - (1 : Int32))]) dX1_learn_19 rfl ok_X1_isIn rfl rfl q421 q238 q129 q239 (by decide) (Nat.le_of_ble_eq_true rfl) (t_X1_isIn x2 (0 : Int32) (r4 - (1 : Int32)) g5) ?_
    refine oX_if_eq (tgt := 76) dX1_learn_22 (by decide) (fun c6 => ?_) (fun c6 => ?_)
    · have hm := ifp c6 hm
      refine oX_iconst (v := (0 : Int32)) dX1_learn_76 (by decide) ?_
      obtain ⟨rfl, rfl⟩ := oEnd hm
      exact oX_iret dX1_learn_77 rfl (by decide) hK
    · have hm := ifn c6 hm
      refine oX_iload_n dX1_learn_25 rfl rfl ?_
      refine oX_iconst (v := (0 : Int32)) dX1_learn_26 (by decide) ?_
      refine oX_aload_n dX1_learn_27 rfl rfl ?_
      refine oX_getF fX1_30 rfl oDs0 dX1_learn_28 (ohF309 s1) ?_
      refine oX_iload_n dX1_learn_31 rfl rfl ?_
      obtain ⟨r7, g7, hm⟩ := bd_s hm
      refine oX_cV (as := [vI x2]) dX1_learn_32 rfl oDs309 rfl (by decide) rfl ok_J2_get rfl rfl q648 q649 q650 q132 q651 (by decide) (Nat.le_of_ble_eq_true rfl) (t_J2_get (309, 0) rfl x2 g7) ?_
      obtain ⟨a8, e8, hm⟩ := bd_s hm
      refine oX_cast e8 rfl (by decide) q434 dX1_learn_35 ?_
      refine oX_getF fX1_137 rfl (oD_self e8) dX1_learn_38 rfl ?_
      obtain ⟨a9, e9, hm⟩ := bd_s hm
      obtain ⟨r10, g10, hm⟩ := bd_s hm
      refine oX_cV (as := []) dX1_learn_41 rfl e9 rfl (by decide) rfl ok_J2_size rfl rfl q430 q431 q432 q132 q433 (by decide) (Nat.le_of_ble_eq_true rfl) (t_J2_size a9 ((oD_some e9).2) g10) ?_
      refine oX_iconst (v := (1 : Int32)) dX1_learn_44 (by decide) ?_
      refine oX_isub dX1_learn_45 ?_
      obtain ⟨r11, g11, hm⟩ := bd_s hm
      refine oX_cS (as := [vI x3, vI (0 : Int32), vI (r10 - (1 : Int32))]) dX1_learn_46 rfl ok_X1_isIn rfl rfl q421 q238 q129 q239 (by decide) (Nat.le_of_ble_eq_true rfl) (t_X1_isIn x3 (0 : Int32) (r10 - (1 : Int32)) g11) ?_
      refine oX_if_eq (tgt := 76) dX1_learn_49 (by decide) (fun c12 => ?_) (fun c12 => ?_)
      · have hm := ifp c12 hm
        refine oX_iconst (v := (0 : Int32)) dX1_learn_76 (by decide) ?_
        obtain ⟨rfl, rfl⟩ := oEnd hm
        exact oX_iret dX1_learn_77 rfl (by decide) hK
      · have hm := ifn c12 hm
        refine oX_iload dX1_learn_52 rfl ?_
        refine oX_iconst (v := (1 : Int32)) dX1_learn_54 (by decide) ?_
        refine oX_bipush (v := (99 : Int32)) dX1_learn_55 (by decide) ?_
        obtain ⟨r13, g13, hm⟩ := bd_s hm
        refine oX_cS (as := [vI x4, vI (1 : Int32), vI (99 : Int32)]) dX1_learn_57 rfl ok_X1_isIn rfl rfl q421 q238 q129 q239 (by decide) (Nat.le_of_ble_eq_true rfl) (t_X1_isIn x4 (1 : Int32) (99 : Int32) g13) ?_
        refine oX_if_eq (tgt := 76) dX1_learn_60 (by decide) (fun c14 => ?_) (fun c14 => ?_)
        · have hm := ifp c14 hm
          refine oX_iconst (v := (0 : Int32)) dX1_learn_76 (by decide) ?_
          obtain ⟨rfl, rfl⟩ := oEnd hm
          exact oX_iret dX1_learn_77 rfl (by decide) hK
        · have hm := ifn c14 hm
          refine oX_aload_n dX1_learn_63 rfl rfl ?_
          refine oX_getF fX1_46 rfl oDs0 dX1_learn_64 (ohF314 s1) ?_
          obtain ⟨r15, g15, hm⟩ := bd_s hm
          refine oX_cV (as := []) dX1_learn_67 rfl oDs314 rfl (by decide) rfl ok_J2_size rfl rfl q430 q431 q432 q132 q433 (by decide) (Nat.le_of_ble_eq_true rfl) (t_J2_size (314, 0) rfl g15) ?_
          refine oX_sipush (v := (200 : Int32)) dX1_learn_70 (by decide) ?_
          refine oX_icmp_ne (tgt := 78) dX1_learn_73 (by decide) (fun c16 => ?_) (fun c16 => ?_)
          · have hm := ifp c16 hm
            refine oX_iconst (v := (0 : Int32)) dX1_learn_76 (by decide) ?_
            obtain ⟨rfl, rfl⟩ := oEnd hm
            exact oX_iret dX1_learn_77 rfl (by decide) hK
          · have hm := ifn c16 hm
            refine oX_aload_n dX1_learn_78 rfl rfl ?_
            refine oX_getF fX1_46 rfl oDs0 dX1_learn_79 (ohF314 s1) ?_
            obtain ⟨FI17, hFI17, hm⟩ := oLs hm
            obtain ⟨C17, hC17, hm⟩ := oLs hm
            refine oX_cost hm (fun qq17 hm => ?_)
            refine oX_newI (s9 := 14) (k := oPl qq17 k) nX1_192 rfl (by decide) dX1_learn_82 hFI17 hC17 ?_
            refine oX_dup dX1_learn_85 trivial ?_
            refine oX_iload_n dX1_learn_86 rfl rfl ?_
            refine oX_iload_n dX1_learn_87 rfl rfl ?_
            refine oX_iload_n dX1_learn_88 rfl rfl ?_
            refine oX_iload dX1_learn_89 rfl ?_
            refine oX_aload_n dX1_learn_91 rfl rfl ?_
            refine oX_getI fX1_116 rfl oDs0 dX1_learn_92 ?_
            obtain ⟨r18, g18, hm⟩ := bd_s hm
            refine oX_cI (as := [vI x1, vI x2, vI x3, vI x4, vI (FI17 0 0 3)]) dX1_learn_95 rfl ok_X14_init rfl rfl rfl q1273 q1274 q164 q1275 (by decide) (Nat.le_of_ble_eq_true rfl) (t_X14_init (14, C 14) rfl x1 x2 x3 x4 (FI17 0 0 3) g18) ?_
            obtain ⟨r19, g19, hm⟩ := bd_s hm
            refine oX_cost hm (fun qq19 hm => ?_)
            refine oX_cVK (as := [vR (some (14, C 14))]) dX1_learn_98 rfl oDs314 rfl (by decide) rfl ok_J2_add rfl rfl q496 q497 q498 q132 q499 (by decide) (Nat.le_of_ble_eq_true rfl) (t_J2_add (314, 0) rfl (some (14, C 14)) g19) (Nat.le_refl _) (Nat.le_refl _) ?_
            refine oX_pop dX1_learn_101 trivial ?_
            refine oX_aload_n dX1_learn_102 rfl rfl ?_
            refine oX_dup dX1_learn_103 trivial ?_
            refine oX_getI fX1_119 rfl oDs0 dX1_learn_104 ?_
            refine oX_iconst (v := (1 : Int32)) dX1_learn_107 (by decide) ?_
            refine oX_iadd dX1_learn_108 ?_
            obtain ⟨FI20, hFI20, hm⟩ := oLs hm
            refine oX_putI fX1_119 rfl (fun h9 => by cases h9) oDs0 dX1_learn_109 ⟨rfl, rfl⟩ hFI20 ?_
            refine oX_iconst (v := (1 : Int32)) dX1_learn_112 (by decide) ?_
            obtain ⟨rfl, rfl⟩ := oEnd hm
            exact oX_iret dX1_learn_113 rfl (by decide) hK
theorem t_X1_learn {G : OhG} {FI AI : OhI} {FL AL : OhL} {FR GR AR BR : OhQ} {AN : OhN} {C : OhC} (x1 : Int32) (x2 : Int32) (x3 : Int32) (x4 : Int32) {o : (Int32 × OhI × OhQ × OhQ × OhN × OhC) × (Nat × Nat)} (hm : mX1_learn FI FR GR AR BR AN C x1 x2 x3 x4 = some o) : oT G 8 iX1_learn [vR (some (0, 0)), vI x1, vI x2, vI x3, vI x4] (FI, FL, FR, GR, AI, AL, AR, BR, AN, C) o.2 (fun v h => v = (some (vI o.1.1)) ∧ h = (o.1.2.1, FL, FR, o.1.2.2.1, AI, AL, AR, o.1.2.2.2.1, o.1.2.2.2.2.1, o.1.2.2.2.2.2)) ohNo :=
  oT_of (by decide) rfl (Nat.le_of_ble_eq_true rfl) (x_mX1_learn (k := (0, 0)) x1 x2 x3 x4 hm ⟨rfl, rfl⟩)
noncomputable def mX1_call (FI : OhI) (FR : OhQ) (GR : OhQ) (AR : OhQ) (BR : OhQ) (AN : OhN) (C : OhC) (x1 : Int32) (x2 : Int32) (x3 : Int32) (x4 : Int32) (x5 : Int32) : Option ((Int32 × OhI × OhQ × OhQ × OhQ × OhN × OhC) × (Nat × Nat)) :=
  gd (ohShH FR AR AN) <|
  (mJ2_size FI (311, 0)).bind fun r2 =>
  (if r2 = (60 : Int32) then
  some (((-1 : Int32), FI, FR, GR, BR, AN, C), (0, 0))
else
  (mX1_mayBe FI FR GR AR BR AN x1 x2 x3 x4 x5).bind fun r4 =>
    (if r4 = 0 then
    some (((-1 : Int32), FI, FR, GR, BR, AN, C), (0, 0))
  else
    oLet (sA FI 15 (C 15) (fun _ => 0)) fun FI6 =>
      oLet (sA FR 15 (C 15) (fun _ => none)) fun FR6 =>
      oLet (uA C 15 (C 15 + 1)) fun C6 =>
      oCost (1, 7) <|
      gd (ohShH FR6 AR AN) <|
      (mJ2_size FI6 (311, 0)).bind fun r8 =>
      (mJ2_get FI6 GR AR BR AN (309, 0) x4).bind fun r9 =>
      (oD 4 r9).bind fun a10 =>
      (mX15_init FI6 FR6 (15, C 15) r8 x1 x2 x3 (some a10) x5).bind fun r11 =>
      (mJ2_add r11.1 GR BR AN C6 (311, 0) (some (15, C 15))).bind fun r12 =>
      oCost r12.2 <|
      oLet (sA r12.1.2.1 0 0 (uA (r12.1.2.1 0 0) 6 ((r12.1.2.1 0 0 6) + (1 : Int32)))) fun FI13 =>
      gd (ohShH r11.2 AR r12.1.2.2.2.2.1) <|
      (mJ2_size FI13 (311, 0)).bind fun r15 =>
      some ((r15 - (1 : Int32), FI13, r11.2, r12.1.2.2.1, r12.1.2.2.2.1, r12.1.2.2.2.2.1, r12.1.2.2.2.2.2), (0, 0))))
theorem x_mX1_call {G : OhG} {FI AI : OhI} {FL AL : OhL} {FR GR AR BR : OhQ} {AN : OhN} {C : OhC} {k : Nat × Nat} {Φ : OhP} {Ψ : OhX} (x1 : Int32) (x2 : Int32) (x3 : Int32) (x4 : Int32) (x5 : Int32) {r : (Int32 × OhI × OhQ × OhQ × OhQ × OhN × OhC) × (Nat × Nat)} (hm : mX1_call FI FR GR AR BR AN C x1 x2 x3 x4 x5 = some r) (hK : Φ (some (vI r.1.1)) (r.1.2.1, FL, r.1.2.2.1, r.1.2.2.2.1, AI, AL, AR, r.1.2.2.2.2.1, r.1.2.2.2.2.2.1, r.1.2.2.2.2.2.2)) : oX G 8 iX1_call 0 [(0, vR (some (0, 0))), (1, vI x1), (2, vI x2), (3, vI x3), (4, vI x4), (5, vI x5)] [] (FI, FL, FR, GR, AI, AL, AR, BR, AN, C) (oPl r.2 k) Φ Ψ := by
  obtain ⟨r, q0⟩ := r
  unfold mX1_call at hm
  refine oX_aload_n dX1_call_0 rfl rfl ?_
  obtain ⟨s1, hm⟩ := gd_s hm
  refine oX_getF fX1_37 rfl oDs0 dX1_call_1 (ohF311 s1) ?_
  obtain ⟨r2, g2, hm⟩ := bd_s hm
  refine oX_cV (as := []) dX1_call_4 rfl oDs311 rfl (by decide) rfl ok_J2_size rfl rfl q430 q431 q432 q132 q433 (by decide) (Nat.le_of_ble_eq_true rfl) (t_J2_size (311, 0) rfl g2) ?_
  refine oX_bipush (v := (60 : Int32)) dX1_call_7 (by decide) ?_
  refine oX_icmp_eq (tgt := 26) dX1_call_9 (by decide) (fun c3 => ?_) (fun c3 => ?_)
  · have hm := ifp c3 hm
    refine oX_iconst (v := (-1 : Int32)) dX1_call_26 (by decide) ?_
    obtain ⟨rfl, rfl⟩ := oEnd hm
    exact oX_iret dX1_call_27 rfl rfl hK
  · have hm := ifn c3 hm
    refine oX_aload_n dX1_call_12 rfl rfl ?_
    refine oX_iload_n dX1_call_13 rfl rfl ?_
    refine oX_iload_n dX1_call_14 rfl rfl ?_
    refine oX_iload_n dX1_call_15 rfl rfl ?_
    refine oX_iload dX1_call_16 rfl ?_
    refine oX_iload dX1_call_18 rfl ?_
    obtain ⟨r4, g4, hm⟩ := bd_s hm
    refine oX_cV (as := [vI x1, vI x2, vI x3, vI x4, vI x5]) dX1_call_20 rfl oDs0 rfl (by decide) rfl ok_X1_mayBe rfl rfl q1302 q1304 qs23 q129 q1305 (by decide) (Nat.le_of_ble_eq_true rfl) (t_X1_mayBe s1 x1 x2 x3 x4 x5 g4) ?_
    refine oX_if_ne (tgt := 28) dX1_call_23 (by decide) (fun c5 => ?_) (fun c5 => ?_)
    · have hm := ifp c5 hm
      refine oX_iconst (v := (-1 : Int32)) dX1_call_26 (by decide) ?_
      obtain ⟨rfl, rfl⟩ := oEnd hm
      exact oX_iret dX1_call_27 rfl rfl hK
    · have hm := ifn c5 hm
      refine oX_aload_n dX1_call_28 rfl rfl ?_
      refine oX_getF fX1_37 rfl oDs0 dX1_call_29 (ohF311 s1) ?_
      obtain ⟨FI6, hFI6, hm⟩ := oLs hm
      obtain ⟨FR6, hFR6, hm⟩ := oLs hm
      obtain ⟨C6, hC6, hm⟩ := oLs hm
      refine oX_cost hm (fun qq6 hm => ?_)
      refine oX_newIF (s9 := 15) (k := oPl qq6 k) nX1_56 rfl (by decide) dX1_call_32 hFI6 hFR6 hC6 ?_
      refine oX_dup dX1_call_35 trivial ?_
      refine oX_aload_n dX1_call_36 rfl rfl ?_
      obtain ⟨s7, hm⟩ := gd_s hm
      refine oX_getF fX1_37 rfl oDs0 dX1_call_37 (ohF311 s7) ?_
      obtain ⟨r8, g8, hm⟩ := bd_s hm
      refine oX_cV (as := []) dX1_call_40 rfl oDs311 rfl (by decide) rfl ok_J2_size rfl rfl q430 q431 q432 q132 q433 (by decide) (Nat.le_of_ble_eq_true rfl) (t_J2_size (311, 0) rfl g8) ?_
      refine oX_iload_n dX1_call_43 rfl rfl ?_
      refine oX_iload_n dX1_call_44 rfl rfl ?_
      refine oX_iload_n dX1_call_45 rfl rfl ?_
      refine oX_aload_n dX1_call_46 rfl rfl ?_
      refine oX_getF fX1_30 rfl oDs0 dX1_call_47 (ohF309 s7) ?_
      refine oX_iload dX1_call_50 rfl ?_
      obtain ⟨r9, g9, hm⟩ := bd_s hm
      refine oX_cV (as := [vI x4]) dX1_call_52 rfl oDs309 rfl (by decide) rfl ok_J2_get rfl rfl q648 q649 q650 q132 q651 (by decide) (Nat.le_of_ble_eq_true rfl) (t_J2_get (309, 0) rfl x4 g9) ?_
      obtain ⟨a10, e10, hm⟩ := bd_s hm
      refine oX_cast e10 rfl (by decide) q434 dX1_call_55 ?_
      refine oX_iload dX1_call_58 rfl ?_
      obtain ⟨r11, g11, hm⟩ := bd_s hm
      refine oX_cI (as := [vI r8, vI x1, vI x2, vI x3, vR (some a10), vI x5]) dX1_call_60 rfl ok_X15_init rfl rfl rfl q1310 q1311 q165 q1312 (by decide) (Nat.le_of_ble_eq_true rfl) (t_X15_init (15, C 15) rfl r8 x1 x2 x3 (some a10) x5 g11) ?_
      obtain ⟨r12, g12, hm⟩ := bd_s hm
      refine oX_cost hm (fun qq12 hm => ?_)
      refine oX_cVK (as := [vR (some (15, C 15))]) dX1_call_63 rfl oDs311 rfl (by decide) rfl ok_J2_add rfl rfl q496 q497 q498 q132 q499 (by decide) (Nat.le_of_ble_eq_true rfl) (t_J2_add (311, 0) rfl (some (15, C 15)) g12) (Nat.le_refl _) (Nat.le_refl _) ?_
      refine oX_pop dX1_call_66 trivial ?_
      refine oX_aload_n dX1_call_67 rfl rfl ?_
      refine oX_dup dX1_call_68 trivial ?_
      refine oX_getI fX1_119 rfl oDs0 dX1_call_69 ?_
      refine oX_iconst (v := (1 : Int32)) dX1_call_72 (by decide) ?_
      refine oX_iadd dX1_call_73 ?_
      obtain ⟨FI13, hFI13, hm⟩ := oLs hm
      refine oX_putI fX1_119 rfl (fun h9 => by cases h9) oDs0 dX1_call_74 ⟨rfl, rfl⟩ hFI13 ?_
      refine oX_aload_n dX1_call_77 rfl rfl ?_
      obtain ⟨s14, hm⟩ := gd_s hm
      refine oX_getF fX1_37 rfl oDs0 dX1_call_78 (ohF311 s14) ?_
      obtain ⟨r15, g15, hm⟩ := bd_s hm
      refine oX_cV (as := []) dX1_call_81 rfl oDs311 rfl (by decide) rfl ok_J2_size rfl rfl q430 q431 q432 q132 q433 (by decide) (Nat.le_of_ble_eq_true rfl) (t_J2_size (311, 0) rfl g15) ?_
      refine oX_iconst (v := (1 : Int32)) dX1_call_84 (by decide) ?_
      refine oX_isub dX1_call_85 ?_
      obtain ⟨rfl, rfl⟩ := oEnd hm
      exact oX_iret dX1_call_86 rfl rfl hK
theorem t_X1_call {G : OhG} {FI AI : OhI} {FL AL : OhL} {FR GR AR BR : OhQ} {AN : OhN} {C : OhC} (x1 : Int32) (x2 : Int32) (x3 : Int32) (x4 : Int32) (x5 : Int32) {o : (Int32 × OhI × OhQ × OhQ × OhQ × OhN × OhC) × (Nat × Nat)} (hm : mX1_call FI FR GR AR BR AN C x1 x2 x3 x4 x5 = some o) : oT G 8 iX1_call [vR (some (0, 0)), vI x1, vI x2, vI x3, vI x4, vI x5] (FI, FL, FR, GR, AI, AL, AR, BR, AN, C) o.2 (fun v h => v = (some (vI o.1.1)) ∧ h = (o.1.2.1, FL, o.1.2.2.1, o.1.2.2.2.1, AI, AL, AR, o.1.2.2.2.2.1, o.1.2.2.2.2.2.1, o.1.2.2.2.2.2.2)) ohNo :=
  oT_of (by decide) rfl (Nat.le_of_ble_eq_true rfl) (x_mX1_call (k := (0, 0)) x1 x2 x3 x4 x5 hm ⟨rfl, rfl⟩)
noncomputable def mX1_cast_j40 (FI : OhI) (FR : OhQ) (GR : OhQ) (AR : OhQ) (BR : OhQ) (AN : OhN) (C : OhC) (x1 : Int32) (x2 : Int32) (x3 : Int32) (x4 : Int32) (x5 : OhR) : Option ((Int32 × OhI × OhQ × OhQ × OhN × OhC) × (Nat × Nat)) :=
  (oD 14 x5).bind fun a9 =>
  (if (FI a9.1 a9.2 1) < (FI 0 0 3) then
  some (((0 : Int32), FI, GR, BR, AN, C), (0, 0))
else
  gd (ohShH FR AR AN) <|
    (mJ2_size FI (312, 0)).bind fun r12 =>
    (if r12 = (400 : Int32) then
    some (((0 : Int32), FI, GR, BR, AN, C), (0, 0))
  else
    oLet (sA FI 17 (C 17) (fun _ => 0)) fun FI14 =>
      oLet (uA C 17 (C 17 + 1)) fun C14 =>
      oCost (1, 5) <|
      (mX16_init FI14 (17, C 17) x1 x2 x3 x4 (FI14 0 0 3)).bind fun r15 =>
      (mJ2_add r15 GR BR AN C14 (312, 0) (some (17, C 17))).bind fun r16 =>
      oCost r16.2 <|
      oLet (sA r16.1.2.1 0 0 (uA (r16.1.2.1 0 0) 6 ((r16.1.2.1 0 0 6) + (1 : Int32)))) fun FI17 =>
      some (((1 : Int32), FI17, r16.1.2.2.1, r16.1.2.2.2.1, r16.1.2.2.2.2.1, r16.1.2.2.2.2.2), (0, 0))))
theorem x_mX1_cast_j40 {G : OhG} {FI AI : OhI} {FL AL : OhL} {FR GR AR BR : OhQ} {AN : OhN} {C : OhC} {k : Nat × Nat} {Φ : OhP} {Ψ : OhX} (x1 : Int32) (x2 : Int32) (x3 : Int32) (x4 : Int32) (x5 : OhR) {r : (Int32 × OhI × OhQ × OhQ × OhN × OhC) × (Nat × Nat)} (hm : mX1_cast_j40 FI FR GR AR BR AN C x1 x2 x3 x4 x5 = some r) (hK : Φ (some (vI r.1.1)) (r.1.2.1, FL, FR, r.1.2.2.1, AI, AL, AR, r.1.2.2.2.1, r.1.2.2.2.2.1, r.1.2.2.2.2.2)) : oX G 8 iX1_cast 40 [(0, vR (some (0, 0))), (1, vI x1), (2, vI x2), (3, vI x3), (4, vI x4), (5, vR x5)] [] (FI, FL, FR, GR, AI, AL, AR, BR, AN, C) (oPl r.2 k) Φ Ψ := by
  obtain ⟨r, q0⟩ := r
  unfold mX1_cast_j40 at hm
  refine oX_aload dX1_cast_40 rfl ?_
  obtain ⟨a9, e9, hm⟩ := bd_s hm
  refine oX_getI fX1_214 rfl e9 dX1_cast_42 ?_
  refine oX_aload_n dX1_cast_45 rfl rfl ?_
  refine oX_getI fX1_116 rfl oDs0 dX1_cast_46 ?_
  refine oX_icmp_lt (tgt := 65) dX1_cast_49 (by decide) (fun c10 => ?_) (fun c10 => ?_)
  · have hm := ifp c10 hm
    refine oX_iconst (v := (0 : Int32)) dX1_cast_65 (by decide) ?_
    obtain ⟨rfl, rfl⟩ := oEnd hm
    exact oX_iret dX1_cast_66 rfl (by decide) hK
  · have hm := ifn c10 hm
    refine oX_aload_n dX1_cast_52 rfl rfl ?_
    obtain ⟨s11, hm⟩ := gd_s hm
    refine oX_getF fX1_40 rfl oDs0 dX1_cast_53 (ohF312 s11) ?_
    obtain ⟨r12, g12, hm⟩ := bd_s hm
    refine oX_cV (as := []) dX1_cast_56 rfl oDs312 rfl (by decide) rfl ok_J2_size rfl rfl q430 q431 q432 q132 q433 (by decide) (Nat.le_of_ble_eq_true rfl) (t_J2_size (312, 0) rfl g12) ?_
    refine oX_sipush (v := (400 : Int32)) dX1_cast_59 (by decide) ?_
    refine oX_icmp_ne (tgt := 67) dX1_cast_62 (by decide) (fun c13 => ?_) (fun c13 => ?_)
    · have hm := ifp c13 hm
      refine oX_iconst (v := (0 : Int32)) dX1_cast_65 (by decide) ?_
      obtain ⟨rfl, rfl⟩ := oEnd hm
      exact oX_iret dX1_cast_66 rfl (by decide) hK
    · have hm := ifn c13 hm
      refine oX_aload_n dX1_cast_67 rfl rfl ?_
      refine oX_getF fX1_40 rfl oDs0 dX1_cast_68 (ohF312 s11) ?_
      obtain ⟨FI14, hFI14, hm⟩ := oLs hm
      obtain ⟨C14, hC14, hm⟩ := oLs hm
      refine oX_cost hm (fun qq14 hm => ?_)
      refine oX_newI (s9 := 17) (k := oPl qq14 k) nX1_217 rfl (by decide) dX1_cast_71 hFI14 hC14 ?_
      refine oX_dup dX1_cast_74 trivial ?_
      refine oX_iload_n dX1_cast_75 rfl rfl ?_
      refine oX_iload_n dX1_cast_76 rfl rfl ?_
      refine oX_iload_n dX1_cast_77 rfl rfl ?_
      refine oX_iload dX1_cast_78 rfl ?_
      refine oX_aload_n dX1_cast_80 rfl rfl ?_
      refine oX_getI fX1_116 rfl oDs0 dX1_cast_81 ?_
      obtain ⟨r15, g15, hm⟩ := bd_s hm
      refine oX_cI (as := [vI x1, vI x2, vI x3, vI x4, vI (FI14 0 0 3)]) dX1_cast_84 rfl ok_X16_init rfl rfl rfl q1359 q1360 q166 q1361 (by decide) (Nat.le_of_ble_eq_true rfl) (t_X16_init (17, C 17) rfl x1 x2 x3 x4 (FI14 0 0 3) g15) ?_
      obtain ⟨r16, g16, hm⟩ := bd_s hm
      refine oX_cost hm (fun qq16 hm => ?_)
      refine oX_cVK (as := [vR (some (17, C 17))]) dX1_cast_87 rfl oDs312 rfl (by decide) rfl ok_J2_add rfl rfl q496 q497 q498 q132 q499 (by decide) (Nat.le_of_ble_eq_true rfl) (t_J2_add (312, 0) rfl (some (17, C 17)) g16) (Nat.le_refl _) (Nat.le_refl _) ?_
      refine oX_pop dX1_cast_90 trivial ?_
      refine oX_aload_n dX1_cast_91 rfl rfl ?_
      refine oX_dup dX1_cast_92 trivial ?_
      refine oX_getI fX1_119 rfl oDs0 dX1_cast_93 ?_
      refine oX_iconst (v := (1 : Int32)) dX1_cast_96 (by decide) ?_
      refine oX_iadd dX1_cast_97 ?_
      obtain ⟨FI17, hFI17, hm⟩ := oLs hm
      refine oX_putI fX1_119 rfl (fun h9 => by cases h9) oDs0 dX1_cast_98 ⟨rfl, rfl⟩ hFI17 ?_
      refine oX_iconst (v := (1 : Int32)) dX1_cast_101 (by decide) ?_
      obtain ⟨rfl, rfl⟩ := oEnd hm
      exact oX_iret dX1_cast_102 rfl (by decide) hK
noncomputable def mX1_cast (FI : OhI) (FR : OhQ) (GR : OhQ) (AR : OhQ) (BR : OhQ) (AN : OhN) (C : OhC) (x1 : Int32) (x2 : Int32) (x3 : Int32) (x4 : Int32) : Option ((Int32 × OhI × OhQ × OhQ × OhN × OhC) × (Nat × Nat)) :=
  gd (ohShH FR AR AN) <|
  (mX1_callOf FI FR GR AR BR AN x1).bind fun r2 =>
  (if r2 = none then
  some (((0 : Int32), FI, GR, BR, AN, C), (0, 0))
else
  (oD 14 r2).bind fun a4 =>
    (mX15_roles FI FR a4).bind fun r5 =>
    (mX1_isIn x2 (0 : Int32) (r5 - (1 : Int32))).bind fun r6 =>
    (if r6 = 0 then
    some (((0 : Int32), FI, GR, BR, AN, C), (0, 0))
  else
    (if x3 = (-1 : Int32) then
      mX1_cast_j40 FI FR GR AR BR AN C x1 x2 x3 x4 r2
    else
      (mX1_singerOf FI FR GR AR BR AN x3).bind fun r18 =>
        (if r18 = none then
        some (((0 : Int32), FI, GR, BR, AN, C), (0, 0))
      else
        mX1_cast_j40 FI FR GR AR BR AN C x1 x2 x3 x4 r2))))
theorem x_mX1_cast {G : OhG} {FI AI : OhI} {FL AL : OhL} {FR GR AR BR : OhQ} {AN : OhN} {C : OhC} {k : Nat × Nat} {Φ : OhP} {Ψ : OhX} (x1 : Int32) (x2 : Int32) (x3 : Int32) (x4 : Int32) {r : (Int32 × OhI × OhQ × OhQ × OhN × OhC) × (Nat × Nat)} (hm : mX1_cast FI FR GR AR BR AN C x1 x2 x3 x4 = some r) (hK : Φ (some (vI r.1.1)) (r.1.2.1, FL, FR, r.1.2.2.1, AI, AL, AR, r.1.2.2.2.1, r.1.2.2.2.2.1, r.1.2.2.2.2.2)) : oX G 8 iX1_cast 0 [(0, vR (some (0, 0))), (1, vI x1), (2, vI x2), (3, vI x3), (4, vI x4)] [] (FI, FL, FR, GR, AI, AL, AR, BR, AN, C) (oPl r.2 k) Φ Ψ := by
  obtain ⟨r, q0⟩ := r
  unfold mX1_cast at hm
  refine oX_aload_n dX1_cast_0 rfl rfl ?_
  refine oX_iload_n dX1_cast_1 rfl rfl ?_
  obtain ⟨s1, hm⟩ := gd_s hm
  obtain ⟨r2, g2, hm⟩ := bd_s hm
  refine oX_cV (as := [vI x1]) dX1_cast_2 rfl oDs0 rfl (by decide) rfl ok_X1_callOf rfl rfl q1348 q1350 qs24 q129 q1351 (by decide) (Nat.le_of_ble_eq_true rfl) (t_X1_callOf s1 x1 g2) ?_
  refine oX_astore (ls' := [(5, vR r2), (0, vR (some (0, 0))), (1, vI x1), (2, vI x2), (3, vI x3), (4, vI x4)]) dX1_cast_5 (by decide) rfl ?_
  refine oX_aload dX1_cast_7 rfl ?_
  refine oX_ifnull (tgt := 65) dX1_cast_9 (by decide) (fun c3 => ?_) (fun c3 => ?_)
  · have hm := ifp c3 hm
    refine oX_iconst (v := (0 : Int32)) dX1_cast_65 (by decide) ?_
    obtain ⟨rfl, rfl⟩ := oEnd hm
    exact oX_iret dX1_cast_66 rfl (by decide) hK
  · have hm := ifn c3 hm
    refine oX_iload_n dX1_cast_12 rfl rfl ?_
    refine oX_iconst (v := (0 : Int32)) dX1_cast_13 (by decide) ?_
    refine oX_aload dX1_cast_14 rfl ?_
    obtain ⟨a4, e4, hm⟩ := bd_s hm
    obtain ⟨r5, g5, hm⟩ := bd_s hm
    refine oX_cV (as := []) dX1_cast_16 rfl e4 rfl (by decide) rfl ok_X15_roles rfl rfl q1352 q1353 q1354 q165 q1355 (by decide) (Nat.le_of_ble_eq_true rfl) (t_X15_roles a4 ((oD_some e4).2) g5) ?_
    refine oX_iconst (v := (1 : Int32)) dX1_cast_19 (by decide) ?_
    refine oX_isub dX1_cast_20 ?_
    obtain ⟨r6, g6, hm⟩ := bd_s hm
    refine oX_cS (as := [vI x2, vI (0 : Int32), vI (r5 - (1 : Int32))]) dX1_cast_21 rfl ok_X1_isIn rfl rfl q421 q238 q129 q239 (by decide) (Nat.le_of_ble_eq_true rfl) (t_X1_isIn x2 (0 : Int32) (r5 - (1 : Int32)) g6) ?_
    refine oX_if_eq (tgt := 65) dX1_cast_24 (by decide) (fun c7 => ?_) (fun c7 => ?_)
    · have hm := ifp c7 hm
      refine oX_iconst (v := (0 : Int32)) dX1_cast_65 (by decide) ?_
      obtain ⟨rfl, rfl⟩ := oEnd hm
      exact oX_iret dX1_cast_66 rfl (by decide) hK
    · have hm := ifn c7 hm
      refine oX_iload_n dX1_cast_27 rfl rfl ?_
      refine oX_iconst (v := (-1 : Int32)) dX1_cast_28 (by decide) ?_
      refine oX_icmp_eq (tgt := 40) dX1_cast_29 (by decide) (fun c8 => ?_) (fun c8 => ?_)
      · have hm := ifp c8 hm
        exact oX_sub [1, 2, 3, 4, 5, 0] rfl (x_mX1_cast_j40 x1 x2 x3 x4 r2 hm hK)
      · have hm := ifn c8 hm
        refine oX_aload_n dX1_cast_32 rfl rfl ?_
        refine oX_iload_n dX1_cast_33 rfl rfl ?_
        obtain ⟨r18, g18, hm⟩ := bd_s hm
        refine oX_cV (as := [vI x3]) dX1_cast_34 rfl oDs0 rfl (by decide) rfl ok_X1_singerOf rfl rfl q644 q646 qs7 q129 q647 (by decide) (Nat.le_of_ble_eq_true rfl) (t_X1_singerOf s1 x3 g18) ?_
        refine oX_ifnull (tgt := 65) dX1_cast_37 (by decide) (fun c19 => ?_) (fun c19 => ?_)
        · have hm := ifp c19 hm
          refine oX_iconst (v := (0 : Int32)) dX1_cast_65 (by decide) ?_
          obtain ⟨rfl, rfl⟩ := oEnd hm
          exact oX_iret dX1_cast_66 rfl (by decide) hK
        · have hm := ifn c19 hm
          exact oX_sub [1, 2, 3, 4, 5, 0] rfl (x_mX1_cast_j40 x1 x2 x3 x4 r2 hm hK)
theorem t_X1_cast {G : OhG} {FI AI : OhI} {FL AL : OhL} {FR GR AR BR : OhQ} {AN : OhN} {C : OhC} (x1 : Int32) (x2 : Int32) (x3 : Int32) (x4 : Int32) {o : (Int32 × OhI × OhQ × OhQ × OhN × OhC) × (Nat × Nat)} (hm : mX1_cast FI FR GR AR BR AN C x1 x2 x3 x4 = some o) : oT G 8 iX1_cast [vR (some (0, 0)), vI x1, vI x2, vI x3, vI x4] (FI, FL, FR, GR, AI, AL, AR, BR, AN, C) o.2 (fun v h => v = (some (vI o.1.1)) ∧ h = (o.1.2.1, FL, FR, o.1.2.2.1, AI, AL, AR, o.1.2.2.2.1, o.1.2.2.2.2.1, o.1.2.2.2.2.2)) ohNo :=
  oT_of (by decide) rfl (Nat.le_of_ble_eq_true rfl) (x_mX1_cast (k := (0, 0)) x1 x2 x3 x4 hm ⟨rfl, rfl⟩)
noncomputable def mX1_ill (FI : OhI) (FR : OhQ) (GR : OhQ) (AR : OhQ) (BR : OhQ) (AN : OhN) (C : OhC) (x1 : Int32) (x2 : Int32) (x3 : Int32) : Option ((Int32 × OhI × OhQ × OhQ × OhN × OhC) × (Nat × Nat)) :=
  gd (ohShH FR AR AN) <|
  (mX1_singerOf FI FR GR AR BR AN x1).bind fun r2 =>
  (if r2 = none then
  some (((0 : Int32), FI, GR, BR, AN, C), (0, 0))
else
  (mX1_isDay x2).bind fun r4 =>
    (if r4 = 0 then
    some (((0 : Int32), FI, GR, BR, AN, C), (0, 0))
  else
    (mX1_isIn x3 x2 (29 : Int32)).bind fun r6 =>
      (if r6 = 0 then
      some (((0 : Int32), FI, GR, BR, AN, C), (0, 0))
    else
      (mJ2_size FI (313, 0)).bind fun r8 =>
        (if r8 = (60 : Int32) then
        some (((0 : Int32), FI, GR, BR, AN, C), (0, 0))
      else
        oLet (sA FI 19 (C 19) (fun _ => 0)) fun FI10 =>
          oLet (uA C 19 (C 19 + 1)) fun C10 =>
          oCost (1, 4) <|
          (mX17_init FI10 (19, C 19) x1 x2 x3 (FI10 0 0 3)).bind fun r11 =>
          (mJ2_add r11 GR BR AN C10 (313, 0) (some (19, C 19))).bind fun r12 =>
          oCost r12.2 <|
          oLet (sA r12.1.2.1 0 0 (uA (r12.1.2.1 0 0) 6 ((r12.1.2.1 0 0 6) + (1 : Int32)))) fun FI13 =>
          some (((1 : Int32), FI13, r12.1.2.2.1, r12.1.2.2.2.1, r12.1.2.2.2.2.1, r12.1.2.2.2.2.2), (0, 0))))))
theorem x_mX1_ill {G : OhG} {FI AI : OhI} {FL AL : OhL} {FR GR AR BR : OhQ} {AN : OhN} {C : OhC} {k : Nat × Nat} {Φ : OhP} {Ψ : OhX} (x1 : Int32) (x2 : Int32) (x3 : Int32) {r : (Int32 × OhI × OhQ × OhQ × OhN × OhC) × (Nat × Nat)} (hm : mX1_ill FI FR GR AR BR AN C x1 x2 x3 = some r) (hK : Φ (some (vI r.1.1)) (r.1.2.1, FL, FR, r.1.2.2.1, AI, AL, AR, r.1.2.2.2.1, r.1.2.2.2.2.1, r.1.2.2.2.2.2)) : oX G 8 iX1_ill 0 [(0, vR (some (0, 0))), (1, vI x1), (2, vI x2), (3, vI x3)] [] (FI, FL, FR, GR, AI, AL, AR, BR, AN, C) (oPl r.2 k) Φ Ψ := by
  obtain ⟨r, q0⟩ := r
  unfold mX1_ill at hm
  refine oX_aload_n dX1_ill_0 rfl rfl ?_
  refine oX_iload_n dX1_ill_1 rfl rfl ?_
  obtain ⟨s1, hm⟩ := gd_s hm
  obtain ⟨r2, g2, hm⟩ := bd_s hm
  refine oX_cV (as := [vI x1]) dX1_ill_2 rfl oDs0 rfl (by decide) rfl ok_X1_singerOf rfl rfl q644 q646 qs7 q129 q647 (by decide) (Nat.le_of_ble_eq_true rfl) (t_X1_singerOf s1 x1 g2) ?_
  refine oX_ifnull (tgt := 37) dX1_ill_5 (by decide) (fun c3 => ?_) (fun c3 => ?_)
  · have hm := ifp c3 hm
    refine oX_iconst (v := (0 : Int32)) dX1_ill_37 (by decide) ?_
    obtain ⟨rfl, rfl⟩ := oEnd hm
    exact oX_iret dX1_ill_38 rfl (by decide) hK
  · have hm := ifn c3 hm
    refine oX_iload_n dX1_ill_8 rfl rfl ?_
    obtain ⟨r4, g4, hm⟩ := bd_s hm
    refine oX_cS (as := [vI x2]) dX1_ill_9 rfl ok_X1_isDay rfl rfl q1388 q1389 q129 q1390 (by decide) (Nat.le_of_ble_eq_true rfl) (t_X1_isDay x2 g4) ?_
    refine oX_if_eq (tgt := 37) dX1_ill_12 (by decide) (fun c5 => ?_) (fun c5 => ?_)
    · have hm := ifp c5 hm
      refine oX_iconst (v := (0 : Int32)) dX1_ill_37 (by decide) ?_
      obtain ⟨rfl, rfl⟩ := oEnd hm
      exact oX_iret dX1_ill_38 rfl (by decide) hK
    · have hm := ifn c5 hm
      refine oX_iload_n dX1_ill_15 rfl rfl ?_
      refine oX_iload_n dX1_ill_16 rfl rfl ?_
      refine oX_bipush (v := (29 : Int32)) dX1_ill_17 (by decide) ?_
      obtain ⟨r6, g6, hm⟩ := bd_s hm
      refine oX_cS (as := [vI x3, vI x2, vI (29 : Int32)]) dX1_ill_19 rfl ok_X1_isIn rfl rfl q421 q238 q129 q239 (by decide) (Nat.le_of_ble_eq_true rfl) (t_X1_isIn x3 x2 (29 : Int32) g6) ?_
      refine oX_if_eq (tgt := 37) dX1_ill_22 (by decide) (fun c7 => ?_) (fun c7 => ?_)
      · have hm := ifp c7 hm
        refine oX_iconst (v := (0 : Int32)) dX1_ill_37 (by decide) ?_
        obtain ⟨rfl, rfl⟩ := oEnd hm
        exact oX_iret dX1_ill_38 rfl (by decide) hK
      · have hm := ifn c7 hm
        refine oX_aload_n dX1_ill_25 rfl rfl ?_
        refine oX_getF fX1_43 rfl oDs0 dX1_ill_26 (ohF313 s1) ?_
        obtain ⟨r8, g8, hm⟩ := bd_s hm
        refine oX_cV (as := []) dX1_ill_29 rfl oDs313 rfl (by decide) rfl ok_J2_size rfl rfl q430 q431 q432 q132 q433 (by decide) (Nat.le_of_ble_eq_true rfl) (t_J2_size (313, 0) rfl g8) ?_
        refine oX_bipush (v := (60 : Int32)) dX1_ill_32 (by decide) ?_
        refine oX_icmp_ne (tgt := 39) dX1_ill_34 (by decide) (fun c9 => ?_) (fun c9 => ?_)
        · have hm := ifp c9 hm
          refine oX_iconst (v := (0 : Int32)) dX1_ill_37 (by decide) ?_
          obtain ⟨rfl, rfl⟩ := oEnd hm
          exact oX_iret dX1_ill_38 rfl (by decide) hK
        · have hm := ifn c9 hm
          refine oX_aload_n dX1_ill_39 rfl rfl ?_
          refine oX_getF fX1_43 rfl oDs0 dX1_ill_40 (ohF313 s1) ?_
          obtain ⟨FI10, hFI10, hm⟩ := oLs hm
          obtain ⟨C10, hC10, hm⟩ := oLs hm
          refine oX_cost hm (fun qq10 hm => ?_)
          refine oX_newI (s9 := 19) (k := oPl qq10 k) nX1_224 rfl (by decide) dX1_ill_43 hFI10 hC10 ?_
          refine oX_dup dX1_ill_46 trivial ?_
          refine oX_iload_n dX1_ill_47 rfl rfl ?_
          refine oX_iload_n dX1_ill_48 rfl rfl ?_
          refine oX_iload_n dX1_ill_49 rfl rfl ?_
          refine oX_aload_n dX1_ill_50 rfl rfl ?_
          refine oX_getI fX1_116 rfl oDs0 dX1_ill_51 ?_
          obtain ⟨r11, g11, hm⟩ := bd_s hm
          refine oX_cI (as := [vI x1, vI x2, vI x3, vI (FI10 0 0 3)]) dX1_ill_54 rfl ok_X17_init rfl rfl rfl q1393 q1394 q167 q1395 (by decide) (Nat.le_of_ble_eq_true rfl) (t_X17_init (19, C 19) rfl x1 x2 x3 (FI10 0 0 3) g11) ?_
          obtain ⟨r12, g12, hm⟩ := bd_s hm
          refine oX_cost hm (fun qq12 hm => ?_)
          refine oX_cVK (as := [vR (some (19, C 19))]) dX1_ill_57 rfl oDs313 rfl (by decide) rfl ok_J2_add rfl rfl q496 q497 q498 q132 q499 (by decide) (Nat.le_of_ble_eq_true rfl) (t_J2_add (313, 0) rfl (some (19, C 19)) g12) (Nat.le_refl _) (Nat.le_refl _) ?_
          refine oX_pop dX1_ill_60 trivial ?_
          refine oX_aload_n dX1_ill_61 rfl rfl ?_
          refine oX_dup dX1_ill_62 trivial ?_
          refine oX_getI fX1_119 rfl oDs0 dX1_ill_63 ?_
          refine oX_iconst (v := (1 : Int32)) dX1_ill_66 (by decide) ?_
          refine oX_iadd dX1_ill_67 ?_
          obtain ⟨FI13, hFI13, hm⟩ := oLs hm
          refine oX_putI fX1_119 rfl (fun h9 => by cases h9) oDs0 dX1_ill_68 ⟨rfl, rfl⟩ hFI13 ?_
          refine oX_iconst (v := (1 : Int32)) dX1_ill_71 (by decide) ?_
          obtain ⟨rfl, rfl⟩ := oEnd hm
          exact oX_iret dX1_ill_72 rfl (by decide) hK
theorem t_X1_ill {G : OhG} {FI AI : OhI} {FL AL : OhL} {FR GR AR BR : OhQ} {AN : OhN} {C : OhC} (x1 : Int32) (x2 : Int32) (x3 : Int32) {o : (Int32 × OhI × OhQ × OhQ × OhN × OhC) × (Nat × Nat)} (hm : mX1_ill FI FR GR AR BR AN C x1 x2 x3 = some o) : oT G 8 iX1_ill [vR (some (0, 0)), vI x1, vI x2, vI x3] (FI, FL, FR, GR, AI, AL, AR, BR, AN, C) o.2 (fun v h => v = (some (vI o.1.1)) ∧ h = (o.1.2.1, FL, FR, o.1.2.2.1, AI, AL, AR, o.1.2.2.2.1, o.1.2.2.2.2.1, o.1.2.2.2.2.2)) ohNo :=
  oT_of (by decide) rfl (Nat.le_of_ble_eq_true rfl) (x_mX1_ill (k := (0, 0)) x1 x2 x3 hm ⟨rfl, rfl⟩)
noncomputable def mX1_singer (FI : OhI) (FR : OhQ) (GR : OhQ) (AR : OhQ) (BR : OhQ) (AN : OhN) (C : OhC) (x1 : Int32) (x2 : Int32) (x3 : Int32) : Option ((Int32 × OhI × OhQ × OhQ × OhQ × OhN × OhC) × (Nat × Nat)) :=
  gd (ohShH FR AR AN) <|
  (mJ2_size FI (310, 0)).bind fun r2 =>
  (if r2 = (20 : Int32) then
  some (((-1 : Int32), FI, FR, GR, BR, AN, C), (0, 0))
else
  (mX1_isIn x1 (0 : Int32) (63 : Int32)).bind fun r4 =>
    (if r4 = 0 then
    some (((-1 : Int32), FI, FR, GR, BR, AN, C), (0, 0))
  else
    (mX1_isIn x2 (0 : Int32) (63 : Int32)).bind fun r6 =>
      (if r6 = 0 then
      some (((-1 : Int32), FI, FR, GR, BR, AN, C), (0, 0))
    else
      (mX1_isIn x3 (0 : Int32) (9 : Int32)).bind fun r8 =>
        (if r8 = 0 then
        some (((-1 : Int32), FI, FR, GR, BR, AN, C), (0, 0))
      else
        oLet (sA FI 8 (C 8) (fun _ => 0)) fun FI10 =>
          oLet (sA GR 8 (C 8) (fun _ => none)) fun GR10 =>
          oLet (uA C 8 (C 8 + 1)) fun C10 =>
          oCost (1, 5) <|
          (mJ2_size FI10 (310, 0)).bind fun r11 =>
          (mX7_init FI10 FR GR10 C10 (8, C 8) r11 x1 x2 x3).bind fun r12 =>
          oCost r12.2 <|
          (mJ2_add r12.1.1 r12.1.2.2.1 BR AN r12.1.2.2.2 (310, 0) (some (8, C 8))).bind fun r13 =>
          oCost r13.2 <|
          oLet (sA r13.1.2.1 0 0 (uA (r13.1.2.1 0 0) 6 ((r13.1.2.1 0 0 6) + (1 : Int32)))) fun FI14 =>
          gd (ohShH r12.1.2.1 AR r13.1.2.2.2.2.1) <|
          (mJ2_size FI14 (310, 0)).bind fun r16 =>
          some ((r16 - (1 : Int32), FI14, r12.1.2.1, r13.1.2.2.1, r13.1.2.2.2.1, r13.1.2.2.2.2.1, r13.1.2.2.2.2.2), (0, 0))))))
theorem x_mX1_singer {G : OhG} {FI AI : OhI} {FL AL : OhL} {FR GR AR BR : OhQ} {AN : OhN} {C : OhC} {k : Nat × Nat} {Φ : OhP} {Ψ : OhX} (x1 : Int32) (x2 : Int32) (x3 : Int32) {r : (Int32 × OhI × OhQ × OhQ × OhQ × OhN × OhC) × (Nat × Nat)} (hm : mX1_singer FI FR GR AR BR AN C x1 x2 x3 = some r) (hK : Φ (some (vI r.1.1)) (r.1.2.1, FL, r.1.2.2.1, r.1.2.2.2.1, AI, AL, AR, r.1.2.2.2.2.1, r.1.2.2.2.2.2.1, r.1.2.2.2.2.2.2)) : oX G 8 iX1_singer 0 [(0, vR (some (0, 0))), (1, vI x1), (2, vI x2), (3, vI x3)] [] (FI, FL, FR, GR, AI, AL, AR, BR, AN, C) (oPl r.2 k) Φ Ψ := by
  obtain ⟨r, q0⟩ := r
  unfold mX1_singer at hm
  refine oX_aload_n dX1_singer_0 rfl rfl ?_
  obtain ⟨s1, hm⟩ := gd_s hm
  refine oX_getF fX1_34 rfl oDs0 dX1_singer_1 (ohF310 s1) ?_
  obtain ⟨r2, g2, hm⟩ := bd_s hm
  refine oX_cV (as := []) dX1_singer_4 rfl oDs310 rfl (by decide) rfl ok_J2_size rfl rfl q430 q431 q432 q132 q433 (by decide) (Nat.le_of_ble_eq_true rfl) (t_J2_size (310, 0) rfl g2) ?_
  refine oX_bipush (v := (20 : Int32)) dX1_singer_7 (by decide) ?_
  refine oX_icmp_eq (tgt := 42) dX1_singer_9 (by decide) (fun c3 => ?_) (fun c3 => ?_)
  · have hm := ifp c3 hm
    refine oX_iconst (v := (-1 : Int32)) dX1_singer_42 (by decide) ?_
    obtain ⟨rfl, rfl⟩ := oEnd hm
    exact oX_iret dX1_singer_43 rfl rfl hK
  · have hm := ifn c3 hm
    refine oX_iload_n dX1_singer_12 rfl rfl ?_
    refine oX_iconst (v := (0 : Int32)) dX1_singer_13 (by decide) ?_
    refine oX_bipush (v := (63 : Int32)) dX1_singer_14 (by decide) ?_
    obtain ⟨r4, g4, hm⟩ := bd_s hm
    refine oX_cS (as := [vI x1, vI (0 : Int32), vI (63 : Int32)]) dX1_singer_16 rfl ok_X1_isIn rfl rfl q421 q238 q129 q239 (by decide) (Nat.le_of_ble_eq_true rfl) (t_X1_isIn x1 (0 : Int32) (63 : Int32) g4) ?_
    refine oX_if_eq (tgt := 42) dX1_singer_19 (by decide) (fun c5 => ?_) (fun c5 => ?_)
    · have hm := ifp c5 hm
      refine oX_iconst (v := (-1 : Int32)) dX1_singer_42 (by decide) ?_
      obtain ⟨rfl, rfl⟩ := oEnd hm
      exact oX_iret dX1_singer_43 rfl rfl hK
    · have hm := ifn c5 hm
      refine oX_iload_n dX1_singer_22 rfl rfl ?_
      refine oX_iconst (v := (0 : Int32)) dX1_singer_23 (by decide) ?_
      refine oX_bipush (v := (63 : Int32)) dX1_singer_24 (by decide) ?_
      obtain ⟨r6, g6, hm⟩ := bd_s hm
      refine oX_cS (as := [vI x2, vI (0 : Int32), vI (63 : Int32)]) dX1_singer_26 rfl ok_X1_isIn rfl rfl q421 q238 q129 q239 (by decide) (Nat.le_of_ble_eq_true rfl) (t_X1_isIn x2 (0 : Int32) (63 : Int32) g6) ?_
      refine oX_if_eq (tgt := 42) dX1_singer_29 (by decide) (fun c7 => ?_) (fun c7 => ?_)
      · have hm := ifp c7 hm
        refine oX_iconst (v := (-1 : Int32)) dX1_singer_42 (by decide) ?_
        obtain ⟨rfl, rfl⟩ := oEnd hm
        exact oX_iret dX1_singer_43 rfl rfl hK
      · have hm := ifn c7 hm
        refine oX_iload_n dX1_singer_32 rfl rfl ?_
        refine oX_iconst (v := (0 : Int32)) dX1_singer_33 (by decide) ?_
        refine oX_bipush (v := (9 : Int32)) dX1_singer_34 (by decide) ?_
        obtain ⟨r8, g8, hm⟩ := bd_s hm
        refine oX_cS (as := [vI x3, vI (0 : Int32), vI (9 : Int32)]) dX1_singer_36 rfl ok_X1_isIn rfl rfl q421 q238 q129 q239 (by decide) (Nat.le_of_ble_eq_true rfl) (t_X1_isIn x3 (0 : Int32) (9 : Int32) g8) ?_
        refine oX_if_ne (tgt := 44) dX1_singer_39 (by decide) (fun c9 => ?_) (fun c9 => ?_)
        · have hm := ifp c9 hm
          refine oX_iconst (v := (-1 : Int32)) dX1_singer_42 (by decide) ?_
          obtain ⟨rfl, rfl⟩ := oEnd hm
          exact oX_iret dX1_singer_43 rfl rfl hK
        · have hm := ifn c9 hm
          refine oX_aload_n dX1_singer_44 rfl rfl ?_
          refine oX_getF fX1_34 rfl oDs0 dX1_singer_45 (ohF310 s1) ?_
          obtain ⟨FI10, hFI10, hm⟩ := oLs hm
          obtain ⟨GR10, hGR10, hm⟩ := oLs hm
          obtain ⟨C10, hC10, hm⟩ := oLs hm
          refine oX_cost hm (fun qq10 hm => ?_)
          refine oX_newIG (s9 := 8) (k := oPl qq10 k) nX1_152 rfl (by decide) dX1_singer_48 hFI10 hGR10 hC10 ?_
          refine oX_dup dX1_singer_51 trivial ?_
          refine oX_aload_n dX1_singer_52 rfl rfl ?_
          refine oX_getF fX1_34 rfl oDs0 dX1_singer_53 (ohF310 s1) ?_
          obtain ⟨r11, g11, hm⟩ := bd_s hm
          refine oX_cV (as := []) dX1_singer_56 rfl oDs310 rfl (by decide) rfl ok_J2_size rfl rfl q430 q431 q432 q132 q433 (by decide) (Nat.le_of_ble_eq_true rfl) (t_J2_size (310, 0) rfl g11) ?_
          refine oX_iload_n dX1_singer_59 rfl rfl ?_
          refine oX_iload_n dX1_singer_60 rfl rfl ?_
          refine oX_iload_n dX1_singer_61 rfl rfl ?_
          obtain ⟨r12, g12, hm⟩ := bd_s hm
          refine oX_cost hm (fun qq12 hm => ?_)
          refine oX_cIK (as := [vI r11, vI x1, vI x2, vI x3]) dX1_singer_62 rfl ok_X7_init rfl rfl rfl q567 q568 q142 q569 (by decide) (Nat.le_of_ble_eq_true rfl) (t_X7_init (8, C 8) rfl r11 x1 x2 x3 g12) (Nat.le_refl _) (Nat.le_refl _) ?_
          obtain ⟨r13, g13, hm⟩ := bd_s hm
          refine oX_cost hm (fun qq13 hm => ?_)
          refine oX_cVK (as := [vR (some (8, C 8))]) dX1_singer_65 rfl oDs310 rfl (by decide) rfl ok_J2_add rfl rfl q496 q497 q498 q132 q499 (by decide) (Nat.le_of_ble_eq_true rfl) (t_J2_add (310, 0) rfl (some (8, C 8)) g13) (Nat.le_refl _) (Nat.le_refl _) ?_
          refine oX_pop dX1_singer_68 trivial ?_
          refine oX_aload_n dX1_singer_69 rfl rfl ?_
          refine oX_dup dX1_singer_70 trivial ?_
          refine oX_getI fX1_119 rfl oDs0 dX1_singer_71 ?_
          refine oX_iconst (v := (1 : Int32)) dX1_singer_74 (by decide) ?_
          refine oX_iadd dX1_singer_75 ?_
          obtain ⟨FI14, hFI14, hm⟩ := oLs hm
          refine oX_putI fX1_119 rfl (fun h9 => by cases h9) oDs0 dX1_singer_76 ⟨rfl, rfl⟩ hFI14 ?_
          refine oX_aload_n dX1_singer_79 rfl rfl ?_
          obtain ⟨s15, hm⟩ := gd_s hm
          refine oX_getF fX1_34 rfl oDs0 dX1_singer_80 (ohF310 s15) ?_
          obtain ⟨r16, g16, hm⟩ := bd_s hm
          refine oX_cV (as := []) dX1_singer_83 rfl oDs310 rfl (by decide) rfl ok_J2_size rfl rfl q430 q431 q432 q132 q433 (by decide) (Nat.le_of_ble_eq_true rfl) (t_J2_size (310, 0) rfl g16) ?_
          refine oX_iconst (v := (1 : Int32)) dX1_singer_86 (by decide) ?_
          refine oX_isub dX1_singer_87 ?_
          obtain ⟨rfl, rfl⟩ := oEnd hm
          exact oX_iret dX1_singer_88 rfl rfl hK
theorem t_X1_singer {G : OhG} {FI AI : OhI} {FL AL : OhL} {FR GR AR BR : OhQ} {AN : OhN} {C : OhC} (x1 : Int32) (x2 : Int32) (x3 : Int32) {o : (Int32 × OhI × OhQ × OhQ × OhQ × OhN × OhC) × (Nat × Nat)} (hm : mX1_singer FI FR GR AR BR AN C x1 x2 x3 = some o) : oT G 8 iX1_singer [vR (some (0, 0)), vI x1, vI x2, vI x3] (FI, FL, FR, GR, AI, AL, AR, BR, AN, C) o.2 (fun v h => v = (some (vI o.1.1)) ∧ h = (o.1.2.1, FL, o.1.2.2.1, o.1.2.2.2.1, AI, AL, AR, o.1.2.2.2.2.1, o.1.2.2.2.2.2.1, o.1.2.2.2.2.2.2)) ohNo :=
  oT_of (by decide) rfl (Nat.le_of_ble_eq_true rfl) (x_mX1_singer (k := (0, 0)) x1 x2 x3 hm ⟨rfl, rfl⟩)
noncomputable def mX1_opera_b94 (n : Nat) (FI : OhI) (FR : OhQ) (GR : OhQ) (AI : OhI) (AR : OhQ) (BR : OhQ) (AN : OhN) (C : OhC) (x5 : Int32) (x6 : OhR) (x7 : Int32) : Option (((Int32 × OhI) ⊕ ((OhI) ⊕ (OhI))) × (Nat × Nat)) :=
  (if (4 : Int32) ≤ x7 then
  some (.inr (.inl AI), (0, 0))
else
  (oD 4 x6).bind fun a19 =>
    gd (ohShH FR AR AN) <|
    gd (vp_in x7 340) <|
    (oD 100 (FR a19.1 a19.2 5)).bind fun a22 =>
    gd (vp_in x7 (AN a22.1 a22.2)) <|
    oLet (sA AI a22.1 a22.2 (uA (AI a22.1 a22.2) x7.toNatClampNeg ((AI 300 0 x7.toNatClampNeg) &&& (255 : Int32)))) fun AI23 =>
    gd (vp_in x7 (AN a22.1 a22.2)) <|
    (if (AI23 a22.1 a22.2 x7.toNatClampNeg) ≤ (40 : Int32) then
    some (.inl (x7 + (1 : Int32), AI23), (0, 0))
  else
    some (.inr (.inr AI23), (0, 0))))
theorem x_mX1_opera_b94 {G : OhG} {FI AI : OhI} {FL AL : OhL} {FR GR AR BR : OhQ} {AN : OhN} {C : OhC} {k : Nat × Nat} {Φ : OhP} {Ψ : OhX} (n : Nat) (x5 : Int32) (x6 : OhR) (x7 : Int32) {r : ((Int32 × OhI) ⊕ ((OhI) ⊕ (OhI))) × (Nat × Nat)} (hm : mX1_opera_b94 n FI FR GR AI AR BR AN C x5 x6 x7 = some r) (hk : ∀ v : Int32 × OhI, r.1 = .inl v → oX G 8 iX1_opera 94 [(0, vR (some (0, 0))), (5, vI x5), (6, vR x6), (7, vI v.1)] [] (FI, FL, FR, GR, v.2, AL, AR, BR, AN, C) k Φ Ψ) (hx1 : ∀ v : OhI, r.1 = .inr (.inl v) → oX G 8 iX1_opera 140 [(0, vR (some (0, 0))), (5, vI x5), (6, vR x6)] [] (FI, FL, FR, GR, v, AL, AR, BR, AN, C) k Φ Ψ) (hx2 : ∀ v : OhI, r.1 = .inr (.inr v) → oX G 8 iX1_opera 132 [] [] (FI, FL, FR, GR, v, AL, AR, BR, AN, C) k Φ Ψ) : oX G 8 iX1_opera 94 [(0, vR (some (0, 0))), (5, vI x5), (6, vR x6), (7, vI x7)] [] (FI, FL, FR, GR, AI, AL, AR, BR, AN, C) (oPl r.2 k) Φ Ψ := by
  obtain ⟨r, q0⟩ := r
  unfold mX1_opera_b94 at hm
  refine oX_iload dX1_opera_94 rfl ?_
  refine oX_iconst (v := (4 : Int32)) dX1_opera_96 (by decide) ?_
  refine oX_icmp_ge (tgt := 140) dX1_opera_97 (by decide) (fun c18 => ?_) (fun c18 => ?_)
  · have hm := ifp c18 hm
    obtain ⟨hr, rfl⟩ := oEnd hm
    exact oX_sub [0, 1, 2] rfl (oX_z (hx1 AI hr))
  · have hm := ifn c18 hm
    refine oX_aload dX1_opera_100 rfl ?_
    obtain ⟨a19, e19, hm⟩ := bd_s hm
    refine oX_getF fX1_134 rfl e19 dX1_opera_102 rfl ?_
    refine oX_iload dX1_opera_105 rfl ?_
    refine oX_aload_n dX1_opera_107 rfl rfl ?_
    obtain ⟨s20, hm⟩ := gd_s hm
    refine oX_getF fX1_9 rfl oDs0 dX1_opera_108 (ohF300 s20) ?_
    refine oX_iload dX1_opera_111 rfl ?_
    obtain ⟨g21, hm⟩ := gd_s hm
    refine oX_bald oDs300 (oIn (ohN300 s20) g21) dX1_opera_113 ?_
    refine oX_sipush (v := (255 : Int32)) dX1_opera_114 (by decide) ?_
    refine oX_iand dX1_opera_117 ?_
    obtain ⟨a22, e22, hm⟩ := bd_s hm
    obtain ⟨g23, hm⟩ := gd_s hm
    obtain ⟨AI23, hAI23, hm⟩ := oLs hm
    refine oX_iast e22 g23 dX1_opera_118 hAI23 ?_
    refine oX_aload dX1_opera_119 rfl ?_
    refine oX_getF fX1_134 rfl e19 dX1_opera_121 rfl ?_
    refine oX_iload dX1_opera_124 rfl ?_
    obtain ⟨g24, hm⟩ := gd_s hm
    refine oX_iald e22 g24 dX1_opera_126 ?_
    refine oX_bipush (v := (40 : Int32)) dX1_opera_127 (by decide) ?_
    refine oX_icmp_le (tgt := 134) dX1_opera_129 (by decide) (fun c25 => ?_) (fun c25 => ?_)
    · have hm := ifp c25 hm
      refine oX_iinc (v := x7 + (1 : Int32)) (ls' := [(7, vI (x7 + (1 : Int32))), (0, vR (some (0, 0))), (5, vI x5), (6, vR x6)]) dX1_opera_134 rfl rfl (by decide) rfl ?_
      refine oX_goto (tgt := 94) dX1_opera_137 (by decide) ?_
      obtain ⟨hr, rfl⟩ := oEnd hm
      exact oX_sub [1, 2, 3, 0] rfl (oX_z (hk (x7 + (1 : Int32), AI23) hr))
    · have hm := ifn c25 hm
      obtain ⟨hr, rfl⟩ := oEnd hm
      exact oX_sub [] rfl (oX_z (hx2 AI23 hr))
theorem l_mX1_opera_b94 {G : OhG} {FI : OhI} {FL : OhL} {FR : OhQ} {GR : OhQ} {AL : OhL} {AR : OhQ} {BR : OhQ} {AN : OhN} {C : OhC} {k : Nat × Nat} {Φ : OhP} {Ψ : OhX} (n : Nat) (x5 : Int32) (x6 : OhR) : ∀ (f : Nat) (x7 : Int32) (AI : OhI) (b : (((OhI) ⊕ (OhI))) × (Nat × Nat)), lpK (fun v => mX1_opera_b94 n FI FR GR v.2 AR BR AN C x5 x6 v.1) f (x7, AI) = some b → (∀ v : OhI, b.1 = (.inl v) → oX G 8 iX1_opera 140 [(0, vR (some (0, 0))), (5, vI x5), (6, vR x6)] [] (FI, FL, FR, GR, v, AL, AR, BR, AN, C) k Φ Ψ) → (∀ v : OhI, b.1 = (.inr v) → oX G 8 iX1_opera 132 [] [] (FI, FL, FR, GR, v, AL, AR, BR, AN, C) k Φ Ψ) → oX G 8 iX1_opera 94 [(0, vR (some (0, 0))), (5, vI x5), (6, vR x6), (7, vI x7)] [] (FI, FL, FR, GR, AI, AL, AR, BR, AN, C) (oPl b.2 k) Φ Ψ := by
  intro f
  induction f with
  | zero =>
    intro x7 AI b hm
    cases hm
  | succ f ih =>
    intro x7 AI b hm hx1 hx2
    obtain ⟨⟨r, q⟩, hr, hm⟩ := lk_s hm
    rcases r with v | v
    · obtain ⟨c, hm, hb⟩ := hm
      rw [hb, oPl_assoc]
      refine x_mX1_opera_b94 n x5 x6 x7 hr (fun v9 e => ?_) (fun v9 e => by cases e) (fun v9 e => by cases e)
      cases e; exact ih v.1 v.2 (b.1, c) hm hx1 hx2
    · cases (show b = (v, q) from hm)
      refine x_mX1_opera_b94 n x5 x6 x7 hr (fun v9 e => by cases e) (fun v9 e => ?_) (fun v9 e => ?_)
      · cases e; exact hx1 v9 rfl
      · cases e; exact hx2 v9 rfl
noncomputable def mX1_opera_b143 (n : Nat) (FI : OhI) (FR : OhQ) (GR : OhQ) (AI : OhI) (AR : OhQ) (BR : OhQ) (AN : OhN) (C : OhC) (x5 : Int32) (x6 : OhR) (x7 : Int32) : Option (((Int32 × OhI × OhQ × OhQ × OhN × OhC) ⊕ ((OhI × OhQ × OhQ × OhN × OhC) ⊕ (OhI × OhQ × OhQ × OhN × OhC))) × (Nat × Nat)) :=
  (if x5 ≤ x7 then
  some (.inr (.inl (FI, GR, BR, AN, C)), (0, 0))
else
  gd (ohShH FR AR AN) <|
    gd (vp_in x7 340) <|
    (mX1_isIn (AI 300 0 x7.toNatClampNeg) (0 : Int32) (5 : Int32)).bind fun r30 =>
    (if r30 = 0 then
    some (.inr (.inr (FI, GR, BR, AN, C)), (0, 0))
  else
    gd (vp_in (x7 + (1 : Int32)) 340) <|
      (mX1_isIn (AI 300 0 (x7 + (1 : Int32)).toNatClampNeg) (1 : Int32) (30 : Int32)).bind fun r33 =>
      (if r33 = 0 then
      some (.inr (.inr (FI, GR, BR, AN, C)), (0, 0))
    else
      gd (vp_in (x7 + (2 : Int32)) 340) <|
        (mX1_isIn (AI 300 0 (x7 + (2 : Int32)).toNatClampNeg) (0 : Int32) (5 : Int32)).bind fun r36 =>
        (if r36 = 0 then
        some (.inr (.inr (FI, GR, BR, AN, C)), (0, 0))
      else
        gd (vp_in (x7 + (3 : Int32)) 340) <|
          (mX1_isIn (AI 300 0 (x7 + (3 : Int32)).toNatClampNeg) (0 : Int32) (9 : Int32)).bind fun r39 =>
          (if r39 = 0 then
          some (.inr (.inr (FI, GR, BR, AN, C)), (0, 0))
        else
          (oD 4 x6).bind fun a41 =>
            oLet (sA FI 7 (C 7) (fun _ => 0)) fun FI42 =>
            oLet (uA C 7 (C 7 + 1)) fun C42 =>
            oCost (1, 4) <|
            gd (vp_in x7 340) <|
            gd (vp_in (x7 + (1 : Int32)) 340) <|
            gd (vp_in (x7 + (2 : Int32)) 340) <|
            gd (vp_in (x7 + (3 : Int32)) 340) <|
            (mX6_init FI42 (7, C 7) (AI 300 0 x7.toNatClampNeg) (AI 300 0 (x7 + (1 : Int32)).toNatClampNeg) (AI 300 0 (x7 + (2 : Int32)).toNatClampNeg) (AI 300 0 (x7 + (3 : Int32)).toNatClampNeg)).bind fun r47 =>
            (oD 17 (FR a41.1 a41.2 6)).bind fun a48 =>
            (mJ2_add r47 GR BR AN C42 a48 (some (7, C 7))).bind fun r49 =>
            oCost r49.2 <|
            some (.inl (x7 + (4 : Int32), r49.1.2.1, r49.1.2.2.1, r49.1.2.2.2.1, r49.1.2.2.2.2.1, r49.1.2.2.2.2.2), (0, 0)))))))
theorem x_mX1_opera_b143 {G : OhG} {FI AI : OhI} {FL AL : OhL} {FR GR AR BR : OhQ} {AN : OhN} {C : OhC} {k : Nat × Nat} {Φ : OhP} {Ψ : OhX} (n : Nat) (x5 : Int32) (x6 : OhR) (x7 : Int32) {r : ((Int32 × OhI × OhQ × OhQ × OhN × OhC) ⊕ ((OhI × OhQ × OhQ × OhN × OhC) ⊕ (OhI × OhQ × OhQ × OhN × OhC))) × (Nat × Nat)} (hm : mX1_opera_b143 n FI FR GR AI AR BR AN C x5 x6 x7 = some r) (hk : ∀ v : Int32 × OhI × OhQ × OhQ × OhN × OhC, r.1 = .inl v → oX G 8 iX1_opera 143 [(0, vR (some (0, 0))), (5, vI x5), (6, vR x6), (7, vI v.1)] [] (v.2.1, FL, FR, v.2.2.1, AI, AL, AR, v.2.2.2.1, v.2.2.2.2.1, v.2.2.2.2.2) k Φ Ψ) (hx1 : ∀ v : OhI × OhQ × OhQ × OhN × OhC, r.1 = .inr (.inl v) → oX G 8 iX1_opera 276 [(0, vR (some (0, 0))), (6, vR x6)] [] (v.1, FL, FR, v.2.1, AI, AL, AR, v.2.2.1, v.2.2.2.1, v.2.2.2.2) k Φ Ψ) (hx2 : ∀ v : OhI × OhQ × OhQ × OhN × OhC, r.1 = .inr (.inr v) → oX G 8 iX1_opera 218 [] [] (v.1, FL, FR, v.2.1, AI, AL, AR, v.2.2.1, v.2.2.2.1, v.2.2.2.2) k Φ Ψ) : oX G 8 iX1_opera 143 [(0, vR (some (0, 0))), (5, vI x5), (6, vR x6), (7, vI x7)] [] (FI, FL, FR, GR, AI, AL, AR, BR, AN, C) (oPl r.2 k) Φ Ψ := by
  obtain ⟨r, q0⟩ := r
  unfold mX1_opera_b143 at hm
  refine oX_iload dX1_opera_143 rfl ?_
  refine oX_iload dX1_opera_145 rfl ?_
  refine oX_icmp_ge (tgt := 276) dX1_opera_147 (by decide) (fun c27 => ?_) (fun c27 => ?_)
  · have hm := ifp c27 hm
    obtain ⟨hr, rfl⟩ := oEnd hm
    exact oX_sub [0, 2] rfl (oX_z (hx1 (FI, GR, BR, AN, C) hr))
  · have hm := ifn c27 hm
    refine oX_aload_n dX1_opera_150 rfl rfl ?_
    obtain ⟨s28, hm⟩ := gd_s hm
    refine oX_getF fX1_9 rfl oDs0 dX1_opera_151 (ohF300 s28) ?_
    refine oX_iload dX1_opera_154 rfl ?_
    obtain ⟨g29, hm⟩ := gd_s hm
    refine oX_bald oDs300 (oIn (ohN300 s28) g29) dX1_opera_156 ?_
    refine oX_iconst (v := (0 : Int32)) dX1_opera_157 (by decide) ?_
    refine oX_iconst (v := (5 : Int32)) dX1_opera_158 (by decide) ?_
    obtain ⟨r30, g30, hm⟩ := bd_s hm
    refine oX_cS (as := [vI (AI 300 0 x7.toNatClampNeg), vI (0 : Int32), vI (5 : Int32)]) dX1_opera_159 rfl ok_X1_isIn rfl rfl q421 q238 q129 q239 (by decide) (Nat.le_of_ble_eq_true rfl) (t_X1_isIn (AI 300 0 x7.toNatClampNeg) (0 : Int32) (5 : Int32) g30) ?_
    refine oX_if_eq (tgt := 218) dX1_opera_162 (by decide) (fun c31 => ?_) (fun c31 => ?_)
    · have hm := ifp c31 hm
      obtain ⟨hr, rfl⟩ := oEnd hm
      exact oX_sub [] rfl (oX_z (hx2 (FI, GR, BR, AN, C) hr))
    · have hm := ifn c31 hm
      refine oX_aload_n dX1_opera_165 rfl rfl ?_
      refine oX_getF fX1_9 rfl oDs0 dX1_opera_166 (ohF300 s28) ?_
      refine oX_iload dX1_opera_169 rfl ?_
      refine oX_iconst (v := (1 : Int32)) dX1_opera_171 (by decide) ?_
      refine oX_iadd dX1_opera_172 ?_
      obtain ⟨g32, hm⟩ := gd_s hm
      refine oX_bald oDs300 (oIn (ohN300 s28) g32) dX1_opera_173 ?_
      refine oX_iconst (v := (1 : Int32)) dX1_opera_174 (by decide) ?_
      refine oX_bipush (v := (30 : Int32)) dX1_opera_175 (by decide) ?_
      obtain ⟨r33, g33, hm⟩ := bd_s hm
      refine oX_cS (as := [vI (AI 300 0 (x7 + (1 : Int32)).toNatClampNeg), vI (1 : Int32), vI (30 : Int32)]) dX1_opera_177 rfl ok_X1_isIn rfl rfl q421 q238 q129 q239 (by decide) (Nat.le_of_ble_eq_true rfl) (t_X1_isIn (AI 300 0 (x7 + (1 : Int32)).toNatClampNeg) (1 : Int32) (30 : Int32) g33) ?_
      refine oX_if_eq (tgt := 218) dX1_opera_180 (by decide) (fun c34 => ?_) (fun c34 => ?_)
      · have hm := ifp c34 hm
        obtain ⟨hr, rfl⟩ := oEnd hm
        exact oX_sub [] rfl (oX_z (hx2 (FI, GR, BR, AN, C) hr))
      · have hm := ifn c34 hm
        refine oX_aload_n dX1_opera_183 rfl rfl ?_
        refine oX_getF fX1_9 rfl oDs0 dX1_opera_184 (ohF300 s28) ?_
        refine oX_iload dX1_opera_187 rfl ?_
        refine oX_iconst (v := (2 : Int32)) dX1_opera_189 (by decide) ?_
        refine oX_iadd dX1_opera_190 ?_
        obtain ⟨g35, hm⟩ := gd_s hm
        refine oX_bald oDs300 (oIn (ohN300 s28) g35) dX1_opera_191 ?_
        refine oX_iconst (v := (0 : Int32)) dX1_opera_192 (by decide) ?_
        refine oX_iconst (v := (5 : Int32)) dX1_opera_193 (by decide) ?_
        obtain ⟨r36, g36, hm⟩ := bd_s hm
        refine oX_cS (as := [vI (AI 300 0 (x7 + (2 : Int32)).toNatClampNeg), vI (0 : Int32), vI (5 : Int32)]) dX1_opera_194 rfl ok_X1_isIn rfl rfl q421 q238 q129 q239 (by decide) (Nat.le_of_ble_eq_true rfl) (t_X1_isIn (AI 300 0 (x7 + (2 : Int32)).toNatClampNeg) (0 : Int32) (5 : Int32) g36) ?_
        refine oX_if_eq (tgt := 218) dX1_opera_197 (by decide) (fun c37 => ?_) (fun c37 => ?_)
        · have hm := ifp c37 hm
          obtain ⟨hr, rfl⟩ := oEnd hm
          exact oX_sub [] rfl (oX_z (hx2 (FI, GR, BR, AN, C) hr))
        · have hm := ifn c37 hm
          refine oX_aload_n dX1_opera_200 rfl rfl ?_
          refine oX_getF fX1_9 rfl oDs0 dX1_opera_201 (ohF300 s28) ?_
          refine oX_iload dX1_opera_204 rfl ?_
          refine oX_iconst (v := (3 : Int32)) dX1_opera_206 (by decide) ?_
          refine oX_iadd dX1_opera_207 ?_
          obtain ⟨g38, hm⟩ := gd_s hm
          refine oX_bald oDs300 (oIn (ohN300 s28) g38) dX1_opera_208 ?_
          refine oX_iconst (v := (0 : Int32)) dX1_opera_209 (by decide) ?_
          refine oX_bipush (v := (9 : Int32)) dX1_opera_210 (by decide) ?_
          obtain ⟨r39, g39, hm⟩ := bd_s hm
          refine oX_cS (as := [vI (AI 300 0 (x7 + (3 : Int32)).toNatClampNeg), vI (0 : Int32), vI (9 : Int32)]) dX1_opera_212 rfl ok_X1_isIn rfl rfl q421 q238 q129 q239 (by decide) (Nat.le_of_ble_eq_true rfl) (t_X1_isIn (AI 300 0 (x7 + (3 : Int32)).toNatClampNeg) (0 : Int32) (9 : Int32) g39) ?_
          refine oX_if_ne (tgt := 220) dX1_opera_215 (by decide) (fun c40 => ?_) (fun c40 => ?_)
          · have hm := ifp c40 hm
            obtain ⟨hr, rfl⟩ := oEnd hm
            exact oX_sub [] rfl (oX_z (hx2 (FI, GR, BR, AN, C) hr))
          · have hm := ifn c40 hm
            refine oX_aload dX1_opera_220 rfl ?_
            obtain ⟨a41, e41, hm⟩ := bd_s hm
            refine oX_getF fX1_137 rfl e41 dX1_opera_222 rfl ?_
            obtain ⟨FI42, hFI42, hm⟩ := oLs hm
            obtain ⟨C42, hC42, hm⟩ := oLs hm
            refine oX_cost hm (fun qq42 hm => ?_)
            refine oX_newI (s9 := 7) (k := oPl qq42 k) nX1_140 rfl (by decide) dX1_opera_225 hFI42 hC42 ?_
            refine oX_dup dX1_opera_228 trivial ?_
            refine oX_aload_n dX1_opera_229 rfl rfl ?_
            refine oX_getF fX1_9 rfl oDs0 dX1_opera_230 (ohF300 s28) ?_
            refine oX_iload dX1_opera_233 rfl ?_
            obtain ⟨g43, hm⟩ := gd_s hm
            refine oX_bald oDs300 (oIn (ohN300 s28) g43) dX1_opera_235 ?_
            refine oX_aload_n dX1_opera_236 rfl rfl ?_
            refine oX_getF fX1_9 rfl oDs0 dX1_opera_237 (ohF300 s28) ?_
            refine oX_iload dX1_opera_240 rfl ?_
            refine oX_iconst (v := (1 : Int32)) dX1_opera_242 (by decide) ?_
            refine oX_iadd dX1_opera_243 ?_
            obtain ⟨g44, hm⟩ := gd_s hm
            refine oX_bald oDs300 (oIn (ohN300 s28) g44) dX1_opera_244 ?_
            refine oX_aload_n dX1_opera_245 rfl rfl ?_
            refine oX_getF fX1_9 rfl oDs0 dX1_opera_246 (ohF300 s28) ?_
            refine oX_iload dX1_opera_249 rfl ?_
            refine oX_iconst (v := (2 : Int32)) dX1_opera_251 (by decide) ?_
            refine oX_iadd dX1_opera_252 ?_
            obtain ⟨g45, hm⟩ := gd_s hm
            refine oX_bald oDs300 (oIn (ohN300 s28) g45) dX1_opera_253 ?_
            refine oX_aload_n dX1_opera_254 rfl rfl ?_
            refine oX_getF fX1_9 rfl oDs0 dX1_opera_255 (ohF300 s28) ?_
            refine oX_iload dX1_opera_258 rfl ?_
            refine oX_iconst (v := (3 : Int32)) dX1_opera_260 (by decide) ?_
            refine oX_iadd dX1_opera_261 ?_
            obtain ⟨g46, hm⟩ := gd_s hm
            refine oX_bald oDs300 (oIn (ohN300 s28) g46) dX1_opera_262 ?_
            obtain ⟨r47, g47, hm⟩ := bd_s hm
            refine oX_cI (as := [vI (AI 300 0 x7.toNatClampNeg), vI (AI 300 0 (x7 + (1 : Int32)).toNatClampNeg), vI (AI 300 0 (x7 + (2 : Int32)).toNatClampNeg), vI (AI 300 0 (x7 + (3 : Int32)).toNatClampNeg)]) dX1_opera_263 rfl ok_X6_init rfl rfl rfl q474 q475 q138 q476 (by decide) (Nat.le_of_ble_eq_true rfl) (t_X6_init (7, C 7) rfl (AI 300 0 x7.toNatClampNeg) (AI 300 0 (x7 + (1 : Int32)).toNatClampNeg) (AI 300 0 (x7 + (2 : Int32)).toNatClampNeg) (AI 300 0 (x7 + (3 : Int32)).toNatClampNeg) g47) ?_
            obtain ⟨a48, e48, hm⟩ := bd_s hm
            obtain ⟨r49, g49, hm⟩ := bd_s hm
            refine oX_cost hm (fun qq49 hm => ?_)
            refine oX_cVK (as := [vR (some (7, C 7))]) dX1_opera_266 rfl e48 rfl (by decide) rfl ok_J2_add rfl rfl q496 q497 q498 q132 q499 (by decide) (Nat.le_of_ble_eq_true rfl) (t_J2_add a48 ((oD_some e48).2) (some (7, C 7)) g49) (Nat.le_refl _) (Nat.le_refl _) ?_
            refine oX_pop dX1_opera_269 trivial ?_
            refine oX_iinc (v := x7 + (4 : Int32)) (ls' := [(7, vI (x7 + (4 : Int32))), (0, vR (some (0, 0))), (5, vI x5), (6, vR x6)]) dX1_opera_270 rfl rfl (by decide) rfl ?_
            refine oX_goto (tgt := 143) dX1_opera_273 (by decide) ?_
            obtain ⟨hr, rfl⟩ := oEnd hm
            exact oX_sub [1, 2, 3, 0] rfl (oX_z (hk (x7 + (4 : Int32), r49.1.2.1, r49.1.2.2.1, r49.1.2.2.2.1, r49.1.2.2.2.2.1, r49.1.2.2.2.2.2) hr))
theorem l_mX1_opera_b143 {G : OhG} {FL : OhL} {FR : OhQ} {AI : OhI} {AL : OhL} {AR : OhQ} {k : Nat × Nat} {Φ : OhP} {Ψ : OhX} (n : Nat) (x5 : Int32) (x6 : OhR) : ∀ (f : Nat) (x7 : Int32) (FI : OhI) (GR : OhQ) (BR : OhQ) (AN : OhN) (C : OhC) (b : (((OhI × OhQ × OhQ × OhN × OhC) ⊕ (OhI × OhQ × OhQ × OhN × OhC))) × (Nat × Nat)), lpK (fun v => mX1_opera_b143 n v.2.1 FR v.2.2.1 AI AR v.2.2.2.1 v.2.2.2.2.1 v.2.2.2.2.2 x5 x6 v.1) f (x7, FI, GR, BR, AN, C) = some b → (∀ v : OhI × OhQ × OhQ × OhN × OhC, b.1 = (.inl v) → oX G 8 iX1_opera 276 [(0, vR (some (0, 0))), (6, vR x6)] [] (v.1, FL, FR, v.2.1, AI, AL, AR, v.2.2.1, v.2.2.2.1, v.2.2.2.2) k Φ Ψ) → (∀ v : OhI × OhQ × OhQ × OhN × OhC, b.1 = (.inr v) → oX G 8 iX1_opera 218 [] [] (v.1, FL, FR, v.2.1, AI, AL, AR, v.2.2.1, v.2.2.2.1, v.2.2.2.2) k Φ Ψ) → oX G 8 iX1_opera 143 [(0, vR (some (0, 0))), (5, vI x5), (6, vR x6), (7, vI x7)] [] (FI, FL, FR, GR, AI, AL, AR, BR, AN, C) (oPl b.2 k) Φ Ψ := by
  intro f
  induction f with
  | zero =>
    intro x7 FI GR BR AN C b hm
    cases hm
  | succ f ih =>
    intro x7 FI GR BR AN C b hm hx1 hx2
    obtain ⟨⟨r, q⟩, hr, hm⟩ := lk_s hm
    rcases r with v | v
    · obtain ⟨c, hm, hb⟩ := hm
      rw [hb, oPl_assoc]
      refine x_mX1_opera_b143 n x5 x6 x7 hr (fun v9 e => ?_) (fun v9 e => by cases e) (fun v9 e => by cases e)
      cases e; exact ih v.1 v.2.1 v.2.2.1 v.2.2.2.1 v.2.2.2.2.1 v.2.2.2.2.2 (b.1, c) hm hx1 hx2
    · cases (show b = (v, q) from hm)
      refine x_mX1_opera_b143 n x5 x6 x7 hr (fun v9 e => by cases e) (fun v9 e => ?_) (fun v9 e => ?_)
      · cases e; exact hx1 v9 rfl
      · cases e; exact hx2 v9 rfl
noncomputable def mX1_opera (n : Nat) (FI : OhI) (FR : OhQ) (GR : OhQ) (AI : OhI) (AR : OhQ) (BR : OhQ) (AN : OhN) (C : OhC) (x1 : Int32) (x2 : Int32) (x3 : Int32) (x4 : Int32) : Option ((Int32 × OhI × OhQ × OhQ × OhI × OhQ × OhN × OhC) × (Nat × Nat)) :=
  (mX1_take FI).bind fun r1 =>
  gd (ohShH FR AR AN) <|
  (mJ2_size r1.2 (309, 0)).bind fun r3 =>
  (if r3 = (9 : Int32) then
  some (((-1 : Int32), r1.2, FR, GR, AI, BR, AN, C), (0, 0))
else
  (mX1_isIn x1 (2 : Int32) (6 : Int32)).bind fun r5 =>
    (if r5 = 0 then
    some (((-1 : Int32), r1.2, FR, GR, AI, BR, AN, C), (0, 0))
  else
    (mX1_isIn x2 (0 : Int32) (3 : Int32)).bind fun r7 =>
      (if r7 = 0 then
      some (((-1 : Int32), r1.2, FR, GR, AI, BR, AN, C), (0, 0))
    else
      (mX1_isIn x4 (1 : Int32) (60 : Int32)).bind fun r9 =>
        (if r9 = 0 then
        some (((-1 : Int32), r1.2, FR, GR, AI, BR, AN, C), (0, 0))
      else
        (if (r1.1 - r1.1 / (4 : Int32) * (4 : Int32)) = 0 then
          (mX1_isIn (r1.1 / (4 : Int32)) (2 : Int32) (9 : Int32)).bind fun r12 =>
            (if r12 = 0 then
            some (((-1 : Int32), r1.2, FR, GR, AI, BR, AN, C), (0, 0))
          else
            oLet (sA r1.2 4 (C 4) (fun _ => 0)) fun FI14 =>
              oLet (sA FR 4 (C 4) (fun _ => none)) fun FR14 =>
              oLet (uA C 4 (C 4 + 1)) fun C14 =>
              oCost (1, 7) <|
              gd (ohShH FR14 AR AN) <|
              (mJ2_size FI14 (309, 0)).bind fun r16 =>
              (mX5_init FI14 FR14 GR AI AN C14 (4, C 4) r16 x1 x2 x3 x4).bind fun r17 =>
              oCost r17.2 <|
              (lpK (fun v => mX1_opera_b94 n r17.1.1 r17.1.2.1 r17.1.2.2.1 v.2 AR BR r17.1.2.2.2.2.1 r17.1.2.2.2.2.2 r1.1 (some (4, C 4)) v.1) n ((0 : Int32), r17.1.2.2.2.1)).bind fun b26 => oCost b26.2 <| (Sum.elim (fun v26 => (lpK (fun v => mX1_opera_b143 n v.2.1 r17.1.2.1 v.2.2.1 v26 AR v.2.2.2.1 v.2.2.2.2.1 v.2.2.2.2.2 r1.1 (some (4, C 4)) v.1) n ((4 : Int32), r17.1.1, r17.1.2.2.1, BR, r17.1.2.2.2.2.1, r17.1.2.2.2.2.2)).bind fun b50 => oCost b50.2 <| (Sum.elim (fun v50 => gd (ohShH r17.1.2.1 AR v50.2.2.2.1) <|
              (mJ2_add v50.1 v50.2.1 v50.2.2.1 v50.2.2.2.1 v50.2.2.2.2 (309, 0) (some (4, C 4))).bind fun r52 =>
              oCost r52.2 <|
              oLet (sA r52.1.2.1 0 0 (uA (r52.1.2.1 0 0) 6 ((r52.1.2.1 0 0 6) + (1 : Int32)))) fun FI53 =>
              some ((FI53 4 (C 4) 0, FI53, r17.1.2.1, r52.1.2.2.1, v26, r52.1.2.2.2.1, r52.1.2.2.2.2.1, r52.1.2.2.2.2.2), (0, 0))) (fun v50 => some (((-1 : Int32), v50.1, r17.1.2.1, v50.2.1, v26, v50.2.2.1, v50.2.2.2.1, v50.2.2.2.2), (0, 0)))) b50.1) (fun v26 => some (((-1 : Int32), r17.1.1, r17.1.2.1, r17.1.2.2.1, v26, BR, r17.1.2.2.2.2.1, r17.1.2.2.2.2.2), (0, 0)))) b26.1)
        else
          some (((-1 : Int32), r1.2, FR, GR, AI, BR, AN, C), (0, 0)))))))
theorem x_mX1_opera {G : OhG} {FI AI : OhI} {FL AL : OhL} {FR GR AR BR : OhQ} {AN : OhN} {C : OhC} {k : Nat × Nat} {Φ : OhP} {Ψ : OhX} (n : Nat) (x1 : Int32) (x2 : Int32) (x3 : Int32) (x4 : Int32) {r : (Int32 × OhI × OhQ × OhQ × OhI × OhQ × OhN × OhC) × (Nat × Nat)} (hm : mX1_opera n FI FR GR AI AR BR AN C x1 x2 x3 x4 = some r) (hK : Φ (some (vI r.1.1)) (r.1.2.1, FL, r.1.2.2.1, r.1.2.2.2.1, r.1.2.2.2.2.1, AL, AR, r.1.2.2.2.2.2.1, r.1.2.2.2.2.2.2.1, r.1.2.2.2.2.2.2.2)) : oX G 8 iX1_opera 0 [(0, vR (some (0, 0))), (1, vI x1), (2, vI x2), (3, vI x3), (4, vI x4)] [] (FI, FL, FR, GR, AI, AL, AR, BR, AN, C) (oPl r.2 k) Φ Ψ := by
  obtain ⟨r, q0⟩ := r
  unfold mX1_opera at hm
  refine oX_aload_n dX1_opera_0 rfl rfl ?_
  obtain ⟨r1, g1, hm⟩ := bd_s hm
  refine oX_cV (as := []) dX1_opera_1 rfl oDs0 rfl (by decide) rfl ok_X1_take rfl rfl q426 q428 qs3 q129 q429 (by decide) (Nat.le_of_ble_eq_true rfl) (t_X1_take g1) ?_
  refine oX_istore (ls' := [(5, vI r1.1), (0, vR (some (0, 0))), (1, vI x1), (2, vI x2), (3, vI x3), (4, vI x4)]) dX1_opera_4 (by decide) rfl ?_
  refine oX_aload_n dX1_opera_6 rfl rfl ?_
  obtain ⟨s2, hm⟩ := gd_s hm
  refine oX_getF fX1_30 rfl oDs0 dX1_opera_7 (ohF309 s2) ?_
  obtain ⟨r3, g3, hm⟩ := bd_s hm
  refine oX_cV (as := []) dX1_opera_10 rfl oDs309 rfl (by decide) rfl ok_J2_size rfl rfl q430 q431 q432 q132 q433 (by decide) (Nat.le_of_ble_eq_true rfl) (t_J2_size (309, 0) rfl g3) ?_
  refine oX_bipush (v := (9 : Int32)) dX1_opera_13 (by decide) ?_
  refine oX_icmp_eq (tgt := 68) dX1_opera_15 (by decide) (fun c4 => ?_) (fun c4 => ?_)
  · have hm := ifp c4 hm
    refine oX_iconst (v := (-1 : Int32)) dX1_opera_68 (by decide) ?_
    obtain ⟨rfl, rfl⟩ := oEnd hm
    exact oX_iret dX1_opera_69 rfl rfl hK
  · have hm := ifn c4 hm
    refine oX_iload_n dX1_opera_18 rfl rfl ?_
    refine oX_iconst (v := (2 : Int32)) dX1_opera_19 (by decide) ?_
    refine oX_bipush (v := (6 : Int32)) dX1_opera_20 (by decide) ?_
    obtain ⟨r5, g5, hm⟩ := bd_s hm
    refine oX_cS (as := [vI x1, vI (2 : Int32), vI (6 : Int32)]) dX1_opera_22 rfl ok_X1_isIn rfl rfl q421 q238 q129 q239 (by decide) (Nat.le_of_ble_eq_true rfl) (t_X1_isIn x1 (2 : Int32) (6 : Int32) g5) ?_
    refine oX_if_eq (tgt := 68) dX1_opera_25 (by decide) (fun c6 => ?_) (fun c6 => ?_)
    · have hm := ifp c6 hm
      refine oX_iconst (v := (-1 : Int32)) dX1_opera_68 (by decide) ?_
      obtain ⟨rfl, rfl⟩ := oEnd hm
      exact oX_iret dX1_opera_69 rfl rfl hK
    · have hm := ifn c6 hm
      refine oX_iload_n dX1_opera_28 rfl rfl ?_
      refine oX_iconst (v := (0 : Int32)) dX1_opera_29 (by decide) ?_
      refine oX_iconst (v := (3 : Int32)) dX1_opera_30 (by decide) ?_
      obtain ⟨r7, g7, hm⟩ := bd_s hm
      refine oX_cS (as := [vI x2, vI (0 : Int32), vI (3 : Int32)]) dX1_opera_31 rfl ok_X1_isIn rfl rfl q421 q238 q129 q239 (by decide) (Nat.le_of_ble_eq_true rfl) (t_X1_isIn x2 (0 : Int32) (3 : Int32) g7) ?_
      refine oX_if_eq (tgt := 68) dX1_opera_34 (by decide) (fun c8 => ?_) (fun c8 => ?_)
      · have hm := ifp c8 hm
        refine oX_iconst (v := (-1 : Int32)) dX1_opera_68 (by decide) ?_
        obtain ⟨rfl, rfl⟩ := oEnd hm
        exact oX_iret dX1_opera_69 rfl rfl hK
      · have hm := ifn c8 hm
        refine oX_iload dX1_opera_37 rfl ?_
        refine oX_iconst (v := (1 : Int32)) dX1_opera_39 (by decide) ?_
        refine oX_bipush (v := (60 : Int32)) dX1_opera_40 (by decide) ?_
        obtain ⟨r9, g9, hm⟩ := bd_s hm
        refine oX_cS (as := [vI x4, vI (1 : Int32), vI (60 : Int32)]) dX1_opera_42 rfl ok_X1_isIn rfl rfl q421 q238 q129 q239 (by decide) (Nat.le_of_ble_eq_true rfl) (t_X1_isIn x4 (1 : Int32) (60 : Int32) g9) ?_
        refine oX_if_eq (tgt := 68) dX1_opera_45 (by decide) (fun c10 => ?_) (fun c10 => ?_)
        · have hm := ifp c10 hm
          refine oX_iconst (v := (-1 : Int32)) dX1_opera_68 (by decide) ?_
          obtain ⟨rfl, rfl⟩ := oEnd hm
          exact oX_iret dX1_opera_69 rfl rfl hK
        · have hm := ifn c10 hm
          refine oX_iload dX1_opera_48 rfl ?_
          refine oX_iconst (v := (4 : Int32)) dX1_opera_50 (by decide) ?_
          refine oX_irem dX1_opera_51 (by decide) ?_
          refine oX_if_ne (tgt := 68) dX1_opera_52 (by decide) (fun c11 => ?_) (fun c11 => ?_)
          · have hm := ifp c11 hm
            refine oX_iload dX1_opera_55 rfl ?_
            refine oX_iconst (v := (4 : Int32)) dX1_opera_57 (by decide) ?_
            refine oX_idiv dX1_opera_58 (by decide) ?_
            refine oX_iconst (v := (2 : Int32)) dX1_opera_59 (by decide) ?_
            refine oX_bipush (v := (9 : Int32)) dX1_opera_60 (by decide) ?_
            obtain ⟨r12, g12, hm⟩ := bd_s hm
            refine oX_cS (as := [vI (r1.1 / (4 : Int32)), vI (2 : Int32), vI (9 : Int32)]) dX1_opera_62 rfl ok_X1_isIn rfl rfl q421 q238 q129 q239 (by decide) (Nat.le_of_ble_eq_true rfl) (t_X1_isIn (r1.1 / (4 : Int32)) (2 : Int32) (9 : Int32) g12) ?_
            refine oX_if_ne (tgt := 70) dX1_opera_65 (by decide) (fun c13 => ?_) (fun c13 => ?_)
            · have hm := ifp c13 hm
              refine oX_iconst (v := (-1 : Int32)) dX1_opera_68 (by decide) ?_
              obtain ⟨rfl, rfl⟩ := oEnd hm
              exact oX_iret dX1_opera_69 rfl rfl hK
            · have hm := ifn c13 hm
              obtain ⟨FI14, hFI14, hm⟩ := oLs hm
              obtain ⟨FR14, hFR14, hm⟩ := oLs hm
              obtain ⟨C14, hC14, hm⟩ := oLs hm
              refine oX_cost hm (fun qq14 hm => ?_)
              refine oX_newIF (s9 := 4) (k := oPl qq14 k) nX1_129 rfl (by decide) dX1_opera_70 hFI14 hFR14 hC14 ?_
              refine oX_dup dX1_opera_73 trivial ?_
              refine oX_aload_n dX1_opera_74 rfl rfl ?_
              obtain ⟨s15, hm⟩ := gd_s hm
              refine oX_getF fX1_30 rfl oDs0 dX1_opera_75 (ohF309 s15) ?_
              obtain ⟨r16, g16, hm⟩ := bd_s hm
              refine oX_cV (as := []) dX1_opera_78 rfl oDs309 rfl (by decide) rfl ok_J2_size rfl rfl q430 q431 q432 q132 q433 (by decide) (Nat.le_of_ble_eq_true rfl) (t_J2_size (309, 0) rfl g16) ?_
              refine oX_iload_n dX1_opera_81 rfl rfl ?_
              refine oX_iload_n dX1_opera_82 rfl rfl ?_
              refine oX_iload_n dX1_opera_83 rfl rfl ?_
              refine oX_iload dX1_opera_84 rfl ?_
              obtain ⟨r17, g17, hm⟩ := bd_s hm
              refine oX_cost hm (fun qq17 hm => ?_)
              refine oX_cIK (as := [vI r16, vI x1, vI x2, vI x3, vI x4]) dX1_opera_86 rfl ok_X5_init rfl rfl rfl q436 q437 q137 q438 (by decide) (Nat.le_of_ble_eq_true rfl) (t_X5_init (4, C 4) rfl r16 x1 x2 x3 x4 g17) (Nat.le_refl _) (Nat.le_refl _) ?_
              refine oX_astore (ls' := [(6, vR (some (4, C 4))), (5, vI r1.1), (0, vR (some (0, 0))), (1, vI x1), (2, vI x2), (3, vI x3), (4, vI x4)]) dX1_opera_89 (by decide) rfl ?_
              refine oX_iconst (v := (0 : Int32)) dX1_opera_91 (by decide) ?_
              refine oX_istore (ls' := [(7, vI (0 : Int32)), (6, vR (some (4, C 4))), (5, vI r1.1), (0, vR (some (0, 0))), (1, vI x1), (2, vI x2), (3, vI x3), (4, vI x4)]) dX1_opera_92 (by decide) rfl ?_
              obtain ⟨b26, g26, hm⟩ := bd_s hm
              refine oX_cost hm (fun qq26 hm => ?_)
              refine oX_sub [3, 2, 1, 0] rfl (l_mX1_opera_b94 n r1.1 (some (4, C 4)) n (0 : Int32) r17.1.2.2.2.1 _ g26 (fun v26 e26 => ?_) (fun v26 e26 => ?_))
              · skip
                rw [e26] at hm
                have hm := el1 hm
                refine oX_iconst (v := (4 : Int32)) dX1_opera_140 (by decide) ?_
                refine oX_istore (ls' := [(7, vI (4 : Int32)), (0, vR (some (0, 0))), (5, vI r1.1), (6, vR (some (4, C 4)))]) dX1_opera_141 (by decide) rfl ?_
                obtain ⟨b50, g50, hm⟩ := bd_s hm
                refine oX_cost hm (fun qq50 hm => ?_)
                refine oX_sub [1, 2, 3, 0] rfl (l_mX1_opera_b143 n r1.1 (some (4, C 4)) n (4 : Int32) r17.1.1 r17.1.2.2.1 BR r17.1.2.2.2.2.1 r17.1.2.2.2.2.2 _ g50 (fun v50 e50 => ?_) (fun v50 e50 => ?_))
                · skip
                  rw [e50] at hm
                  have hm := el1 hm
                  refine oX_aload_n dX1_opera_276 rfl rfl ?_
                  obtain ⟨s51, hm⟩ := gd_s hm
                  refine oX_getF fX1_30 rfl oDs0 dX1_opera_277 (ohF309 s51) ?_
                  refine oX_aload dX1_opera_280 rfl ?_
                  obtain ⟨r52, g52, hm⟩ := bd_s hm
                  refine oX_cost hm (fun qq52 hm => ?_)
                  refine oX_cVK (as := [vR (some (4, C 4))]) dX1_opera_282 rfl oDs309 rfl (by decide) rfl ok_J2_add rfl rfl q496 q497 q498 q132 q499 (by decide) (Nat.le_of_ble_eq_true rfl) (t_J2_add (309, 0) rfl (some (4, C 4)) g52) (Nat.le_refl _) (Nat.le_refl _) ?_
                  refine oX_pop dX1_opera_285 trivial ?_
                  refine oX_aload_n dX1_opera_286 rfl rfl ?_
                  refine oX_dup dX1_opera_287 trivial ?_
                  refine oX_getI fX1_119 rfl oDs0 dX1_opera_288 ?_
                  refine oX_iconst (v := (1 : Int32)) dX1_opera_291 (by decide) ?_
                  refine oX_iadd dX1_opera_292 ?_
                  obtain ⟨FI53, hFI53, hm⟩ := oLs hm
                  refine oX_putI fX1_119 rfl (fun h9 => by cases h9) oDs0 dX1_opera_293 ⟨rfl, rfl⟩ hFI53 ?_
                  refine oX_aload dX1_opera_296 rfl ?_
                  refine oX_getI fX1_149 rfl oDs4 dX1_opera_298 ?_
                  obtain ⟨rfl, rfl⟩ := oEnd hm
                  exact oX_iret dX1_opera_301 rfl rfl hK
                · skip
                  rw [e50] at hm
                  have hm := el2 hm
                  refine oX_iconst (v := (-1 : Int32)) dX1_opera_218 (by decide) ?_
                  obtain ⟨rfl, rfl⟩ := oEnd hm
                  exact oX_iret dX1_opera_219 rfl rfl hK
              · skip
                rw [e26] at hm
                have hm := el2 hm
                refine oX_iconst (v := (-1 : Int32)) dX1_opera_132 (by decide) ?_
                obtain ⟨rfl, rfl⟩ := oEnd hm
                exact oX_iret dX1_opera_133 rfl rfl hK
          · have hm := ifn c11 hm
            refine oX_iconst (v := (-1 : Int32)) dX1_opera_68 (by decide) ?_
            obtain ⟨rfl, rfl⟩ := oEnd hm
            exact oX_iret dX1_opera_69 rfl rfl hK
theorem t_X1_opera {G : OhG} {FI AI : OhI} {FL AL : OhL} {FR GR AR BR : OhQ} {AN : OhN} {C : OhC} (n : Nat) (x1 : Int32) (x2 : Int32) (x3 : Int32) (x4 : Int32) {o : (Int32 × OhI × OhQ × OhQ × OhI × OhQ × OhN × OhC) × (Nat × Nat)} (hm : mX1_opera n FI FR GR AI AR BR AN C x1 x2 x3 x4 = some o) : oT G 8 iX1_opera [vR (some (0, 0)), vI x1, vI x2, vI x3, vI x4] (FI, FL, FR, GR, AI, AL, AR, BR, AN, C) o.2 (fun v h => v = (some (vI o.1.1)) ∧ h = (o.1.2.1, FL, o.1.2.2.1, o.1.2.2.2.1, o.1.2.2.2.2.1, AL, AR, o.1.2.2.2.2.2.1, o.1.2.2.2.2.2.2.1, o.1.2.2.2.2.2.2.2)) ohNo :=
  oT_of (by decide) rfl (Nat.le_of_ble_eq_true rfl) (x_mX1_opera (k := (0, 0)) n x1 x2 x3 x4 hm ⟨rfl, rfl⟩)
