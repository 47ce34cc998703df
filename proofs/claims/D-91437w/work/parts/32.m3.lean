/-! MIRRORS of OperaHouseModel, 60 to 107: printed by gen/mk_model.py -/
abbrev iX4_numberOf : OhM := (yX4_numberOf, cX4_numberOf, 6, (some .int), [])
theorem ok_X4_numberOf : oOk iX4_numberOf 4 := ⟨by decide, by decide, by decide +kernel⟩

noncomputable def mX4_numberOf (n : Nat) (FR : OhQ) (AI : OhI) (AN : OhN) (x1 : Int32) (x2 : Int32) (x3 : Int32) (x4 : Int32) : Option (Int32) :=
  (if x3 = (7 : Int32) then
  (mX4_longOf FR AI AN x2).bind fun r2 =>
    some r2
else
  (if x4 = 0 then
    some (0 : Int32)
  else
    (if x3 = (8 : Int32) then
      gd (vp_in x2 66) <|
        (if (AI 163 0 x2.toNatClampNeg) = (3 : Int32) then
        (mX4_nights n FR AI AN x1 x2 (1000 : Int32)).bind fun r7 =>
          some r7
      else
        some (0 : Int32))
    else
      (mX4_dayHours n FR AI AN x1 x2).bind fun r8 =>
        gd (vp_in (((4 : Int32) * x1) + (1 : Int32)) 84) <|
        (if (r8 - (AI 125 0 (((4 : Int32) * x1) + (1 : Int32)).toNatClampNeg)) ≤ 0 then
        some (0 : Int32)
      else
        some (r8 - (AI 125 0 (((4 : Int32) * x1) + (1 : Int32)).toNatClampNeg))))))
theorem x_mX4_numberOf {G : OhG} {FI AI : OhI} {FL AL : OhL} {FR GR AR BR : OhQ} {AN : OhN} {C : OhC} {k : Nat × Nat} {Φ : OhP} {Ψ : OhX} (hM : ohShM FR AN) (n : Nat) (x1 : Int32) (x2 : Int32) (x3 : Int32) (x4 : Int32) {r : Int32} (hm : mX4_numberOf n FR AI AN x1 x2 x3 x4 = some r) (hK : Φ (some (vI r)) (FI, FL, FR, GR, AI, AL, AR, BR, AN, C)) : oX G 3 iX4_numberOf 0 [(0, vR (some (1, 0))), (1, vI x1), (2, vI x2), (3, vI x3), (4, vI x4)] [] (FI, FL, FR, GR, AI, AL, AR, BR, AN, C) k Φ Ψ := by
  unfold mX4_numberOf at hm
  refine oX_iload_n dX4_numberOf_0 rfl rfl ?_
  refine oX_bipush (v := (7 : Int32)) dX4_numberOf_1 (by decide) ?_
  refine oX_icmp_ne (tgt := 12) dX4_numberOf_3 (by decide) (fun c1 => ?_) (fun c1 => ?_)
  · have hm := ifp c1 hm
    refine oX_aload_n dX4_numberOf_6 rfl rfl ?_
    refine oX_iload_n dX4_numberOf_7 rfl rfl ?_
    obtain ⟨r2, g2, hm⟩ := bd_s hm
    refine oX_cV (as := [vI x2]) dX4_numberOf_8 rfl oDs1 rfl (by decide) rfl ok_X4_longOf rfl rfl q2229 q2231 qs89 q136 q2232 (by decide) (Nat.le_of_ble_eq_true rfl) (t_X4_longOf hM x2 g2) ?_
    obtain rfl := Option.some.inj hm
    exact oX_iret dX4_numberOf_11 rfl rfl hK
  · have hm := ifn c1 hm
    refine oX_iload dX4_numberOf_12 rfl ?_
    refine oX_if_ne (tgt := 19) dX4_numberOf_14 (by decide) (fun c3 => ?_) (fun c3 => ?_)
    · have hm := ifp c3 hm
      refine oX_iconst (v := (0 : Int32)) dX4_numberOf_17 (by decide) ?_
      obtain rfl := Option.some.inj hm
      exact oX_iret dX4_numberOf_18 rfl rfl hK
    · have hm := ifn c3 hm
      refine oX_iload_n dX4_numberOf_19 rfl rfl ?_
      refine oX_bipush (v := (8 : Int32)) dX4_numberOf_20 (by decide) ?_
      refine oX_icmp_ne (tgt := 49) dX4_numberOf_22 (by decide) (fun c4 => ?_) (fun c4 => ?_)
      · have hm := ifp c4 hm
        refine oX_aload_n dX4_numberOf_25 rfl rfl ?_
        refine oX_getF fX4_145 rfl oDs1 dX4_numberOf_26 (ohF163 hM) ?_
        refine oX_iload_n dX4_numberOf_29 rfl rfl ?_
        obtain ⟨g5, hm⟩ := gd_s hm
        refine oX_iald oDs163 (oIn (ohN163 hM) g5) dX4_numberOf_30 ?_
        refine oX_iconst (v := (3 : Int32)) dX4_numberOf_31 (by decide) ?_
        refine oX_icmp_ne (tgt := 47) dX4_numberOf_32 (by decide) (fun c6 => ?_) (fun c6 => ?_)
        · have hm := ifp c6 hm
          refine oX_aload_n dX4_numberOf_35 rfl rfl ?_
          refine oX_iload_n dX4_numberOf_36 rfl rfl ?_
          refine oX_iload_n dX4_numberOf_37 rfl rfl ?_
          refine oX_sipush (v := (1000 : Int32)) dX4_numberOf_38 (by decide) ?_
          obtain ⟨r7, g7, hm⟩ := bd_s hm
          refine oX_cV (as := [vI x1, vI x2, vI (1000 : Int32)]) dX4_numberOf_41 rfl oDs1 rfl (by decide) rfl ok_X4_nights rfl rfl q2277 q2279 qs99 q136 q2280 (by decide) (Nat.le_of_ble_eq_true rfl) (t_X4_nights hM n x1 x2 (1000 : Int32) g7) ?_
          refine oX_goto (tgt := 48) dX4_numberOf_44 (by decide) ?_
          obtain rfl := Option.some.inj hm
          exact oX_iret dX4_numberOf_48 rfl rfl hK
        · have hm := ifn c6 hm
          refine oX_iconst (v := (0 : Int32)) dX4_numberOf_47 (by decide) ?_
          obtain rfl := Option.some.inj hm
          exact oX_iret dX4_numberOf_48 rfl rfl hK
      · have hm := ifn c4 hm
        refine oX_aload_n dX4_numberOf_49 rfl rfl ?_
        refine oX_iload_n dX4_numberOf_50 rfl rfl ?_
        refine oX_iload_n dX4_numberOf_51 rfl rfl ?_
        obtain ⟨r8, g8, hm⟩ := bd_s hm
        refine oX_cV (as := [vI x1, vI x2]) dX4_numberOf_52 rfl oDs1 rfl (by decide) rfl ok_X4_dayHours rfl rfl q2281 q2283 qs100 q136 q2284 (by decide) (Nat.le_of_ble_eq_true rfl) (t_X4_dayHours hM n x1 x2 g8) ?_
        refine oX_aload_n dX4_numberOf_55 rfl rfl ?_
        refine oX_getF fX4_64 rfl oDs1 dX4_numberOf_56 (ohF125 hM) ?_
        refine oX_iconst (v := (4 : Int32)) dX4_numberOf_59 (by decide) ?_
        refine oX_iload_n dX4_numberOf_60 rfl rfl ?_
        refine oX_imul dX4_numberOf_61 ?_
        refine oX_iconst (v := (1 : Int32)) dX4_numberOf_62 (by decide) ?_
        refine oX_iadd dX4_numberOf_63 ?_
        obtain ⟨g9, hm⟩ := gd_s hm
        refine oX_iald oDs125 (oIn (ohN125 hM) g9) dX4_numberOf_64 ?_
        refine oX_isub dX4_numberOf_65 ?_
        refine oX_istore (ls' := [(5, vI (r8 - (AI 125 0 (((4 : Int32) * x1) + (1 : Int32)).toNatClampNeg))), (0, vR (some (1, 0))), (1, vI x1), (2, vI x2), (3, vI x3), (4, vI x4)]) dX4_numberOf_66 (by decide) rfl ?_
        refine oX_iload dX4_numberOf_68 rfl ?_
        refine oX_if_le (tgt := 78) dX4_numberOf_70 (by decide) (fun c10 => ?_) (fun c10 => ?_)
        · have hm := ifp c10 hm
          refine oX_iconst (v := (0 : Int32)) dX4_numberOf_78 (by decide) ?_
          obtain rfl := Option.some.inj hm
          exact oX_iret dX4_numberOf_79 rfl rfl hK
        · have hm := ifn c10 hm
          refine oX_iload dX4_numberOf_73 rfl ?_
          refine oX_goto (tgt := 79) dX4_numberOf_75 (by decide) ?_
          obtain rfl := Option.some.inj hm
          exact oX_iret dX4_numberOf_79 rfl rfl hK
theorem t_X4_numberOf {G : OhG} {FI AI : OhI} {FL AL : OhL} {FR GR AR BR : OhQ} {AN : OhN} {C : OhC} (hM : ohShM FR AN) (n : Nat) (x1 : Int32) (x2 : Int32) (x3 : Int32) (x4 : Int32) {o : Int32} (hm : mX4_numberOf n FR AI AN x1 x2 x3 x4 = some o) : oT G 3 iX4_numberOf [vR (some (1, 0)), vI x1, vI x2, vI x3, vI x4] (FI, FL, FR, GR, AI, AL, AR, BR, AN, C) (0, 0) (fun v h => v = (some (vI o)) ∧ h = (FI, FL, FR, GR, AI, AL, AR, BR, AN, C)) ohNo :=
  oT_of (by decide) rfl (Nat.le_of_ble_eq_true rfl) (x_mX4_numberOf hM n x1 x2 x3 x4 hm ⟨rfl, rfl⟩)
abbrev iX4_isSo : OhM := (yX4_isSo, cX4_isSo, 10, (some .boolean), [])
theorem ok_X4_isSo : oOk iX4_isSo 5 := ⟨by decide, by decide, by decide +kernel⟩

noncomputable def mX4_isSo_j64 (n : Nat) (FR : OhQ) (AI : OhI) (AN : OhN) (x1 : Int32) (x2 : Int32) (x4 : Int32) (x5 : Int32) (x6 : Int32) (x7 : Int32) (y1 : Int32) (y2 : Int32) : Option ((Int32 × Int32 × OhI) ⊕ (Int32 × OhI)) :=
  gd (vp_in y1 64) <|
  oLet (sA AI 179 0 (uA (AI 179 0) y1.toNatClampNeg (vp_nar .boolean y2))) fun AI6 =>
  some (.inl (x6, x7 + (1 : Int32), AI6))
theorem x_mX4_isSo_j64 {G : OhG} {FI AI : OhI} {FL AL : OhL} {FR GR AR BR : OhQ} {AN : OhN} {C : OhC} {k : Nat × Nat} {Φ : OhP} {Ψ : OhX} (hM : ohShM FR AN) (n : Nat) (x1 : Int32) (x2 : Int32) (x4 : Int32) (x5 : Int32) (x6 : Int32) (x7 : Int32) (y1 : Int32) (y2 : Int32) {r : (Int32 × Int32 × OhI) ⊕ (Int32 × OhI)} (hm : mX4_isSo_j64 n FR AI AN x1 x2 x4 x5 x6 x7 y1 y2 = some r) (hk : ∀ v : Int32 × Int32 × OhI, r = .inl v → oX G 4 iX4_isSo 11 [(0, vR (some (1, 0))), (1, vI x1), (2, vI x2), (4, vI x4), (5, vI x5), (6, vI v.1), (7, vI v.2.1)] [] (FI, FL, FR, GR, v.2.2, AL, AR, BR, AN, C) k Φ Ψ) (hx1 : ∀ v : Int32 × OhI, r = .inr v → oX G 4 iX4_isSo 300 [(0, vR (some (1, 0))), (6, vI v.1)] [] (FI, FL, FR, GR, v.2, AL, AR, BR, AN, C) k Φ Ψ) : oX G 4 iX4_isSo 64 [(0, vR (some (1, 0))), (1, vI x1), (2, vI x2), (4, vI x4), (5, vI x5), (6, vI x6), (7, vI x7)] [vI y2, vI y1, vR (some (179, 0))] (FI, FL, FR, GR, AI, AL, AR, BR, AN, C) k Φ Ψ := by
  unfold mX4_isSo_j64 at hm
  obtain ⟨g6, hm⟩ := gd_s hm
  obtain ⟨AI6, hAI6, hm⟩ := oLs hm
  refine oX_zast oDs179 (oIn (ohN179 hM) g6) dX4_isSo_64 hAI6 ?_
  refine oX_goto (tgt := 294) dX4_isSo_65 (by decide) ?_
  refine oX_iinc (v := x7 + (1 : Int32)) (ls' := [(7, vI (x7 + (1 : Int32))), (0, vR (some (1, 0))), (1, vI x1), (2, vI x2), (4, vI x4), (5, vI x5), (6, vI x6)]) dX4_isSo_294 rfl rfl (by decide) rfl ?_
  refine oX_goto (tgt := 11) dX4_isSo_297 (by decide) ?_
  exact oX_sub [1, 2, 3, 4, 5, 6, 0] rfl (hk (x6, x7 + (1 : Int32), AI6) (Option.some.inj hm).symm)
noncomputable def mX4_isSo_j157 (n : Nat) (FR : OhQ) (AI : OhI) (AN : OhN) (x1 : Int32) (x2 : Int32) (x4 : Int32) (x5 : Int32) (x6 : Int32) (x7 : Int32) (y1 : Int32) (y2 : Int32) : Option ((Int32 × Int32 × OhI) ⊕ (Int32 × OhI)) :=
  gd (vp_in y1 64) <|
  oLet (sA AI 179 0 (uA (AI 179 0) y1.toNatClampNeg (vp_nar .boolean y2))) fun AI11 =>
  some (.inl (x6, x7 + (1 : Int32), AI11))
theorem x_mX4_isSo_j157 {G : OhG} {FI AI : OhI} {FL AL : OhL} {FR GR AR BR : OhQ} {AN : OhN} {C : OhC} {k : Nat × Nat} {Φ : OhP} {Ψ : OhX} (hM : ohShM FR AN) (n : Nat) (x1 : Int32) (x2 : Int32) (x4 : Int32) (x5 : Int32) (x6 : Int32) (x7 : Int32) (y1 : Int32) (y2 : Int32) {r : (Int32 × Int32 × OhI) ⊕ (Int32 × OhI)} (hm : mX4_isSo_j157 n FR AI AN x1 x2 x4 x5 x6 x7 y1 y2 = some r) (hk : ∀ v : Int32 × Int32 × OhI, r = .inl v → oX G 4 iX4_isSo 11 [(0, vR (some (1, 0))), (1, vI x1), (2, vI x2), (4, vI x4), (5, vI x5), (6, vI v.1), (7, vI v.2.1)] [] (FI, FL, FR, GR, v.2.2, AL, AR, BR, AN, C) k Φ Ψ) (hx1 : ∀ v : Int32 × OhI, r = .inr v → oX G 4 iX4_isSo 300 [(0, vR (some (1, 0))), (6, vI v.1)] [] (FI, FL, FR, GR, v.2, AL, AR, BR, AN, C) k Φ Ψ) : oX G 4 iX4_isSo 157 [(0, vR (some (1, 0))), (1, vI x1), (2, vI x2), (4, vI x4), (5, vI x5), (6, vI x6), (7, vI x7)] [vI y2, vI y1, vR (some (179, 0))] (FI, FL, FR, GR, AI, AL, AR, BR, AN, C) k Φ Ψ := by
  unfold mX4_isSo_j157 at hm
  obtain ⟨g11, hm⟩ := gd_s hm
  obtain ⟨AI11, hAI11, hm⟩ := oLs hm
  refine oX_zast oDs179 (oIn (ohN179 hM) g11) dX4_isSo_157 hAI11 ?_
  refine oX_goto (tgt := 294) dX4_isSo_158 (by decide) ?_
  refine oX_iinc (v := x7 + (1 : Int32)) (ls' := [(7, vI (x7 + (1 : Int32))), (0, vR (some (1, 0))), (1, vI x1), (2, vI x2), (4, vI x4), (5, vI x5), (6, vI x6)]) dX4_isSo_294 rfl rfl (by decide) rfl ?_
  refine oX_goto (tgt := 11) dX4_isSo_297 (by decide) ?_
  exact oX_sub [1, 2, 3, 4, 5, 6, 0] rfl (hk (x6, x7 + (1 : Int32), AI11) (Option.some.inj hm).symm)
noncomputable def mX4_isSo_j126 (n : Nat) (FR : OhQ) (AI : OhI) (AN : OhN) (x1 : Int32) (x2 : Int32) (x4 : Int32) (x5 : Int32) (x6 : Int32) (x7 : Int32) (y1 : Int32) : Option ((Int32 × Int32 × OhI) ⊕ (Int32 × OhI)) :=
  mX4_isSo_j157 n FR AI AN x1 x2 x4 x5 x6 x7 y1 (0 : Int32)
theorem x_mX4_isSo_j126 {G : OhG} {FI AI : OhI} {FL AL : OhL} {FR GR AR BR : OhQ} {AN : OhN} {C : OhC} {k : Nat × Nat} {Φ : OhP} {Ψ : OhX} (hM : ohShM FR AN) (n : Nat) (x1 : Int32) (x2 : Int32) (x4 : Int32) (x5 : Int32) (x6 : Int32) (x7 : Int32) (y1 : Int32) {r : (Int32 × Int32 × OhI) ⊕ (Int32 × OhI)} (hm : mX4_isSo_j126 n FR AI AN x1 x2 x4 x5 x6 x7 y1 = some r) (hk : ∀ v : Int32 × Int32 × OhI, r = .inl v → oX G 4 iX4_isSo 11 [(0, vR (some (1, 0))), (1, vI x1), (2, vI x2), (4, vI x4), (5, vI x5), (6, vI v.1), (7, vI v.2.1)] [] (FI, FL, FR, GR, v.2.2, AL, AR, BR, AN, C) k Φ Ψ) (hx1 : ∀ v : Int32 × OhI, r = .inr v → oX G 4 iX4_isSo 300 [(0, vR (some (1, 0))), (6, vI v.1)] [] (FI, FL, FR, GR, v.2, AL, AR, BR, AN, C) k Φ Ψ) : oX G 4 iX4_isSo 126 [(0, vR (some (1, 0))), (1, vI x1), (2, vI x2), (4, vI x4), (5, vI x5), (6, vI x6), (7, vI x7)] [vI y1, vR (some (179, 0))] (FI, FL, FR, GR, AI, AL, AR, BR, AN, C) k Φ Ψ := by
  unfold mX4_isSo_j126 at hm
  refine oX_iconst (v := (0 : Int32)) dX4_isSo_126 (by decide) ?_
  refine oX_goto (tgt := 157) dX4_isSo_127 (by decide) ?_
  exact oX_sub [0, 1, 2, 3, 4, 5, 6] rfl (x_mX4_isSo_j157 hM n x1 x2 x4 x5 x6 x7 y1 (0 : Int32) hm hk hx1)
noncomputable def mX4_isSo_j152 (n : Nat) (FR : OhQ) (AI : OhI) (AN : OhN) (x1 : Int32) (x2 : Int32) (x4 : Int32) (x5 : Int32) (x6 : Int32) (x7 : Int32) (y1 : Int32) : Option ((Int32 × Int32 × OhI) ⊕ (Int32 × OhI)) :=
  mX4_isSo_j157 n FR AI AN x1 x2 x4 x5 x6 x7 y1 (1 : Int32)
theorem x_mX4_isSo_j152 {G : OhG} {FI AI : OhI} {FL AL : OhL} {FR GR AR BR : OhQ} {AN : OhN} {C : OhC} {k : Nat × Nat} {Φ : OhP} {Ψ : OhX} (hM : ohShM FR AN) (n : Nat) (x1 : Int32) (x2 : Int32) (x4 : Int32) (x5 : Int32) (x6 : Int32) (x7 : Int32) (y1 : Int32) {r : (Int32 × Int32 × OhI) ⊕ (Int32 × OhI)} (hm : mX4_isSo_j152 n FR AI AN x1 x2 x4 x5 x6 x7 y1 = some r) (hk : ∀ v : Int32 × Int32 × OhI, r = .inl v → oX G 4 iX4_isSo 11 [(0, vR (some (1, 0))), (1, vI x1), (2, vI x2), (4, vI x4), (5, vI x5), (6, vI v.1), (7, vI v.2.1)] [] (FI, FL, FR, GR, v.2.2, AL, AR, BR, AN, C) k Φ Ψ) (hx1 : ∀ v : Int32 × OhI, r = .inr v → oX G 4 iX4_isSo 300 [(0, vR (some (1, 0))), (6, vI v.1)] [] (FI, FL, FR, GR, v.2, AL, AR, BR, AN, C) k Φ Ψ) : oX G 4 iX4_isSo 152 [(0, vR (some (1, 0))), (1, vI x1), (2, vI x2), (4, vI x4), (5, vI x5), (6, vI x6), (7, vI x7)] [vI y1, vR (some (179, 0))] (FI, FL, FR, GR, AI, AL, AR, BR, AN, C) k Φ Ψ := by
  unfold mX4_isSo_j152 at hm
  refine oX_iconst (v := (1 : Int32)) dX4_isSo_152 (by decide) ?_
  refine oX_goto (tgt := 157) dX4_isSo_153 (by decide) ?_
  exact oX_sub [0, 1, 2, 3, 4, 5, 6] rfl (x_mX4_isSo_j157 hM n x1 x2 x4 x5 x6 x7 y1 (1 : Int32) hm hk hx1)
noncomputable def mX4_isSo_j82 (n : Nat) (FR : OhQ) (AI : OhI) (AN : OhN) (x1 : Int32) (x2 : Int32) (x4 : Int32) (x5 : Int32) (x6 : Int32) (x7 : Int32) (x8 : Int32) : Option ((Int32 × Int32 × OhI) ⊕ (Int32 × OhI)) :=
  (if x8 = (21 : Int32) then
  gd (vp_in ((x6 + (-1 : Int32)) - (1 : Int32)) 64) <|
    (if (AI 179 0 ((x6 + (-1 : Int32)) - (1 : Int32)).toNatClampNeg) = 0 then
    mX4_isSo_j126 n FR AI AN x1 x2 x4 x5 (x6 + (-1 : Int32)) x7 ((x6 + (-1 : Int32)) - (1 : Int32))
  else
    gd (vp_in (x6 + (-1 : Int32)) 64) <|
      (if (AI 179 0 (x6 + (-1 : Int32)).toNatClampNeg) = 0 then
      mX4_isSo_j126 n FR AI AN x1 x2 x4 x5 (x6 + (-1 : Int32)) x7 ((x6 + (-1 : Int32)) - (1 : Int32))
    else
      mX4_isSo_j157 n FR AI AN x1 x2 x4 x5 (x6 + (-1 : Int32)) x7 ((x6 + (-1 : Int32)) - (1 : Int32)) (1 : Int32)))
else
  gd (vp_in ((x6 + (-1 : Int32)) - (1 : Int32)) 64) <|
    (if (AI 179 0 ((x6 + (-1 : Int32)) - (1 : Int32)).toNatClampNeg) = 0 then
    gd (vp_in (x6 + (-1 : Int32)) 64) <|
      (if (AI 179 0 (x6 + (-1 : Int32)).toNatClampNeg) = 0 then
      mX4_isSo_j157 n FR AI AN x1 x2 x4 x5 (x6 + (-1 : Int32)) x7 ((x6 + (-1 : Int32)) - (1 : Int32)) (0 : Int32)
    else
      mX4_isSo_j152 n FR AI AN x1 x2 x4 x5 (x6 + (-1 : Int32)) x7 ((x6 + (-1 : Int32)) - (1 : Int32)))
  else
    mX4_isSo_j152 n FR AI AN x1 x2 x4 x5 (x6 + (-1 : Int32)) x7 ((x6 + (-1 : Int32)) - (1 : Int32))))
theorem x_mX4_isSo_j82 {G : OhG} {FI AI : OhI} {FL AL : OhL} {FR GR AR BR : OhQ} {AN : OhN} {C : OhC} {k : Nat × Nat} {Φ : OhP} {Ψ : OhX} (hM : ohShM FR AN) (n : Nat) (x1 : Int32) (x2 : Int32) (x4 : Int32) (x5 : Int32) (x6 : Int32) (x7 : Int32) (x8 : Int32) {r : (Int32 × Int32 × OhI) ⊕ (Int32 × OhI)} (hm : mX4_isSo_j82 n FR AI AN x1 x2 x4 x5 x6 x7 x8 = some r) (hk : ∀ v : Int32 × Int32 × OhI, r = .inl v → oX G 4 iX4_isSo 11 [(0, vR (some (1, 0))), (1, vI x1), (2, vI x2), (4, vI x4), (5, vI x5), (6, vI v.1), (7, vI v.2.1)] [] (FI, FL, FR, GR, v.2.2, AL, AR, BR, AN, C) k Φ Ψ) (hx1 : ∀ v : Int32 × OhI, r = .inr v → oX G 4 iX4_isSo 300 [(0, vR (some (1, 0))), (6, vI v.1)] [] (FI, FL, FR, GR, v.2, AL, AR, BR, AN, C) k Φ Ψ) : oX G 4 iX4_isSo 82 [(0, vR (some (1, 0))), (1, vI x1), (2, vI x2), (4, vI x4), (5, vI x5), (6, vI x6), (7, vI x7), (8, vI x8)] [] (FI, FL, FR, GR, AI, AL, AR, BR, AN, C) k Φ Ψ := by
  unfold mX4_isSo_j82 at hm
  refine oX_iinc (v := x6 + (-1 : Int32)) (ls' := [(6, vI (x6 + (-1 : Int32))), (0, vR (some (1, 0))), (1, vI x1), (2, vI x2), (4, vI x4), (5, vI x5), (7, vI x7), (8, vI x8)]) dX4_isSo_82 rfl rfl (by decide) rfl ?_
  refine oX_aload_n dX4_isSo_85 rfl rfl ?_
  refine oX_getF fX4_175 rfl oDs1 dX4_isSo_86 (ohF179 hM) ?_
  refine oX_iload dX4_isSo_89 rfl ?_
  refine oX_iconst (v := (1 : Int32)) dX4_isSo_91 (by decide) ?_
  refine oX_isub dX4_isSo_92 ?_
  refine oX_iload dX4_isSo_93 rfl ?_
  refine oX_bipush (v := (21 : Int32)) dX4_isSo_95 (by decide) ?_
  refine oX_icmp_ne (tgt := 130) dX4_isSo_97 (by decide) (fun c8 => ?_) (fun c8 => ?_)
  · have hm := ifp c8 hm
    refine oX_aload_n dX4_isSo_100 rfl rfl ?_
    refine oX_getF fX4_175 rfl oDs1 dX4_isSo_101 (ohF179 hM) ?_
    refine oX_iload dX4_isSo_104 rfl ?_
    refine oX_iconst (v := (1 : Int32)) dX4_isSo_106 (by decide) ?_
    refine oX_isub dX4_isSo_107 ?_
    obtain ⟨g9, hm⟩ := gd_s hm
    refine oX_zald oDs179 (oIn (ohN179 hM) g9) dX4_isSo_108 ?_
    refine oX_if_eq (tgt := 126) dX4_isSo_109 (by decide) (fun c10 => ?_) (fun c10 => ?_)
    · have hm := ifp c10 hm
      exact oX_sub [1, 2, 3, 4, 5, 0, 6] rfl (x_mX4_isSo_j126 hM n x1 x2 x4 x5 (x6 + (-1 : Int32)) x7 ((x6 + (-1 : Int32)) - (1 : Int32)) hm hk hx1)
    · have hm := ifn c10 hm
      refine oX_aload_n dX4_isSo_112 rfl rfl ?_
      refine oX_getF fX4_175 rfl oDs1 dX4_isSo_113 (ohF179 hM) ?_
      refine oX_iload dX4_isSo_116 rfl ?_
      obtain ⟨g12, hm⟩ := gd_s hm
      refine oX_zald oDs179 (oIn (ohN179 hM) g12) dX4_isSo_118 ?_
      refine oX_if_eq (tgt := 126) dX4_isSo_119 (by decide) (fun c13 => ?_) (fun c13 => ?_)
      · have hm := ifp c13 hm
        exact oX_sub [1, 2, 3, 4, 5, 0, 6] rfl (x_mX4_isSo_j126 hM n x1 x2 x4 x5 (x6 + (-1 : Int32)) x7 ((x6 + (-1 : Int32)) - (1 : Int32)) hm hk hx1)
      · have hm := ifn c13 hm
        refine oX_iconst (v := (1 : Int32)) dX4_isSo_122 (by decide) ?_
        refine oX_goto (tgt := 157) dX4_isSo_123 (by decide) ?_
        exact oX_sub [1, 2, 3, 4, 5, 0, 6] rfl (x_mX4_isSo_j157 hM n x1 x2 x4 x5 (x6 + (-1 : Int32)) x7 ((x6 + (-1 : Int32)) - (1 : Int32)) (1 : Int32) hm hk hx1)
  · have hm := ifn c8 hm
    refine oX_aload_n dX4_isSo_130 rfl rfl ?_
    refine oX_getF fX4_175 rfl oDs1 dX4_isSo_131 (ohF179 hM) ?_
    refine oX_iload dX4_isSo_134 rfl ?_
    refine oX_iconst (v := (1 : Int32)) dX4_isSo_136 (by decide) ?_
    refine oX_isub dX4_isSo_137 ?_
    obtain ⟨g14, hm⟩ := gd_s hm
    refine oX_zald oDs179 (oIn (ohN179 hM) g14) dX4_isSo_138 ?_
    refine oX_if_ne (tgt := 152) dX4_isSo_139 (by decide) (fun c15 => ?_) (fun c15 => ?_)
    · have hm := ifp c15 hm
      refine oX_aload_n dX4_isSo_142 rfl rfl ?_
      refine oX_getF fX4_175 rfl oDs1 dX4_isSo_143 (ohF179 hM) ?_
      refine oX_iload dX4_isSo_146 rfl ?_
      obtain ⟨g16, hm⟩ := gd_s hm
      refine oX_zald oDs179 (oIn (ohN179 hM) g16) dX4_isSo_148 ?_
      refine oX_if_eq (tgt := 156) dX4_isSo_149 (by decide) (fun c17 => ?_) (fun c17 => ?_)
      · have hm := ifp c17 hm
        refine oX_iconst (v := (0 : Int32)) dX4_isSo_156 (by decide) ?_
        exact oX_sub [1, 2, 3, 4, 5, 0, 6] rfl (x_mX4_isSo_j157 hM n x1 x2 x4 x5 (x6 + (-1 : Int32)) x7 ((x6 + (-1 : Int32)) - (1 : Int32)) (0 : Int32) hm hk hx1)
      · have hm := ifn c17 hm
        exact oX_sub [1, 2, 3, 4, 5, 0, 6] rfl (x_mX4_isSo_j152 hM n x1 x2 x4 x5 (x6 + (-1 : Int32)) x7 ((x6 + (-1 : Int32)) - (1 : Int32)) hm hk hx1)
    · have hm := ifn c15 hm
      exact oX_sub [1, 2, 3, 4, 5, 0, 6] rfl (x_mX4_isSo_j152 hM n x1 x2 x4 x5 (x6 + (-1 : Int32)) x7 ((x6 + (-1 : Int32)) - (1 : Int32)) hm hk hx1)
noncomputable def mX4_isSo_j290 (n : Nat) (FR : OhQ) (AI : OhI) (AN : OhN) (x1 : Int32) (x2 : Int32) (x4 : Int32) (x5 : Int32) (x6 : Int32) (x7 : Int32) (y1 : Int32) (y2 : Int32) : Option ((Int32 × Int32 × OhI) ⊕ (Int32 × OhI)) :=
  gd (vp_in y1 64) <|
  oLet (sA AI 179 0 (uA (AI 179 0) y1.toNatClampNeg (vp_nar .boolean y2))) fun AI25 =>
  some (.inl (x6 + (1 : Int32), x7 + (1 : Int32), AI25))
theorem x_mX4_isSo_j290 {G : OhG} {FI AI : OhI} {FL AL : OhL} {FR GR AR BR : OhQ} {AN : OhN} {C : OhC} {k : Nat × Nat} {Φ : OhP} {Ψ : OhX} (hM : ohShM FR AN) (n : Nat) (x1 : Int32) (x2 : Int32) (x4 : Int32) (x5 : Int32) (x6 : Int32) (x7 : Int32) (y1 : Int32) (y2 : Int32) {r : (Int32 × Int32 × OhI) ⊕ (Int32 × OhI)} (hm : mX4_isSo_j290 n FR AI AN x1 x2 x4 x5 x6 x7 y1 y2 = some r) (hk : ∀ v : Int32 × Int32 × OhI, r = .inl v → oX G 4 iX4_isSo 11 [(0, vR (some (1, 0))), (1, vI x1), (2, vI x2), (4, vI x4), (5, vI x5), (6, vI v.1), (7, vI v.2.1)] [] (FI, FL, FR, GR, v.2.2, AL, AR, BR, AN, C) k Φ Ψ) (hx1 : ∀ v : Int32 × OhI, r = .inr v → oX G 4 iX4_isSo 300 [(0, vR (some (1, 0))), (6, vI v.1)] [] (FI, FL, FR, GR, v.2, AL, AR, BR, AN, C) k Φ Ψ) : oX G 4 iX4_isSo 290 [(0, vR (some (1, 0))), (1, vI x1), (2, vI x2), (4, vI x4), (5, vI x5), (6, vI x6), (7, vI x7)] [vI y2, vI y1, vR (some (179, 0))] (FI, FL, FR, GR, AI, AL, AR, BR, AN, C) k Φ Ψ := by
  unfold mX4_isSo_j290 at hm
  obtain ⟨g25, hm⟩ := gd_s hm
  obtain ⟨AI25, hAI25, hm⟩ := oLs hm
  refine oX_zast oDs179 (oIn (ohN179 hM) g25) dX4_isSo_290 hAI25 ?_
  refine oX_iinc (v := x6 + (1 : Int32)) (ls' := [(6, vI (x6 + (1 : Int32))), (0, vR (some (1, 0))), (1, vI x1), (2, vI x2), (4, vI x4), (5, vI x5), (7, vI x7)]) dX4_isSo_291 rfl rfl (by decide) rfl ?_
  refine oX_iinc (v := x7 + (1 : Int32)) (ls' := [(7, vI (x7 + (1 : Int32))), (6, vI (x6 + (1 : Int32))), (0, vR (some (1, 0))), (1, vI x1), (2, vI x2), (4, vI x4), (5, vI x5)]) dX4_isSo_294 rfl rfl (by decide) rfl ?_
  refine oX_goto (tgt := 11) dX4_isSo_297 (by decide) ?_
  exact oX_sub [2, 3, 4, 5, 6, 1, 0] rfl (hk (x6 + (1 : Int32), x7 + (1 : Int32), AI25) (Option.some.inj hm).symm)
noncomputable def mX4_isSo_b11 (n : Nat) (FR : OhQ) (AI : OhI) (AN : OhN) (x1 : Int32) (x2 : Int32) (x4 : Int32) (x5 : Int32) (x6 : Int32) (x7 : Int32) : Option ((Int32 × Int32 × OhI) ⊕ (Int32 × OhI)) :=
  (if (((100 : Int32) * x1) + x4) ≤ x7 then
  some (.inr (x6, AI))
else
  gd (vp_in x7 2100) <|
    (if (AI 133 0 x7.toNatClampNeg) = (20 : Int32) then
    gd (vp_in (x6 - (1 : Int32)) 64) <|
      (if (AI 179 0 (x6 - (1 : Int32)).toNatClampNeg) = 0 then
      mX4_isSo_j64 n FR AI AN x1 x2 x4 x5 x6 x7 (x6 - (1 : Int32)) (1 : Int32)
    else
      mX4_isSo_j64 n FR AI AN x1 x2 x4 x5 x6 x7 (x6 - (1 : Int32)) (0 : Int32))
  else
    (if (AI 133 0 x7.toNatClampNeg) = (21 : Int32) then
      mX4_isSo_j82 n FR AI AN x1 x2 x4 x5 x6 x7 (AI 133 0 x7.toNatClampNeg)
    else
      (if (AI 133 0 x7.toNatClampNeg) = (22 : Int32) then
        mX4_isSo_j82 n FR AI AN x1 x2 x4 x5 x6 x7 (AI 133 0 x7.toNatClampNeg)
      else
        (if (7 : Int32) ≤ (AI 133 0 x7.toNatClampNeg) then
          (mX4_numberOf n FR AI AN x1 x2 (AI 133 0 x7.toNatClampNeg) x5).bind fun r20 =>
            gd (vp_in x7 2100) <|
            (if (AI 134 0 x7.toNatClampNeg) = (60 : Int32) then
            gd (vp_in x7 2100) <|
              (if (AI 135 0 x7.toNatClampNeg) ≤ r20 then
              mX4_isSo_j290 n FR AI AN x1 x2 x4 x5 x6 x7 x6 (0 : Int32)
            else
              mX4_isSo_j290 n FR AI AN x1 x2 x4 x5 x6 x7 x6 (1 : Int32))
          else
            gd (vp_in x7 2100) <|
              (if (AI 134 0 x7.toNatClampNeg) = (61 : Int32) then
              gd (vp_in x7 2100) <|
                (if r20 = (AI 135 0 x7.toNatClampNeg) then
                mX4_isSo_j290 n FR AI AN x1 x2 x4 x5 x6 x7 x6 (1 : Int32)
              else
                mX4_isSo_j290 n FR AI AN x1 x2 x4 x5 x6 x7 x6 (0 : Int32))
            else
              gd (vp_in x7 2100) <|
                (if r20 ≤ (AI 135 0 x7.toNatClampNeg) then
                mX4_isSo_j290 n FR AI AN x1 x2 x4 x5 x6 x7 x6 (0 : Int32)
              else
                mX4_isSo_j290 n FR AI AN x1 x2 x4 x5 x6 x7 x6 (1 : Int32))))
        else
          (mX4_asks n FR AI AN x1 x2 (AI 133 0 x7.toNatClampNeg) x5).bind fun r32 =>
            gd (vp_in x6 64) <|
            oLet (sA AI 179 0 (uA (AI 179 0) x6.toNatClampNeg (vp_nar .boolean r32))) fun AI33 =>
            some (.inl (x6 + (1 : Int32), x7 + (1 : Int32), AI33)))))))
theorem x_mX4_isSo_b11 {G : OhG} {FI AI : OhI} {FL AL : OhL} {FR GR AR BR : OhQ} {AN : OhN} {C : OhC} {k : Nat × Nat} {Φ : OhP} {Ψ : OhX} (hM : ohShM FR AN) (n : Nat) (x1 : Int32) (x2 : Int32) (x4 : Int32) (x5 : Int32) (x6 : Int32) (x7 : Int32) {r : (Int32 × Int32 × OhI) ⊕ (Int32 × OhI)} (hm : mX4_isSo_b11 n FR AI AN x1 x2 x4 x5 x6 x7 = some r) (hk : ∀ v : Int32 × Int32 × OhI, r = .inl v → oX G 4 iX4_isSo 11 [(0, vR (some (1, 0))), (1, vI x1), (2, vI x2), (4, vI x4), (5, vI x5), (6, vI v.1), (7, vI v.2.1)] [] (FI, FL, FR, GR, v.2.2, AL, AR, BR, AN, C) k Φ Ψ) (hx1 : ∀ v : Int32 × OhI, r = .inr v → oX G 4 iX4_isSo 300 [(0, vR (some (1, 0))), (6, vI v.1)] [] (FI, FL, FR, GR, v.2, AL, AR, BR, AN, C) k Φ Ψ) : oX G 4 iX4_isSo 11 [(0, vR (some (1, 0))), (1, vI x1), (2, vI x2), (4, vI x4), (5, vI x5), (6, vI x6), (7, vI x7)] [] (FI, FL, FR, GR, AI, AL, AR, BR, AN, C) k Φ Ψ := by
  unfold mX4_isSo_b11 at hm
  refine oX_iload dX4_isSo_11 rfl ?_
  refine oX_bipush (v := (100 : Int32)) dX4_isSo_13 (by decide) ?_
  refine oX_iload_n dX4_isSo_15 rfl rfl ?_
  refine oX_imul dX4_isSo_16 ?_
  refine oX_iload dX4_isSo_17 rfl ?_
  refine oX_iadd dX4_isSo_19 ?_
  refine oX_icmp_ge (tgt := 300) dX4_isSo_20 (by decide) (fun c1 => ?_) (fun c1 => ?_)
  · have hm := ifp c1 hm
    exact oX_sub [0, 5] rfl (hx1 (x6, AI) (Option.some.inj hm).symm)
  · have hm := ifn c1 hm
    refine oX_aload_n dX4_isSo_23 rfl rfl ?_
    refine oX_getF fX4_88 rfl oDs1 dX4_isSo_24 (ohF133 hM) ?_
    refine oX_iload dX4_isSo_27 rfl ?_
    obtain ⟨g2, hm⟩ := gd_s hm
    refine oX_iald oDs133 (oIn (ohN133 hM) g2) dX4_isSo_29 ?_
    refine oX_istore (ls' := [(8, vI (AI 133 0 x7.toNatClampNeg)), (0, vR (some (1, 0))), (1, vI x1), (2, vI x2), (4, vI x4), (5, vI x5), (6, vI x6), (7, vI x7)]) dX4_isSo_30 (by decide) rfl ?_
    refine oX_iload dX4_isSo_32 rfl ?_
    refine oX_bipush (v := (20 : Int32)) dX4_isSo_34 (by decide) ?_
    refine oX_icmp_ne (tgt := 68) dX4_isSo_36 (by decide) (fun c3 => ?_) (fun c3 => ?_)
    · have hm := ifp c3 hm
      refine oX_aload_n dX4_isSo_39 rfl rfl ?_
      refine oX_getF fX4_175 rfl oDs1 dX4_isSo_40 (ohF179 hM) ?_
      refine oX_iload dX4_isSo_43 rfl ?_
      refine oX_iconst (v := (1 : Int32)) dX4_isSo_45 (by decide) ?_
      refine oX_isub dX4_isSo_46 ?_
      refine oX_aload_n dX4_isSo_47 rfl rfl ?_
      refine oX_getF fX4_175 rfl oDs1 dX4_isSo_48 (ohF179 hM) ?_
      refine oX_iload dX4_isSo_51 rfl ?_
      refine oX_iconst (v := (1 : Int32)) dX4_isSo_53 (by decide) ?_
      refine oX_isub dX4_isSo_54 ?_
      obtain ⟨g4, hm⟩ := gd_s hm
      refine oX_zald oDs179 (oIn (ohN179 hM) g4) dX4_isSo_55 ?_
      refine oX_if_ne (tgt := 63) dX4_isSo_56 (by decide) (fun c5 => ?_) (fun c5 => ?_)
      · have hm := ifp c5 hm
        refine oX_iconst (v := (1 : Int32)) dX4_isSo_59 (by decide) ?_
        refine oX_goto (tgt := 64) dX4_isSo_60 (by decide) ?_
        exact oX_sub [1, 2, 3, 4, 5, 6, 7] rfl (x_mX4_isSo_j64 hM n x1 x2 x4 x5 x6 x7 (x6 - (1 : Int32)) (1 : Int32) hm hk hx1)
      · have hm := ifn c5 hm
        refine oX_iconst (v := (0 : Int32)) dX4_isSo_63 (by decide) ?_
        exact oX_sub [1, 2, 3, 4, 5, 6, 7] rfl (x_mX4_isSo_j64 hM n x1 x2 x4 x5 x6 x7 (x6 - (1 : Int32)) (0 : Int32) hm hk hx1)
    · have hm := ifn c3 hm
      refine oX_iload dX4_isSo_68 rfl ?_
      refine oX_bipush (v := (21 : Int32)) dX4_isSo_70 (by decide) ?_
      refine oX_icmp_eq (tgt := 82) dX4_isSo_72 (by decide) (fun c7 => ?_) (fun c7 => ?_)
      · have hm := ifp c7 hm
        exact oX_sub [1, 2, 3, 4, 5, 6, 7, 0] rfl (x_mX4_isSo_j82 hM n x1 x2 x4 x5 x6 x7 (AI 133 0 x7.toNatClampNeg) hm hk hx1)
      · have hm := ifn c7 hm
        refine oX_iload dX4_isSo_75 rfl ?_
        refine oX_bipush (v := (22 : Int32)) dX4_isSo_77 (by decide) ?_
        refine oX_icmp_ne (tgt := 161) dX4_isSo_79 (by decide) (fun c18 => ?_) (fun c18 => ?_)
        · have hm := ifp c18 hm
          exact oX_sub [1, 2, 3, 4, 5, 6, 7, 0] rfl (x_mX4_isSo_j82 hM n x1 x2 x4 x5 x6 x7 (AI 133 0 x7.toNatClampNeg) hm hk hx1)
        · have hm := ifn c18 hm
          refine oX_iload dX4_isSo_161 rfl ?_
          refine oX_bipush (v := (7 : Int32)) dX4_isSo_163 (by decide) ?_
          refine oX_icmp_ge (tgt := 191) dX4_isSo_165 (by decide) (fun c19 => ?_) (fun c19 => ?_)
          · have hm := ifp c19 hm
            refine oX_aload_n dX4_isSo_191 rfl rfl ?_
            refine oX_iload_n dX4_isSo_192 rfl rfl ?_
            refine oX_iload_n dX4_isSo_193 rfl rfl ?_
            refine oX_iload dX4_isSo_194 rfl ?_
            refine oX_iload dX4_isSo_196 rfl ?_
            obtain ⟨r20, g20, hm⟩ := bd_s hm
            refine oX_cV (as := [vI x1, vI x2, vI (AI 133 0 x7.toNatClampNeg), vI x5]) dX4_isSo_198 rfl oDs1 rfl (by decide) rfl ok_X4_numberOf rfl rfl q2273 q2275 qs98 q136 q2276 (by decide) (Nat.le_of_ble_eq_true rfl) (t_X4_numberOf hM n x1 x2 (AI 133 0 x7.toNatClampNeg) x5 g20) ?_
            refine oX_istore (ls' := [(9, vI r20), (8, vI (AI 133 0 x7.toNatClampNeg)), (0, vR (some (1, 0))), (1, vI x1), (2, vI x2), (4, vI x4), (5, vI x5), (6, vI x6), (7, vI x7)]) dX4_isSo_201 (by decide) rfl ?_
            refine oX_aload_n dX4_isSo_203 rfl rfl ?_
            refine oX_getF fX4_175 rfl oDs1 dX4_isSo_204 (ohF179 hM) ?_
            refine oX_iload dX4_isSo_207 rfl ?_
            refine oX_aload_n dX4_isSo_209 rfl rfl ?_
            refine oX_getF fX4_91 rfl oDs1 dX4_isSo_210 (ohF134 hM) ?_
            refine oX_iload dX4_isSo_213 rfl ?_
            obtain ⟨g21, hm⟩ := gd_s hm
            refine oX_iald oDs134 (oIn (ohN134 hM) g21) dX4_isSo_215 ?_
            refine oX_bipush (v := (60 : Int32)) dX4_isSo_216 (by decide) ?_
            refine oX_icmp_ne (tgt := 241) dX4_isSo_218 (by decide) (fun c22 => ?_) (fun c22 => ?_)
            · have hm := ifp c22 hm
              refine oX_iload dX4_isSo_221 rfl ?_
              refine oX_aload_n dX4_isSo_223 rfl rfl ?_
              refine oX_getF fX4_94 rfl oDs1 dX4_isSo_224 (ohF135 hM) ?_
              refine oX_iload dX4_isSo_227 rfl ?_
              obtain ⟨g23, hm⟩ := gd_s hm
              refine oX_iald oDs135 (oIn (ohN135 hM) g23) dX4_isSo_229 ?_
              refine oX_icmp_ge (tgt := 237) dX4_isSo_230 (by decide) (fun c24 => ?_) (fun c24 => ?_)
              · have hm := ifp c24 hm
                refine oX_iconst (v := (0 : Int32)) dX4_isSo_237 (by decide) ?_
                refine oX_goto (tgt := 290) dX4_isSo_238 (by decide) ?_
                exact oX_sub [2, 3, 4, 5, 6, 7, 8] rfl (x_mX4_isSo_j290 hM n x1 x2 x4 x5 x6 x7 x6 (0 : Int32) hm hk hx1)
              · have hm := ifn c24 hm
                refine oX_iconst (v := (1 : Int32)) dX4_isSo_233 (by decide) ?_
                refine oX_goto (tgt := 290) dX4_isSo_234 (by decide) ?_
                exact oX_sub [2, 3, 4, 5, 6, 7, 8] rfl (x_mX4_isSo_j290 hM n x1 x2 x4 x5 x6 x7 x6 (1 : Int32) hm hk hx1)
            · have hm := ifn c22 hm
              refine oX_aload_n dX4_isSo_241 rfl rfl ?_
              refine oX_getF fX4_91 rfl oDs1 dX4_isSo_242 (ohF134 hM) ?_
              refine oX_iload dX4_isSo_245 rfl ?_
              obtain ⟨g26, hm⟩ := gd_s hm
              refine oX_iald oDs134 (oIn (ohN134 hM) g26) dX4_isSo_247 ?_
              refine oX_bipush (v := (61 : Int32)) dX4_isSo_248 (by decide) ?_
              refine oX_icmp_ne (tgt := 273) dX4_isSo_250 (by decide) (fun c27 => ?_) (fun c27 => ?_)
              · have hm := ifp c27 hm
                refine oX_iload dX4_isSo_253 rfl ?_
                refine oX_aload_n dX4_isSo_255 rfl rfl ?_
                refine oX_getF fX4_94 rfl oDs1 dX4_isSo_256 (ohF135 hM) ?_
                refine oX_iload dX4_isSo_259 rfl ?_
                obtain ⟨g28, hm⟩ := gd_s hm
                refine oX_iald oDs135 (oIn (ohN135 hM) g28) dX4_isSo_261 ?_
                refine oX_icmp_ne (tgt := 269) dX4_isSo_262 (by decide) (fun c29 => ?_) (fun c29 => ?_)
                · have hm := ifp c29 hm
                  refine oX_iconst (v := (1 : Int32)) dX4_isSo_265 (by decide) ?_
                  refine oX_goto (tgt := 290) dX4_isSo_266 (by decide) ?_
                  exact oX_sub [2, 3, 4, 5, 6, 7, 8] rfl (x_mX4_isSo_j290 hM n x1 x2 x4 x5 x6 x7 x6 (1 : Int32) hm hk hx1)
                · have hm := ifn c29 hm
                  refine oX_iconst (v := (0 : Int32)) dX4_isSo_269 (by decide) ?_
                  refine oX_goto (tgt := 290) dX4_isSo_270 (by decide) ?_
                  exact oX_sub [2, 3, 4, 5, 6, 7, 8] rfl (x_mX4_isSo_j290 hM n x1 x2 x4 x5 x6 x7 x6 (0 : Int32) hm hk hx1)
              · have hm := ifn c27 hm
                refine oX_iload dX4_isSo_273 rfl ?_
                refine oX_aload_n dX4_isSo_275 rfl rfl ?_
                refine oX_getF fX4_94 rfl oDs1 dX4_isSo_276 (ohF135 hM) ?_
                refine oX_iload dX4_isSo_279 rfl ?_
                obtain ⟨g30, hm⟩ := gd_s hm
                refine oX_iald oDs135 (oIn (ohN135 hM) g30) dX4_isSo_281 ?_
                refine oX_icmp_le (tgt := 289) dX4_isSo_282 (by decide) (fun c31 => ?_) (fun c31 => ?_)
                · have hm := ifp c31 hm
                  refine oX_iconst (v := (0 : Int32)) dX4_isSo_289 (by decide) ?_
                  exact oX_sub [2, 3, 4, 5, 6, 7, 8] rfl (x_mX4_isSo_j290 hM n x1 x2 x4 x5 x6 x7 x6 (0 : Int32) hm hk hx1)
                · have hm := ifn c31 hm
                  refine oX_iconst (v := (1 : Int32)) dX4_isSo_285 (by decide) ?_
                  refine oX_goto (tgt := 290) dX4_isSo_286 (by decide) ?_
                  exact oX_sub [2, 3, 4, 5, 6, 7, 8] rfl (x_mX4_isSo_j290 hM n x1 x2 x4 x5 x6 x7 x6 (1 : Int32) hm hk hx1)
          · have hm := ifn c19 hm
            refine oX_aload_n dX4_isSo_168 rfl rfl ?_
            refine oX_getF fX4_175 rfl oDs1 dX4_isSo_169 (ohF179 hM) ?_
            refine oX_iload dX4_isSo_172 rfl ?_
            refine oX_aload_n dX4_isSo_174 rfl rfl ?_
            refine oX_iload_n dX4_isSo_175 rfl rfl ?_
            refine oX_iload_n dX4_isSo_176 rfl rfl ?_
            refine oX_iload dX4_isSo_177 rfl ?_
            refine oX_iload dX4_isSo_179 rfl ?_
            obtain ⟨r32, g32, hm⟩ := bd_s hm
            refine oX_cV (as := [vI x1, vI x2, vI (AI 133 0 x7.toNatClampNeg), vI x5]) dX4_isSo_181 rfl oDs1 rfl (by decide) rfl ok_X4_asks rfl rfl q2265 q2267 qs96 q136 q2268 (by decide) (Nat.le_of_ble_eq_true rfl) (t_X4_asks hM n x1 x2 (AI 133 0 x7.toNatClampNeg) x5 g32) ?_
            obtain ⟨g33, hm⟩ := gd_s hm
            obtain ⟨AI33, hAI33, hm⟩ := oLs hm
            refine oX_zast oDs179 (oIn (ohN179 hM) g33) dX4_isSo_184 hAI33 ?_
            refine oX_iinc (v := x6 + (1 : Int32)) (ls' := [(6, vI (x6 + (1 : Int32))), (8, vI (AI 133 0 x7.toNatClampNeg)), (0, vR (some (1, 0))), (1, vI x1), (2, vI x2), (4, vI x4), (5, vI x5), (7, vI x7)]) dX4_isSo_185 rfl rfl (by decide) rfl ?_
            refine oX_goto (tgt := 294) dX4_isSo_188 (by decide) ?_
            refine oX_iinc (v := x7 + (1 : Int32)) (ls' := [(7, vI (x7 + (1 : Int32))), (6, vI (x6 + (1 : Int32))), (8, vI (AI 133 0 x7.toNatClampNeg)), (0, vR (some (1, 0))), (1, vI x1), (2, vI x2), (4, vI x4), (5, vI x5)]) dX4_isSo_294 rfl rfl (by decide) rfl ?_
            refine oX_goto (tgt := 11) dX4_isSo_297 (by decide) ?_
            exact oX_sub [3, 4, 5, 6, 7, 1, 0] rfl (hk (x6 + (1 : Int32), x7 + (1 : Int32), AI33) (Option.some.inj hm).symm)
theorem l_mX4_isSo_b11 {G : OhG} {FI : OhI} {FL : OhL} {FR : OhQ} {GR : OhQ} {AL : OhL} {AR : OhQ} {BR : OhQ} {AN : OhN} {C : OhC} {k : Nat × Nat} {Φ : OhP} {Ψ : OhX} (hM : ohShM FR AN) (n : Nat) (x1 : Int32) (x2 : Int32) (x4 : Int32) (x5 : Int32) : ∀ (f : Nat) (x6 : Int32) (x7 : Int32) (AI : OhI) (b : (Int32 × OhI)), lpF (fun v => mX4_isSo_b11 n FR v.2.2 AN x1 x2 x4 x5 v.1 v.2.1) f (x6, x7, AI) = some b → (oX G 4 iX4_isSo 300 [(0, vR (some (1, 0))), (6, vI b.1)] [] (FI, FL, FR, GR, b.2, AL, AR, BR, AN, C) k Φ Ψ) → oX G 4 iX4_isSo 11 [(0, vR (some (1, 0))), (1, vI x1), (2, vI x2), (4, vI x4), (5, vI x5), (6, vI x6), (7, vI x7)] [] (FI, FL, FR, GR, AI, AL, AR, BR, AN, C) k Φ Ψ := by
  intro f
  induction f with
  | zero =>
    intro x6 x7 AI b hm
    cases hm
  | succ f ih =>
    intro x6 x7 AI b hm hx1
    obtain ⟨r, hr, hm⟩ := lp_s hm
    refine x_mX4_isSo_b11 hM n x1 x2 x4 x5 x6 x7 hr (fun v e => ?_) (fun v e => ?_)
    · subst e; exact ih v.1 v.2.1 v.2.2 _ hm hx1
    · subst e; cases (show v = b from hm); exact hx1
noncomputable def mX4_isSo (n : Nat) (FR : OhQ) (AI : OhI) (AN : OhN) (x1 : Int32) (x2 : Int32) (x3 : Int32) (x4 : Int32) (x5 : Int32) : Option (Int32 × OhI) :=
  (lpF (fun v => mX4_isSo_b11 n FR v.2.2 AN x1 x2 x4 x5 v.1 v.2.1) n ((0 : Int32), ((100 : Int32) * x1) + x3, AI)).bind fun v34 =>
  (if v34.1 = 0 then
  some ((1 : Int32), v34.2)
else
  gd (vp_in (0 : Int32) 64) <|
    (if (v34.2 179 0 (0 : Int32).toNatClampNeg) = 0 then
    some ((0 : Int32), v34.2)
  else
    some ((1 : Int32), v34.2)))
theorem x_mX4_isSo {G : OhG} {FI AI : OhI} {FL AL : OhL} {FR GR AR BR : OhQ} {AN : OhN} {C : OhC} {k : Nat × Nat} {Φ : OhP} {Ψ : OhX} (hM : ohShM FR AN) (n : Nat) (x1 : Int32) (x2 : Int32) (x3 : Int32) (x4 : Int32) (x5 : Int32) {r : Int32 × OhI} (hm : mX4_isSo n FR AI AN x1 x2 x3 x4 x5 = some r) (hK : Φ (some (vI r.1)) (FI, FL, FR, GR, r.2, AL, AR, BR, AN, C)) : oX G 4 iX4_isSo 0 [(0, vR (some (1, 0))), (1, vI x1), (2, vI x2), (3, vI x3), (4, vI x4), (5, vI x5)] [] (FI, FL, FR, GR, AI, AL, AR, BR, AN, C) k Φ Ψ := by
  unfold mX4_isSo at hm
  refine oX_iconst (v := (0 : Int32)) dX4_isSo_0 (by decide) ?_
  refine oX_istore (ls' := [(6, vI (0 : Int32)), (0, vR (some (1, 0))), (1, vI x1), (2, vI x2), (3, vI x3), (4, vI x4), (5, vI x5)]) dX4_isSo_1 (by decide) rfl ?_
  refine oX_bipush (v := (100 : Int32)) dX4_isSo_3 (by decide) ?_
  refine oX_iload_n dX4_isSo_5 rfl rfl ?_
  refine oX_imul dX4_isSo_6 ?_
  refine oX_iload_n dX4_isSo_7 rfl rfl ?_
  refine oX_iadd dX4_isSo_8 ?_
  refine oX_istore (ls' := [(7, vI (((100 : Int32) * x1) + x3)), (6, vI (0 : Int32)), (0, vR (some (1, 0))), (1, vI x1), (2, vI x2), (3, vI x3), (4, vI x4), (5, vI x5)]) dX4_isSo_9 (by decide) rfl ?_
  obtain ⟨v34, g34, hm⟩ := bd_s hm
  refine oX_sub [2, 3, 4, 6, 7, 1, 0] rfl (l_mX4_isSo_b11 hM n x1 x2 x4 x5 n (0 : Int32) (((100 : Int32) * x1) + x3) AI _ g34 ?_)
  refine oX_iload dX4_isSo_300 rfl ?_
  refine oX_if_eq (tgt := 314) dX4_isSo_302 (by decide) (fun c35 => ?_) (fun c35 => ?_)
  · have hm := ifp c35 hm
    refine oX_iconst (v := (1 : Int32)) dX4_isSo_314 (by decide) ?_
    refine oX_goto (tgt := 319) dX4_isSo_315 (by decide) ?_
    obtain rfl := Option.some.inj hm
    exact oX_iret dX4_isSo_319 rfl (by decide) hK
  · have hm := ifn c35 hm
    refine oX_aload_n dX4_isSo_305 rfl rfl ?_
    refine oX_getF fX4_175 rfl oDs1 dX4_isSo_306 (ohF179 hM) ?_
    refine oX_iconst (v := (0 : Int32)) dX4_isSo_309 (by decide) ?_
    obtain ⟨g36, hm⟩ := gd_s hm
    refine oX_zald oDs179 (oIn (ohN179 hM) g36) dX4_isSo_310 ?_
    refine oX_if_eq (tgt := 318) dX4_isSo_311 (by decide) (fun c37 => ?_) (fun c37 => ?_)
    · have hm := ifp c37 hm
      refine oX_iconst (v := (0 : Int32)) dX4_isSo_318 (by decide) ?_
      obtain rfl := Option.some.inj hm
      exact oX_iret dX4_isSo_319 rfl (by decide) hK
    · have hm := ifn c37 hm
      refine oX_iconst (v := (1 : Int32)) dX4_isSo_314 (by decide) ?_
      refine oX_goto (tgt := 319) dX4_isSo_315 (by decide) ?_
      obtain rfl := Option.some.inj hm
      exact oX_iret dX4_isSo_319 rfl (by decide) hK
theorem t_X4_isSo {G : OhG} {FI AI : OhI} {FL AL : OhL} {FR GR AR BR : OhQ} {AN : OhN} {C : OhC} (hM : ohShM FR AN) (n : Nat) (x1 : Int32) (x2 : Int32) (x3 : Int32) (x4 : Int32) (x5 : Int32) {o : Int32 × OhI} (hm : mX4_isSo n FR AI AN x1 x2 x3 x4 x5 = some o) : oT G 4 iX4_isSo [vR (some (1, 0)), vI x1, vI x2, vI x3, vI x4, vI x5] (FI, FL, FR, GR, AI, AL, AR, BR, AN, C) (0, 0) (fun v h => v = (some (vI o.1)) ∧ h = (FI, FL, FR, GR, o.2, AL, AR, BR, AN, C)) ohNo :=
  oT_of (by decide) rfl (Nat.le_of_ble_eq_true rfl) (x_mX4_isSo hM n x1 x2 x3 x4 x5 hm ⟨rfl, rfl⟩)
abbrev iX4_feeOf : OhM := (yX4_feeOf, cX4_feeOf, 6, (some .int), [])
theorem ok_X4_feeOf : oOk iX4_feeOf 2 := ⟨by decide, by decide, by decide +kernel⟩

noncomputable def mX4_feeOf_b45 (n : Nat) (FI : OhI) (FR : OhQ) (AI : OhI) (AN : OhN) (x1 : Int32) (x2 : Int32) (x3 : Int32) (x4 : Int32) (x5 : Int32) : Option ((Int32 × Int32 × OhI) ⊕ (Int32 × OhI)) :=
  gd (vp_in x1 21) <|
  (if (((8 : Int32) * x1) + (AI 129 0 x1.toNatClampNeg)) ≤ x5 then
  some (.inr (x4, AI))
else
  gd (vp_in x5 168) <|
    gd (vp_in x5 168) <|
    (mX4_isSo n FR AI AN x1 x2 (AI 131 0 x5.toNatClampNeg) (AI 132 0 x5.toNatClampNeg) x3).bind fun r12 =>
    (if r12.1 = 0 then
    some (.inl (x4 + (0 : Int32), x5 + (1 : Int32), r12.2))
  else
    gd (vp_in x5 168) <|
      some (.inl (x4 + (r12.2 130 0 x5.toNatClampNeg), x5 + (1 : Int32), r12.2))))
theorem x_mX4_feeOf_b45 {G : OhG} {FI AI : OhI} {FL AL : OhL} {FR GR AR BR : OhQ} {AN : OhN} {C : OhC} {k : Nat × Nat} {Φ : OhP} {Ψ : OhX} (hM : ohShM FR AN) (n : Nat) (x1 : Int32) (x2 : Int32) (x3 : Int32) (x4 : Int32) (x5 : Int32) {r : (Int32 × Int32 × OhI) ⊕ (Int32 × OhI)} (hm : mX4_feeOf_b45 n FI FR AI AN x1 x2 x3 x4 x5 = some r) (hk : ∀ v : Int32 × Int32 × OhI, r = .inl v → oX G 5 iX4_feeOf 45 [(0, vR (some (1, 0))), (1, vI x1), (2, vI x2), (3, vI x3), (4, vI v.1), (5, vI v.2.1)] [] (FI, FL, FR, GR, v.2.2, AL, AR, BR, AN, C) k Φ Ψ) (hx1 : ∀ v : Int32 × OhI, r = .inr v → oX G 5 iX4_feeOf 107 [(4, vI v.1)] [] (FI, FL, FR, GR, v.2, AL, AR, BR, AN, C) k Φ Ψ) : oX G 5 iX4_feeOf 45 [(0, vR (some (1, 0))), (1, vI x1), (2, vI x2), (3, vI x3), (4, vI x4), (5, vI x5)] [] (FI, FL, FR, GR, AI, AL, AR, BR, AN, C) k Φ Ψ := by
  unfold mX4_feeOf_b45 at hm
  refine oX_iload dX4_feeOf_45 rfl ?_
  refine oX_bipush (v := (8 : Int32)) dX4_feeOf_47 (by decide) ?_
  refine oX_iload_n dX4_feeOf_49 rfl rfl ?_
  refine oX_imul dX4_feeOf_50 ?_
  refine oX_aload_n dX4_feeOf_51 rfl rfl ?_
  refine oX_getF fX4_76 rfl oDs1 dX4_feeOf_52 (ohF129 hM) ?_
  refine oX_iload_n dX4_feeOf_55 rfl rfl ?_
  obtain ⟨g8, hm⟩ := gd_s hm
  refine oX_iald oDs129 (oIn (ohN129 hM) g8) dX4_feeOf_56 ?_
  refine oX_iadd dX4_feeOf_57 ?_
  refine oX_icmp_ge (tgt := 107) dX4_feeOf_58 (by decide) (fun c9 => ?_) (fun c9 => ?_)
  · have hm := ifp c9 hm
    exact oX_sub [4] rfl (hx1 (x4, AI) (Option.some.inj hm).symm)
  · have hm := ifn c9 hm
    refine oX_iload dX4_feeOf_61 rfl ?_
    refine oX_aload_n dX4_feeOf_63 rfl rfl ?_
    refine oX_iload_n dX4_feeOf_64 rfl rfl ?_
    refine oX_iload_n dX4_feeOf_65 rfl rfl ?_
    refine oX_aload_n dX4_feeOf_66 rfl rfl ?_
    refine oX_getF fX4_82 rfl oDs1 dX4_feeOf_67 (ohF131 hM) ?_
    refine oX_iload dX4_feeOf_70 rfl ?_
    obtain ⟨g10, hm⟩ := gd_s hm
    refine oX_iald oDs131 (oIn (ohN131 hM) g10) dX4_feeOf_72 ?_
    refine oX_aload_n dX4_feeOf_73 rfl rfl ?_
    refine oX_getF fX4_85 rfl oDs1 dX4_feeOf_74 (ohF132 hM) ?_
    refine oX_iload dX4_feeOf_77 rfl ?_
    obtain ⟨g11, hm⟩ := gd_s hm
    refine oX_iald oDs132 (oIn (ohN132 hM) g11) dX4_feeOf_79 ?_
    refine oX_iload_n dX4_feeOf_80 rfl rfl ?_
    obtain ⟨r12, g12, hm⟩ := bd_s hm
    refine oX_cV (as := [vI x1, vI x2, vI (AI 131 0 x5.toNatClampNeg), vI (AI 132 0 x5.toNatClampNeg), vI x3]) dX4_feeOf_81 rfl oDs1 rfl (by decide) rfl ok_X4_isSo rfl rfl q2261 q2263 qs95 q136 q2264 (by decide) (Nat.le_of_ble_eq_true rfl) (t_X4_isSo hM n x1 x2 (AI 131 0 x5.toNatClampNeg) (AI 132 0 x5.toNatClampNeg) x3 g12) ?_
    refine oX_if_eq (tgt := 97) dX4_feeOf_84 (by decide) (fun c13 => ?_) (fun c13 => ?_)
    · have hm := ifp c13 hm
      refine oX_iconst (v := (0 : Int32)) dX4_feeOf_97 (by decide) ?_
      refine oX_iadd dX4_feeOf_98 ?_
      refine oX_istore (ls' := [(4, vI (x4 + (0 : Int32))), (0, vR (some (1, 0))), (1, vI x1), (2, vI x2), (3, vI x3), (5, vI x5)]) dX4_feeOf_99 (by decide) rfl ?_
      refine oX_iinc (v := x5 + (1 : Int32)) (ls' := [(5, vI (x5 + (1 : Int32))), (4, vI (x4 + (0 : Int32))), (0, vR (some (1, 0))), (1, vI x1), (2, vI x2), (3, vI x3)]) dX4_feeOf_101 rfl rfl (by decide) rfl ?_
      refine oX_goto (tgt := 45) dX4_feeOf_104 (by decide) ?_
      exact oX_sub [2, 3, 4, 5, 1, 0] rfl (hk (x4 + (0 : Int32), x5 + (1 : Int32), r12.2) (Option.some.inj hm).symm)
    · have hm := ifn c13 hm
      refine oX_aload_n dX4_feeOf_87 rfl rfl ?_
      refine oX_getF fX4_79 rfl oDs1 dX4_feeOf_88 (ohF130 hM) ?_
      refine oX_iload dX4_feeOf_91 rfl ?_
      obtain ⟨g14, hm⟩ := gd_s hm
      refine oX_iald oDs130 (oIn (ohN130 hM) g14) dX4_feeOf_93 ?_
      refine oX_goto (tgt := 98) dX4_feeOf_94 (by decide) ?_
      refine oX_iadd dX4_feeOf_98 ?_
      refine oX_istore (ls' := [(4, vI (x4 + (r12.2 130 0 x5.toNatClampNeg))), (0, vR (some (1, 0))), (1, vI x1), (2, vI x2), (3, vI x3), (5, vI x5)]) dX4_feeOf_99 (by decide) rfl ?_
      refine oX_iinc (v := x5 + (1 : Int32)) (ls' := [(5, vI (x5 + (1 : Int32))), (4, vI (x4 + (r12.2 130 0 x5.toNatClampNeg))), (0, vR (some (1, 0))), (1, vI x1), (2, vI x2), (3, vI x3)]) dX4_feeOf_101 rfl rfl (by decide) rfl ?_
      refine oX_goto (tgt := 45) dX4_feeOf_104 (by decide) ?_
      exact oX_sub [2, 3, 4, 5, 1, 0] rfl (hk (x4 + (r12.2 130 0 x5.toNatClampNeg), x5 + (1 : Int32), r12.2) (Option.some.inj hm).symm)
theorem l_mX4_feeOf_b45 {G : OhG} {FI : OhI} {FL : OhL} {FR : OhQ} {GR : OhQ} {AL : OhL} {AR : OhQ} {BR : OhQ} {AN : OhN} {C : OhC} {k : Nat × Nat} {Φ : OhP} {Ψ : OhX} (hM : ohShM FR AN) (n : Nat) (x1 : Int32) (x2 : Int32) (x3 : Int32) : ∀ (f : Nat) (x4 : Int32) (x5 : Int32) (AI : OhI) (b : (Int32 × OhI)), lpF (fun v => mX4_feeOf_b45 n FI FR v.2.2 AN x1 x2 x3 v.1 v.2.1) f (x4, x5, AI) = some b → (oX G 5 iX4_feeOf 107 [(4, vI b.1)] [] (FI, FL, FR, GR, b.2, AL, AR, BR, AN, C) k Φ Ψ) → oX G 5 iX4_feeOf 45 [(0, vR (some (1, 0))), (1, vI x1), (2, vI x2), (3, vI x3), (4, vI x4), (5, vI x5)] [] (FI, FL, FR, GR, AI, AL, AR, BR, AN, C) k Φ Ψ := by
  intro f
  induction f with
  | zero =>
    intro x4 x5 AI b hm
    cases hm
  | succ f ih =>
    intro x4 x5 AI b hm hx1
    obtain ⟨r, hr, hm⟩ := lp_s hm
    refine x_mX4_feeOf_b45 hM n x1 x2 x3 x4 x5 hr (fun v e => ?_) (fun v e => ?_)
    · subst e; exact ih v.1 v.2.1 v.2.2 _ hm hx1
    · subst e; cases (show v = b from hm); exact hx1
noncomputable def mX4_feeOf_j20 (n : Nat) (FI : OhI) (FR : OhQ) (AI : OhI) (AN : OhN) (x1 : Int32) (x2 : Int32) (x3 : Int32) : Option (Int32 × OhI) :=
  gd (vp_in x2 66) <|
  (mX4_isIll n FI FR AI AN x1 (AI 160 0 x2.toNatClampNeg)).bind fun r6 =>
  (if r6 = 0 then
  (lpF (fun v => mX4_feeOf_b45 n FI FR v.2.2 AN x1 x2 x3 v.1 v.2.1) n ((0 : Int32), (8 : Int32) * x1, AI)).bind fun v15 =>
    some (v15.1, v15.2)
else
  some ((0 : Int32), AI))
theorem x_mX4_feeOf_j20 {G : OhG} {FI AI : OhI} {FL AL : OhL} {FR GR AR BR : OhQ} {AN : OhN} {C : OhC} {k : Nat × Nat} {Φ : OhP} {Ψ : OhX} (hM : ohShM FR AN) (n : Nat) (x1 : Int32) (x2 : Int32) (x3 : Int32) {r : Int32 × OhI} (hm : mX4_feeOf_j20 n FI FR AI AN x1 x2 x3 = some r) (hK : Φ (some (vI r.1)) (FI, FL, FR, GR, r.2, AL, AR, BR, AN, C)) : oX G 5 iX4_feeOf 20 [(0, vR (some (1, 0))), (1, vI x1), (2, vI x2), (3, vI x3)] [] (FI, FL, FR, GR, AI, AL, AR, BR, AN, C) k Φ Ψ := by
  unfold mX4_feeOf_j20 at hm
  refine oX_aload_n dX4_feeOf_20 rfl rfl ?_
  refine oX_iload_n dX4_feeOf_21 rfl rfl ?_
  refine oX_aload_n dX4_feeOf_22 rfl rfl ?_
  refine oX_getF fX4_136 rfl oDs1 dX4_feeOf_23 (ohF160 hM) ?_
  refine oX_iload_n dX4_feeOf_26 rfl rfl ?_
  obtain ⟨g5, hm⟩ := gd_s hm
  refine oX_iald oDs160 (oIn (ohN160 hM) g5) dX4_feeOf_27 ?_
  obtain ⟨r6, g6, hm⟩ := bd_s hm
  refine oX_cV (as := [vI x1, vI (AI 160 0 x2.toNatClampNeg)]) dX4_feeOf_28 rfl oDs1 rfl (by decide) rfl ok_X4_isIll rfl rfl q2257 q2259 qs94 q136 q2260 (by decide) (Nat.le_of_ble_eq_true rfl) (t_X4_isIll hM n x1 (AI 160 0 x2.toNatClampNeg) g6) ?_
  refine oX_if_eq (tgt := 36) dX4_feeOf_31 (by decide) (fun c7 => ?_) (fun c7 => ?_)
  · have hm := ifp c7 hm
    refine oX_iconst (v := (0 : Int32)) dX4_feeOf_36 (by decide) ?_
    refine oX_istore (ls' := [(4, vI (0 : Int32)), (0, vR (some (1, 0))), (1, vI x1), (2, vI x2), (3, vI x3)]) dX4_feeOf_37 (by decide) rfl ?_
    refine oX_bipush (v := (8 : Int32)) dX4_feeOf_39 (by decide) ?_
    refine oX_iload_n dX4_feeOf_41 rfl rfl ?_
    refine oX_imul dX4_feeOf_42 ?_
    refine oX_istore (ls' := [(5, vI ((8 : Int32) * x1)), (4, vI (0 : Int32)), (0, vR (some (1, 0))), (1, vI x1), (2, vI x2), (3, vI x3)]) dX4_feeOf_43 (by decide) rfl ?_
    obtain ⟨v15, g15, hm⟩ := bd_s hm
    refine oX_sub [2, 3, 4, 5, 1, 0] rfl (l_mX4_feeOf_b45 hM n x1 x2 x3 n (0 : Int32) ((8 : Int32) * x1) AI _ g15 ?_)
    refine oX_iload dX4_feeOf_107 rfl ?_
    obtain rfl := Option.some.inj hm
    exact oX_iret dX4_feeOf_109 rfl rfl hK
  · have hm := ifn c7 hm
    refine oX_iconst (v := (0 : Int32)) dX4_feeOf_34 (by decide) ?_
    obtain rfl := Option.some.inj hm
    exact oX_iret dX4_feeOf_35 rfl rfl hK
noncomputable def mX4_feeOf (n : Nat) (FI : OhI) (FR : OhQ) (AI : OhI) (AN : OhN) (x1 : Int32) (x2 : Int32) : Option (Int32 × OhI) :=
  (mX4_isIn_2 FR AI AN x1 x2).bind fun r1 =>
  (if r1 = 0 then
  (mX4_isCover n FR AI AN x1 x2).bind fun r3 =>
    (if r3 = 0 then
    some ((0 : Int32), AI)
  else
    mX4_feeOf_j20 n FI FR AI AN x1 x2 r1)
else
  mX4_feeOf_j20 n FI FR AI AN x1 x2 r1)
theorem x_mX4_feeOf {G : OhG} {FI AI : OhI} {FL AL : OhL} {FR GR AR BR : OhQ} {AN : OhN} {C : OhC} {k : Nat × Nat} {Φ : OhP} {Ψ : OhX} (hM : ohShM FR AN) (n : Nat) (x1 : Int32) (x2 : Int32) {r : Int32 × OhI} (hm : mX4_feeOf n FI FR AI AN x1 x2 = some r) (hK : Φ (some (vI r.1)) (FI, FL, FR, GR, r.2, AL, AR, BR, AN, C)) : oX G 5 iX4_feeOf 0 [(0, vR (some (1, 0))), (1, vI x1), (2, vI x2)] [] (FI, FL, FR, GR, AI, AL, AR, BR, AN, C) k Φ Ψ := by
  unfold mX4_feeOf at hm
  refine oX_aload_n dX4_feeOf_0 rfl rfl ?_
  refine oX_iload_n dX4_feeOf_1 rfl rfl ?_
  refine oX_iload_n dX4_feeOf_2 rfl rfl ?_
  obtain ⟨r1, g1, hm⟩ := bd_s hm
  refine oX_cV (as := [vI x1, vI x2]) dX4_feeOf_3 rfl oDs1 rfl (by decide) rfl ok_X4_isIn_2 rfl rfl q2241 q2243 qs91 q136 q2244 (by decide) (Nat.le_of_ble_eq_true rfl) (t_X4_isIn_2 hM x1 x2 g1) ?_
  refine oX_istore_n (ls' := [(3, vI r1), (0, vR (some (1, 0))), (1, vI x1), (2, vI x2)]) dX4_feeOf_6 rfl (by decide) rfl ?_
  refine oX_iload_n dX4_feeOf_7 rfl rfl ?_
  refine oX_if_ne (tgt := 20) dX4_feeOf_8 (by decide) (fun c2 => ?_) (fun c2 => ?_)
  · have hm := ifp c2 hm
    refine oX_aload_n dX4_feeOf_11 rfl rfl ?_
    refine oX_iload_n dX4_feeOf_12 rfl rfl ?_
    refine oX_iload_n dX4_feeOf_13 rfl rfl ?_
    obtain ⟨r3, g3, hm⟩ := bd_s hm
    refine oX_cV (as := [vI x1, vI x2]) dX4_feeOf_14 rfl oDs1 rfl (by decide) rfl ok_X4_isCover rfl rfl q2253 q2255 qs93 q136 q2256 (by decide) (Nat.le_of_ble_eq_true rfl) (t_X4_isCover hM n x1 x2 g3) ?_
    refine oX_if_eq (tgt := 34) dX4_feeOf_17 (by decide) (fun c4 => ?_) (fun c4 => ?_)
    · have hm := ifp c4 hm
      refine oX_iconst (v := (0 : Int32)) dX4_feeOf_34 (by decide) ?_
      obtain rfl := Option.some.inj hm
      exact oX_iret dX4_feeOf_35 rfl rfl hK
    · have hm := ifn c4 hm
      exact oX_sub [1, 2, 3, 0] rfl (x_mX4_feeOf_j20 hM n x1 x2 r1 hm hK)
  · have hm := ifn c2 hm
    exact oX_sub [1, 2, 3, 0] rfl (x_mX4_feeOf_j20 hM n x1 x2 r1 hm hK)
theorem t_X4_feeOf {G : OhG} {FI AI : OhI} {FL AL : OhL} {FR GR AR BR : OhQ} {AN : OhN} {C : OhC} (hM : ohShM FR AN) (n : Nat) (x1 : Int32) (x2 : Int32) {o : Int32 × OhI} (hm : mX4_feeOf n FI FR AI AN x1 x2 = some o) : oT G 5 iX4_feeOf [vR (some (1, 0)), vI x1, vI x2] (FI, FL, FR, GR, AI, AL, AR, BR, AN, C) (0, 0) (fun v h => v = (some (vI o.1)) ∧ h = (FI, FL, FR, GR, o.2, AL, AR, BR, AN, C)) ohNo :=
  oT_of (by decide) rfl (Nat.le_of_ble_eq_true rfl) (x_mX4_feeOf hM n x1 x2 hm ⟨rfl, rfl⟩)
abbrev iX4_fee_2 : OhM := (yX4_fee_2, cX4_fee_2, 4, (some .int), [])
theorem ok_X4_fee_2 : oOk iX4_fee_2 3 := ⟨by decide, by decide, by decide +kernel⟩

noncomputable def mX4_fee_2 (n : Nat) (FI : OhI) (FR : OhQ) (AI : OhI) (AN : OhN) (x1 : Int32) (x2 : Int32) (x3 : Int32) : Option (Int32 × OhI × OhI) :=
  oLet (sA FI 1 0 (uA (FI 1 0) 0 (0 : Int32))) fun FI1 =>
  (mX4_isSinger FI1 x1).bind fun r2 =>
  (if r2 = 0 then
  some ((-1 : Int32), FI1, AI)
else
  (mX4_isIn x2 (0 : Int32) ((FI1 1 0 70) - (1 : Int32))).bind fun r4 =>
    (if r4 = 0 then
    some ((-1 : Int32), FI1, AI)
  else
    (mX4_load n FI1 FR AI AN x3).bind fun r6 =>
      (mX4_feeOf n r6.1 FR r6.2 AN x1 x2).bind fun r7 =>
      some (r7.1, r6.1, r7.2)))
theorem x_mX4_fee_2 {G : OhG} {FI AI : OhI} {FL AL : OhL} {FR GR AR BR : OhQ} {AN : OhN} {C : OhC} {k : Nat × Nat} {Φ : OhP} {Ψ : OhX} (hM : ohShM FR AN) (n : Nat) (x1 : Int32) (x2 : Int32) (x3 : Int32) {r : Int32 × OhI × OhI} (hm : mX4_fee_2 n FI FR AI AN x1 x2 x3 = some r) (hK : Φ (some (vI r.1)) (r.2.1, FL, FR, GR, r.2.2, AL, AR, BR, AN, C)) : oX G 6 iX4_fee_2 0 [(0, vR (some (1, 0))), (1, vI x1), (2, vI x2), (3, vI x3)] [] (FI, FL, FR, GR, AI, AL, AR, BR, AN, C) k Φ Ψ := by
  unfold mX4_fee_2 at hm
  refine oX_aload_n dX4_fee_2_0 rfl rfl ?_
  refine oX_iconst (v := (0 : Int32)) dX4_fee_2_1 (by decide) ?_
  obtain ⟨FI1, hFI1, hm⟩ := oLs hm
  refine oX_putI fX4_226 rfl (fun h9 => by cases h9) oDs1 dX4_fee_2_2 ⟨rfl, rfl⟩ hFI1 ?_
  refine oX_aload_n dX4_fee_2_5 rfl rfl ?_
  refine oX_iload_n dX4_fee_2_6 rfl rfl ?_
  obtain ⟨r2, g2, hm⟩ := bd_s hm
  refine oX_cV (as := [vI x1]) dX4_fee_2_7 rfl oDs1 rfl (by decide) rfl ok_X4_isSinger rfl rfl q2063 q2065 qs62 q136 q2066 (by decide) (Nat.le_of_ble_eq_true rfl) (t_X4_isSinger x1 g2) ?_
  refine oX_if_eq (tgt := 27) dX4_fee_2_10 (by decide) (fun c3 => ?_) (fun c3 => ?_)
  · have hm := ifp c3 hm
    refine oX_iconst (v := (-1 : Int32)) dX4_fee_2_27 (by decide) ?_
    obtain rfl := Option.some.inj hm
    exact oX_iret dX4_fee_2_28 rfl rfl hK
  · have hm := ifn c3 hm
    refine oX_iload_n dX4_fee_2_13 rfl rfl ?_
    refine oX_iconst (v := (0 : Int32)) dX4_fee_2_14 (by decide) ?_
    refine oX_aload_n dX4_fee_2_15 rfl rfl ?_
    refine oX_getI fX4_423 rfl oDs1 dX4_fee_2_16 ?_
    refine oX_iconst (v := (1 : Int32)) dX4_fee_2_19 (by decide) ?_
    refine oX_isub dX4_fee_2_20 ?_
    obtain ⟨r4, g4, hm⟩ := bd_s hm
    refine oX_cS (as := [vI x2, vI (0 : Int32), vI ((FI1 1 0 70) - (1 : Int32))]) dX4_fee_2_21 rfl ok_X4_isIn rfl rfl q2032 q2033 q136 q2034 (by decide) (Nat.le_of_ble_eq_true rfl) (t_X4_isIn x2 (0 : Int32) ((FI1 1 0 70) - (1 : Int32)) g4) ?_
    refine oX_if_ne (tgt := 29) dX4_fee_2_24 (by decide) (fun c5 => ?_) (fun c5 => ?_)
    · have hm := ifp c5 hm
      refine oX_iconst (v := (-1 : Int32)) dX4_fee_2_27 (by decide) ?_
      obtain rfl := Option.some.inj hm
      exact oX_iret dX4_fee_2_28 rfl rfl hK
    · have hm := ifn c5 hm
      refine oX_aload_n dX4_fee_2_29 rfl rfl ?_
      refine oX_iload_n dX4_fee_2_30 rfl rfl ?_
      obtain ⟨r6, g6, hm⟩ := bd_s hm
      refine oX_cV_ (as := [vI x3]) dX4_fee_2_31 rfl oDs1 rfl (by decide) rfl ok_X4_load rfl rfl q2209 q2211 qs85 q136 q2212 (by decide) (Nat.le_of_ble_eq_true rfl) (t_X4_load hM n x3 g6) ?_
      refine oX_aload_n dX4_fee_2_34 rfl rfl ?_
      refine oX_iload_n dX4_fee_2_35 rfl rfl ?_
      refine oX_iload_n dX4_fee_2_36 rfl rfl ?_
      obtain ⟨r7, g7, hm⟩ := bd_s hm
      refine oX_cV (as := [vI x1, vI x2]) dX4_fee_2_37 rfl oDs1 rfl (by decide) rfl ok_X4_feeOf rfl rfl q2249 q2251 qs92 q136 q2252 (by decide) (Nat.le_of_ble_eq_true rfl) (t_X4_feeOf hM n x1 x2 g7) ?_
      obtain rfl := Option.some.inj hm
      exact oX_iret dX4_fee_2_40 rfl rfl hK
theorem t_X4_fee_2 {G : OhG} {FI AI : OhI} {FL AL : OhL} {FR GR AR BR : OhQ} {AN : OhN} {C : OhC} (hM : ohShM FR AN) (n : Nat) (x1 : Int32) (x2 : Int32) (x3 : Int32) {o : Int32 × OhI × OhI} (hm : mX4_fee_2 n FI FR AI AN x1 x2 x3 = some o) : oT G 6 iX4_fee_2 [vR (some (1, 0)), vI x1, vI x2, vI x3] (FI, FL, FR, GR, AI, AL, AR, BR, AN, C) (0, 0) (fun v h => v = (some (vI o.1)) ∧ h = (o.2.1, FL, FR, GR, o.2.2, AL, AR, BR, AN, C)) ohNo :=
  oT_of (by decide) rfl (Nat.le_of_ble_eq_true rfl) (x_mX4_fee_2 hM n x1 x2 x3 hm ⟨rfl, rfl⟩)
abbrev iX4_pay : OhM := (yX4_pay, cX4_pay, 6, (some .int), [])
theorem ok_X4_pay : oOk iX4_pay 3 := ⟨by decide, by decide, by decide +kernel⟩

noncomputable def mX4_pay_b36 (n : Nat) (FI : OhI) (FR : OhQ) (AI : OhI) (AN : OhN) (x1 : Int32) (x2 : Int32) (x4 : Int32) (x5 : Int32) : Option ((Int32 × Int32 × OhI) ⊕ (Int32 × OhI)) :=
  (if (FI 1 0 70) ≤ x5 then
  some (.inr (x4, AI))
else
  gd (vp_in x5 66) <|
    (if x2 < (AI 160 0 x5.toNatClampNeg) then
    some (.inl (x4 + (0 : Int32), x5 + (1 : Int32), AI))
  else
    (mX4_feeOf n FI FR AI AN x1 x5).bind fun r10 =>
      some (.inl (x4 + r10.1, x5 + (1 : Int32), r10.2))))
theorem x_mX4_pay_b36 {G : OhG} {FI AI : OhI} {FL AL : OhL} {FR GR AR BR : OhQ} {AN : OhN} {C : OhC} {k : Nat × Nat} {Φ : OhP} {Ψ : OhX} (hM : ohShM FR AN) (n : Nat) (x1 : Int32) (x2 : Int32) (x4 : Int32) (x5 : Int32) {r : (Int32 × Int32 × OhI) ⊕ (Int32 × OhI)} (hm : mX4_pay_b36 n FI FR AI AN x1 x2 x4 x5 = some r) (hk : ∀ v : Int32 × Int32 × OhI, r = .inl v → oX G 6 iX4_pay 36 [(0, vR (some (1, 0))), (1, vI x1), (2, vI x2), (4, vI v.1), (5, vI v.2.1)] [] (FI, FL, FR, GR, v.2.2, AL, AR, BR, AN, C) k Φ Ψ) (hx1 : ∀ v : Int32 × OhI, r = .inr v → oX G 6 iX4_pay 78 [(4, vI v.1)] [] (FI, FL, FR, GR, v.2, AL, AR, BR, AN, C) k Φ Ψ) : oX G 6 iX4_pay 36 [(0, vR (some (1, 0))), (1, vI x1), (2, vI x2), (4, vI x4), (5, vI x5)] [] (FI, FL, FR, GR, AI, AL, AR, BR, AN, C) k Φ Ψ := by
  unfold mX4_pay_b36 at hm
  refine oX_iload dX4_pay_36 rfl ?_
  refine oX_aload_n dX4_pay_38 rfl rfl ?_
  refine oX_getI fX4_423 rfl oDs1 dX4_pay_39 ?_
  refine oX_icmp_ge (tgt := 78) dX4_pay_42 (by decide) (fun c7 => ?_) (fun c7 => ?_)
  · have hm := ifp c7 hm
    exact oX_sub [3] rfl (hx1 (x4, AI) (Option.some.inj hm).symm)
  · have hm := ifn c7 hm
    refine oX_iload dX4_pay_45 rfl ?_
    refine oX_aload_n dX4_pay_47 rfl rfl ?_
    refine oX_getF fX4_136 rfl oDs1 dX4_pay_48 (ohF160 hM) ?_
    refine oX_iload dX4_pay_51 rfl ?_
    obtain ⟨g8, hm⟩ := gd_s hm
    refine oX_iald oDs160 (oIn (ohN160 hM) g8) dX4_pay_53 ?_
    refine oX_iload_n dX4_pay_54 rfl rfl ?_
    refine oX_icmp_gt (tgt := 68) dX4_pay_55 (by decide) (fun c9 => ?_) (fun c9 => ?_)
    · have hm := ifp c9 hm
      refine oX_iconst (v := (0 : Int32)) dX4_pay_68 (by decide) ?_
      refine oX_iadd dX4_pay_69 ?_
      refine oX_istore (ls' := [(4, vI (x4 + (0 : Int32))), (0, vR (some (1, 0))), (1, vI x1), (2, vI x2), (5, vI x5)]) dX4_pay_70 (by decide) rfl ?_
      refine oX_iinc (v := x5 + (1 : Int32)) (ls' := [(5, vI (x5 + (1 : Int32))), (4, vI (x4 + (0 : Int32))), (0, vR (some (1, 0))), (1, vI x1), (2, vI x2)]) dX4_pay_72 rfl rfl (by decide) rfl ?_
      refine oX_goto (tgt := 36) dX4_pay_75 (by decide) ?_
      exact oX_sub [2, 3, 4, 1, 0] rfl (hk (x4 + (0 : Int32), x5 + (1 : Int32), AI) (Option.some.inj hm).symm)
    · have hm := ifn c9 hm
      refine oX_aload_n dX4_pay_58 rfl rfl ?_
      refine oX_iload_n dX4_pay_59 rfl rfl ?_
      refine oX_iload dX4_pay_60 rfl ?_
      obtain ⟨r10, g10, hm⟩ := bd_s hm
      refine oX_cV (as := [vI x1, vI x5]) dX4_pay_62 rfl oDs1 rfl (by decide) rfl ok_X4_feeOf rfl rfl q2249 q2251 qs92 q136 q2252 (by decide) (Nat.le_of_ble_eq_true rfl) (t_X4_feeOf hM n x1 x5 g10) ?_
      refine oX_goto (tgt := 69) dX4_pay_65 (by decide) ?_
      refine oX_iadd dX4_pay_69 ?_
      refine oX_istore (ls' := [(4, vI (x4 + r10.1)), (0, vR (some (1, 0))), (1, vI x1), (2, vI x2), (5, vI x5)]) dX4_pay_70 (by decide) rfl ?_
      refine oX_iinc (v := x5 + (1 : Int32)) (ls' := [(5, vI (x5 + (1 : Int32))), (4, vI (x4 + r10.1)), (0, vR (some (1, 0))), (1, vI x1), (2, vI x2)]) dX4_pay_72 rfl rfl (by decide) rfl ?_
      refine oX_goto (tgt := 36) dX4_pay_75 (by decide) ?_
      exact oX_sub [2, 3, 4, 1, 0] rfl (hk (x4 + r10.1, x5 + (1 : Int32), r10.2) (Option.some.inj hm).symm)
theorem l_mX4_pay_b36 {G : OhG} {FI : OhI} {FL : OhL} {FR : OhQ} {GR : OhQ} {AL : OhL} {AR : OhQ} {BR : OhQ} {AN : OhN} {C : OhC} {k : Nat × Nat} {Φ : OhP} {Ψ : OhX} (hM : ohShM FR AN) (n : Nat) (x1 : Int32) (x2 : Int32) : ∀ (f : Nat) (x4 : Int32) (x5 : Int32) (AI : OhI) (b : (Int32 × OhI)), lpF (fun v => mX4_pay_b36 n FI FR v.2.2 AN x1 x2 v.1 v.2.1) f (x4, x5, AI) = some b → (oX G 6 iX4_pay 78 [(4, vI b.1)] [] (FI, FL, FR, GR, b.2, AL, AR, BR, AN, C) k Φ Ψ) → oX G 6 iX4_pay 36 [(0, vR (some (1, 0))), (1, vI x1), (2, vI x2), (4, vI x4), (5, vI x5)] [] (FI, FL, FR, GR, AI, AL, AR, BR, AN, C) k Φ Ψ := by
  intro f
  induction f with
  | zero =>
    intro x4 x5 AI b hm
    cases hm
  | succ f ih =>
    intro x4 x5 AI b hm hx1
    obtain ⟨r, hr, hm⟩ := lp_s hm
    refine x_mX4_pay_b36 hM n x1 x2 x4 x5 hr (fun v e => ?_) (fun v e => ?_)
    · subst e; exact ih v.1 v.2.1 v.2.2 _ hm hx1
    · subst e; cases (show v = b from hm); exact hx1
noncomputable def mX4_pay (n : Nat) (FI : OhI) (FR : OhQ) (AI : OhI) (AN : OhN) (x1 : Int32) (x2 : Int32) (x3 : Int32) : Option (Int32 × OhI × OhI) :=
  oLet (sA FI 1 0 (uA (FI 1 0) 0 (0 : Int32))) fun FI1 =>
  (mX4_isSinger FI1 x1).bind fun r2 =>
  (if r2 = 0 then
  some ((-1 : Int32), FI1, AI)
else
  (mX4_isIn x2 (0 : Int32) (29 : Int32)).bind fun r4 =>
    (if r4 = 0 then
    some ((-1 : Int32), FI1, AI)
  else
    (mX4_load n FI1 FR AI AN x3).bind fun r6 =>
      (lpF (fun v => mX4_pay_b36 n r6.1 FR v.2.2 AN x1 x2 v.1 v.2.1) n ((0 : Int32), (0 : Int32), r6.2)).bind fun v11 =>
      some (v11.1, r6.1, v11.2)))
theorem x_mX4_pay {G : OhG} {FI AI : OhI} {FL AL : OhL} {FR GR AR BR : OhQ} {AN : OhN} {C : OhC} {k : Nat × Nat} {Φ : OhP} {Ψ : OhX} (hM : ohShM FR AN) (n : Nat) (x1 : Int32) (x2 : Int32) (x3 : Int32) {r : Int32 × OhI × OhI} (hm : mX4_pay n FI FR AI AN x1 x2 x3 = some r) (hK : Φ (some (vI r.1)) (r.2.1, FL, FR, GR, r.2.2, AL, AR, BR, AN, C)) : oX G 6 iX4_pay 0 [(0, vR (some (1, 0))), (1, vI x1), (2, vI x2), (3, vI x3)] [] (FI, FL, FR, GR, AI, AL, AR, BR, AN, C) k Φ Ψ := by
  unfold mX4_pay at hm
  refine oX_aload_n dX4_pay_0 rfl rfl ?_
  refine oX_iconst (v := (0 : Int32)) dX4_pay_1 (by decide) ?_
  obtain ⟨FI1, hFI1, hm⟩ := oLs hm
  refine oX_putI fX4_226 rfl (fun h9 => by cases h9) oDs1 dX4_pay_2 ⟨rfl, rfl⟩ hFI1 ?_
  refine oX_aload_n dX4_pay_5 rfl rfl ?_
  refine oX_iload_n dX4_pay_6 rfl rfl ?_
  obtain ⟨r2, g2, hm⟩ := bd_s hm
  refine oX_cV (as := [vI x1]) dX4_pay_7 rfl oDs1 rfl (by decide) rfl ok_X4_isSinger rfl rfl q2063 q2065 qs62 q136 q2066 (by decide) (Nat.le_of_ble_eq_true rfl) (t_X4_isSinger x1 g2) ?_
  refine oX_if_eq (tgt := 23) dX4_pay_10 (by decide) (fun c3 => ?_) (fun c3 => ?_)
  · have hm := ifp c3 hm
    refine oX_iconst (v := (-1 : Int32)) dX4_pay_23 (by decide) ?_
    obtain rfl := Option.some.inj hm
    exact oX_iret dX4_pay_24 rfl rfl hK
  · have hm := ifn c3 hm
    refine oX_iload_n dX4_pay_13 rfl rfl ?_
    refine oX_iconst (v := (0 : Int32)) dX4_pay_14 (by decide) ?_
    refine oX_bipush (v := (29 : Int32)) dX4_pay_15 (by decide) ?_
    obtain ⟨r4, g4, hm⟩ := bd_s hm
    refine oX_cS (as := [vI x2, vI (0 : Int32), vI (29 : Int32)]) dX4_pay_17 rfl ok_X4_isIn rfl rfl q2032 q2033 q136 q2034 (by decide) (Nat.le_of_ble_eq_true rfl) (t_X4_isIn x2 (0 : Int32) (29 : Int32) g4) ?_
    refine oX_if_ne (tgt := 25) dX4_pay_20 (by decide) (fun c5 => ?_) (fun c5 => ?_)
    · have hm := ifp c5 hm
      refine oX_iconst (v := (-1 : Int32)) dX4_pay_23 (by decide) ?_
      obtain rfl := Option.some.inj hm
      exact oX_iret dX4_pay_24 rfl rfl hK
    · have hm := ifn c5 hm
      refine oX_aload_n dX4_pay_25 rfl rfl ?_
      refine oX_iload_n dX4_pay_26 rfl rfl ?_
      obtain ⟨r6, g6, hm⟩ := bd_s hm
      refine oX_cV_ (as := [vI x3]) dX4_pay_27 rfl oDs1 rfl (by decide) rfl ok_X4_load rfl rfl q2209 q2211 qs85 q136 q2212 (by decide) (Nat.le_of_ble_eq_true rfl) (t_X4_load hM n x3 g6) ?_
      refine oX_iconst (v := (0 : Int32)) dX4_pay_30 (by decide) ?_
      refine oX_istore (ls' := [(4, vI (0 : Int32)), (0, vR (some (1, 0))), (1, vI x1), (2, vI x2), (3, vI x3)]) dX4_pay_31 (by decide) rfl ?_
      refine oX_iconst (v := (0 : Int32)) dX4_pay_33 (by decide) ?_
      refine oX_istore (ls' := [(5, vI (0 : Int32)), (4, vI (0 : Int32)), (0, vR (some (1, 0))), (1, vI x1), (2, vI x2), (3, vI x3)]) dX4_pay_34 (by decide) rfl ?_
      obtain ⟨v11, g11, hm⟩ := bd_s hm
      refine oX_sub [2, 3, 4, 1, 0] rfl (l_mX4_pay_b36 hM n x1 x2 n (0 : Int32) (0 : Int32) r6.2 _ g11 ?_)
      refine oX_iload dX4_pay_78 rfl ?_
      obtain rfl := Option.some.inj hm
      exact oX_iret dX4_pay_80 rfl rfl hK
theorem t_X4_pay {G : OhG} {FI AI : OhI} {FL AL : OhL} {FR GR AR BR : OhQ} {AN : OhN} {C : OhC} (hM : ohShM FR AN) (n : Nat) (x1 : Int32) (x2 : Int32) (x3 : Int32) {o : Int32 × OhI × OhI} (hm : mX4_pay n FI FR AI AN x1 x2 x3 = some o) : oT G 6 iX4_pay [vR (some (1, 0)), vI x1, vI x2, vI x3] (FI, FL, FR, GR, AI, AL, AR, BR, AN, C) (0, 0) (fun v h => v = (some (vI o.1)) ∧ h = (o.2.1, FL, FR, GR, o.2.2, AL, AR, BR, AN, C)) ohNo :=
  oT_of (by decide) rfl (Nat.le_of_ble_eq_true rfl) (x_mX4_pay hM n x1 x2 x3 hm ⟨rfl, rfl⟩)
abbrev iX4_atFirst : OhM := (yX4_atFirst, cX4_atFirst, 2, none, [])
theorem ok_X4_atFirst : oOk iX4_atFirst 0 := ⟨by decide, by decide, by decide +kernel⟩

noncomputable def mX4_atFirst_b2 (n : Nat) (FR : OhQ) (AI : OhI) (AN : OhN) (x1 : Int32) : Option ((Int32 × OhI) ⊕ (OhI)) :=
  (if (625 : Int32) ≤ x1 then
  some (.inr AI)
else
  gd (vp_in x1 625) <|
    oLet (sA AI 180 0 (uA (AI 180 0) x1.toNatClampNeg (vp_nar .boolean (0 : Int32)))) fun AI2 =>
    some (.inl (x1 + (1 : Int32), AI2)))
theorem x_mX4_atFirst_b2 {G : OhG} {FI AI : OhI} {FL AL : OhL} {FR GR AR BR : OhQ} {AN : OhN} {C : OhC} {k : Nat × Nat} {Φ : OhP} {Ψ : OhX} (hM : ohShM FR AN) (n : Nat) (x1 : Int32) {r : (Int32 × OhI) ⊕ (OhI)} (hm : mX4_atFirst_b2 n FR AI AN x1 = some r) (hk : ∀ v : Int32 × OhI, r = .inl v → oX G 1 iX4_atFirst 2 [(0, vR (some (1, 0))), (1, vI v.1)] [] (FI, FL, FR, GR, v.2, AL, AR, BR, AN, C) k Φ Ψ) (hx1 : ∀ v : OhI, r = .inr v → oX G 1 iX4_atFirst 22 [(0, vR (some (1, 0)))] [] (FI, FL, FR, GR, v, AL, AR, BR, AN, C) k Φ Ψ) : oX G 1 iX4_atFirst 2 [(0, vR (some (1, 0))), (1, vI x1)] [] (FI, FL, FR, GR, AI, AL, AR, BR, AN, C) k Φ Ψ := by
  unfold mX4_atFirst_b2 at hm
  refine oX_iload_n dX4_atFirst_2 rfl rfl ?_
  refine oX_sipush (v := (625 : Int32)) dX4_atFirst_3 (by decide) ?_
  refine oX_icmp_ge (tgt := 22) dX4_atFirst_6 (by decide) (fun c1 => ?_) (fun c1 => ?_)
  · have hm := ifp c1 hm
    exact oX_sub [0] rfl (hx1 AI (Option.some.inj hm).symm)
  · have hm := ifn c1 hm
    refine oX_aload_n dX4_atFirst_9 rfl rfl ?_
    refine oX_getF fX4_178 rfl oDs1 dX4_atFirst_10 (ohF180 hM) ?_
    refine oX_iload_n dX4_atFirst_13 rfl rfl ?_
    refine oX_iconst (v := (0 : Int32)) dX4_atFirst_14 (by decide) ?_
    obtain ⟨g2, hm⟩ := gd_s hm
    obtain ⟨AI2, hAI2, hm⟩ := oLs hm
    refine oX_zast oDs180 (oIn (ohN180 hM) g2) dX4_atFirst_15 hAI2 ?_
    refine oX_iinc (v := x1 + (1 : Int32)) (ls' := [(1, vI (x1 + (1 : Int32))), (0, vR (some (1, 0)))]) dX4_atFirst_16 rfl rfl (by decide) rfl ?_
    refine oX_goto (tgt := 2) dX4_atFirst_19 (by decide) ?_
    exact oX_sub [1, 0] rfl (hk (x1 + (1 : Int32), AI2) (Option.some.inj hm).symm)
theorem l_mX4_atFirst_b2 {G : OhG} {FI : OhI} {FL : OhL} {FR : OhQ} {GR : OhQ} {AL : OhL} {AR : OhQ} {BR : OhQ} {AN : OhN} {C : OhC} {k : Nat × Nat} {Φ : OhP} {Ψ : OhX} (hM : ohShM FR AN) (n : Nat) : ∀ (f : Nat) (x1 : Int32) (AI : OhI) (b : (OhI)), lpF (fun v => mX4_atFirst_b2 n FR v.2 AN v.1) f (x1, AI) = some b → (oX G 1 iX4_atFirst 22 [(0, vR (some (1, 0)))] [] (FI, FL, FR, GR, b, AL, AR, BR, AN, C) k Φ Ψ) → oX G 1 iX4_atFirst 2 [(0, vR (some (1, 0))), (1, vI x1)] [] (FI, FL, FR, GR, AI, AL, AR, BR, AN, C) k Φ Ψ := by
  intro f
  induction f with
  | zero =>
    intro x1 AI b hm
    cases hm
  | succ f ih =>
    intro x1 AI b hm hx1
    obtain ⟨r, hr, hm⟩ := lp_s hm
    refine x_mX4_atFirst_b2 hM n x1 hr (fun v e => ?_) (fun v e => ?_)
    · subst e; exact ih v.1 v.2 _ hm hx1
    · subst e; cases (show v = b from hm); exact hx1
noncomputable def mX4_atFirst (n : Nat) (FR : OhQ) (AI : OhI) (AN : OhN) : Option (OhI) :=
  (lpF (fun v => mX4_atFirst_b2 n FR v.2 AN v.1) n ((0 : Int32), AI)).bind fun v3 =>
  gd (vp_in (430 : Int32) 625) <|
  oLet (sA v3 180 0 (uA (v3 180 0) (430 : Int32).toNatClampNeg (vp_nar .boolean (1 : Int32)))) fun AI4 =>
  some AI4
theorem x_mX4_atFirst {G : OhG} {FI AI : OhI} {FL AL : OhL} {FR GR AR BR : OhQ} {AN : OhN} {C : OhC} {k : Nat × Nat} {Φ : OhP} {Ψ : OhX} (hM : ohShM FR AN) (n : Nat) {r : OhI} (hm : mX4_atFirst n FR AI AN = some r) (hK : Φ none (FI, FL, FR, GR, r, AL, AR, BR, AN, C)) : oX G 1 iX4_atFirst 0 [(0, vR (some (1, 0)))] [] (FI, FL, FR, GR, AI, AL, AR, BR, AN, C) k Φ Ψ := by
  unfold mX4_atFirst at hm
  refine oX_iconst (v := (0 : Int32)) dX4_atFirst_0 (by decide) ?_
  refine oX_istore_n (ls' := [(1, vI (0 : Int32)), (0, vR (some (1, 0)))]) dX4_atFirst_1 rfl (by decide) rfl ?_
  obtain ⟨v3, g3, hm⟩ := bd_s hm
  refine oX_sub [1, 0] rfl (l_mX4_atFirst_b2 hM n n (0 : Int32) AI _ g3 ?_)
  refine oX_aload_n dX4_atFirst_22 rfl rfl ?_
  refine oX_getF fX4_178 rfl oDs1 dX4_atFirst_23 (ohF180 hM) ?_
  refine oX_sipush (v := (430 : Int32)) dX4_atFirst_26 (by decide) ?_
  refine oX_iconst (v := (1 : Int32)) dX4_atFirst_29 (by decide) ?_
  obtain ⟨g4, hm⟩ := gd_s hm
  obtain ⟨AI4, hAI4, hm⟩ := oLs hm
  refine oX_zast oDs180 (oIn (ohN180 hM) g4) dX4_atFirst_30 hAI4 ?_
  obtain rfl := Option.some.inj hm
  exact oX_vret dX4_atFirst_31 rfl hK
theorem t_X4_atFirst {G : OhG} {FI AI : OhI} {FL AL : OhL} {FR GR AR BR : OhQ} {AN : OhN} {C : OhC} (hM : ohShM FR AN) (n : Nat) {o : OhI} (hm : mX4_atFirst n FR AI AN = some o) : oT G 1 iX4_atFirst [vR (some (1, 0))] (FI, FL, FR, GR, AI, AL, AR, BR, AN, C) (0, 0) (fun v h => v = none ∧ h = (FI, FL, FR, GR, o, AL, AR, BR, AN, C)) ohNo :=
  oT_of (by decide) rfl (Nat.le_of_ble_eq_true rfl) (x_mX4_atFirst hM n hm ⟨rfl, rfl⟩)
abbrev iX4_placeOf : OhM := (yX4_placeOf, cX4_placeOf, 2, (some .int), [])
theorem ok_X4_placeOf : oOk iX4_placeOf 2 := ⟨by decide, by decide, by decide +kernel⟩

noncomputable def mX4_placeOf (x0 : Int32) (x1 : Int32) : Option (Int32) :=
  (if x1 = 0 then
  some ((x0 / (1 : Int32)) - (x0 / (1 : Int32)) / (5 : Int32) * (5 : Int32))
else
  (if x1 = (1 : Int32) then
    some ((x0 / (5 : Int32)) - (x0 / (5 : Int32)) / (5 : Int32) * (5 : Int32))
  else
    (if x1 = (2 : Int32) then
      some ((x0 / (25 : Int32)) - (x0 / (25 : Int32)) / (5 : Int32) * (5 : Int32))
    else
      some ((x0 / (125 : Int32)) - (x0 / (125 : Int32)) / (5 : Int32) * (5 : Int32)))))
theorem x_mX4_placeOf {G : OhG} {FI AI : OhI} {FL AL : OhL} {FR GR AR BR : OhQ} {AN : OhN} {C : OhC} {k : Nat × Nat} {Φ : OhP} {Ψ : OhX} (x0 : Int32) (x1 : Int32) {r : Int32} (hm : mX4_placeOf x0 x1 = some r) (hK : Φ (some (vI r)) (FI, FL, FR, GR, AI, AL, AR, BR, AN, C)) : oX G 1 iX4_placeOf 0 [(0, vI x0), (1, vI x1)] [] (FI, FL, FR, GR, AI, AL, AR, BR, AN, C) k Φ Ψ := by
  unfold mX4_placeOf at hm
  refine oX_iload_n dX4_placeOf_0 rfl rfl ?_
  refine oX_iload_n dX4_placeOf_1 rfl rfl ?_
  refine oX_if_ne (tgt := 9) dX4_placeOf_2 (by decide) (fun c1 => ?_) (fun c1 => ?_)
  · have hm := ifp c1 hm
    refine oX_iconst (v := (1 : Int32)) dX4_placeOf_5 (by decide) ?_
    refine oX_goto (tgt := 30) dX4_placeOf_6 (by decide) ?_
    refine oX_idiv dX4_placeOf_30 (by decide) ?_
    refine oX_iconst (v := (5 : Int32)) dX4_placeOf_31 (by decide) ?_
    refine oX_irem dX4_placeOf_32 (by decide) ?_
    obtain rfl := Option.some.inj hm
    exact oX_iret dX4_placeOf_33 rfl rfl hK
  · have hm := ifn c1 hm
    refine oX_iload_n dX4_placeOf_9 rfl rfl ?_
    refine oX_iconst (v := (1 : Int32)) dX4_placeOf_10 (by decide) ?_
    refine oX_icmp_ne (tgt := 18) dX4_placeOf_11 (by decide) (fun c2 => ?_) (fun c2 => ?_)
    · have hm := ifp c2 hm
      refine oX_iconst (v := (5 : Int32)) dX4_placeOf_14 (by decide) ?_
      refine oX_goto (tgt := 30) dX4_placeOf_15 (by decide) ?_
      refine oX_idiv dX4_placeOf_30 (by decide) ?_
      refine oX_iconst (v := (5 : Int32)) dX4_placeOf_31 (by decide) ?_
      refine oX_irem dX4_placeOf_32 (by decide) ?_
      obtain rfl := Option.some.inj hm
      exact oX_iret dX4_placeOf_33 rfl rfl hK
    · have hm := ifn c2 hm
      refine oX_iload_n dX4_placeOf_18 rfl rfl ?_
      refine oX_iconst (v := (2 : Int32)) dX4_placeOf_19 (by decide) ?_
      refine oX_icmp_ne (tgt := 28) dX4_placeOf_20 (by decide) (fun c3 => ?_) (fun c3 => ?_)
      · have hm := ifp c3 hm
        refine oX_bipush (v := (25 : Int32)) dX4_placeOf_23 (by decide) ?_
        refine oX_goto (tgt := 30) dX4_placeOf_25 (by decide) ?_
        refine oX_idiv dX4_placeOf_30 (by decide) ?_
        refine oX_iconst (v := (5 : Int32)) dX4_placeOf_31 (by decide) ?_
        refine oX_irem dX4_placeOf_32 (by decide) ?_
        obtain rfl := Option.some.inj hm
        exact oX_iret dX4_placeOf_33 rfl rfl hK
      · have hm := ifn c3 hm
        refine oX_bipush (v := (125 : Int32)) dX4_placeOf_28 (by decide) ?_
        refine oX_idiv dX4_placeOf_30 (by decide) ?_
        refine oX_iconst (v := (5 : Int32)) dX4_placeOf_31 (by decide) ?_
        refine oX_irem dX4_placeOf_32 (by decide) ?_
        obtain rfl := Option.some.inj hm
        exact oX_iret dX4_placeOf_33 rfl rfl hK
theorem t_X4_placeOf {G : OhG} {FI AI : OhI} {FL AL : OhL} {FR GR AR BR : OhQ} {AN : OhN} {C : OhC} (x0 : Int32) (x1 : Int32) {o : Int32} (hm : mX4_placeOf x0 x1 = some o) : oT G 1 iX4_placeOf [vI x0, vI x1] (FI, FL, FR, GR, AI, AL, AR, BR, AN, C) (0, 0) (fun v h => v = (some (vI o)) ∧ h = (FI, FL, FR, GR, AI, AL, AR, BR, AN, C)) ohNo :=
  oT_of (by decide) rfl (Nat.le_of_ble_eq_true rfl) (x_mX4_placeOf x0 x1 hm ⟨rfl, rfl⟩)
abbrev iX4_canStand : OhM := (yX4_canStand, cX4_canStand, 3, (some .boolean), [])
theorem ok_X4_canStand : oOk iX4_canStand 1 := ⟨by decide, by decide, by decide +kernel⟩

noncomputable def mX4_canStand_b2 (n : Nat) (FR : OhQ) (AI : OhI) (AN : OhN) (x1 : Int32) (x2 : Int32) : Option ((Int32) ⊕ ((Unit) ⊕ (Unit))) :=
  (if (625 : Int32) ≤ x2 then
  some (.inr (.inl ()))
else
  gd (vp_in x2 625) <|
    (if (AI 180 0 x2.toNatClampNeg) = 0 then
    some (.inl (x2 + (1 : Int32)))
  else
    (mX4_placeOf x2 x1).bind fun r4 =>
      (if r4 = 0 then
      some (.inr (.inr ()))
    else
      some (.inl (x2 + (1 : Int32))))))
theorem x_mX4_canStand_b2 {G : OhG} {FI AI : OhI} {FL AL : OhL} {FR GR AR BR : OhQ} {AN : OhN} {C : OhC} {k : Nat × Nat} {Φ : OhP} {Ψ : OhX} (hM : ohShM FR AN) (n : Nat) (x1 : Int32) (x2 : Int32) {r : (Int32) ⊕ ((Unit) ⊕ (Unit))} (hm : mX4_canStand_b2 n FR AI AN x1 x2 = some r) (hk : ∀ v : Int32, r = .inl v → oX G 2 iX4_canStand 2 [(0, vR (some (1, 0))), (1, vI x1), (2, vI v)] [] (FI, FL, FR, GR, AI, AL, AR, BR, AN, C) k Φ Ψ) (hx1 : ∀ v : Unit, r = .inr (.inl v) → oX G 2 iX4_canStand 34 [] [] (FI, FL, FR, GR, AI, AL, AR, BR, AN, C) k Φ Ψ) (hx2 : ∀ v : Unit, r = .inr (.inr v) → oX G 2 iX4_canStand 26 [] [] (FI, FL, FR, GR, AI, AL, AR, BR, AN, C) k Φ Ψ) : oX G 2 iX4_canStand 2 [(0, vR (some (1, 0))), (1, vI x1), (2, vI x2)] [] (FI, FL, FR, GR, AI, AL, AR, BR, AN, C) k Φ Ψ := by
  unfold mX4_canStand_b2 at hm
  refine oX_iload_n dX4_canStand_2 rfl rfl ?_
  refine oX_sipush (v := (625 : Int32)) dX4_canStand_3 (by decide) ?_
  refine oX_icmp_ge (tgt := 34) dX4_canStand_6 (by decide) (fun c1 => ?_) (fun c1 => ?_)
  · have hm := ifp c1 hm
    exact oX_sub [] rfl (hx1 () (Option.some.inj hm).symm)
  · have hm := ifn c1 hm
    refine oX_aload_n dX4_canStand_9 rfl rfl ?_
    refine oX_getF fX4_178 rfl oDs1 dX4_canStand_10 (ohF180 hM) ?_
    refine oX_iload_n dX4_canStand_13 rfl rfl ?_
    obtain ⟨g2, hm⟩ := gd_s hm
    refine oX_zald oDs180 (oIn (ohN180 hM) g2) dX4_canStand_14 ?_
    refine oX_if_eq (tgt := 28) dX4_canStand_15 (by decide) (fun c3 => ?_) (fun c3 => ?_)
    · have hm := ifp c3 hm
      refine oX_iinc (v := x2 + (1 : Int32)) (ls' := [(2, vI (x2 + (1 : Int32))), (0, vR (some (1, 0))), (1, vI x1)]) dX4_canStand_28 rfl rfl (by decide) rfl ?_
      refine oX_goto (tgt := 2) dX4_canStand_31 (by decide) ?_
      exact oX_sub [1, 2, 0] rfl (hk (x2 + (1 : Int32)) (Option.some.inj hm).symm)
    · have hm := ifn c3 hm
      refine oX_iload_n dX4_canStand_18 rfl rfl ?_
      refine oX_iload_n dX4_canStand_19 rfl rfl ?_
      obtain ⟨r4, g4, hm⟩ := bd_s hm
      refine oX_cS (as := [vI x2, vI x1]) dX4_canStand_20 rfl ok_X4_placeOf rfl rfl q2301 q2302 q136 q2303 (by decide) (Nat.le_of_ble_eq_true rfl) (t_X4_placeOf x2 x1 g4) ?_
      refine oX_if_ne (tgt := 28) dX4_canStand_23 (by decide) (fun c5 => ?_) (fun c5 => ?_)
      · have hm := ifp c5 hm
        exact oX_sub [] rfl (hx2 () (Option.some.inj hm).symm)
      · have hm := ifn c5 hm
        refine oX_iinc (v := x2 + (1 : Int32)) (ls' := [(2, vI (x2 + (1 : Int32))), (0, vR (some (1, 0))), (1, vI x1)]) dX4_canStand_28 rfl rfl (by decide) rfl ?_
        refine oX_goto (tgt := 2) dX4_canStand_31 (by decide) ?_
        exact oX_sub [1, 2, 0] rfl (hk (x2 + (1 : Int32)) (Option.some.inj hm).symm)
theorem l_mX4_canStand_b2 {G : OhG} {FI : OhI} {FL : OhL} {FR : OhQ} {GR : OhQ} {AI : OhI} {AL : OhL} {AR : OhQ} {BR : OhQ} {AN : OhN} {C : OhC} {k : Nat × Nat} {Φ : OhP} {Ψ : OhX} (hM : ohShM FR AN) (n : Nat) (x1 : Int32) : ∀ (f : Nat) (x2 : Int32) (b : ((Unit) ⊕ (Unit))), lpF (fun v => mX4_canStand_b2 n FR AI AN x1 v) f x2 = some b → (∀ v : Unit, b = (.inl v) → oX G 2 iX4_canStand 34 [] [] (FI, FL, FR, GR, AI, AL, AR, BR, AN, C) k Φ Ψ) → (∀ v : Unit, b = (.inr v) → oX G 2 iX4_canStand 26 [] [] (FI, FL, FR, GR, AI, AL, AR, BR, AN, C) k Φ Ψ) → oX G 2 iX4_canStand 2 [(0, vR (some (1, 0))), (1, vI x1), (2, vI x2)] [] (FI, FL, FR, GR, AI, AL, AR, BR, AN, C) k Φ Ψ := by
  intro f
  induction f with
  | zero =>
    intro x2 b hm
    cases hm
  | succ f ih =>
    intro x2 b hm hx1 hx2
    obtain ⟨r, hr, hm⟩ := lp_s hm
    refine x_mX4_canStand_b2 hM n x1 x2 hr (fun v e => ?_) (fun v e => ?_) (fun v e => ?_)
    · subst e; exact ih v _ hm hx1 hx2
    · subst e; exact hx1 v hm.symm
    · subst e; exact hx2 v hm.symm
noncomputable def mX4_canStand (n : Nat) (FR : OhQ) (AI : OhI) (AN : OhN) (x1 : Int32) : Option (Int32) :=
  (lpF (fun v => mX4_canStand_b2 n FR AI AN x1 v) n (0 : Int32)).bind (Sum.elim (fun v6 => some (0 : Int32)) (fun v6 => some (1 : Int32)))
theorem x_mX4_canStand {G : OhG} {FI AI : OhI} {FL AL : OhL} {FR GR AR BR : OhQ} {AN : OhN} {C : OhC} {k : Nat × Nat} {Φ : OhP} {Ψ : OhX} (hM : ohShM FR AN) (n : Nat) (x1 : Int32) {r : Int32} (hm : mX4_canStand n FR AI AN x1 = some r) (hK : Φ (some (vI r)) (FI, FL, FR, GR, AI, AL, AR, BR, AN, C)) : oX G 2 iX4_canStand 0 [(0, vR (some (1, 0))), (1, vI x1)] [] (FI, FL, FR, GR, AI, AL, AR, BR, AN, C) k Φ Ψ := by
  unfold mX4_canStand at hm
  refine oX_iconst (v := (0 : Int32)) dX4_canStand_0 (by decide) ?_
  refine oX_istore_n (ls' := [(2, vI (0 : Int32)), (0, vR (some (1, 0))), (1, vI x1)]) dX4_canStand_1 rfl (by decide) rfl ?_
  obtain ⟨b6, g6, hm⟩ := bd_s hm
  refine oX_sub [1, 2, 0] rfl (l_mX4_canStand_b2 hM n x1 n (0 : Int32) _ g6 (fun v6 e6 => ?_) (fun v6 e6 => ?_))
  · subst e6
    have hm := el1 hm
    refine oX_iconst (v := (0 : Int32)) dX4_canStand_34 (by decide) ?_
    obtain rfl := Option.some.inj hm
    exact oX_iret dX4_canStand_35 rfl (by decide) hK
  · subst e6
    have hm := el2 hm
    refine oX_iconst (v := (1 : Int32)) dX4_canStand_26 (by decide) ?_
    obtain rfl := Option.some.inj hm
    exact oX_iret dX4_canStand_27 rfl (by decide) hK
theorem t_X4_canStand {G : OhG} {FI AI : OhI} {FL AL : OhL} {FR GR AR BR : OhQ} {AN : OhN} {C : OhC} (hM : ohShM FR AN) (n : Nat) (x1 : Int32) {o : Int32} (hm : mX4_canStand n FR AI AN x1 = some o) : oT G 2 iX4_canStand [vR (some (1, 0)), vI x1] (FI, FL, FR, GR, AI, AL, AR, BR, AN, C) (0, 0) (fun v h => v = (some (vI o)) ∧ h = (FI, FL, FR, GR, AI, AL, AR, BR, AN, C)) ohNo :=
  oT_of (by decide) rfl (Nat.le_of_ble_eq_true rfl) (x_mX4_canStand hM n x1 hm ⟨rfl, rfl⟩)
abbrev iX4_areNext : OhM := (yX4_areNext, cX4_areNext, 4, (some .boolean), [])
theorem ok_X4_areNext : oOk iX4_areNext 2 := ⟨by decide, by decide, by decide +kernel⟩

noncomputable def mX4_areNext_j31 (x2 : Int32) (x3 : Int32) : Option (Int32) :=
  (if x3 = (4 : Int32) then
  (if x2 = (1 : Int32) then
    some (1 : Int32)
  else
    (if x2 = (3 : Int32) then
      some (1 : Int32)
    else
      some (0 : Int32)))
else
  some (0 : Int32))
theorem x_mX4_areNext_j31 {G : OhG} {FI AI : OhI} {FL AL : OhL} {FR GR AR BR : OhQ} {AN : OhN} {C : OhC} {k : Nat × Nat} {Φ : OhP} {Ψ : OhX} (x2 : Int32) (x3 : Int32) {r : Int32} (hm : mX4_areNext_j31 x2 x3 = some r) (hK : Φ (some (vI r)) (FI, FL, FR, GR, AI, AL, AR, BR, AN, C)) : oX G 1 iX4_areNext 31 [(2, vI x2), (3, vI x3)] [] (FI, FL, FR, GR, AI, AL, AR, BR, AN, C) k Φ Ψ := by
  unfold mX4_areNext_j31 at hm
  refine oX_iload_n dX4_areNext_31 rfl rfl ?_
  refine oX_iconst (v := (4 : Int32)) dX4_areNext_32 (by decide) ?_
  refine oX_icmp_ne (tgt := 50) dX4_areNext_33 (by decide) (fun c5 => ?_) (fun c5 => ?_)
  · have hm := ifp c5 hm
    refine oX_iload_n dX4_areNext_36 rfl rfl ?_
    refine oX_iconst (v := (1 : Int32)) dX4_areNext_37 (by decide) ?_
    refine oX_icmp_eq (tgt := 46) dX4_areNext_38 (by decide) (fun c6 => ?_) (fun c6 => ?_)
    · have hm := ifp c6 hm
      refine oX_iconst (v := (1 : Int32)) dX4_areNext_46 (by decide) ?_
      refine oX_goto (tgt := 51) dX4_areNext_47 (by decide) ?_
      obtain rfl := Option.some.inj hm
      exact oX_iret dX4_areNext_51 rfl (by decide) hK
    · have hm := ifn c6 hm
      refine oX_iload_n dX4_areNext_41 rfl rfl ?_
      refine oX_iconst (v := (3 : Int32)) dX4_areNext_42 (by decide) ?_
      refine oX_icmp_ne (tgt := 50) dX4_areNext_43 (by decide) (fun c7 => ?_) (fun c7 => ?_)
      · have hm := ifp c7 hm
        refine oX_iconst (v := (1 : Int32)) dX4_areNext_46 (by decide) ?_
        refine oX_goto (tgt := 51) dX4_areNext_47 (by decide) ?_
        obtain rfl := Option.some.inj hm
        exact oX_iret dX4_areNext_51 rfl (by decide) hK
      · have hm := ifn c7 hm
        refine oX_iconst (v := (0 : Int32)) dX4_areNext_50 (by decide) ?_
        obtain rfl := Option.some.inj hm
        exact oX_iret dX4_areNext_51 rfl (by decide) hK
  · have hm := ifn c5 hm
    refine oX_iconst (v := (0 : Int32)) dX4_areNext_50 (by decide) ?_
    obtain rfl := Option.some.inj hm
    exact oX_iret dX4_areNext_51 rfl (by decide) hK
noncomputable def mX4_areNext_j21 (x2 : Int32) (y0 : Int32) : Option (Int32) :=
  (if x2 = 0 then
  (if y0 < (4 : Int32) then
    some (1 : Int32)
  else
    mX4_areNext_j31 x2 y0)
else
  mX4_areNext_j31 x2 y0)
theorem x_mX4_areNext_j21 {G : OhG} {FI AI : OhI} {FL AL : OhL} {FR GR AR BR : OhQ} {AN : OhN} {C : OhC} {k : Nat × Nat} {Φ : OhP} {Ψ : OhX} (x2 : Int32) (y0 : Int32) {r : Int32} (hm : mX4_areNext_j21 x2 y0 = some r) (hK : Φ (some (vI r)) (FI, FL, FR, GR, AI, AL, AR, BR, AN, C)) : oX G 1 iX4_areNext 21 [(2, vI x2)] [vI y0] (FI, FL, FR, GR, AI, AL, AR, BR, AN, C) k Φ Ψ := by
  unfold mX4_areNext_j21 at hm
  refine oX_istore_n (ls' := [(3, vI y0), (2, vI x2)]) dX4_areNext_21 rfl (by decide) rfl ?_
  refine oX_iload_n dX4_areNext_22 rfl rfl ?_
  refine oX_if_ne (tgt := 31) dX4_areNext_23 (by decide) (fun c3 => ?_) (fun c3 => ?_)
  · have hm := ifp c3 hm
    refine oX_iload_n dX4_areNext_26 rfl rfl ?_
    refine oX_iconst (v := (4 : Int32)) dX4_areNext_27 (by decide) ?_
    refine oX_icmp_lt (tgt := 46) dX4_areNext_28 (by decide) (fun c4 => ?_) (fun c4 => ?_)
    · have hm := ifp c4 hm
      refine oX_iconst (v := (1 : Int32)) dX4_areNext_46 (by decide) ?_
      refine oX_goto (tgt := 51) dX4_areNext_47 (by decide) ?_
      obtain rfl := Option.some.inj hm
      exact oX_iret dX4_areNext_51 rfl (by decide) hK
    · have hm := ifn c4 hm
      exact oX_sub [1, 0] rfl (x_mX4_areNext_j31 x2 y0 hm hK)
  · have hm := ifn c3 hm
    exact oX_sub [1, 0] rfl (x_mX4_areNext_j31 x2 y0 hm hK)
noncomputable def mX4_areNext_j10 (x0 : Int32) (x1 : Int32) (y0 : Int32) : Option (Int32) :=
  (if x1 ≤ x0 then
  mX4_areNext_j21 y0 x0
else
  mX4_areNext_j21 y0 x1)
theorem x_mX4_areNext_j10 {G : OhG} {FI AI : OhI} {FL AL : OhL} {FR GR AR BR : OhQ} {AN : OhN} {C : OhC} {k : Nat × Nat} {Φ : OhP} {Ψ : OhX} (x0 : Int32) (x1 : Int32) (y0 : Int32) {r : Int32} (hm : mX4_areNext_j10 x0 x1 y0 = some r) (hK : Φ (some (vI r)) (FI, FL, FR, GR, AI, AL, AR, BR, AN, C)) : oX G 1 iX4_areNext 10 [(0, vI x0), (1, vI x1)] [vI y0] (FI, FL, FR, GR, AI, AL, AR, BR, AN, C) k Φ Ψ := by
  unfold mX4_areNext_j10 at hm
  refine oX_istore_n (ls' := [(2, vI y0), (0, vI x0), (1, vI x1)]) dX4_areNext_10 rfl (by decide) rfl ?_
  refine oX_iload_n dX4_areNext_11 rfl rfl ?_
  refine oX_iload_n dX4_areNext_12 rfl rfl ?_
  refine oX_icmp_ge (tgt := 20) dX4_areNext_13 (by decide) (fun c2 => ?_) (fun c2 => ?_)
  · have hm := ifp c2 hm
    refine oX_iload_n dX4_areNext_20 rfl rfl ?_
    exact oX_sub [0] rfl (x_mX4_areNext_j21 y0 x0 hm hK)
  · have hm := ifn c2 hm
    refine oX_iload_n dX4_areNext_16 rfl rfl ?_
    refine oX_goto (tgt := 21) dX4_areNext_17 (by decide) ?_
    exact oX_sub [0] rfl (x_mX4_areNext_j21 y0 x1 hm hK)
noncomputable def mX4_areNext (x0 : Int32) (x1 : Int32) : Option (Int32) :=
  (if x1 ≤ x0 then
  mX4_areNext_j10 x0 x1 x1
else
  mX4_areNext_j10 x0 x1 x0)
theorem x_mX4_areNext {G : OhG} {FI AI : OhI} {FL AL : OhL} {FR GR AR BR : OhQ} {AN : OhN} {C : OhC} {k : Nat × Nat} {Φ : OhP} {Ψ : OhX} (x0 : Int32) (x1 : Int32) {r : Int32} (hm : mX4_areNext x0 x1 = some r) (hK : Φ (some (vI r)) (FI, FL, FR, GR, AI, AL, AR, BR, AN, C)) : oX G 1 iX4_areNext 0 [(0, vI x0), (1, vI x1)] [] (FI, FL, FR, GR, AI, AL, AR, BR, AN, C) k Φ Ψ := by
  unfold mX4_areNext at hm
  refine oX_iload_n dX4_areNext_0 rfl rfl ?_
  refine oX_iload_n dX4_areNext_1 rfl rfl ?_
  refine oX_icmp_ge (tgt := 9) dX4_areNext_2 (by decide) (fun c1 => ?_) (fun c1 => ?_)
  · have hm := ifp c1 hm
    refine oX_iload_n dX4_areNext_9 rfl rfl ?_
    exact oX_sub [0, 1] rfl (x_mX4_areNext_j10 x0 x1 x1 hm hK)
  · have hm := ifn c1 hm
    refine oX_iload_n dX4_areNext_5 rfl rfl ?_
    refine oX_goto (tgt := 10) dX4_areNext_6 (by decide) ?_
    exact oX_sub [0, 1] rfl (x_mX4_areNext_j10 x0 x1 x0 hm hK)
theorem t_X4_areNext {G : OhG} {FI AI : OhI} {FL AL : OhL} {FR GR AR BR : OhQ} {AN : OhN} {C : OhC} (x0 : Int32) (x1 : Int32) {o : Int32} (hm : mX4_areNext x0 x1 = some o) : oT G 1 iX4_areNext [vI x0, vI x1] (FI, FL, FR, GR, AI, AL, AR, BR, AN, C) (0, 0) (fun v h => v = (some (vI o)) ∧ h = (FI, FL, FR, GR, AI, AL, AR, BR, AN, C)) ohNo :=
  oT_of (by decide) rfl (Nat.le_of_ble_eq_true rfl) (x_mX4_areNext x0 x1 hm ⟨rfl, rfl⟩)
abbrev iX4_moved : OhM := (yX4_moved, cX4_moved, 3, (some .int), [])
theorem ok_X4_moved : oOk iX4_moved 3 := ⟨by decide, by decide, by decide +kernel⟩

noncomputable def mX4_moved (x0 : Int32) (x1 : Int32) (x2 : Int32) : Option (Int32) :=
  (mX4_placeOf x0 x1).bind fun r1 =>
  (if x1 = 0 then
  some (x0 + ((x2 - r1) * (1 : Int32)))
else
  (if x1 = (1 : Int32) then
    some (x0 + ((x2 - r1) * (5 : Int32)))
  else
    (if x1 = (2 : Int32) then
      some (x0 + ((x2 - r1) * (25 : Int32)))
    else
      some (x0 + ((x2 - r1) * (125 : Int32))))))
theorem x_mX4_moved {G : OhG} {FI AI : OhI} {FL AL : OhL} {FR GR AR BR : OhQ} {AN : OhN} {C : OhC} {k : Nat × Nat} {Φ : OhP} {Ψ : OhX} (x0 : Int32) (x1 : Int32) (x2 : Int32) {r : Int32} (hm : mX4_moved x0 x1 x2 = some r) (hK : Φ (some (vI r)) (FI, FL, FR, GR, AI, AL, AR, BR, AN, C)) : oX G 2 iX4_moved 0 [(0, vI x0), (1, vI x1), (2, vI x2)] [] (FI, FL, FR, GR, AI, AL, AR, BR, AN, C) k Φ Ψ := by
  unfold mX4_moved at hm
  refine oX_iload_n dX4_moved_0 rfl rfl ?_
  refine oX_iload_n dX4_moved_1 rfl rfl ?_
  refine oX_iload_n dX4_moved_2 rfl rfl ?_
  refine oX_iload_n dX4_moved_3 rfl rfl ?_
  obtain ⟨r1, g1, hm⟩ := bd_s hm
  refine oX_cS (as := [vI x0, vI x1]) dX4_moved_4 rfl ok_X4_placeOf rfl rfl q2301 q2302 q136 q2303 (by decide) (Nat.le_of_ble_eq_true rfl) (t_X4_placeOf x0 x1 g1) ?_
  refine oX_isub dX4_moved_7 ?_
  refine oX_iload_n dX4_moved_8 rfl rfl ?_
  refine oX_if_ne (tgt := 16) dX4_moved_9 (by decide) (fun c2 => ?_) (fun c2 => ?_)
  · have hm := ifp c2 hm
    refine oX_iconst (v := (1 : Int32)) dX4_moved_12 (by decide) ?_
    refine oX_goto (tgt := 37) dX4_moved_13 (by decide) ?_
    refine oX_imul dX4_moved_37 ?_
    refine oX_iadd dX4_moved_38 ?_
    obtain rfl := Option.some.inj hm
    exact oX_iret dX4_moved_39 rfl rfl hK
  · have hm := ifn c2 hm
    refine oX_iload_n dX4_moved_16 rfl rfl ?_
    refine oX_iconst (v := (1 : Int32)) dX4_moved_17 (by decide) ?_
    refine oX_icmp_ne (tgt := 25) dX4_moved_18 (by decide) (fun c3 => ?_) (fun c3 => ?_)
    · have hm := ifp c3 hm
      refine oX_iconst (v := (5 : Int32)) dX4_moved_21 (by decide) ?_
      refine oX_goto (tgt := 37) dX4_moved_22 (by decide) ?_
      refine oX_imul dX4_moved_37 ?_
      refine oX_iadd dX4_moved_38 ?_
      obtain rfl := Option.some.inj hm
      exact oX_iret dX4_moved_39 rfl rfl hK
    · have hm := ifn c3 hm
      refine oX_iload_n dX4_moved_25 rfl rfl ?_
      refine oX_iconst (v := (2 : Int32)) dX4_moved_26 (by decide) ?_
      refine oX_icmp_ne (tgt := 35) dX4_moved_27 (by decide) (fun c4 => ?_) (fun c4 => ?_)
      · have hm := ifp c4 hm
        refine oX_bipush (v := (25 : Int32)) dX4_moved_30 (by decide) ?_
        refine oX_goto (tgt := 37) dX4_moved_32 (by decide) ?_
        refine oX_imul dX4_moved_37 ?_
        refine oX_iadd dX4_moved_38 ?_
        obtain rfl := Option.some.inj hm
        exact oX_iret dX4_moved_39 rfl rfl hK
      · have hm := ifn c4 hm
        refine oX_bipush (v := (125 : Int32)) dX4_moved_35 (by decide) ?_
        refine oX_imul dX4_moved_37 ?_
        refine oX_iadd dX4_moved_38 ?_
        obtain rfl := Option.some.inj hm
        exact oX_iret dX4_moved_39 rfl rfl hK
theorem t_X4_moved {G : OhG} {FI AI : OhI} {FL AL : OhL} {FR GR AR BR : OhQ} {AN : OhN} {C : OhC} (x0 : Int32) (x1 : Int32) (x2 : Int32) {o : Int32} (hm : mX4_moved x0 x1 x2 = some o) : oT G 2 iX4_moved [vI x0, vI x1, vI x2] (FI, FL, FR, GR, AI, AL, AR, BR, AN, C) (0, 0) (fun v h => v = (some (vI o)) ∧ h = (FI, FL, FR, GR, AI, AL, AR, BR, AN, C)) ohNo :=
  oT_of (by decide) rfl (Nat.le_of_ble_eq_true rfl) (x_mX4_moved x0 x1 x2 hm ⟨rfl, rfl⟩)
abbrev iX4_goOn : OhM := (yX4_goOn, cX4_goOn, 5, (some .boolean), [])
theorem ok_X4_goOn : oOk iX4_goOn 0 := ⟨by decide, by decide, by decide +kernel⟩

noncomputable def mX4_goOn_b2 (n : Nat) (FR : OhQ) (AI : OhI) (AN : OhN) (x1 : Int32) : Option ((Int32 × OhI) ⊕ (OhI)) :=
  (if (625 : Int32) ≤ x1 then
  some (.inr AI)
else
  gd (vp_in x1 625) <|
    gd (vp_in x1 625) <|
    oLet (sA AI 181 0 (uA (AI 181 0) x1.toNatClampNeg (vp_nar .boolean (AI 180 0 x1.toNatClampNeg)))) fun AI3 =>
    some (.inl (x1 + (1 : Int32), AI3)))
theorem x_mX4_goOn_b2 {G : OhG} {FI AI : OhI} {FL AL : OhL} {FR GR AR BR : OhQ} {AN : OhN} {C : OhC} {k : Nat × Nat} {Φ : OhP} {Ψ : OhX} (hM : ohShM FR AN) (n : Nat) (x1 : Int32) {r : (Int32 × OhI) ⊕ (OhI)} (hm : mX4_goOn_b2 n FR AI AN x1 = some r) (hk : ∀ v : Int32 × OhI, r = .inl v → oX G 3 iX4_goOn 2 [(0, vR (some (1, 0))), (1, vI v.1)] [] (FI, FL, FR, GR, v.2, AL, AR, BR, AN, C) k Φ Ψ) (hx1 : ∀ v : OhI, r = .inr v → oX G 3 iX4_goOn 27 [(0, vR (some (1, 0)))] [] (FI, FL, FR, GR, v, AL, AR, BR, AN, C) k Φ Ψ) : oX G 3 iX4_goOn 2 [(0, vR (some (1, 0))), (1, vI x1)] [] (FI, FL, FR, GR, AI, AL, AR, BR, AN, C) k Φ Ψ := by
  unfold mX4_goOn_b2 at hm
  refine oX_iload_n dX4_goOn_2 rfl rfl ?_
  refine oX_sipush (v := (625 : Int32)) dX4_goOn_3 (by decide) ?_
  refine oX_icmp_ge (tgt := 27) dX4_goOn_6 (by decide) (fun c1 => ?_) (fun c1 => ?_)
  · have hm := ifp c1 hm
    exact oX_sub [0] rfl (hx1 AI (Option.some.inj hm).symm)
  · have hm := ifn c1 hm
    refine oX_aload_n dX4_goOn_9 rfl rfl ?_
    refine oX_getF fX4_181 rfl oDs1 dX4_goOn_10 (ohF181 hM) ?_
    refine oX_iload_n dX4_goOn_13 rfl rfl ?_
    refine oX_aload_n dX4_goOn_14 rfl rfl ?_
    refine oX_getF fX4_178 rfl oDs1 dX4_goOn_15 (ohF180 hM) ?_
    refine oX_iload_n dX4_goOn_18 rfl rfl ?_
    obtain ⟨g2, hm⟩ := gd_s hm
    refine oX_zald oDs180 (oIn (ohN180 hM) g2) dX4_goOn_19 ?_
    obtain ⟨g3, hm⟩ := gd_s hm
    obtain ⟨AI3, hAI3, hm⟩ := oLs hm
    refine oX_zast oDs181 (oIn (ohN181 hM) g3) dX4_goOn_20 hAI3 ?_
    refine oX_iinc (v := x1 + (1 : Int32)) (ls' := [(1, vI (x1 + (1 : Int32))), (0, vR (some (1, 0)))]) dX4_goOn_21 rfl rfl (by decide) rfl ?_
    refine oX_goto (tgt := 2) dX4_goOn_24 (by decide) ?_
    exact oX_sub [1, 0] rfl (hk (x1 + (1 : Int32), AI3) (Option.some.inj hm).symm)
theorem l_mX4_goOn_b2 {G : OhG} {FI : OhI} {FL : OhL} {FR : OhQ} {GR : OhQ} {AL : OhL} {AR : OhQ} {BR : OhQ} {AN : OhN} {C : OhC} {k : Nat × Nat} {Φ : OhP} {Ψ : OhX} (hM : ohShM FR AN) (n : Nat) : ∀ (f : Nat) (x1 : Int32) (AI : OhI) (b : (OhI)), lpF (fun v => mX4_goOn_b2 n FR v.2 AN v.1) f (x1, AI) = some b → (oX G 3 iX4_goOn 27 [(0, vR (some (1, 0)))] [] (FI, FL, FR, GR, b, AL, AR, BR, AN, C) k Φ Ψ) → oX G 3 iX4_goOn 2 [(0, vR (some (1, 0))), (1, vI x1)] [] (FI, FL, FR, GR, AI, AL, AR, BR, AN, C) k Φ Ψ := by
  intro f
  induction f with
  | zero =>
    intro x1 AI b hm
    cases hm
  | succ f ih =>
    intro x1 AI b hm hx1
    obtain ⟨r, hr, hm⟩ := lp_s hm
    refine x_mX4_goOn_b2 hM n x1 hr (fun v e => ?_) (fun v e => ?_)
    · subst e; exact ih v.1 v.2 _ hm hx1
    · subst e; cases (show v = b from hm); exact hx1
noncomputable def mX4_goOn_b80 (n : Nat) (FR : OhQ) (AI : OhI) (AN : OhN) (x1 : Int32) (x2 : Int32) (x3 : Int32) (x4 : Int32) : Option ((Int32 × Int32 × OhI) ⊕ (Int32 × OhI)) :=
  (if (4 : Int32) ≤ x4 then
  some (.inr (x1, AI))
else
  (mX4_placeOf x2 x4).bind fun r13 =>
    (mX4_areNext r13 x3).bind fun r14 =>
    (if r14 = 0 then
    some (.inl (x1, x4 + (1 : Int32), AI))
  else
    (mX4_moved x2 x4 x3).bind fun r16 =>
      gd (vp_in r16 625) <|
      (if (AI 180 0 r16.toNatClampNeg) = 0 then
      (mX4_moved x2 x4 x3).bind fun r19 =>
        gd (vp_in r19 625) <|
        oLet (sA AI 180 0 (uA (AI 180 0) r19.toNatClampNeg (vp_nar .boolean (1 : Int32)))) fun AI20 =>
        some (.inl ((1 : Int32), x4 + (1 : Int32), AI20))
    else
      some (.inl (x1, x4 + (1 : Int32), AI)))))
theorem x_mX4_goOn_b80 {G : OhG} {FI AI : OhI} {FL AL : OhL} {FR GR AR BR : OhQ} {AN : OhN} {C : OhC} {k : Nat × Nat} {Φ : OhP} {Ψ : OhX} (hM : ohShM FR AN) (n : Nat) (x1 : Int32) (x2 : Int32) (x3 : Int32) (x4 : Int32) {r : (Int32 × Int32 × OhI) ⊕ (Int32 × OhI)} (hm : mX4_goOn_b80 n FR AI AN x1 x2 x3 x4 = some r) (hk : ∀ v : Int32 × Int32 × OhI, r = .inl v → oX G 3 iX4_goOn 80 [(0, vR (some (1, 0))), (1, vI v.1), (2, vI x2), (3, vI x3), (4, vI v.2.1)] [] (FI, FL, FR, GR, v.2.2, AL, AR, BR, AN, C) k Φ Ψ) (hx1 : ∀ v : Int32 × OhI, r = .inr v → oX G 3 iX4_goOn 138 [(0, vR (some (1, 0))), (1, vI v.1), (2, vI x2)] [] (FI, FL, FR, GR, v.2, AL, AR, BR, AN, C) k Φ Ψ) : oX G 3 iX4_goOn 80 [(0, vR (some (1, 0))), (1, vI x1), (2, vI x2), (3, vI x3), (4, vI x4)] [] (FI, FL, FR, GR, AI, AL, AR, BR, AN, C) k Φ Ψ := by
  unfold mX4_goOn_b80 at hm
  refine oX_iload dX4_goOn_80 rfl ?_
  refine oX_iconst (v := (4 : Int32)) dX4_goOn_82 (by decide) ?_
  refine oX_icmp_ge (tgt := 138) dX4_goOn_83 (by decide) (fun c12 => ?_) (fun c12 => ?_)
  · have hm := ifp c12 hm
    exact oX_sub [0, 1, 2] rfl (hx1 (x1, AI) (Option.some.inj hm).symm)
  · have hm := ifn c12 hm
    refine oX_iload_n dX4_goOn_86 rfl rfl ?_
    refine oX_iload dX4_goOn_87 rfl ?_
    obtain ⟨r13, g13, hm⟩ := bd_s hm
    refine oX_cS (as := [vI x2, vI x4]) dX4_goOn_89 rfl ok_X4_placeOf rfl rfl q2301 q2302 q136 q2303 (by decide) (Nat.le_of_ble_eq_true rfl) (t_X4_placeOf x2 x4 g13) ?_
    refine oX_iload_n dX4_goOn_92 rfl rfl ?_
    obtain ⟨r14, g14, hm⟩ := bd_s hm
    refine oX_cS (as := [vI r13, vI x3]) dX4_goOn_93 rfl ok_X4_areNext rfl rfl q2308 q2309 q136 q2310 (by decide) (Nat.le_of_ble_eq_true rfl) (t_X4_areNext r13 x3 g14) ?_
    refine oX_if_eq (tgt := 132) dX4_goOn_96 (by decide) (fun c15 => ?_) (fun c15 => ?_)
    · have hm := ifp c15 hm
      refine oX_iinc (v := x4 + (1 : Int32)) (ls' := [(4, vI (x4 + (1 : Int32))), (0, vR (some (1, 0))), (1, vI x1), (2, vI x2), (3, vI x3)]) dX4_goOn_132 rfl rfl (by decide) rfl ?_
      refine oX_goto (tgt := 80) dX4_goOn_135 (by decide) ?_
      exact oX_sub [1, 2, 3, 4, 0] rfl (hk (x1, x4 + (1 : Int32), AI) (Option.some.inj hm).symm)
    · have hm := ifn c15 hm
      refine oX_aload_n dX4_goOn_99 rfl rfl ?_
      refine oX_getF fX4_178 rfl oDs1 dX4_goOn_100 (ohF180 hM) ?_
      refine oX_iload_n dX4_goOn_103 rfl rfl ?_
      refine oX_iload dX4_goOn_104 rfl ?_
      refine oX_iload_n dX4_goOn_106 rfl rfl ?_
      obtain ⟨r16, g16, hm⟩ := bd_s hm
      refine oX_cS (as := [vI x2, vI x4, vI x3]) dX4_goOn_107 rfl ok_X4_moved rfl rfl q2311 q2312 q136 q2313 (by decide) (Nat.le_of_ble_eq_true rfl) (t_X4_moved x2 x4 x3 g16) ?_
      obtain ⟨g17, hm⟩ := gd_s hm
      refine oX_zald oDs180 (oIn (ohN180 hM) g17) dX4_goOn_110 ?_
      refine oX_if_eq (tgt := 117) dX4_goOn_111 (by decide) (fun c18 => ?_) (fun c18 => ?_)
      · have hm := ifp c18 hm
        refine oX_aload_n dX4_goOn_117 rfl rfl ?_
        refine oX_getF fX4_178 rfl oDs1 dX4_goOn_118 (ohF180 hM) ?_
        refine oX_iload_n dX4_goOn_121 rfl rfl ?_
        refine oX_iload dX4_goOn_122 rfl ?_
        refine oX_iload_n dX4_goOn_124 rfl rfl ?_
        obtain ⟨r19, g19, hm⟩ := bd_s hm
        refine oX_cS (as := [vI x2, vI x4, vI x3]) dX4_goOn_125 rfl ok_X4_moved rfl rfl q2311 q2312 q136 q2313 (by decide) (Nat.le_of_ble_eq_true rfl) (t_X4_moved x2 x4 x3 g19) ?_
        refine oX_iconst (v := (1 : Int32)) dX4_goOn_128 (by decide) ?_
        obtain ⟨g20, hm⟩ := gd_s hm
        obtain ⟨AI20, hAI20, hm⟩ := oLs hm
        refine oX_zast oDs180 (oIn (ohN180 hM) g20) dX4_goOn_129 hAI20 ?_
        refine oX_iconst (v := (1 : Int32)) dX4_goOn_130 (by decide) ?_
        refine oX_istore_n (ls' := [(1, vI (1 : Int32)), (0, vR (some (1, 0))), (2, vI x2), (3, vI x3), (4, vI x4)]) dX4_goOn_131 rfl (by decide) rfl ?_
        refine oX_iinc (v := x4 + (1 : Int32)) (ls' := [(4, vI (x4 + (1 : Int32))), (1, vI (1 : Int32)), (0, vR (some (1, 0))), (2, vI x2), (3, vI x3)]) dX4_goOn_132 rfl rfl (by decide) rfl ?_
        refine oX_goto (tgt := 80) dX4_goOn_135 (by decide) ?_
        exact oX_sub [2, 1, 3, 4, 0] rfl (hk ((1 : Int32), x4 + (1 : Int32), AI20) (Option.some.inj hm).symm)
      · have hm := ifn c18 hm
        refine oX_goto (tgt := 132) dX4_goOn_114 (by decide) ?_
        refine oX_iinc (v := x4 + (1 : Int32)) (ls' := [(4, vI (x4 + (1 : Int32))), (0, vR (some (1, 0))), (1, vI x1), (2, vI x2), (3, vI x3)]) dX4_goOn_132 rfl rfl (by decide) rfl ?_
        refine oX_goto (tgt := 80) dX4_goOn_135 (by decide) ?_
        exact oX_sub [1, 2, 3, 4, 0] rfl (hk (x1, x4 + (1 : Int32), AI) (Option.some.inj hm).symm)
theorem l_mX4_goOn_b80 {G : OhG} {FI : OhI} {FL : OhL} {FR : OhQ} {GR : OhQ} {AL : OhL} {AR : OhQ} {BR : OhQ} {AN : OhN} {C : OhC} {k : Nat × Nat} {Φ : OhP} {Ψ : OhX} (hM : ohShM FR AN) (n : Nat) (x2 : Int32) (x3 : Int32) : ∀ (f : Nat) (x1 : Int32) (x4 : Int32) (AI : OhI) (b : (Int32 × OhI)), lpF (fun v => mX4_goOn_b80 n FR v.2.2 AN v.1 x2 x3 v.2.1) f (x1, x4, AI) = some b → (oX G 3 iX4_goOn 138 [(0, vR (some (1, 0))), (1, vI b.1), (2, vI x2)] [] (FI, FL, FR, GR, b.2, AL, AR, BR, AN, C) k Φ Ψ) → oX G 3 iX4_goOn 80 [(0, vR (some (1, 0))), (1, vI x1), (2, vI x2), (3, vI x3), (4, vI x4)] [] (FI, FL, FR, GR, AI, AL, AR, BR, AN, C) k Φ Ψ := by
  intro f
  induction f with
  | zero =>
    intro x1 x4 AI b hm
    cases hm
  | succ f ih =>
    intro x1 x4 AI b hm hx1
    obtain ⟨r, hr, hm⟩ := lp_s hm
    refine x_mX4_goOn_b80 hM n x1 x2 x3 x4 hr (fun v e => ?_) (fun v e => ?_)
    · subst e; exact ih v.1 v.2.1 v.2.2 _ hm hx1
    · subst e; cases (show v = b from hm); exact hx1
noncomputable def mX4_goOn_b31 (n : Nat) (FR : OhQ) (AI : OhI) (AN : OhN) (x1 : Int32) (x2 : Int32) : Option ((Int32 × Int32 × OhI) ⊕ (Int32 × OhI)) :=
  (if (625 : Int32) ≤ x2 then
  some (.inr (x1, AI))
else
  gd (vp_in x2 625) <|
    (if (AI 181 0 x2.toNatClampNeg) = 0 then
    some (.inl (x1, x2 + (1 : Int32), AI))
  else
    (mX4_placeOf x2 (0 : Int32)).bind fun r8 =>
      (mX4_placeOf x2 (1 : Int32)).bind fun r9 =>
      (mX4_placeOf x2 (2 : Int32)).bind fun r10 =>
      (mX4_placeOf x2 (3 : Int32)).bind fun r11 =>
      (lpF (fun v => mX4_goOn_b80 n FR v.2.2 AN v.1 x2 (((((10 : Int32) - r8) - r9) - r10) - r11) v.2.1) n (x1, (0 : Int32), AI)).bind fun v21 =>
      some (.inl (v21.1, x2 + (1 : Int32), v21.2))))
theorem x_mX4_goOn_b31 {G : OhG} {FI AI : OhI} {FL AL : OhL} {FR GR AR BR : OhQ} {AN : OhN} {C : OhC} {k : Nat × Nat} {Φ : OhP} {Ψ : OhX} (hM : ohShM FR AN) (n : Nat) (x1 : Int32) (x2 : Int32) {r : (Int32 × Int32 × OhI) ⊕ (Int32 × OhI)} (hm : mX4_goOn_b31 n FR AI AN x1 x2 = some r) (hk : ∀ v : Int32 × Int32 × OhI, r = .inl v → oX G 3 iX4_goOn 31 [(0, vR (some (1, 0))), (1, vI v.1), (2, vI v.2.1)] [] (FI, FL, FR, GR, v.2.2, AL, AR, BR, AN, C) k Φ Ψ) (hx1 : ∀ v : Int32 × OhI, r = .inr v → oX G 3 iX4_goOn 144 [(1, vI v.1)] [] (FI, FL, FR, GR, v.2, AL, AR, BR, AN, C) k Φ Ψ) : oX G 3 iX4_goOn 31 [(0, vR (some (1, 0))), (1, vI x1), (2, vI x2)] [] (FI, FL, FR, GR, AI, AL, AR, BR, AN, C) k Φ Ψ := by
  unfold mX4_goOn_b31 at hm
  refine oX_iload_n dX4_goOn_31 rfl rfl ?_
  refine oX_sipush (v := (625 : Int32)) dX4_goOn_32 (by decide) ?_
  refine oX_icmp_ge (tgt := 144) dX4_goOn_35 (by decide) (fun c5 => ?_) (fun c5 => ?_)
  · have hm := ifp c5 hm
    exact oX_sub [1] rfl (hx1 (x1, AI) (Option.some.inj hm).symm)
  · have hm := ifn c5 hm
    refine oX_aload_n dX4_goOn_38 rfl rfl ?_
    refine oX_getF fX4_181 rfl oDs1 dX4_goOn_39 (ohF181 hM) ?_
    refine oX_iload_n dX4_goOn_42 rfl rfl ?_
    obtain ⟨g6, hm⟩ := gd_s hm
    refine oX_zald oDs181 (oIn (ohN181 hM) g6) dX4_goOn_43 ?_
    refine oX_if_ne (tgt := 50) dX4_goOn_44 (by decide) (fun c7 => ?_) (fun c7 => ?_)
    · have hm := ifp c7 hm
      refine oX_goto (tgt := 138) dX4_goOn_47 (by decide) ?_
      refine oX_iinc (v := x2 + (1 : Int32)) (ls' := [(2, vI (x2 + (1 : Int32))), (0, vR (some (1, 0))), (1, vI x1)]) dX4_goOn_138 rfl rfl (by decide) rfl ?_
      refine oX_goto (tgt := 31) dX4_goOn_141 (by decide) ?_
      exact oX_sub [1, 2, 0] rfl (hk (x1, x2 + (1 : Int32), AI) (Option.some.inj hm).symm)
    · have hm := ifn c7 hm
      refine oX_bipush (v := (10 : Int32)) dX4_goOn_50 (by decide) ?_
      refine oX_iload_n dX4_goOn_52 rfl rfl ?_
      refine oX_iconst (v := (0 : Int32)) dX4_goOn_53 (by decide) ?_
      obtain ⟨r8, g8, hm⟩ := bd_s hm
      refine oX_cS (as := [vI x2, vI (0 : Int32)]) dX4_goOn_54 rfl ok_X4_placeOf rfl rfl q2301 q2302 q136 q2303 (by decide) (Nat.le_of_ble_eq_true rfl) (t_X4_placeOf x2 (0 : Int32) g8) ?_
      refine oX_isub dX4_goOn_57 ?_
      refine oX_iload_n dX4_goOn_58 rfl rfl ?_
      refine oX_iconst (v := (1 : Int32)) dX4_goOn_59 (by decide) ?_
      obtain ⟨r9, g9, hm⟩ := bd_s hm
      refine oX_cS (as := [vI x2, vI (1 : Int32)]) dX4_goOn_60 rfl ok_X4_placeOf rfl rfl q2301 q2302 q136 q2303 (by decide) (Nat.le_of_ble_eq_true rfl) (t_X4_placeOf x2 (1 : Int32) g9) ?_
      refine oX_isub dX4_goOn_63 ?_
      refine oX_iload_n dX4_goOn_64 rfl rfl ?_
      refine oX_iconst (v := (2 : Int32)) dX4_goOn_65 (by decide) ?_
      obtain ⟨r10, g10, hm⟩ := bd_s hm
      refine oX_cS (as := [vI x2, vI (2 : Int32)]) dX4_goOn_66 rfl ok_X4_placeOf rfl rfl q2301 q2302 q136 q2303 (by decide) (Nat.le_of_ble_eq_true rfl) (t_X4_placeOf x2 (2 : Int32) g10) ?_
      refine oX_isub dX4_goOn_69 ?_
      refine oX_iload_n dX4_goOn_70 rfl rfl ?_
      refine oX_iconst (v := (3 : Int32)) dX4_goOn_71 (by decide) ?_
      obtain ⟨r11, g11, hm⟩ := bd_s hm
      refine oX_cS (as := [vI x2, vI (3 : Int32)]) dX4_goOn_72 rfl ok_X4_placeOf rfl rfl q2301 q2302 q136 q2303 (by decide) (Nat.le_of_ble_eq_true rfl) (t_X4_placeOf x2 (3 : Int32) g11) ?_
      refine oX_isub dX4_goOn_75 ?_
      refine oX_istore_n (ls' := [(3, vI (((((10 : Int32) - r8) - r9) - r10) - r11)), (0, vR (some (1, 0))), (1, vI x1), (2, vI x2)]) dX4_goOn_76 rfl (by decide) rfl ?_
      refine oX_iconst (v := (0 : Int32)) dX4_goOn_77 (by decide) ?_
      refine oX_istore (ls' := [(4, vI (0 : Int32)), (3, vI (((((10 : Int32) - r8) - r9) - r10) - r11)), (0, vR (some (1, 0))), (1, vI x1), (2, vI x2)]) dX4_goOn_78 (by decide) rfl ?_
      obtain ⟨v21, g21, hm⟩ := bd_s hm
      refine oX_sub [2, 3, 4, 1, 0] rfl (l_mX4_goOn_b80 hM n x2 (((((10 : Int32) - r8) - r9) - r10) - r11) n x1 (0 : Int32) AI _ g21 ?_)
      refine oX_iinc (v := x2 + (1 : Int32)) (ls' := [(2, vI (x2 + (1 : Int32))), (0, vR (some (1, 0))), (1, vI v21.1)]) dX4_goOn_138 rfl rfl (by decide) rfl ?_
      refine oX_goto (tgt := 31) dX4_goOn_141 (by decide) ?_
      exact oX_sub [1, 2, 0] rfl (hk (v21.1, x2 + (1 : Int32), v21.2) (Option.some.inj hm).symm)
theorem l_mX4_goOn_b31 {G : OhG} {FI : OhI} {FL : OhL} {FR : OhQ} {GR : OhQ} {AL : OhL} {AR : OhQ} {BR : OhQ} {AN : OhN} {C : OhC} {k : Nat × Nat} {Φ : OhP} {Ψ : OhX} (hM : ohShM FR AN) (n : Nat) : ∀ (f : Nat) (x1 : Int32) (x2 : Int32) (AI : OhI) (b : (Int32 × OhI)), lpF (fun v => mX4_goOn_b31 n FR v.2.2 AN v.1 v.2.1) f (x1, x2, AI) = some b → (oX G 3 iX4_goOn 144 [(1, vI b.1)] [] (FI, FL, FR, GR, b.2, AL, AR, BR, AN, C) k Φ Ψ) → oX G 3 iX4_goOn 31 [(0, vR (some (1, 0))), (1, vI x1), (2, vI x2)] [] (FI, FL, FR, GR, AI, AL, AR, BR, AN, C) k Φ Ψ := by
  intro f
  induction f with
  | zero =>
    intro x1 x2 AI b hm
    cases hm
  | succ f ih =>
    intro x1 x2 AI b hm hx1
    obtain ⟨r, hr, hm⟩ := lp_s hm
    refine x_mX4_goOn_b31 hM n x1 x2 hr (fun v e => ?_) (fun v e => ?_)
    · subst e; exact ih v.1 v.2.1 v.2.2 _ hm hx1
    · subst e; cases (show v = b from hm); exact hx1
noncomputable def mX4_goOn (n : Nat) (FR : OhQ) (AI : OhI) (AN : OhN) : Option (Int32 × OhI) :=
  (lpF (fun v => mX4_goOn_b2 n FR v.2 AN v.1) n ((0 : Int32), AI)).bind fun v4 =>
  (lpF (fun v => mX4_goOn_b31 n FR v.2.2 AN v.1 v.2.1) n ((0 : Int32), (0 : Int32), v4)).bind fun v22 =>
  gd (v22.1 = 0 ∨ v22.1 = 1) <|
  some (v22.1, v22.2)
theorem x_mX4_goOn {G : OhG} {FI AI : OhI} {FL AL : OhL} {FR GR AR BR : OhQ} {AN : OhN} {C : OhC} {k : Nat × Nat} {Φ : OhP} {Ψ : OhX} (hM : ohShM FR AN) (n : Nat) {r : Int32 × OhI} (hm : mX4_goOn n FR AI AN = some r) (hK : Φ (some (vI r.1)) (FI, FL, FR, GR, r.2, AL, AR, BR, AN, C)) : oX G 3 iX4_goOn 0 [(0, vR (some (1, 0)))] [] (FI, FL, FR, GR, AI, AL, AR, BR, AN, C) k Φ Ψ := by
  unfold mX4_goOn at hm
  refine oX_iconst (v := (0 : Int32)) dX4_goOn_0 (by decide) ?_
  refine oX_istore_n (ls' := [(1, vI (0 : Int32)), (0, vR (some (1, 0)))]) dX4_goOn_1 rfl (by decide) rfl ?_
  obtain ⟨v4, g4, hm⟩ := bd_s hm
  refine oX_sub [1, 0] rfl (l_mX4_goOn_b2 hM n n (0 : Int32) AI _ g4 ?_)
  refine oX_iconst (v := (0 : Int32)) dX4_goOn_27 (by decide) ?_
  refine oX_istore_n (ls' := [(1, vI (0 : Int32)), (0, vR (some (1, 0)))]) dX4_goOn_28 rfl (by decide) rfl ?_
  refine oX_iconst (v := (0 : Int32)) dX4_goOn_29 (by decide) ?_
  refine oX_istore_n (ls' := [(2, vI (0 : Int32)), (1, vI (0 : Int32)), (0, vR (some (1, 0)))]) dX4_goOn_30 rfl (by decide) rfl ?_
  obtain ⟨v22, g22, hm⟩ := bd_s hm
  refine oX_sub [2, 1, 0] rfl (l_mX4_goOn_b31 hM n n (0 : Int32) (0 : Int32) v4 _ g22 ?_)
  refine oX_iload_n dX4_goOn_144 rfl rfl ?_
  obtain ⟨g23, hm⟩ := gd_s hm
  obtain rfl := Option.some.inj hm
  exact oX_iret dX4_goOn_145 rfl (oNz g23) hK
theorem t_X4_goOn {G : OhG} {FI AI : OhI} {FL AL : OhL} {FR GR AR BR : OhQ} {AN : OhN} {C : OhC} (hM : ohShM FR AN) (n : Nat) {o : Int32 × OhI} (hm : mX4_goOn n FR AI AN = some o) : oT G 3 iX4_goOn [vR (some (1, 0))] (FI, FL, FR, GR, AI, AL, AR, BR, AN, C) (0, 0) (fun v h => v = (some (vI o.1)) ∧ h = (FI, FL, FR, GR, o.2, AL, AR, BR, AN, C)) ohNo :=
  oT_of (by decide) rfl (Nat.le_of_ble_eq_true rfl) (x_mX4_goOn hM n hm ⟨rfl, rfl⟩)
abbrev iX4_moves : OhM := (yX4_moves, cX4_moves, 4, (some .int), [])
theorem ok_X4_moves : oOk iX4_moves 2 := ⟨by decide, by decide, by decide +kernel⟩

noncomputable def mX4_moves_b32 (n : Nat) (FI : OhI) (FR : OhQ) (AI : OhI) (AN : OhN) (x1 : Int32) (x2 : Int32) (x3 : Int32) : Option ((Int32 × OhI) ⊕ ((OhI) ⊕ ((Int32 × OhI) ⊕ (OhI)))) :=
  (if x2 < x3 then
  some (.inr (.inl AI))
else
  (mX4_canStand n FR AI AN x1).bind fun r8 =>
    (if r8 = 0 then
    (mX4_goOn n FR AI AN).bind fun r10 =>
      (if r10.1 = 0 then
      some (.inr (.inr (.inr r10.2)))
    else
      some (.inl (x3 + (1 : Int32), r10.2)))
  else
    some (.inr (.inr (.inl (x3, AI))))))
theorem x_mX4_moves_b32 {G : OhG} {FI AI : OhI} {FL AL : OhL} {FR GR AR BR : OhQ} {AN : OhN} {C : OhC} {k : Nat × Nat} {Φ : OhP} {Ψ : OhX} (hM : ohShM FR AN) (n : Nat) (x1 : Int32) (x2 : Int32) (x3 : Int32) {r : (Int32 × OhI) ⊕ ((OhI) ⊕ ((Int32 × OhI) ⊕ (OhI)))} (hm : mX4_moves_b32 n FI FR AI AN x1 x2 x3 = some r) (hk : ∀ v : Int32 × OhI, r = .inl v → oX G 4 iX4_moves 32 [(0, vR (some (1, 0))), (1, vI x1), (2, vI x2), (3, vI v.1)] [] (FI, FL, FR, GR, v.2, AL, AR, BR, AN, C) k Φ Ψ) (hx1 : ∀ v : OhI, r = .inr (.inl v) → oX G 4 iX4_moves 62 [] [] (FI, FL, FR, GR, v, AL, AR, BR, AN, C) k Φ Ψ) (hx2 : ∀ v : Int32 × OhI, r = .inr (.inr (.inl v)) → oX G 4 iX4_moves 45 [(3, vI v.1)] [] (FI, FL, FR, GR, v.2, AL, AR, BR, AN, C) k Φ Ψ) (hx3 : ∀ v : OhI, r = .inr (.inr (.inr v)) → oX G 4 iX4_moves 54 [] [] (FI, FL, FR, GR, v, AL, AR, BR, AN, C) k Φ Ψ) : oX G 4 iX4_moves 32 [(0, vR (some (1, 0))), (1, vI x1), (2, vI x2), (3, vI x3)] [] (FI, FL, FR, GR, AI, AL, AR, BR, AN, C) k Φ Ψ := by
  unfold mX4_moves_b32 at hm
  refine oX_iload_n dX4_moves_32 rfl rfl ?_
  refine oX_iload_n dX4_moves_33 rfl rfl ?_
  refine oX_icmp_gt (tgt := 62) dX4_moves_34 (by decide) (fun c7 => ?_) (fun c7 => ?_)
  · have hm := ifp c7 hm
    exact oX_sub [] rfl (hx1 AI (Option.some.inj hm).symm)
  · have hm := ifn c7 hm
    refine oX_aload_n dX4_moves_37 rfl rfl ?_
    refine oX_iload_n dX4_moves_38 rfl rfl ?_
    obtain ⟨r8, g8, hm⟩ := bd_s hm
    refine oX_cV (as := [vI x1]) dX4_moves_39 rfl oDs1 rfl (by decide) rfl ok_X4_canStand rfl rfl q2297 q2299 qs102 q136 q2300 (by decide) (Nat.le_of_ble_eq_true rfl) (t_X4_canStand hM n x1 g8) ?_
    refine oX_if_eq (tgt := 47) dX4_moves_42 (by decide) (fun c9 => ?_) (fun c9 => ?_)
    · have hm := ifp c9 hm
      refine oX_aload_n dX4_moves_47 rfl rfl ?_
      obtain ⟨r10, g10, hm⟩ := bd_s hm
      refine oX_cV (as := []) dX4_moves_48 rfl oDs1 rfl (by decide) rfl ok_X4_goOn rfl rfl q2304 q2306 qs103 q136 q2307 (by decide) (Nat.le_of_ble_eq_true rfl) (t_X4_goOn hM n g10) ?_
      refine oX_if_ne (tgt := 56) dX4_moves_51 (by decide) (fun c11 => ?_) (fun c11 => ?_)
      · have hm := ifp c11 hm
        exact oX_sub [] rfl (hx3 r10.2 (Option.some.inj hm).symm)
      · have hm := ifn c11 hm
        refine oX_iinc (v := x3 + (1 : Int32)) (ls' := [(3, vI (x3 + (1 : Int32))), (0, vR (some (1, 0))), (1, vI x1), (2, vI x2)]) dX4_moves_56 rfl rfl (by decide) rfl ?_
        refine oX_goto (tgt := 32) dX4_moves_59 (by decide) ?_
        exact oX_sub [1, 2, 3, 0] rfl (hk (x3 + (1 : Int32), r10.2) (Option.some.inj hm).symm)
    · have hm := ifn c9 hm
      exact oX_sub [3] rfl (hx2 (x3, AI) (Option.some.inj hm).symm)
theorem l_mX4_moves_b32 {G : OhG} {FI : OhI} {FL : OhL} {FR : OhQ} {GR : OhQ} {AL : OhL} {AR : OhQ} {BR : OhQ} {AN : OhN} {C : OhC} {k : Nat × Nat} {Φ : OhP} {Ψ : OhX} (hM : ohShM FR AN) (n : Nat) (x1 : Int32) (x2 : Int32) : ∀ (f : Nat) (x3 : Int32) (AI : OhI) (b : ((OhI) ⊕ ((Int32 × OhI) ⊕ (OhI)))), lpF (fun v => mX4_moves_b32 n FI FR v.2 AN x1 x2 v.1) f (x3, AI) = some b → (∀ v : OhI, b = (.inl v) → oX G 4 iX4_moves 62 [] [] (FI, FL, FR, GR, v, AL, AR, BR, AN, C) k Φ Ψ) → (∀ v : Int32 × OhI, b = (.inr (.inl v)) → oX G 4 iX4_moves 45 [(3, vI v.1)] [] (FI, FL, FR, GR, v.2, AL, AR, BR, AN, C) k Φ Ψ) → (∀ v : OhI, b = (.inr (.inr v)) → oX G 4 iX4_moves 54 [] [] (FI, FL, FR, GR, v, AL, AR, BR, AN, C) k Φ Ψ) → oX G 4 iX4_moves 32 [(0, vR (some (1, 0))), (1, vI x1), (2, vI x2), (3, vI x3)] [] (FI, FL, FR, GR, AI, AL, AR, BR, AN, C) k Φ Ψ := by
  intro f
  induction f with
  | zero =>
    intro x3 AI b hm
    cases hm
  | succ f ih =>
    intro x3 AI b hm hx1 hx2 hx3
    obtain ⟨r, hr, hm⟩ := lp_s hm
    refine x_mX4_moves_b32 hM n x1 x2 x3 hr (fun v e => ?_) (fun v e => ?_) (fun v e => ?_) (fun v e => ?_)
    · subst e; exact ih v.1 v.2 _ hm hx1 hx2 hx3
    · subst e; exact hx1 v hm.symm
    · subst e; exact hx2 v hm.symm
    · subst e; exact hx3 v hm.symm
noncomputable def mX4_moves (n : Nat) (FI : OhI) (FR : OhQ) (AI : OhI) (AN : OhN) (x1 : Int32) (x2 : Int32) : Option (Int32 × OhI × OhI) :=
  oLet (sA FI 1 0 (uA (FI 1 0) 0 (0 : Int32))) fun FI1 =>
  (mX4_isIn x1 (0 : Int32) (3 : Int32)).bind fun r2 =>
  (if r2 = 0 then
  some ((-1 : Int32), FI1, AI)
else
  (mX4_isIn x2 (0 : Int32) (40 : Int32)).bind fun r4 =>
    (if r4 = 0 then
    some ((-1 : Int32), FI1, AI)
  else
    (mX4_atFirst n FR AI AN).bind fun r6 =>
      (lpF (fun v => mX4_moves_b32 n FI1 FR v.2 AN x1 x2 v.1) n ((0 : Int32), r6)).bind (Sum.elim (fun v12 => some ((-1 : Int32), FI1, v12)) (Sum.elim (fun v12 => some (v12.1, FI1, v12.2)) (fun v12 => some ((-1 : Int32), FI1, v12))))))
theorem x_mX4_moves {G : OhG} {FI AI : OhI} {FL AL : OhL} {FR GR AR BR : OhQ} {AN : OhN} {C : OhC} {k : Nat × Nat} {Φ : OhP} {Ψ : OhX} (hM : ohShM FR AN) (n : Nat) (x1 : Int32) (x2 : Int32) {r : Int32 × OhI × OhI} (hm : mX4_moves n FI FR AI AN x1 x2 = some r) (hK : Φ (some (vI r.1)) (r.2.1, FL, FR, GR, r.2.2, AL, AR, BR, AN, C)) : oX G 4 iX4_moves 0 [(0, vR (some (1, 0))), (1, vI x1), (2, vI x2)] [] (FI, FL, FR, GR, AI, AL, AR, BR, AN, C) k Φ Ψ := by
  unfold mX4_moves at hm
  refine oX_aload_n dX4_moves_0 rfl rfl ?_
  refine oX_iconst (v := (0 : Int32)) dX4_moves_1 (by decide) ?_
  obtain ⟨FI1, hFI1, hm⟩ := oLs hm
  refine oX_putI fX4_226 rfl (fun h9 => by cases h9) oDs1 dX4_moves_2 ⟨rfl, rfl⟩ hFI1 ?_
  refine oX_iload_n dX4_moves_5 rfl rfl ?_
  refine oX_iconst (v := (0 : Int32)) dX4_moves_6 (by decide) ?_
  refine oX_iconst (v := (3 : Int32)) dX4_moves_7 (by decide) ?_
  obtain ⟨r2, g2, hm⟩ := bd_s hm
  refine oX_cS (as := [vI x1, vI (0 : Int32), vI (3 : Int32)]) dX4_moves_8 rfl ok_X4_isIn rfl rfl q2032 q2033 q136 q2034 (by decide) (Nat.le_of_ble_eq_true rfl) (t_X4_isIn x1 (0 : Int32) (3 : Int32) g2) ?_
  refine oX_if_eq (tgt := 24) dX4_moves_11 (by decide) (fun c3 => ?_) (fun c3 => ?_)
  · have hm := ifp c3 hm
    refine oX_iconst (v := (-1 : Int32)) dX4_moves_24 (by decide) ?_
    obtain rfl := Option.some.inj hm
    exact oX_iret dX4_moves_25 rfl rfl hK
  · have hm := ifn c3 hm
    refine oX_iload_n dX4_moves_14 rfl rfl ?_
    refine oX_iconst (v := (0 : Int32)) dX4_moves_15 (by decide) ?_
    refine oX_bipush (v := (40 : Int32)) dX4_moves_16 (by decide) ?_
    obtain ⟨r4, g4, hm⟩ := bd_s hm
    refine oX_cS (as := [vI x2, vI (0 : Int32), vI (40 : Int32)]) dX4_moves_18 rfl ok_X4_isIn rfl rfl q2032 q2033 q136 q2034 (by decide) (Nat.le_of_ble_eq_true rfl) (t_X4_isIn x2 (0 : Int32) (40 : Int32) g4) ?_
    refine oX_if_ne (tgt := 26) dX4_moves_21 (by decide) (fun c5 => ?_) (fun c5 => ?_)
    · have hm := ifp c5 hm
      refine oX_iconst (v := (-1 : Int32)) dX4_moves_24 (by decide) ?_
      obtain rfl := Option.some.inj hm
      exact oX_iret dX4_moves_25 rfl rfl hK
    · have hm := ifn c5 hm
      refine oX_aload_n dX4_moves_26 rfl rfl ?_
      obtain ⟨r6, g6, hm⟩ := bd_s hm
      refine oX_cV_ (as := []) dX4_moves_27 rfl oDs1 rfl (by decide) rfl ok_X4_atFirst rfl rfl q2293 q2295 qs101 q136 q2296 (by decide) (Nat.le_of_ble_eq_true rfl) (t_X4_atFirst hM n g6) ?_
      refine oX_iconst (v := (0 : Int32)) dX4_moves_30 (by decide) ?_
      refine oX_istore_n (ls' := [(3, vI (0 : Int32)), (0, vR (some (1, 0))), (1, vI x1), (2, vI x2)]) dX4_moves_31 rfl (by decide) rfl ?_
      obtain ⟨b12, g12, hm⟩ := bd_s hm
      refine oX_sub [1, 2, 3, 0] rfl (l_mX4_moves_b32 hM n x1 x2 n (0 : Int32) r6 _ g12 (fun v12 e12 => ?_) (fun v12 e12 => ?_) (fun v12 e12 => ?_))
      · subst e12
        have hm := el1 hm
        refine oX_iconst (v := (-1 : Int32)) dX4_moves_62 (by decide) ?_
        obtain rfl := Option.some.inj hm
        exact oX_iret dX4_moves_63 rfl rfl hK
      · subst e12
        have hm := el2 hm
        have hm := el1 hm
        refine oX_iload_n dX4_moves_45 rfl rfl ?_
        obtain rfl := Option.some.inj hm
        exact oX_iret dX4_moves_46 rfl rfl hK
      · subst e12
        have hm := el2 hm
        have hm := el2 hm
        refine oX_iconst (v := (-1 : Int32)) dX4_moves_54 (by decide) ?_
        obtain rfl := Option.some.inj hm
        exact oX_iret dX4_moves_55 rfl rfl hK
theorem t_X4_moves {G : OhG} {FI AI : OhI} {FL AL : OhL} {FR GR AR BR : OhQ} {AN : OhN} {C : OhC} (hM : ohShM FR AN) (n : Nat) (x1 : Int32) (x2 : Int32) {o : Int32 × OhI × OhI} (hm : mX4_moves n FI FR AI AN x1 x2 = some o) : oT G 4 iX4_moves [vR (some (1, 0)), vI x1, vI x2] (FI, FL, FR, GR, AI, AL, AR, BR, AN, C) (0, 0) (fun v h => v = (some (vI o.1)) ∧ h = (o.2.1, FL, FR, GR, o.2.2, AL, AR, BR, AN, C)) ohNo :=
  oT_of (by decide) rfl (Nat.le_of_ble_eq_true rfl) (x_mX4_moves hM n x1 x2 hm ⟨rfl, rfl⟩)
abbrev iX4_roll : OhM := (yX4_roll, cX4_roll, 7, none, [])
theorem ok_X4_roll : oOk iX4_roll 0 := ⟨by decide, by decide, by decide +kernel⟩

noncomputable def mX4_roll_b2 (n : Nat) (FI : OhI) (FR : OhQ) (AI : OhI) (AN : OhN) (x1 : Int32) : Option ((Int32 × OhI) ⊕ (OhI)) :=
  (if (721 : Int32) ≤ x1 then
  some (.inr AI)
else
  gd (vp_in x1 721) <|
    oLet (sA AI 182 0 (uA (AI 182 0) x1.toNatClampNeg (vp_nar .boolean (0 : Int32)))) fun AI2 =>
    some (.inl (x1 + (1 : Int32), AI2)))
theorem x_mX4_roll_b2 {G : OhG} {FI AI : OhI} {FL AL : OhL} {FR GR AR BR : OhQ} {AN : OhN} {C : OhC} {k : Nat × Nat} {Φ : OhP} {Ψ : OhX} (hM : ohShM FR AN) (n : Nat) (x1 : Int32) {r : (Int32 × OhI) ⊕ (OhI)} (hm : mX4_roll_b2 n FI FR AI AN x1 = some r) (hk : ∀ v : Int32 × OhI, r = .inl v → oX G 4 iX4_roll 2 [(0, vR (some (1, 0))), (1, vI v.1)] [] (FI, FL, FR, GR, v.2, AL, AR, BR, AN, C) k Φ Ψ) (hx1 : ∀ v : OhI, r = .inr v → oX G 4 iX4_roll 22 [(0, vR (some (1, 0)))] [] (FI, FL, FR, GR, v, AL, AR, BR, AN, C) k Φ Ψ) : oX G 4 iX4_roll 2 [(0, vR (some (1, 0))), (1, vI x1)] [] (FI, FL, FR, GR, AI, AL, AR, BR, AN, C) k Φ Ψ := by
  unfold mX4_roll_b2 at hm
  refine oX_iload_n dX4_roll_2 rfl rfl ?_
  refine oX_sipush (v := (721 : Int32)) dX4_roll_3 (by decide) ?_
  refine oX_icmp_ge (tgt := 22) dX4_roll_6 (by decide) (fun c1 => ?_) (fun c1 => ?_)
  · have hm := ifp c1 hm
    exact oX_sub [0] rfl (hx1 AI (Option.some.inj hm).symm)
  · have hm := ifn c1 hm
    refine oX_aload_n dX4_roll_9 rfl rfl ?_
    refine oX_getF fX4_184 rfl oDs1 dX4_roll_10 (ohF182 hM) ?_
    refine oX_iload_n dX4_roll_13 rfl rfl ?_
    refine oX_iconst (v := (0 : Int32)) dX4_roll_14 (by decide) ?_
    obtain ⟨g2, hm⟩ := gd_s hm
    obtain ⟨AI2, hAI2, hm⟩ := oLs hm
    refine oX_zast oDs182 (oIn (ohN182 hM) g2) dX4_roll_15 hAI2 ?_
    refine oX_iinc (v := x1 + (1 : Int32)) (ls' := [(1, vI (x1 + (1 : Int32))), (0, vR (some (1, 0)))]) dX4_roll_16 rfl rfl (by decide) rfl ?_
    refine oX_goto (tgt := 2) dX4_roll_19 (by decide) ?_
    exact oX_sub [1, 0] rfl (hk (x1 + (1 : Int32), AI2) (Option.some.inj hm).symm)
theorem l_mX4_roll_b2 {G : OhG} {FI : OhI} {FL : OhL} {FR : OhQ} {GR : OhQ} {AL : OhL} {AR : OhQ} {BR : OhQ} {AN : OhN} {C : OhC} {k : Nat × Nat} {Φ : OhP} {Ψ : OhX} (hM : ohShM FR AN) (n : Nat) : ∀ (f : Nat) (x1 : Int32) (AI : OhI) (b : (OhI)), lpF (fun v => mX4_roll_b2 n FI FR v.2 AN v.1) f (x1, AI) = some b → (oX G 4 iX4_roll 22 [(0, vR (some (1, 0)))] [] (FI, FL, FR, GR, b, AL, AR, BR, AN, C) k Φ Ψ) → oX G 4 iX4_roll 2 [(0, vR (some (1, 0))), (1, vI x1)] [] (FI, FL, FR, GR, AI, AL, AR, BR, AN, C) k Φ Ψ := by
  intro f
  induction f with
  | zero =>
    intro x1 AI b hm
    cases hm
  | succ f ih =>
    intro x1 AI b hm hx1
    obtain ⟨r, hr, hm⟩ := lp_s hm
    refine x_mX4_roll_b2 hM n x1 hr (fun v e => ?_) (fun v e => ?_)
    · subst e; exact ih v.1 v.2 _ hm hx1
    · subst e; cases (show v = b from hm); exact hx1
noncomputable def mX4_roll_b39 (n : Nat) (FI : OhI) (FR : OhQ) (AI : OhI) (AN : OhN) (x1 : Int32) (x2 : Int32) : Option ((Int32 × OhI) ⊕ (OhI)) :=
  gd (vp_in x1 66) <|
  (if (AI 162 0 x1.toNatClampNeg) ≤ x2 then
  some (.inr AI)
else
  gd (vp_in x1 66) <|
    (if (AI 163 0 x1.toNatClampNeg) = 0 then
    some (.inr AI)
  else
    gd (vp_in x2 721) <|
      oLet (sA AI 182 0 (uA (AI 182 0) x2.toNatClampNeg (vp_nar .boolean (1 : Int32)))) fun AI10 =>
      some (.inl (x2 + (1 : Int32), AI10))))
theorem x_mX4_roll_b39 {G : OhG} {FI AI : OhI} {FL AL : OhL} {FR GR AR BR : OhQ} {AN : OhN} {C : OhC} {k : Nat × Nat} {Φ : OhP} {Ψ : OhX} (hM : ohShM FR AN) (n : Nat) (x1 : Int32) (x2 : Int32) {r : (Int32 × OhI) ⊕ (OhI)} (hm : mX4_roll_b39 n FI FR AI AN x1 x2 = some r) (hk : ∀ v : Int32 × OhI, r = .inl v → oX G 4 iX4_roll 39 [(0, vR (some (1, 0))), (1, vI x1), (2, vI v.1)] [] (FI, FL, FR, GR, v.2, AL, AR, BR, AN, C) k Φ Ψ) (hx1 : ∀ v : OhI, r = .inr v → oX G 4 iX4_roll 71 [(0, vR (some (1, 0))), (1, vI x1)] [] (FI, FL, FR, GR, v, AL, AR, BR, AN, C) k Φ Ψ) : oX G 4 iX4_roll 39 [(0, vR (some (1, 0))), (1, vI x1), (2, vI x2)] [] (FI, FL, FR, GR, AI, AL, AR, BR, AN, C) k Φ Ψ := by
  unfold mX4_roll_b39 at hm
  refine oX_iload_n dX4_roll_39 rfl rfl ?_
  refine oX_aload_n dX4_roll_40 rfl rfl ?_
  refine oX_getF fX4_142 rfl oDs1 dX4_roll_41 (ohF162 hM) ?_
  refine oX_iload_n dX4_roll_44 rfl rfl ?_
  obtain ⟨g6, hm⟩ := gd_s hm
  refine oX_iald oDs162 (oIn (ohN162 hM) g6) dX4_roll_45 ?_
  refine oX_icmp_ge (tgt := 71) dX4_roll_46 (by decide) (fun c7 => ?_) (fun c7 => ?_)
  · have hm := ifp c7 hm
    exact oX_sub [0, 1] rfl (hx1 AI (Option.some.inj hm).symm)
  · have hm := ifn c7 hm
    refine oX_aload_n dX4_roll_49 rfl rfl ?_
    refine oX_getF fX4_145 rfl oDs1 dX4_roll_50 (ohF163 hM) ?_
    refine oX_iload_n dX4_roll_53 rfl rfl ?_
    obtain ⟨g8, hm⟩ := gd_s hm
    refine oX_iald oDs163 (oIn (ohN163 hM) g8) dX4_roll_54 ?_
    refine oX_if_eq (tgt := 71) dX4_roll_55 (by decide) (fun c9 => ?_) (fun c9 => ?_)
    · have hm := ifp c9 hm
      exact oX_sub [0, 1] rfl (hx1 AI (Option.some.inj hm).symm)
    · have hm := ifn c9 hm
      refine oX_aload_n dX4_roll_58 rfl rfl ?_
      refine oX_getF fX4_184 rfl oDs1 dX4_roll_59 (ohF182 hM) ?_
      refine oX_iload_n dX4_roll_62 rfl rfl ?_
      refine oX_iconst (v := (1 : Int32)) dX4_roll_63 (by decide) ?_
      obtain ⟨g10, hm⟩ := gd_s hm
      obtain ⟨AI10, hAI10, hm⟩ := oLs hm
      refine oX_zast oDs182 (oIn (ohN182 hM) g10) dX4_roll_64 hAI10 ?_
      refine oX_iinc (v := x2 + (1 : Int32)) (ls' := [(2, vI (x2 + (1 : Int32))), (0, vR (some (1, 0))), (1, vI x1)]) dX4_roll_65 rfl rfl (by decide) rfl ?_
      refine oX_goto (tgt := 39) dX4_roll_68 (by decide) ?_
      exact oX_sub [1, 2, 0] rfl (hk (x2 + (1 : Int32), AI10) (Option.some.inj hm).symm)
theorem l_mX4_roll_b39 {G : OhG} {FI : OhI} {FL : OhL} {FR : OhQ} {GR : OhQ} {AL : OhL} {AR : OhQ} {BR : OhQ} {AN : OhN} {C : OhC} {k : Nat × Nat} {Φ : OhP} {Ψ : OhX} (hM : ohShM FR AN) (n : Nat) (x1 : Int32) : ∀ (f : Nat) (x2 : Int32) (AI : OhI) (b : (OhI)), lpF (fun v => mX4_roll_b39 n FI FR v.2 AN x1 v.1) f (x2, AI) = some b → (oX G 4 iX4_roll 71 [(0, vR (some (1, 0))), (1, vI x1)] [] (FI, FL, FR, GR, b, AL, AR, BR, AN, C) k Φ Ψ) → oX G 4 iX4_roll 39 [(0, vR (some (1, 0))), (1, vI x1), (2, vI x2)] [] (FI, FL, FR, GR, AI, AL, AR, BR, AN, C) k Φ Ψ := by
  intro f
  induction f with
  | zero =>
    intro x2 AI b hm
    cases hm
  | succ f ih =>
    intro x2 AI b hm hx1
    obtain ⟨r, hr, hm⟩ := lp_s hm
    refine x_mX4_roll_b39 hM n x1 x2 hr (fun v e => ?_) (fun v e => ?_)
    · subst e; exact ih v.1 v.2 _ hm hx1
    · subst e; cases (show v = b from hm); exact hx1
noncomputable def mX4_roll_b24 (n : Nat) (FI : OhI) (FR : OhQ) (AI : OhI) (AN : OhN) (x1 : Int32) : Option ((Int32 × OhI) ⊕ (OhI)) :=
  (if (FI 1 0 71) ≤ x1 then
  some (.inr AI)
else
  gd (vp_in x1 66) <|
    (lpF (fun v => mX4_roll_b39 n FI FR v.2 AN x1 v.1) n (AI 161 0 x1.toNatClampNeg, AI)).bind fun v11 =>
    some (.inl (x1 + (1 : Int32), v11)))
theorem x_mX4_roll_b24 {G : OhG} {FI AI : OhI} {FL AL : OhL} {FR GR AR BR : OhQ} {AN : OhN} {C : OhC} {k : Nat × Nat} {Φ : OhP} {Ψ : OhX} (hM : ohShM FR AN) (n : Nat) (x1 : Int32) {r : (Int32 × OhI) ⊕ (OhI)} (hm : mX4_roll_b24 n FI FR AI AN x1 = some r) (hk : ∀ v : Int32 × OhI, r = .inl v → oX G 4 iX4_roll 24 [(0, vR (some (1, 0))), (1, vI v.1)] [] (FI, FL, FR, GR, v.2, AL, AR, BR, AN, C) k Φ Ψ) (hx1 : ∀ v : OhI, r = .inr v → oX G 4 iX4_roll 77 [(0, vR (some (1, 0)))] [] (FI, FL, FR, GR, v, AL, AR, BR, AN, C) k Φ Ψ) : oX G 4 iX4_roll 24 [(0, vR (some (1, 0))), (1, vI x1)] [] (FI, FL, FR, GR, AI, AL, AR, BR, AN, C) k Φ Ψ := by
  unfold mX4_roll_b24 at hm
  refine oX_iload_n dX4_roll_24 rfl rfl ?_
  refine oX_aload_n dX4_roll_25 rfl rfl ?_
  refine oX_getI fX4_446 rfl oDs1 dX4_roll_26 ?_
  refine oX_icmp_ge (tgt := 77) dX4_roll_29 (by decide) (fun c4 => ?_) (fun c4 => ?_)
  · have hm := ifp c4 hm
    exact oX_sub [0] rfl (hx1 AI (Option.some.inj hm).symm)
  · have hm := ifn c4 hm
    refine oX_aload_n dX4_roll_32 rfl rfl ?_
    refine oX_getF fX4_139 rfl oDs1 dX4_roll_33 (ohF161 hM) ?_
    refine oX_iload_n dX4_roll_36 rfl rfl ?_
    obtain ⟨g5, hm⟩ := gd_s hm
    refine oX_iald oDs161 (oIn (ohN161 hM) g5) dX4_roll_37 ?_
    refine oX_istore_n (ls' := [(2, vI (AI 161 0 x1.toNatClampNeg)), (0, vR (some (1, 0))), (1, vI x1)]) dX4_roll_38 rfl (by decide) rfl ?_
    obtain ⟨v11, g11, hm⟩ := bd_s hm
    refine oX_sub [1, 2, 0] rfl (l_mX4_roll_b39 hM n x1 n (AI 161 0 x1.toNatClampNeg) AI _ g11 ?_)
    refine oX_iinc (v := x1 + (1 : Int32)) (ls' := [(1, vI (x1 + (1 : Int32))), (0, vR (some (1, 0)))]) dX4_roll_71 rfl rfl (by decide) rfl ?_
    refine oX_goto (tgt := 24) dX4_roll_74 (by decide) ?_
    exact oX_sub [1, 0] rfl (hk (x1 + (1 : Int32), v11) (Option.some.inj hm).symm)
theorem l_mX4_roll_b24 {G : OhG} {FI : OhI} {FL : OhL} {FR : OhQ} {GR : OhQ} {AL : OhL} {AR : OhQ} {BR : OhQ} {AN : OhN} {C : OhC} {k : Nat × Nat} {Φ : OhP} {Ψ : OhX} (hM : ohShM FR AN) (n : Nat) : ∀ (f : Nat) (x1 : Int32) (AI : OhI) (b : (OhI)), lpF (fun v => mX4_roll_b24 n FI FR v.2 AN v.1) f (x1, AI) = some b → (oX G 4 iX4_roll 77 [(0, vR (some (1, 0)))] [] (FI, FL, FR, GR, b, AL, AR, BR, AN, C) k Φ Ψ) → oX G 4 iX4_roll 24 [(0, vR (some (1, 0))), (1, vI x1)] [] (FI, FL, FR, GR, AI, AL, AR, BR, AN, C) k Φ Ψ := by
  intro f
  induction f with
  | zero =>
    intro x1 AI b hm
    cases hm
  | succ f ih =>
    intro x1 AI b hm hx1
    obtain ⟨r, hr, hm⟩ := lp_s hm
    refine x_mX4_roll_b24 hM n x1 hr (fun v e => ?_) (fun v e => ?_)
    · subst e; exact ih v.1 v.2 _ hm hx1
    · subst e; cases (show v = b from hm); exact hx1
noncomputable def mX4_roll_b123 (n : Nat) (FI : OhI) (FR : OhQ) (AI : OhI) (AN : OhN) (x1 : Int32) (x2 : Int32) (x3 : Int32) (x4 : Int32) : Option ((Int32 × Int32 × OhI) ⊕ (Int32 × OhI)) :=
  gd (vp_in x3 66) <|
  (if (AI 161 0 x3.toNatClampNeg) ≤ x1 then
  some (.inr (x1, AI))
else
  gd (vp_in x1 721) <|
    (if (AI 182 0 x1.toNatClampNeg) = 0 then
    (if x4 = 0 then
      some (.inl (x1 + (1 : Int32), x4, AI))
    else
      (mX4_goOn n FR AI AN).bind fun r24 =>
        some (.inl (x1 + (1 : Int32), r24.1, r24.2)))
  else
    some (.inl (x1 + (1 : Int32), x4, AI))))
theorem x_mX4_roll_b123 {G : OhG} {FI AI : OhI} {FL AL : OhL} {FR GR AR BR : OhQ} {AN : OhN} {C : OhC} {k : Nat × Nat} {Φ : OhP} {Ψ : OhX} (hM : ohShM FR AN) (n : Nat) (x1 : Int32) (x2 : Int32) (x3 : Int32) (x4 : Int32) {r : (Int32 × Int32 × OhI) ⊕ (Int32 × OhI)} (hm : mX4_roll_b123 n FI FR AI AN x1 x2 x3 x4 = some r) (hk : ∀ v : Int32 × Int32 × OhI, r = .inl v → oX G 4 iX4_roll 123 [(0, vR (some (1, 0))), (1, vI v.1), (2, vI x2), (3, vI x3), (4, vI v.2.1)] [] (FI, FL, FR, GR, v.2.2, AL, AR, BR, AN, C) k Φ Ψ) (hx1 : ∀ v : Int32 × OhI, r = .inr v → oX G 4 iX4_roll 159 [(0, vR (some (1, 0))), (1, vI v.1), (2, vI x2), (3, vI x3)] [] (FI, FL, FR, GR, v.2, AL, AR, BR, AN, C) k Φ Ψ) : oX G 4 iX4_roll 123 [(0, vR (some (1, 0))), (1, vI x1), (2, vI x2), (3, vI x3), (4, vI x4)] [] (FI, FL, FR, GR, AI, AL, AR, BR, AN, C) k Φ Ψ := by
  unfold mX4_roll_b123 at hm
  refine oX_iload_n dX4_roll_123 rfl rfl ?_
  refine oX_aload_n dX4_roll_124 rfl rfl ?_
  refine oX_getF fX4_139 rfl oDs1 dX4_roll_125 (ohF161 hM) ?_
  refine oX_iload_n dX4_roll_128 rfl rfl ?_
  obtain ⟨g19, hm⟩ := gd_s hm
  refine oX_iald oDs161 (oIn (ohN161 hM) g19) dX4_roll_129 ?_
  refine oX_icmp_ge (tgt := 159) dX4_roll_130 (by decide) (fun c20 => ?_) (fun c20 => ?_)
  · have hm := ifp c20 hm
    exact oX_sub [0, 1, 2, 3] rfl (hx1 (x1, AI) (Option.some.inj hm).symm)
  · have hm := ifn c20 hm
    refine oX_aload_n dX4_roll_133 rfl rfl ?_
    refine oX_getF fX4_184 rfl oDs1 dX4_roll_134 (ohF182 hM) ?_
    refine oX_iload_n dX4_roll_137 rfl rfl ?_
    obtain ⟨g21, hm⟩ := gd_s hm
    refine oX_zald oDs182 (oIn (ohN182 hM) g21) dX4_roll_138 ?_
    refine oX_if_ne (tgt := 153) dX4_roll_139 (by decide) (fun c22 => ?_) (fun c22 => ?_)
    · have hm := ifp c22 hm
      refine oX_iload dX4_roll_142 rfl ?_
      refine oX_if_eq (tgt := 153) dX4_roll_144 (by decide) (fun c23 => ?_) (fun c23 => ?_)
      · have hm := ifp c23 hm
        refine oX_iinc (v := x1 + (1 : Int32)) (ls' := [(1, vI (x1 + (1 : Int32))), (0, vR (some (1, 0))), (2, vI x2), (3, vI x3), (4, vI x4)]) dX4_roll_153 rfl rfl (by decide) rfl ?_
        refine oX_goto (tgt := 123) dX4_roll_156 (by decide) ?_
        exact oX_sub [1, 0, 2, 3, 4] rfl (hk (x1 + (1 : Int32), x4, AI) (Option.some.inj hm).symm)
      · have hm := ifn c23 hm
        refine oX_aload_n dX4_roll_147 rfl rfl ?_
        obtain ⟨r24, g24, hm⟩ := bd_s hm
        refine oX_cV (as := []) dX4_roll_148 rfl oDs1 rfl (by decide) rfl ok_X4_goOn rfl rfl q2304 q2306 qs103 q136 q2307 (by decide) (Nat.le_of_ble_eq_true rfl) (t_X4_goOn hM n g24) ?_
        refine oX_istore (ls' := [(4, vI r24.1), (0, vR (some (1, 0))), (1, vI x1), (2, vI x2), (3, vI x3)]) dX4_roll_151 (by decide) rfl ?_
        refine oX_iinc (v := x1 + (1 : Int32)) (ls' := [(1, vI (x1 + (1 : Int32))), (4, vI r24.1), (0, vR (some (1, 0))), (2, vI x2), (3, vI x3)]) dX4_roll_153 rfl rfl (by decide) rfl ?_
        refine oX_goto (tgt := 123) dX4_roll_156 (by decide) ?_
        exact oX_sub [2, 0, 3, 4, 1] rfl (hk (x1 + (1 : Int32), r24.1, r24.2) (Option.some.inj hm).symm)
    · have hm := ifn c22 hm
      refine oX_iinc (v := x1 + (1 : Int32)) (ls' := [(1, vI (x1 + (1 : Int32))), (0, vR (some (1, 0))), (2, vI x2), (3, vI x3), (4, vI x4)]) dX4_roll_153 rfl rfl (by decide) rfl ?_
      refine oX_goto (tgt := 123) dX4_roll_156 (by decide) ?_
      exact oX_sub [1, 0, 2, 3, 4] rfl (hk (x1 + (1 : Int32), x4, AI) (Option.some.inj hm).symm)
theorem l_mX4_roll_b123 {G : OhG} {FI : OhI} {FL : OhL} {FR : OhQ} {GR : OhQ} {AL : OhL} {AR : OhQ} {BR : OhQ} {AN : OhN} {C : OhC} {k : Nat × Nat} {Φ : OhP} {Ψ : OhX} (hM : ohShM FR AN) (n : Nat) (x2 : Int32) (x3 : Int32) : ∀ (f : Nat) (x1 : Int32) (x4 : Int32) (AI : OhI) (b : (Int32 × OhI)), lpF (fun v => mX4_roll_b123 n FI FR v.2.2 AN v.1 x2 x3 v.2.1) f (x1, x4, AI) = some b → (oX G 4 iX4_roll 159 [(0, vR (some (1, 0))), (1, vI b.1), (2, vI x2), (3, vI x3)] [] (FI, FL, FR, GR, b.2, AL, AR, BR, AN, C) k Φ Ψ) → oX G 4 iX4_roll 123 [(0, vR (some (1, 0))), (1, vI x1), (2, vI x2), (3, vI x3), (4, vI x4)] [] (FI, FL, FR, GR, AI, AL, AR, BR, AN, C) k Φ Ψ := by
  intro f
  induction f with
  | zero =>
    intro x1 x4 AI b hm
    cases hm
  | succ f ih =>
    intro x1 x4 AI b hm hx1
    obtain ⟨r, hr, hm⟩ := lp_s hm
    refine x_mX4_roll_b123 hM n x1 x2 x3 x4 hr (fun v e => ?_) (fun v e => ?_)
    · subst e; exact ih v.1 v.2.1 v.2.2 _ hm hx1
    · subst e; cases (show v = b from hm); exact hx1
noncomputable def mX4_roll_j243 (n : Nat) (FI : OhI) (FR : OhQ) (AI : OhI) (AN : OhN) (x1 : Int32) (x2 : Int32) (x3 : Int32) (x5 : Int32) (x6 : Int32) (y1 : Int32) (y2 : Int32) : Option ((Int32 × OhI) ⊕ (OhI)) :=
  gd (vp_in y1 625) <|
  oLet (sA AI 180 0 (uA (AI 180 0) y1.toNatClampNeg (vp_nar .boolean y2))) fun AI36 =>
  some (.inl (x6 + (1 : Int32), AI36))
theorem x_mX4_roll_j243 {G : OhG} {FI AI : OhI} {FL AL : OhL} {FR GR AR BR : OhQ} {AN : OhN} {C : OhC} {k : Nat × Nat} {Φ : OhP} {Ψ : OhX} (hM : ohShM FR AN) (n : Nat) (x1 : Int32) (x2 : Int32) (x3 : Int32) (x5 : Int32) (x6 : Int32) (y1 : Int32) (y2 : Int32) {r : (Int32 × OhI) ⊕ (OhI)} (hm : mX4_roll_j243 n FI FR AI AN x1 x2 x3 x5 x6 y1 y2 = some r) (hk : ∀ v : Int32 × OhI, r = .inl v → oX G 4 iX4_roll 195 [(0, vR (some (1, 0))), (1, vI x1), (2, vI x2), (3, vI x3), (5, vI x5), (6, vI v.1)] [] (FI, FL, FR, GR, v.2, AL, AR, BR, AN, C) k Φ Ψ) (hx1 : ∀ v : OhI, r = .inr v → oX G 4 iX4_roll 250 [(0, vR (some (1, 0))), (1, vI x1), (2, vI x2)] [] (FI, FL, FR, GR, v, AL, AR, BR, AN, C) k Φ Ψ) : oX G 4 iX4_roll 243 [(0, vR (some (1, 0))), (1, vI x1), (2, vI x2), (3, vI x3), (5, vI x5), (6, vI x6)] [vI y2, vI y1, vR (some (180, 0))] (FI, FL, FR, GR, AI, AL, AR, BR, AN, C) k Φ Ψ := by
  unfold mX4_roll_j243 at hm
  obtain ⟨g36, hm⟩ := gd_s hm
  obtain ⟨AI36, hAI36, hm⟩ := oLs hm
  refine oX_zast oDs180 (oIn (ohN180 hM) g36) dX4_roll_243 hAI36 ?_
  refine oX_iinc (v := x6 + (1 : Int32)) (ls' := [(6, vI (x6 + (1 : Int32))), (0, vR (some (1, 0))), (1, vI x1), (2, vI x2), (3, vI x3), (5, vI x5)]) dX4_roll_244 rfl rfl (by decide) rfl ?_
  refine oX_goto (tgt := 195) dX4_roll_247 (by decide) ?_
  exact oX_sub [1, 2, 3, 4, 5, 0] rfl (hk (x6 + (1 : Int32), AI36) (Option.some.inj hm).symm)
noncomputable def mX4_roll_j242 (n : Nat) (FI : OhI) (FR : OhQ) (AI : OhI) (AN : OhN) (x1 : Int32) (x2 : Int32) (x3 : Int32) (x5 : Int32) (x6 : Int32) (y1 : Int32) : Option ((Int32 × OhI) ⊕ (OhI)) :=
  mX4_roll_j243 n FI FR AI AN x1 x2 x3 x5 x6 y1 (0 : Int32)
theorem x_mX4_roll_j242 {G : OhG} {FI AI : OhI} {FL AL : OhL} {FR GR AR BR : OhQ} {AN : OhN} {C : OhC} {k : Nat × Nat} {Φ : OhP} {Ψ : OhX} (hM : ohShM FR AN) (n : Nat) (x1 : Int32) (x2 : Int32) (x3 : Int32) (x5 : Int32) (x6 : Int32) (y1 : Int32) {r : (Int32 × OhI) ⊕ (OhI)} (hm : mX4_roll_j242 n FI FR AI AN x1 x2 x3 x5 x6 y1 = some r) (hk : ∀ v : Int32 × OhI, r = .inl v → oX G 4 iX4_roll 195 [(0, vR (some (1, 0))), (1, vI x1), (2, vI x2), (3, vI x3), (5, vI x5), (6, vI v.1)] [] (FI, FL, FR, GR, v.2, AL, AR, BR, AN, C) k Φ Ψ) (hx1 : ∀ v : OhI, r = .inr v → oX G 4 iX4_roll 250 [(0, vR (some (1, 0))), (1, vI x1), (2, vI x2)] [] (FI, FL, FR, GR, v, AL, AR, BR, AN, C) k Φ Ψ) : oX G 4 iX4_roll 242 [(0, vR (some (1, 0))), (1, vI x1), (2, vI x2), (3, vI x3), (5, vI x5), (6, vI x6)] [vI y1, vR (some (180, 0))] (FI, FL, FR, GR, AI, AL, AR, BR, AN, C) k Φ Ψ := by
  unfold mX4_roll_j242 at hm
  refine oX_iconst (v := (0 : Int32)) dX4_roll_242 (by decide) ?_
  exact oX_sub [0, 1, 2, 3, 4, 5] rfl (x_mX4_roll_j243 hM n x1 x2 x3 x5 x6 y1 (0 : Int32) hm hk hx1)
noncomputable def mX4_roll_b195 (n : Nat) (FI : OhI) (FR : OhQ) (AI : OhI) (AN : OhN) (x1 : Int32) (x2 : Int32) (x3 : Int32) (x5 : Int32) (x6 : Int32) : Option ((Int32 × OhI) ⊕ (OhI)) :=
  (if (625 : Int32) ≤ x6 then
  some (.inr AI)
else
  gd (vp_in x3 66) <|
    (if (AI 183 0 x3.toNatClampNeg) = 0 then
    gd (vp_in x6 625) <|
      (if (AI 180 0 x6.toNatClampNeg) = 0 then
      mX4_roll_j242 n FI FR AI AN x1 x2 x3 x5 x6 x6
    else
      (mX4_placeOf x6 x5).bind fun r37 =>
        (if r37 = 0 then
        mX4_roll_j243 n FI FR AI AN x1 x2 x3 x5 x6 x6 (1 : Int32)
      else
        mX4_roll_j242 n FI FR AI AN x1 x2 x3 x5 x6 x6))
  else
    some (.inr AI)))
theorem x_mX4_roll_b195 {G : OhG} {FI AI : OhI} {FL AL : OhL} {FR GR AR BR : OhQ} {AN : OhN} {C : OhC} {k : Nat × Nat} {Φ : OhP} {Ψ : OhX} (hM : ohShM FR AN) (n : Nat) (x1 : Int32) (x2 : Int32) (x3 : Int32) (x5 : Int32) (x6 : Int32) {r : (Int32 × OhI) ⊕ (OhI)} (hm : mX4_roll_b195 n FI FR AI AN x1 x2 x3 x5 x6 = some r) (hk : ∀ v : Int32 × OhI, r = .inl v → oX G 4 iX4_roll 195 [(0, vR (some (1, 0))), (1, vI x1), (2, vI x2), (3, vI x3), (5, vI x5), (6, vI v.1)] [] (FI, FL, FR, GR, v.2, AL, AR, BR, AN, C) k Φ Ψ) (hx1 : ∀ v : OhI, r = .inr v → oX G 4 iX4_roll 250 [(0, vR (some (1, 0))), (1, vI x1), (2, vI x2)] [] (FI, FL, FR, GR, v, AL, AR, BR, AN, C) k Φ Ψ) : oX G 4 iX4_roll 195 [(0, vR (some (1, 0))), (1, vI x1), (2, vI x2), (3, vI x3), (5, vI x5), (6, vI x6)] [] (FI, FL, FR, GR, AI, AL, AR, BR, AN, C) k Φ Ψ := by
  unfold mX4_roll_b195 at hm
  refine oX_iload dX4_roll_195 rfl ?_
  refine oX_sipush (v := (625 : Int32)) dX4_roll_197 (by decide) ?_
  refine oX_icmp_ge (tgt := 250) dX4_roll_200 (by decide) (fun c31 => ?_) (fun c31 => ?_)
  · have hm := ifp c31 hm
    exact oX_sub [0, 1, 2] rfl (hx1 AI (Option.some.inj hm).symm)
  · have hm := ifn c31 hm
    refine oX_aload_n dX4_roll_203 rfl rfl ?_
    refine oX_getF fX4_187 rfl oDs1 dX4_roll_204 (ohF183 hM) ?_
    refine oX_iload_n dX4_roll_207 rfl rfl ?_
    obtain ⟨g32, hm⟩ := gd_s hm
    refine oX_zald oDs183 (oIn (ohN183 hM) g32) dX4_roll_208 ?_
    refine oX_if_ne (tgt := 250) dX4_roll_209 (by decide) (fun c33 => ?_) (fun c33 => ?_)
    · have hm := ifp c33 hm
      refine oX_aload_n dX4_roll_212 rfl rfl ?_
      refine oX_getF fX4_178 rfl oDs1 dX4_roll_213 (ohF180 hM) ?_
      refine oX_iload dX4_roll_216 rfl ?_
      refine oX_aload_n dX4_roll_218 rfl rfl ?_
      refine oX_getF fX4_178 rfl oDs1 dX4_roll_219 (ohF180 hM) ?_
      refine oX_iload dX4_roll_222 rfl ?_
      obtain ⟨g34, hm⟩ := gd_s hm
      refine oX_zald oDs180 (oIn (ohN180 hM) g34) dX4_roll_224 ?_
      refine oX_if_eq (tgt := 242) dX4_roll_225 (by decide) (fun c35 => ?_) (fun c35 => ?_)
      · have hm := ifp c35 hm
        exact oX_sub [0, 1, 2, 3, 4, 5] rfl (x_mX4_roll_j242 hM n x1 x2 x3 x5 x6 x6 hm hk hx1)
      · have hm := ifn c35 hm
        refine oX_iload dX4_roll_228 rfl ?_
        refine oX_iload dX4_roll_230 rfl ?_
        obtain ⟨r37, g37, hm⟩ := bd_s hm
        refine oX_cS (as := [vI x6, vI x5]) dX4_roll_232 rfl ok_X4_placeOf rfl rfl q2301 q2302 q136 q2303 (by decide) (Nat.le_of_ble_eq_true rfl) (t_X4_placeOf x6 x5 g37) ?_
        refine oX_if_ne (tgt := 242) dX4_roll_235 (by decide) (fun c38 => ?_) (fun c38 => ?_)
        · have hm := ifp c38 hm
          refine oX_iconst (v := (1 : Int32)) dX4_roll_238 (by decide) ?_
          refine oX_goto (tgt := 243) dX4_roll_239 (by decide) ?_
          exact oX_sub [0, 1, 2, 3, 4, 5] rfl (x_mX4_roll_j243 hM n x1 x2 x3 x5 x6 x6 (1 : Int32) hm hk hx1)
        · have hm := ifn c38 hm
          exact oX_sub [0, 1, 2, 3, 4, 5] rfl (x_mX4_roll_j242 hM n x1 x2 x3 x5 x6 x6 hm hk hx1)
    · have hm := ifn c33 hm
      exact oX_sub [0, 1, 2] rfl (hx1 AI (Option.some.inj hm).symm)
theorem l_mX4_roll_b195 {G : OhG} {FI : OhI} {FL : OhL} {FR : OhQ} {GR : OhQ} {AL : OhL} {AR : OhQ} {BR : OhQ} {AN : OhN} {C : OhC} {k : Nat × Nat} {Φ : OhP} {Ψ : OhX} (hM : ohShM FR AN) (n : Nat) (x1 : Int32) (x2 : Int32) (x3 : Int32) (x5 : Int32) : ∀ (f : Nat) (x6 : Int32) (AI : OhI) (b : (OhI)), lpF (fun v => mX4_roll_b195 n FI FR v.2 AN x1 x2 x3 x5 v.1) f (x6, AI) = some b → (oX G 4 iX4_roll 250 [(0, vR (some (1, 0))), (1, vI x1), (2, vI x2)] [] (FI, FL, FR, GR, b, AL, AR, BR, AN, C) k Φ Ψ) → oX G 4 iX4_roll 195 [(0, vR (some (1, 0))), (1, vI x1), (2, vI x2), (3, vI x3), (5, vI x5), (6, vI x6)] [] (FI, FL, FR, GR, AI, AL, AR, BR, AN, C) k Φ Ψ := by
  intro f
  induction f with
  | zero =>
    intro x6 AI b hm
    cases hm
  | succ f ih =>
    intro x6 AI b hm hx1
    obtain ⟨r, hr, hm⟩ := lp_s hm
    refine x_mX4_roll_b195 hM n x1 x2 x3 x5 x6 hr (fun v e => ?_) (fun v e => ?_)
    · subst e; exact ih v.1 v.2 _ hm hx1
    · subst e; cases (show v = b from hm); exact hx1
noncomputable def mX4_roll_j191 (n : Nat) (FI : OhI) (FR : OhQ) (AI : OhI) (AN : OhN) (x1 : Int32) (x2 : Int32) (x3 : Int32) (x5 : Int32) (y1 : Int32) (y2 : Int32) : Option ((Int32 × Int32 × OhI) ⊕ (OhI)) :=
  gd (vp_in y1 66) <|
  oLet (sA AI 183 0 (uA (AI 183 0) y1.toNatClampNeg (vp_nar .boolean y2))) fun AI30 =>
  (lpF (fun v => mX4_roll_b195 n FI FR v.2 AN x1 x2 x3 x5 v.1) n ((0 : Int32), AI30)).bind fun v39 =>
  some (.inl (x1, x2 + (1 : Int32), v39))
theorem x_mX4_roll_j191 {G : OhG} {FI AI : OhI} {FL AL : OhL} {FR GR AR BR : OhQ} {AN : OhN} {C : OhC} {k : Nat × Nat} {Φ : OhP} {Ψ : OhX} (hM : ohShM FR AN) (n : Nat) (x1 : Int32) (x2 : Int32) (x3 : Int32) (x5 : Int32) (y1 : Int32) (y2 : Int32) {r : (Int32 × Int32 × OhI) ⊕ (OhI)} (hm : mX4_roll_j191 n FI FR AI AN x1 x2 x3 x5 y1 y2 = some r) (hk : ∀ v : Int32 × Int32 × OhI, r = .inl v → oX G 4 iX4_roll 85 [(0, vR (some (1, 0))), (1, vI v.1), (2, vI v.2.1)] [] (FI, FL, FR, GR, v.2.2, AL, AR, BR, AN, C) k Φ Ψ) (hx1 : ∀ v : OhI, r = .inr v → oX G 4 iX4_roll 256 [] [] (FI, FL, FR, GR, v, AL, AR, BR, AN, C) k Φ Ψ) : oX G 4 iX4_roll 191 [(0, vR (some (1, 0))), (1, vI x1), (2, vI x2), (3, vI x3), (5, vI x5)] [vI y2, vI y1, vR (some (183, 0))] (FI, FL, FR, GR, AI, AL, AR, BR, AN, C) k Φ Ψ := by
  unfold mX4_roll_j191 at hm
  obtain ⟨g30, hm⟩ := gd_s hm
  obtain ⟨AI30, hAI30, hm⟩ := oLs hm
  refine oX_zast oDs183 (oIn (ohN183 hM) g30) dX4_roll_191 hAI30 ?_
  refine oX_iconst (v := (0 : Int32)) dX4_roll_192 (by decide) ?_
  refine oX_istore (ls' := [(6, vI (0 : Int32)), (0, vR (some (1, 0))), (1, vI x1), (2, vI x2), (3, vI x3), (5, vI x5)]) dX4_roll_193 (by decide) rfl ?_
  obtain ⟨v39, g39, hm⟩ := bd_s hm
  refine oX_sub [1, 2, 3, 4, 5, 0] rfl (l_mX4_roll_b195 hM n x1 x2 x3 x5 n (0 : Int32) AI30 _ g39 ?_)
  refine oX_iinc (v := x2 + (1 : Int32)) (ls' := [(2, vI (x2 + (1 : Int32))), (0, vR (some (1, 0))), (1, vI x1)]) dX4_roll_250 rfl rfl (by decide) rfl ?_
  refine oX_goto (tgt := 85) dX4_roll_253 (by decide) ?_
  exact oX_sub [1, 2, 0] rfl (hk (x1, x2 + (1 : Int32), v39) (Option.some.inj hm).symm)
noncomputable def mX4_roll_b85 (n : Nat) (FI : OhI) (FR : OhQ) (AI : OhI) (AN : OhN) (x1 : Int32) (x2 : Int32) : Option ((Int32 × Int32 × OhI) ⊕ (OhI)) :=
  (if (FI 1 0 71) ≤ x2 then
  some (.inr AI)
else
  gd (vp_in x2 66) <|
    gd (vp_in (AI 175 0 x2.toNatClampNeg) 66) <|
    oLet (sA AI 183 0 (uA (AI 183 0) (AI 175 0 x2.toNatClampNeg).toNatClampNeg (vp_nar .boolean (0 : Int32)))) fun AI16 =>
    gd (vp_in (AI 175 0 x2.toNatClampNeg) 66) <|
    (if (2 : Int32) ≤ (AI16 163 0 (AI 175 0 x2.toNatClampNeg).toNatClampNeg) then
    (lpF (fun v => mX4_roll_b123 n FI FR v.2.2 AN v.1 x2 (AI 175 0 x2.toNatClampNeg) v.2.1) n (x1, (1 : Int32), AI16)).bind fun v25 =>
      gd (vp_in (AI 175 0 x2.toNatClampNeg) 66) <|
      gd (vp_in (v25.2 164 0 (AI 175 0 x2.toNatClampNeg).toNatClampNeg) 9) <|
      (mX4_canStand n FR v25.2 AN (v25.2 108 0 (v25.2 164 0 (AI 175 0 x2.toNatClampNeg).toNatClampNeg).toNatClampNeg)).bind fun r28 =>
      (if r28 = 0 then
      mX4_roll_j191 n FI FR v25.2 AN v25.1 x2 (AI 175 0 x2.toNatClampNeg) (v25.2 108 0 (v25.2 164 0 (AI 175 0 x2.toNatClampNeg).toNatClampNeg).toNatClampNeg) (AI 175 0 x2.toNatClampNeg) (1 : Int32)
    else
      mX4_roll_j191 n FI FR v25.2 AN v25.1 x2 (AI 175 0 x2.toNatClampNeg) (v25.2 108 0 (v25.2 164 0 (AI 175 0 x2.toNatClampNeg).toNatClampNeg).toNatClampNeg) (AI 175 0 x2.toNatClampNeg) (0 : Int32))
  else
    some (.inl (x1, x2 + (1 : Int32), AI16))))
theorem x_mX4_roll_b85 {G : OhG} {FI AI : OhI} {FL AL : OhL} {FR GR AR BR : OhQ} {AN : OhN} {C : OhC} {k : Nat × Nat} {Φ : OhP} {Ψ : OhX} (hM : ohShM FR AN) (n : Nat) (x1 : Int32) (x2 : Int32) {r : (Int32 × Int32 × OhI) ⊕ (OhI)} (hm : mX4_roll_b85 n FI FR AI AN x1 x2 = some r) (hk : ∀ v : Int32 × Int32 × OhI, r = .inl v → oX G 4 iX4_roll 85 [(0, vR (some (1, 0))), (1, vI v.1), (2, vI v.2.1)] [] (FI, FL, FR, GR, v.2.2, AL, AR, BR, AN, C) k Φ Ψ) (hx1 : ∀ v : OhI, r = .inr v → oX G 4 iX4_roll 256 [] [] (FI, FL, FR, GR, v, AL, AR, BR, AN, C) k Φ Ψ) : oX G 4 iX4_roll 85 [(0, vR (some (1, 0))), (1, vI x1), (2, vI x2)] [] (FI, FL, FR, GR, AI, AL, AR, BR, AN, C) k Φ Ψ := by
  unfold mX4_roll_b85 at hm
  refine oX_iload_n dX4_roll_85 rfl rfl ?_
  refine oX_aload_n dX4_roll_86 rfl rfl ?_
  refine oX_getI fX4_446 rfl oDs1 dX4_roll_87 ?_
  refine oX_icmp_ge (tgt := 256) dX4_roll_90 (by decide) (fun c14 => ?_) (fun c14 => ?_)
  · have hm := ifp c14 hm
    exact oX_sub [] rfl (hx1 AI (Option.some.inj hm).symm)
  · have hm := ifn c14 hm
    refine oX_aload_n dX4_roll_93 rfl rfl ?_
    refine oX_getF fX4_166 rfl oDs1 dX4_roll_94 (ohF175 hM) ?_
    refine oX_iload_n dX4_roll_97 rfl rfl ?_
    obtain ⟨g15, hm⟩ := gd_s hm
    refine oX_iald oDs175 (oIn (ohN175 hM) g15) dX4_roll_98 ?_
    refine oX_istore_n (ls' := [(3, vI (AI 175 0 x2.toNatClampNeg)), (0, vR (some (1, 0))), (1, vI x1), (2, vI x2)]) dX4_roll_99 rfl (by decide) rfl ?_
    refine oX_aload_n dX4_roll_100 rfl rfl ?_
    refine oX_getF fX4_187 rfl oDs1 dX4_roll_101 (ohF183 hM) ?_
    refine oX_iload_n dX4_roll_104 rfl rfl ?_
    refine oX_iconst (v := (0 : Int32)) dX4_roll_105 (by decide) ?_
    obtain ⟨g16, hm⟩ := gd_s hm
    obtain ⟨AI16, hAI16, hm⟩ := oLs hm
    refine oX_zast oDs183 (oIn (ohN183 hM) g16) dX4_roll_106 hAI16 ?_
    refine oX_aload_n dX4_roll_107 rfl rfl ?_
    refine oX_getF fX4_145 rfl oDs1 dX4_roll_108 (ohF163 hM) ?_
    refine oX_iload_n dX4_roll_111 rfl rfl ?_
    obtain ⟨g17, hm⟩ := gd_s hm
    refine oX_iald oDs163 (oIn (ohN163 hM) g17) dX4_roll_112 ?_
    refine oX_iconst (v := (2 : Int32)) dX4_roll_113 (by decide) ?_
    refine oX_icmp_ge (tgt := 120) dX4_roll_114 (by decide) (fun c18 => ?_) (fun c18 => ?_)
    · have hm := ifp c18 hm
      refine oX_iconst (v := (1 : Int32)) dX4_roll_120 (by decide) ?_
      refine oX_istore (ls' := [(4, vI (1 : Int32)), (3, vI (AI 175 0 x2.toNatClampNeg)), (0, vR (some (1, 0))), (1, vI x1), (2, vI x2)]) dX4_roll_121 (by decide) rfl ?_
      obtain ⟨v25, g25, hm⟩ := bd_s hm
      refine oX_sub [2, 3, 4, 1, 0] rfl (l_mX4_roll_b123 hM n x2 (AI 175 0 x2.toNatClampNeg) n x1 (1 : Int32) AI16 _ g25 ?_)
      refine oX_aload_n dX4_roll_159 rfl rfl ?_
      refine oX_getF fX4_17 rfl oDs1 dX4_roll_160 (ohF108 hM) ?_
      refine oX_aload_n dX4_roll_163 rfl rfl ?_
      refine oX_getF fX4_148 rfl oDs1 dX4_roll_164 (ohF164 hM) ?_
      refine oX_iload_n dX4_roll_167 rfl rfl ?_
      obtain ⟨g26, hm⟩ := gd_s hm
      refine oX_iald oDs164 (oIn (ohN164 hM) g26) dX4_roll_168 ?_
      obtain ⟨g27, hm⟩ := gd_s hm
      refine oX_iald oDs108 (oIn (ohN108 hM) g27) dX4_roll_169 ?_
      refine oX_istore (ls' := [(5, vI (v25.2 108 0 (v25.2 164 0 (AI 175 0 x2.toNatClampNeg).toNatClampNeg).toNatClampNeg)), (0, vR (some (1, 0))), (1, vI v25.1), (2, vI x2), (3, vI (AI 175 0 x2.toNatClampNeg))]) dX4_roll_170 (by decide) rfl ?_
      refine oX_aload_n dX4_roll_172 rfl rfl ?_
      refine oX_getF fX4_187 rfl oDs1 dX4_roll_173 (ohF183 hM) ?_
      refine oX_iload_n dX4_roll_176 rfl rfl ?_
      refine oX_aload_n dX4_roll_177 rfl rfl ?_
      refine oX_iload dX4_roll_178 rfl ?_
      obtain ⟨r28, g28, hm⟩ := bd_s hm
      refine oX_cV (as := [vI (v25.2 108 0 (v25.2 164 0 (AI 175 0 x2.toNatClampNeg).toNatClampNeg).toNatClampNeg)]) dX4_roll_180 rfl oDs1 rfl (by decide) rfl ok_X4_canStand rfl rfl q2297 q2299 qs102 q136 q2300 (by decide) (Nat.le_of_ble_eq_true rfl) (t_X4_canStand hM n (v25.2 108 0 (v25.2 164 0 (AI 175 0 x2.toNatClampNeg).toNatClampNeg).toNatClampNeg) g28) ?_
      refine oX_if_ne (tgt := 190) dX4_roll_183 (by decide) (fun c29 => ?_) (fun c29 => ?_)
      · have hm := ifp c29 hm
        refine oX_iconst (v := (1 : Int32)) dX4_roll_186 (by decide) ?_
        refine oX_goto (tgt := 191) dX4_roll_187 (by decide) ?_
        exact oX_sub [1, 2, 3, 4, 0] rfl (x_mX4_roll_j191 hM n v25.1 x2 (AI 175 0 x2.toNatClampNeg) (v25.2 108 0 (v25.2 164 0 (AI 175 0 x2.toNatClampNeg).toNatClampNeg).toNatClampNeg) (AI 175 0 x2.toNatClampNeg) (1 : Int32) hm hk hx1)
      · have hm := ifn c29 hm
        refine oX_iconst (v := (0 : Int32)) dX4_roll_190 (by decide) ?_
        exact oX_sub [1, 2, 3, 4, 0] rfl (x_mX4_roll_j191 hM n v25.1 x2 (AI 175 0 x2.toNatClampNeg) (v25.2 108 0 (v25.2 164 0 (AI 175 0 x2.toNatClampNeg).toNatClampNeg).toNatClampNeg) (AI 175 0 x2.toNatClampNeg) (0 : Int32) hm hk hx1)
    · have hm := ifn c18 hm
      refine oX_goto (tgt := 250) dX4_roll_117 (by decide) ?_
      refine oX_iinc (v := x2 + (1 : Int32)) (ls' := [(2, vI (x2 + (1 : Int32))), (3, vI (AI 175 0 x2.toNatClampNeg)), (0, vR (some (1, 0))), (1, vI x1)]) dX4_roll_250 rfl rfl (by decide) rfl ?_
      refine oX_goto (tgt := 85) dX4_roll_253 (by decide) ?_
      exact oX_sub [2, 3, 0] rfl (hk (x1, x2 + (1 : Int32), AI16) (Option.some.inj hm).symm)
theorem l_mX4_roll_b85 {G : OhG} {FI : OhI} {FL : OhL} {FR : OhQ} {GR : OhQ} {AL : OhL} {AR : OhQ} {BR : OhQ} {AN : OhN} {C : OhC} {k : Nat × Nat} {Φ : OhP} {Ψ : OhX} (hM : ohShM FR AN) (n : Nat) : ∀ (f : Nat) (x1 : Int32) (x2 : Int32) (AI : OhI) (b : (OhI)), lpF (fun v => mX4_roll_b85 n FI FR v.2.2 AN v.1 v.2.1) f (x1, x2, AI) = some b → (oX G 4 iX4_roll 256 [] [] (FI, FL, FR, GR, b, AL, AR, BR, AN, C) k Φ Ψ) → oX G 4 iX4_roll 85 [(0, vR (some (1, 0))), (1, vI x1), (2, vI x2)] [] (FI, FL, FR, GR, AI, AL, AR, BR, AN, C) k Φ Ψ := by
  intro f
  induction f with
  | zero =>
    intro x1 x2 AI b hm
    cases hm
  | succ f ih =>
    intro x1 x2 AI b hm hx1
    obtain ⟨r, hr, hm⟩ := lp_s hm
    refine x_mX4_roll_b85 hM n x1 x2 hr (fun v e => ?_) (fun v e => ?_)
    · subst e; exact ih v.1 v.2.1 v.2.2 _ hm hx1
    · subst e; cases (show v = b from hm); exact hx1
noncomputable def mX4_roll (n : Nat) (FI : OhI) (FR : OhQ) (AI : OhI) (AN : OhN) : Option (OhI) :=
  (lpF (fun v => mX4_roll_b2 n FI FR v.2 AN v.1) n ((0 : Int32), AI)).bind fun v3 =>
  (lpF (fun v => mX4_roll_b24 n FI FR v.2 AN v.1) n ((0 : Int32), v3)).bind fun v12 =>
  (mX4_atFirst n FR v12 AN).bind fun r13 =>
  (lpF (fun v => mX4_roll_b85 n FI FR v.2.2 AN v.1 v.2.1) n ((0 : Int32), (0 : Int32), r13)).bind fun v40 =>
  some v40
theorem x_mX4_roll {G : OhG} {FI AI : OhI} {FL AL : OhL} {FR GR AR BR : OhQ} {AN : OhN} {C : OhC} {k : Nat × Nat} {Φ : OhP} {Ψ : OhX} (hM : ohShM FR AN) (n : Nat) {r : OhI} (hm : mX4_roll n FI FR AI AN = some r) (hK : Φ none (FI, FL, FR, GR, r, AL, AR, BR, AN, C)) : oX G 4 iX4_roll 0 [(0, vR (some (1, 0)))] [] (FI, FL, FR, GR, AI, AL, AR, BR, AN, C) k Φ Ψ := by
  unfold mX4_roll at hm
  refine oX_iconst (v := (0 : Int32)) dX4_roll_0 (by decide) ?_
  refine oX_istore_n (ls' := [(1, vI (0 : Int32)), (0, vR (some (1, 0)))]) dX4_roll_1 rfl (by decide) rfl ?_
  obtain ⟨v3, g3, hm⟩ := bd_s hm
  refine oX_sub [1, 0] rfl (l_mX4_roll_b2 hM n n (0 : Int32) AI _ g3 ?_)
  refine oX_iconst (v := (0 : Int32)) dX4_roll_22 (by decide) ?_
  refine oX_istore_n (ls' := [(1, vI (0 : Int32)), (0, vR (some (1, 0)))]) dX4_roll_23 rfl (by decide) rfl ?_
  obtain ⟨v12, g12, hm⟩ := bd_s hm
  refine oX_sub [1, 0] rfl (l_mX4_roll_b24 hM n n (0 : Int32) v3 _ g12 ?_)
  refine oX_aload_n dX4_roll_77 rfl rfl ?_
  obtain ⟨r13, g13, hm⟩ := bd_s hm
  refine oX_cV_ (as := []) dX4_roll_78 rfl oDs1 rfl (by decide) rfl ok_X4_atFirst rfl rfl q2293 q2295 qs101 q136 q2296 (by decide) (Nat.le_of_ble_eq_true rfl) (t_X4_atFirst hM n g13) ?_
  refine oX_iconst (v := (0 : Int32)) dX4_roll_81 (by decide) ?_
  refine oX_istore_n (ls' := [(1, vI (0 : Int32)), (0, vR (some (1, 0)))]) dX4_roll_82 rfl (by decide) rfl ?_
  refine oX_iconst (v := (0 : Int32)) dX4_roll_83 (by decide) ?_
  refine oX_istore_n (ls' := [(2, vI (0 : Int32)), (1, vI (0 : Int32)), (0, vR (some (1, 0)))]) dX4_roll_84 rfl (by decide) rfl ?_
  obtain ⟨v40, g40, hm⟩ := bd_s hm
  refine oX_sub [2, 1, 0] rfl (l_mX4_roll_b85 hM n n (0 : Int32) (0 : Int32) r13 _ g40 ?_)
  obtain rfl := Option.some.inj hm
  exact oX_vret dX4_roll_256 rfl hK
theorem t_X4_roll {G : OhG} {FI AI : OhI} {FL AL : OhL} {FR GR AR BR : OhQ} {AN : OhN} {C : OhC} (hM : ohShM FR AN) (n : Nat) {o : OhI} (hm : mX4_roll n FI FR AI AN = some o) : oT G 4 iX4_roll [vR (some (1, 0))] (FI, FL, FR, GR, AI, AL, AR, BR, AN, C) (0, 0) (fun v h => v = none ∧ h = (FI, FL, FR, GR, o, AL, AR, BR, AN, C)) ohNo :=
  oT_of (by decide) rfl (Nat.le_of_ble_eq_true rfl) (x_mX4_roll hM n hm ⟨rfl, rfl⟩)
abbrev iX4_isOn : OhM := (yX4_isOn, cX4_isOn, 3, (some .boolean), [])
theorem ok_X4_isOn : oOk iX4_isOn 2 := ⟨by decide, by decide, by decide +kernel⟩

noncomputable def mX4_isOn (FR : OhQ) (AI : OhI) (AN : OhN) (x1 : Int32) (x2 : Int32) : Option (Int32) :=
  gd (vp_in x1 66) <|
  gd (vp_in x2 66) <|
  (if (AI 176 0 x2.toNatClampNeg) ≤ (AI 176 0 x1.toNatClampNeg) then
  some (0 : Int32)
else
  gd (vp_in x1 66) <|
    gd (vp_in x2 66) <|
    (if (AI 162 0 x1.toNatClampNeg) ≤ (AI 161 0 x2.toNatClampNeg) then
    some (0 : Int32)
  else
    some (1 : Int32)))
theorem x_mX4_isOn {G : OhG} {FI AI : OhI} {FL AL : OhL} {FR GR AR BR : OhQ} {AN : OhN} {C : OhC} {k : Nat × Nat} {Φ : OhP} {Ψ : OhX} (hM : ohShM FR AN) (x1 : Int32) (x2 : Int32) {r : Int32} (hm : mX4_isOn FR AI AN x1 x2 = some r) (hK : Φ (some (vI r)) (FI, FL, FR, GR, AI, AL, AR, BR, AN, C)) : oX G 1 iX4_isOn 0 [(0, vR (some (1, 0))), (1, vI x1), (2, vI x2)] [] (FI, FL, FR, GR, AI, AL, AR, BR, AN, C) k Φ Ψ := by
  unfold mX4_isOn at hm
  refine oX_aload_n dX4_isOn_0 rfl rfl ?_
  refine oX_getF fX4_169 rfl oDs1 dX4_isOn_1 (ohF176 hM) ?_
  refine oX_iload_n dX4_isOn_4 rfl rfl ?_
  obtain ⟨g1, hm⟩ := gd_s hm
  refine oX_iald oDs176 (oIn (ohN176 hM) g1) dX4_isOn_5 ?_
  refine oX_aload_n dX4_isOn_6 rfl rfl ?_
  refine oX_getF fX4_169 rfl oDs1 dX4_isOn_7 (ohF176 hM) ?_
  refine oX_iload_n dX4_isOn_10 rfl rfl ?_
  obtain ⟨g2, hm⟩ := gd_s hm
  refine oX_iald oDs176 (oIn (ohN176 hM) g2) dX4_isOn_11 ?_
  refine oX_icmp_ge (tgt := 34) dX4_isOn_12 (by decide) (fun c3 => ?_) (fun c3 => ?_)
  · have hm := ifp c3 hm
    refine oX_iconst (v := (0 : Int32)) dX4_isOn_34 (by decide) ?_
    obtain rfl := Option.some.inj hm
    exact oX_iret dX4_isOn_35 rfl (by decide) hK
  · have hm := ifn c3 hm
    refine oX_aload_n dX4_isOn_15 rfl rfl ?_
    refine oX_getF fX4_142 rfl oDs1 dX4_isOn_16 (ohF162 hM) ?_
    refine oX_iload_n dX4_isOn_19 rfl rfl ?_
    obtain ⟨g4, hm⟩ := gd_s hm
    refine oX_iald oDs162 (oIn (ohN162 hM) g4) dX4_isOn_20 ?_
    refine oX_aload_n dX4_isOn_21 rfl rfl ?_
    refine oX_getF fX4_139 rfl oDs1 dX4_isOn_22 (ohF161 hM) ?_
    refine oX_iload_n dX4_isOn_25 rfl rfl ?_
    obtain ⟨g5, hm⟩ := gd_s hm
    refine oX_iald oDs161 (oIn (ohN161 hM) g5) dX4_isOn_26 ?_
    refine oX_icmp_le (tgt := 34) dX4_isOn_27 (by decide) (fun c6 => ?_) (fun c6 => ?_)
    · have hm := ifp c6 hm
      refine oX_iconst (v := (0 : Int32)) dX4_isOn_34 (by decide) ?_
      obtain rfl := Option.some.inj hm
      exact oX_iret dX4_isOn_35 rfl (by decide) hK
    · have hm := ifn c6 hm
      refine oX_iconst (v := (1 : Int32)) dX4_isOn_30 (by decide) ?_
      refine oX_goto (tgt := 35) dX4_isOn_31 (by decide) ?_
      obtain rfl := Option.some.inj hm
      exact oX_iret dX4_isOn_35 rfl (by decide) hK
theorem t_X4_isOn {G : OhG} {FI AI : OhI} {FL AL : OhL} {FR GR AR BR : OhQ} {AN : OhN} {C : OhC} (hM : ohShM FR AN) (x1 : Int32) (x2 : Int32) {o : Int32} (hm : mX4_isOn FR AI AN x1 x2 = some o) : oT G 1 iX4_isOn [vR (some (1, 0)), vI x1, vI x2] (FI, FL, FR, GR, AI, AL, AR, BR, AN, C) (0, 0) (fun v h => v = (some (vI o)) ∧ h = (FI, FL, FR, GR, AI, AL, AR, BR, AN, C)) ohNo :=
  oT_of (by decide) rfl (Nat.le_of_ble_eq_true rfl) (x_mX4_isOn hM x1 x2 hm ⟨rfl, rfl⟩)
abbrev iX4_isFullStage : OhM := (yX4_isFullStage, cX4_isFullStage, 5, (some .boolean), [])
theorem ok_X4_isFullStage : oOk iX4_isFullStage 1 := ⟨by decide, by decide, by decide +kernel⟩

noncomputable def mX4_isFullStage_j67 (n : Nat) (FI : OhI) (FR : OhQ) (AI : OhI) (AN : OhN) (x1 : Int32) (x3 : Int32) (x4 : Int32) (y0 : Int32) (y1 : Int32) : Option ((Int32 × Int32 × Int32) ⊕ (Int32 × Int32)) :=
  gd (vp_in x4 66) <|
  (if (AI 163 0 x4.toNatClampNeg) = (1 : Int32) then
  some (.inl (y0 + y1, x3 + (0 : Int32), x4 + (1 : Int32)))
else
  some (.inl (y0 + y1, x3 + (1 : Int32), x4 + (1 : Int32))))
theorem x_mX4_isFullStage_j67 {G : OhG} {FI AI : OhI} {FL AL : OhL} {FR GR AR BR : OhQ} {AN : OhN} {C : OhC} {k : Nat × Nat} {Φ : OhP} {Ψ : OhX} (hM : ohShM FR AN) (n : Nat) (x1 : Int32) (x3 : Int32) (x4 : Int32) (y0 : Int32) (y1 : Int32) {r : (Int32 × Int32 × Int32) ⊕ (Int32 × Int32)} (hm : mX4_isFullStage_j67 n FI FR AI AN x1 x3 x4 y0 y1 = some r) (hk : ∀ v : Int32 × Int32 × Int32, r = .inl v → oX G 2 iX4_isFullStage 18 [(0, vR (some (1, 0))), (1, vI x1), (2, vI v.1), (3, vI v.2.1), (4, vI v.2.2)] [] (FI, FL, FR, GR, AI, AL, AR, BR, AN, C) k Φ Ψ) (hx1 : ∀ v : Int32 × Int32, r = .inr v → oX G 2 iX4_isFullStage 94 [(0, vR (some (1, 0))), (1, vI x1), (2, vI v.1), (3, vI v.2)] [] (FI, FL, FR, GR, AI, AL, AR, BR, AN, C) k Φ Ψ) : oX G 2 iX4_isFullStage 67 [(0, vR (some (1, 0))), (1, vI x1), (3, vI x3), (4, vI x4)] [vI y1, vI y0] (FI, FL, FR, GR, AI, AL, AR, BR, AN, C) k Φ Ψ := by
  unfold mX4_isFullStage_j67 at hm
  refine oX_iadd dX4_isFullStage_67 ?_
  refine oX_istore_n (ls' := [(2, vI (y0 + y1)), (0, vR (some (1, 0))), (1, vI x1), (3, vI x3), (4, vI x4)]) dX4_isFullStage_68 rfl (by decide) rfl ?_
  refine oX_iload_n dX4_isFullStage_69 rfl rfl ?_
  refine oX_aload_n dX4_isFullStage_70 rfl rfl ?_
  refine oX_getF fX4_145 rfl oDs1 dX4_isFullStage_71 (ohF163 hM) ?_
  refine oX_iload dX4_isFullStage_74 rfl ?_
  obtain ⟨g10, hm⟩ := gd_s hm
  refine oX_iald oDs163 (oIn (ohN163 hM) g10) dX4_isFullStage_76 ?_
  refine oX_iconst (v := (1 : Int32)) dX4_isFullStage_77 (by decide) ?_
  refine oX_icmp_ne (tgt := 85) dX4_isFullStage_78 (by decide) (fun c11 => ?_) (fun c11 => ?_)
  · have hm := ifp c11 hm
    refine oX_iconst (v := (0 : Int32)) dX4_isFullStage_81 (by decide) ?_
    refine oX_goto (tgt := 86) dX4_isFullStage_82 (by decide) ?_
    refine oX_iadd dX4_isFullStage_86 ?_
    refine oX_istore_n (ls' := [(3, vI (x3 + (0 : Int32))), (2, vI (y0 + y1)), (0, vR (some (1, 0))), (1, vI x1), (4, vI x4)]) dX4_isFullStage_87 rfl (by decide) rfl ?_
    refine oX_iinc (v := x4 + (1 : Int32)) (ls' := [(4, vI (x4 + (1 : Int32))), (3, vI (x3 + (0 : Int32))), (2, vI (y0 + y1)), (0, vR (some (1, 0))), (1, vI x1)]) dX4_isFullStage_88 rfl rfl (by decide) rfl ?_
    refine oX_goto (tgt := 18) dX4_isFullStage_91 (by decide) ?_
    exact oX_sub [3, 4, 2, 1, 0] rfl (hk (y0 + y1, x3 + (0 : Int32), x4 + (1 : Int32)) (Option.some.inj hm).symm)
  · have hm := ifn c11 hm
    refine oX_iconst (v := (1 : Int32)) dX4_isFullStage_85 (by decide) ?_
    refine oX_iadd dX4_isFullStage_86 ?_
    refine oX_istore_n (ls' := [(3, vI (x3 + (1 : Int32))), (2, vI (y0 + y1)), (0, vR (some (1, 0))), (1, vI x1), (4, vI x4)]) dX4_isFullStage_87 rfl (by decide) rfl ?_
    refine oX_iinc (v := x4 + (1 : Int32)) (ls' := [(4, vI (x4 + (1 : Int32))), (3, vI (x3 + (1 : Int32))), (2, vI (y0 + y1)), (0, vR (some (1, 0))), (1, vI x1)]) dX4_isFullStage_88 rfl rfl (by decide) rfl ?_
    refine oX_goto (tgt := 18) dX4_isFullStage_91 (by decide) ?_
    exact oX_sub [3, 4, 2, 1, 0] rfl (hk (y0 + y1, x3 + (1 : Int32), x4 + (1 : Int32)) (Option.some.inj hm).symm)
noncomputable def mX4_isFullStage_b18 (n : Nat) (FI : OhI) (FR : OhQ) (AI : OhI) (AN : OhN) (x1 : Int32) (x2 : Int32) (x3 : Int32) (x4 : Int32) : Option ((Int32 × Int32 × Int32) ⊕ (Int32 × Int32)) :=
  (if (FI 1 0 71) ≤ x4 then
  some (.inr (x2, x3))
else
  gd (vp_in x4 66) <|
    (if (AI 163 0 x4.toNatClampNeg) = 0 then
    some (.inl (x2, x3, x4 + (1 : Int32)))
  else
    (mX4_isOn FR AI AN x4 x1).bind fun r6 =>
      (if r6 = 0 then
      some (.inl (x2, x3, x4 + (1 : Int32)))
    else
      gd (vp_in x4 66) <|
        (if (AI 163 0 x4.toNatClampNeg) = (1 : Int32) then
        mX4_isFullStage_j67 n FI FR AI AN x1 x3 x4 x2 (1 : Int32)
      else
        mX4_isFullStage_j67 n FI FR AI AN x1 x3 x4 x2 (0 : Int32)))))
theorem x_mX4_isFullStage_b18 {G : OhG} {FI AI : OhI} {FL AL : OhL} {FR GR AR BR : OhQ} {AN : OhN} {C : OhC} {k : Nat × Nat} {Φ : OhP} {Ψ : OhX} (hM : ohShM FR AN) (n : Nat) (x1 : Int32) (x2 : Int32) (x3 : Int32) (x4 : Int32) {r : (Int32 × Int32 × Int32) ⊕ (Int32 × Int32)} (hm : mX4_isFullStage_b18 n FI FR AI AN x1 x2 x3 x4 = some r) (hk : ∀ v : Int32 × Int32 × Int32, r = .inl v → oX G 2 iX4_isFullStage 18 [(0, vR (some (1, 0))), (1, vI x1), (2, vI v.1), (3, vI v.2.1), (4, vI v.2.2)] [] (FI, FL, FR, GR, AI, AL, AR, BR, AN, C) k Φ Ψ) (hx1 : ∀ v : Int32 × Int32, r = .inr v → oX G 2 iX4_isFullStage 94 [(0, vR (some (1, 0))), (1, vI x1), (2, vI v.1), (3, vI v.2)] [] (FI, FL, FR, GR, AI, AL, AR, BR, AN, C) k Φ Ψ) : oX G 2 iX4_isFullStage 18 [(0, vR (some (1, 0))), (1, vI x1), (2, vI x2), (3, vI x3), (4, vI x4)] [] (FI, FL, FR, GR, AI, AL, AR, BR, AN, C) k Φ Ψ := by
  unfold mX4_isFullStage_b18 at hm
  refine oX_iload dX4_isFullStage_18 rfl ?_
  refine oX_aload_n dX4_isFullStage_20 rfl rfl ?_
  refine oX_getI fX4_446 rfl oDs1 dX4_isFullStage_21 ?_
  refine oX_icmp_ge (tgt := 94) dX4_isFullStage_24 (by decide) (fun c3 => ?_) (fun c3 => ?_)
  · have hm := ifp c3 hm
    exact oX_sub [0, 1, 2, 3] rfl (hx1 (x2, x3) (Option.some.inj hm).symm)
  · have hm := ifn c3 hm
    refine oX_aload_n dX4_isFullStage_27 rfl rfl ?_
    refine oX_getF fX4_145 rfl oDs1 dX4_isFullStage_28 (ohF163 hM) ?_
    refine oX_iload dX4_isFullStage_31 rfl ?_
    obtain ⟨g4, hm⟩ := gd_s hm
    refine oX_iald oDs163 (oIn (ohN163 hM) g4) dX4_isFullStage_33 ?_
    refine oX_if_eq (tgt := 88) dX4_isFullStage_34 (by decide) (fun c5 => ?_) (fun c5 => ?_)
    · have hm := ifp c5 hm
      refine oX_iinc (v := x4 + (1 : Int32)) (ls' := [(4, vI (x4 + (1 : Int32))), (0, vR (some (1, 0))), (1, vI x1), (2, vI x2), (3, vI x3)]) dX4_isFullStage_88 rfl rfl (by decide) rfl ?_
      refine oX_goto (tgt := 18) dX4_isFullStage_91 (by decide) ?_
      exact oX_sub [1, 2, 3, 4, 0] rfl (hk (x2, x3, x4 + (1 : Int32)) (Option.some.inj hm).symm)
    · have hm := ifn c5 hm
      refine oX_aload_n dX4_isFullStage_37 rfl rfl ?_
      refine oX_iload dX4_isFullStage_38 rfl ?_
      refine oX_iload_n dX4_isFullStage_40 rfl rfl ?_
      obtain ⟨r6, g6, hm⟩ := bd_s hm
      refine oX_cV (as := [vI x4, vI x1]) dX4_isFullStage_41 rfl oDs1 rfl (by decide) rfl ok_X4_isOn rfl rfl q2334 q2336 qs108 q136 q2337 (by decide) (Nat.le_of_ble_eq_true rfl) (t_X4_isOn hM x4 x1 g6) ?_
      refine oX_if_ne (tgt := 50) dX4_isFullStage_44 (by decide) (fun c7 => ?_) (fun c7 => ?_)
      · have hm := ifp c7 hm
        refine oX_goto (tgt := 88) dX4_isFullStage_47 (by decide) ?_
        refine oX_iinc (v := x4 + (1 : Int32)) (ls' := [(4, vI (x4 + (1 : Int32))), (0, vR (some (1, 0))), (1, vI x1), (2, vI x2), (3, vI x3)]) dX4_isFullStage_88 rfl rfl (by decide) rfl ?_
        refine oX_goto (tgt := 18) dX4_isFullStage_91 (by decide) ?_
        exact oX_sub [1, 2, 3, 4, 0] rfl (hk (x2, x3, x4 + (1 : Int32)) (Option.some.inj hm).symm)
      · have hm := ifn c7 hm
        refine oX_iload_n dX4_isFullStage_50 rfl rfl ?_
        refine oX_aload_n dX4_isFullStage_51 rfl rfl ?_
        refine oX_getF fX4_145 rfl oDs1 dX4_isFullStage_52 (ohF163 hM) ?_
        refine oX_iload dX4_isFullStage_55 rfl ?_
        obtain ⟨g8, hm⟩ := gd_s hm
        refine oX_iald oDs163 (oIn (ohN163 hM) g8) dX4_isFullStage_57 ?_
        refine oX_iconst (v := (1 : Int32)) dX4_isFullStage_58 (by decide) ?_
        refine oX_icmp_ne (tgt := 66) dX4_isFullStage_59 (by decide) (fun c9 => ?_) (fun c9 => ?_)
        · have hm := ifp c9 hm
          refine oX_iconst (v := (1 : Int32)) dX4_isFullStage_62 (by decide) ?_
          refine oX_goto (tgt := 67) dX4_isFullStage_63 (by decide) ?_
          exact oX_sub [0, 1, 3, 4] rfl (x_mX4_isFullStage_j67 hM n x1 x3 x4 x2 (1 : Int32) hm hk hx1)
        · have hm := ifn c9 hm
          refine oX_iconst (v := (0 : Int32)) dX4_isFullStage_66 (by decide) ?_
          exact oX_sub [0, 1, 3, 4] rfl (x_mX4_isFullStage_j67 hM n x1 x3 x4 x2 (0 : Int32) hm hk hx1)
theorem l_mX4_isFullStage_b18 {G : OhG} {FI : OhI} {FL : OhL} {FR : OhQ} {GR : OhQ} {AI : OhI} {AL : OhL} {AR : OhQ} {BR : OhQ} {AN : OhN} {C : OhC} {k : Nat × Nat} {Φ : OhP} {Ψ : OhX} (hM : ohShM FR AN) (n : Nat) (x1 : Int32) : ∀ (f : Nat) (x2 : Int32) (x3 : Int32) (x4 : Int32) (b : (Int32 × Int32)), lpF (fun v => mX4_isFullStage_b18 n FI FR AI AN x1 v.1 v.2.1 v.2.2) f (x2, x3, x4) = some b → (oX G 2 iX4_isFullStage 94 [(0, vR (some (1, 0))), (1, vI x1), (2, vI b.1), (3, vI b.2)] [] (FI, FL, FR, GR, AI, AL, AR, BR, AN, C) k Φ Ψ) → oX G 2 iX4_isFullStage 18 [(0, vR (some (1, 0))), (1, vI x1), (2, vI x2), (3, vI x3), (4, vI x4)] [] (FI, FL, FR, GR, AI, AL, AR, BR, AN, C) k Φ Ψ := by
  intro f
  induction f with
  | zero =>
    intro x2 x3 x4 b hm
    cases hm
  | succ f ih =>
    intro x2 x3 x4 b hm hx1
    obtain ⟨r, hr, hm⟩ := lp_s hm
    refine x_mX4_isFullStage_b18 hM n x1 x2 x3 x4 hr (fun v e => ?_) (fun v e => ?_)
    · subst e; exact ih v.1 v.2.1 v.2.2 _ hm hx1
    · subst e; cases (show v = b from hm); exact hx1
noncomputable def mX4_isFullStage_j114 (n : Nat) (FI : OhI) (FR : OhQ) (AI : OhI) (AN : OhN) (y0 : Int32) (y1 : Int32) : Option (Int32) :=
  (if y0 ≤ y1 then
  some (0 : Int32)
else
  some (1 : Int32))
theorem x_mX4_isFullStage_j114 {G : OhG} {FI AI : OhI} {FL AL : OhL} {FR GR AR BR : OhQ} {AN : OhN} {C : OhC} {k : Nat × Nat} {Φ : OhP} {Ψ : OhX} (hM : ohShM FR AN) (n : Nat) (y0 : Int32) (y1 : Int32) {r : Int32} (hm : mX4_isFullStage_j114 n FI FR AI AN y0 y1 = some r) (hK : Φ (some (vI r)) (FI, FL, FR, GR, AI, AL, AR, BR, AN, C)) : oX G 2 iX4_isFullStage 114 [] [vI y1, vI y0] (FI, FL, FR, GR, AI, AL, AR, BR, AN, C) k Φ Ψ := by
  unfold mX4_isFullStage_j114 at hm
  refine oX_icmp_le (tgt := 121) dX4_isFullStage_114 (by decide) (fun c16 => ?_) (fun c16 => ?_)
  · have hm := ifp c16 hm
    refine oX_iconst (v := (0 : Int32)) dX4_isFullStage_121 (by decide) ?_
    obtain rfl := Option.some.inj hm
    exact oX_iret dX4_isFullStage_122 rfl (by decide) hK
  · have hm := ifn c16 hm
    refine oX_iconst (v := (1 : Int32)) dX4_isFullStage_117 (by decide) ?_
    refine oX_goto (tgt := 122) dX4_isFullStage_118 (by decide) ?_
    obtain rfl := Option.some.inj hm
    exact oX_iret dX4_isFullStage_122 rfl (by decide) hK
noncomputable def mX4_isFullStage (n : Nat) (FI : OhI) (FR : OhQ) (AI : OhI) (AN : OhN) (x1 : Int32) : Option (Int32) :=
  gd (vp_in x1 66) <|
  (if (AI 163 0 x1.toNatClampNeg) = 0 then
  some (0 : Int32)
else
  (lpF (fun v => mX4_isFullStage_b18 n FI FR AI AN x1 v.1 v.2.1 v.2.2) n ((0 : Int32), (0 : Int32), (0 : Int32))).bind fun v12 =>
    (if 0 < v12.2 then
    some (1 : Int32)
  else
    gd (vp_in x1 66) <|
      (if (AI 163 0 x1.toNatClampNeg) = (1 : Int32) then
      mX4_isFullStage_j114 n FI FR AI AN v12.1 (1 : Int32)
    else
      mX4_isFullStage_j114 n FI FR AI AN v12.1 (0 : Int32))))
theorem x_mX4_isFullStage {G : OhG} {FI AI : OhI} {FL AL : OhL} {FR GR AR BR : OhQ} {AN : OhN} {C : OhC} {k : Nat × Nat} {Φ : OhP} {Ψ : OhX} (hM : ohShM FR AN) (n : Nat) (x1 : Int32) {r : Int32} (hm : mX4_isFullStage n FI FR AI AN x1 = some r) (hK : Φ (some (vI r)) (FI, FL, FR, GR, AI, AL, AR, BR, AN, C)) : oX G 2 iX4_isFullStage 0 [(0, vR (some (1, 0))), (1, vI x1)] [] (FI, FL, FR, GR, AI, AL, AR, BR, AN, C) k Φ Ψ := by
  unfold mX4_isFullStage at hm
  refine oX_aload_n dX4_isFullStage_0 rfl rfl ?_
  refine oX_getF fX4_145 rfl oDs1 dX4_isFullStage_1 (ohF163 hM) ?_
  refine oX_iload_n dX4_isFullStage_4 rfl rfl ?_
  obtain ⟨g1, hm⟩ := gd_s hm
  refine oX_iald oDs163 (oIn (ohN163 hM) g1) dX4_isFullStage_5 ?_
  refine oX_if_ne (tgt := 11) dX4_isFullStage_6 (by decide) (fun c2 => ?_) (fun c2 => ?_)
  · have hm := ifp c2 hm
    refine oX_iconst (v := (0 : Int32)) dX4_isFullStage_9 (by decide) ?_
    obtain rfl := Option.some.inj hm
    exact oX_iret dX4_isFullStage_10 rfl (by decide) hK
  · have hm := ifn c2 hm
    refine oX_iconst (v := (0 : Int32)) dX4_isFullStage_11 (by decide) ?_
    refine oX_istore_n (ls' := [(2, vI (0 : Int32)), (0, vR (some (1, 0))), (1, vI x1)]) dX4_isFullStage_12 rfl (by decide) rfl ?_
    refine oX_iconst (v := (0 : Int32)) dX4_isFullStage_13 (by decide) ?_
    refine oX_istore_n (ls' := [(3, vI (0 : Int32)), (2, vI (0 : Int32)), (0, vR (some (1, 0))), (1, vI x1)]) dX4_isFullStage_14 rfl (by decide) rfl ?_
    refine oX_iconst (v := (0 : Int32)) dX4_isFullStage_15 (by decide) ?_
    refine oX_istore (ls' := [(4, vI (0 : Int32)), (3, vI (0 : Int32)), (2, vI (0 : Int32)), (0, vR (some (1, 0))), (1, vI x1)]) dX4_isFullStage_16 (by decide) rfl ?_
    obtain ⟨v12, g12, hm⟩ := bd_s hm
    refine oX_sub [3, 4, 2, 1, 0] rfl (l_mX4_isFullStage_b18 hM n x1 n (0 : Int32) (0 : Int32) (0 : Int32) _ g12 ?_)
    refine oX_iload_n dX4_isFullStage_94 rfl rfl ?_
    refine oX_if_gt (tgt := 117) dX4_isFullStage_95 (by decide) (fun c13 => ?_) (fun c13 => ?_)
    · have hm := ifp c13 hm
      refine oX_iconst (v := (1 : Int32)) dX4_isFullStage_117 (by decide) ?_
      refine oX_goto (tgt := 122) dX4_isFullStage_118 (by decide) ?_
      obtain rfl := Option.some.inj hm
      exact oX_iret dX4_isFullStage_122 rfl (by decide) hK
    · have hm := ifn c13 hm
      refine oX_iload_n dX4_isFullStage_98 rfl rfl ?_
      refine oX_aload_n dX4_isFullStage_99 rfl rfl ?_
      refine oX_getF fX4_145 rfl oDs1 dX4_isFullStage_100 (ohF163 hM) ?_
      refine oX_iload_n dX4_isFullStage_103 rfl rfl ?_
      obtain ⟨g14, hm⟩ := gd_s hm
      refine oX_iald oDs163 (oIn (ohN163 hM) g14) dX4_isFullStage_104 ?_
      refine oX_iconst (v := (1 : Int32)) dX4_isFullStage_105 (by decide) ?_
      refine oX_icmp_ne (tgt := 113) dX4_isFullStage_106 (by decide) (fun c15 => ?_) (fun c15 => ?_)
      · have hm := ifp c15 hm
        refine oX_iconst (v := (1 : Int32)) dX4_isFullStage_109 (by decide) ?_
        refine oX_goto (tgt := 114) dX4_isFullStage_110 (by decide) ?_
        exact oX_sub [] rfl (x_mX4_isFullStage_j114 hM n v12.1 (1 : Int32) hm hK)
      · have hm := ifn c15 hm
        refine oX_iconst (v := (0 : Int32)) dX4_isFullStage_113 (by decide) ?_
        exact oX_sub [] rfl (x_mX4_isFullStage_j114 hM n v12.1 (0 : Int32) hm hK)
theorem t_X4_isFullStage {G : OhG} {FI AI : OhI} {FL AL : OhL} {FR GR AR BR : OhQ} {AN : OhN} {C : OhC} (hM : ohShM FR AN) (n : Nat) (x1 : Int32) {o : Int32} (hm : mX4_isFullStage n FI FR AI AN x1 = some o) : oT G 2 iX4_isFullStage [vR (some (1, 0)), vI x1] (FI, FL, FR, GR, AI, AL, AR, BR, AN, C) (0, 0) (fun v h => v = (some (vI o)) ∧ h = (FI, FL, FR, GR, AI, AL, AR, BR, AN, C)) ohNo :=
  oT_of (by decide) rfl (Nat.le_of_ble_eq_true rfl) (x_mX4_isFullStage hM n x1 hm ⟨rfl, rfl⟩)
abbrev iX4_firstEnd : OhM := (yX4_firstEnd, cX4_firstEnd, 6, (some .int), [])
theorem ok_X4_firstEnd : oOk iX4_firstEnd 3 := ⟨by decide, by decide, by decide +kernel⟩

noncomputable def mX4_firstEnd_b8 (n : Nat) (FI : OhI) (FR : OhQ) (AI : OhI) (AN : OhN) (x1 : Int32) (x2 : Int32) (x3 : Int32) (x4 : Int32) (x5 : Int32) : Option ((Int32 × Int32) ⊕ (Int32)) :=
  (if (FI 1 0 71) ≤ x5 then
  some (.inr x4)
else
  gd (vp_in x5 66) <|
    (if (AI 164 0 x5.toNatClampNeg) = x1 then
    gd (vp_in x5 66) <|
      (if (AI 163 0 x5.toNatClampNeg) = x2 then
      gd (vp_in x5 66) <|
        (if (AI 161 0 x5.toNatClampNeg) < x3 then
        some (.inl (x4, x5 + (1 : Int32)))
      else
        gd (vp_in x5 66) <|
          (if x4 ≤ (AI 162 0 x5.toNatClampNeg) then
          some (.inl (x4, x5 + (1 : Int32)))
        else
          gd (vp_in x5 66) <|
            some (.inl (AI 162 0 x5.toNatClampNeg, x5 + (1 : Int32)))))
    else
      some (.inl (x4, x5 + (1 : Int32))))
  else
    some (.inl (x4, x5 + (1 : Int32)))))
theorem x_mX4_firstEnd_b8 {G : OhG} {FI AI : OhI} {FL AL : OhL} {FR GR AR BR : OhQ} {AN : OhN} {C : OhC} {k : Nat × Nat} {Φ : OhP} {Ψ : OhX} (hM : ohShM FR AN) (n : Nat) (x1 : Int32) (x2 : Int32) (x3 : Int32) (x4 : Int32) (x5 : Int32) {r : (Int32 × Int32) ⊕ (Int32)} (hm : mX4_firstEnd_b8 n FI FR AI AN x1 x2 x3 x4 x5 = some r) (hk : ∀ v : Int32 × Int32, r = .inl v → oX G 1 iX4_firstEnd 8 [(0, vR (some (1, 0))), (1, vI x1), (2, vI x2), (3, vI x3), (4, vI v.1), (5, vI v.2)] [] (FI, FL, FR, GR, AI, AL, AR, BR, AN, C) k Φ Ψ) (hx1 : ∀ v : Int32, r = .inr v → oX G 1 iX4_firstEnd 77 [(4, vI v)] [] (FI, FL, FR, GR, AI, AL, AR, BR, AN, C) k Φ Ψ) : oX G 1 iX4_firstEnd 8 [(0, vR (some (1, 0))), (1, vI x1), (2, vI x2), (3, vI x3), (4, vI x4), (5, vI x5)] [] (FI, FL, FR, GR, AI, AL, AR, BR, AN, C) k Φ Ψ := by
  unfold mX4_firstEnd_b8 at hm
  refine oX_iload dX4_firstEnd_8 rfl ?_
  refine oX_aload_n dX4_firstEnd_10 rfl rfl ?_
  refine oX_getI fX4_446 rfl oDs1 dX4_firstEnd_11 ?_
  refine oX_icmp_ge (tgt := 77) dX4_firstEnd_14 (by decide) (fun c1 => ?_) (fun c1 => ?_)
  · have hm := ifp c1 hm
    exact oX_sub [4] rfl (hx1 x4 (Option.some.inj hm).symm)
  · have hm := ifn c1 hm
    refine oX_aload_n dX4_firstEnd_17 rfl rfl ?_
    refine oX_getF fX4_148 rfl oDs1 dX4_firstEnd_18 (ohF164 hM) ?_
    refine oX_iload dX4_firstEnd_21 rfl ?_
    obtain ⟨g2, hm⟩ := gd_s hm
    refine oX_iald oDs164 (oIn (ohN164 hM) g2) dX4_firstEnd_23 ?_
    refine oX_iload_n dX4_firstEnd_24 rfl rfl ?_
    refine oX_icmp_ne (tgt := 71) dX4_firstEnd_25 (by decide) (fun c3 => ?_) (fun c3 => ?_)
    · have hm := ifp c3 hm
      refine oX_aload_n dX4_firstEnd_28 rfl rfl ?_
      refine oX_getF fX4_145 rfl oDs1 dX4_firstEnd_29 (ohF163 hM) ?_
      refine oX_iload dX4_firstEnd_32 rfl ?_
      obtain ⟨g4, hm⟩ := gd_s hm
      refine oX_iald oDs163 (oIn (ohN163 hM) g4) dX4_firstEnd_34 ?_
      refine oX_iload_n dX4_firstEnd_35 rfl rfl ?_
      refine oX_icmp_ne (tgt := 71) dX4_firstEnd_36 (by decide) (fun c5 => ?_) (fun c5 => ?_)
      · have hm := ifp c5 hm
        refine oX_aload_n dX4_firstEnd_39 rfl rfl ?_
        refine oX_getF fX4_139 rfl oDs1 dX4_firstEnd_40 (ohF161 hM) ?_
        refine oX_iload dX4_firstEnd_43 rfl ?_
        obtain ⟨g6, hm⟩ := gd_s hm
        refine oX_iald oDs161 (oIn (ohN161 hM) g6) dX4_firstEnd_45 ?_
        refine oX_iload_n dX4_firstEnd_46 rfl rfl ?_
        refine oX_icmp_lt (tgt := 71) dX4_firstEnd_47 (by decide) (fun c7 => ?_) (fun c7 => ?_)
        · have hm := ifp c7 hm
          refine oX_iinc (v := x5 + (1 : Int32)) (ls' := [(5, vI (x5 + (1 : Int32))), (0, vR (some (1, 0))), (1, vI x1), (2, vI x2), (3, vI x3), (4, vI x4)]) dX4_firstEnd_71 rfl rfl (by decide) rfl ?_
          refine oX_goto (tgt := 8) dX4_firstEnd_74 (by decide) ?_
          exact oX_sub [1, 2, 3, 4, 5, 0] rfl (hk (x4, x5 + (1 : Int32)) (Option.some.inj hm).symm)
        · have hm := ifn c7 hm
          refine oX_aload_n dX4_firstEnd_50 rfl rfl ?_
          refine oX_getF fX4_142 rfl oDs1 dX4_firstEnd_51 (ohF162 hM) ?_
          refine oX_iload dX4_firstEnd_54 rfl ?_
          obtain ⟨g8, hm⟩ := gd_s hm
          refine oX_iald oDs162 (oIn (ohN162 hM) g8) dX4_firstEnd_56 ?_
          refine oX_iload dX4_firstEnd_57 rfl ?_
          refine oX_icmp_ge (tgt := 71) dX4_firstEnd_59 (by decide) (fun c9 => ?_) (fun c9 => ?_)
          · have hm := ifp c9 hm
            refine oX_iinc (v := x5 + (1 : Int32)) (ls' := [(5, vI (x5 + (1 : Int32))), (0, vR (some (1, 0))), (1, vI x1), (2, vI x2), (3, vI x3), (4, vI x4)]) dX4_firstEnd_71 rfl rfl (by decide) rfl ?_
            refine oX_goto (tgt := 8) dX4_firstEnd_74 (by decide) ?_
            exact oX_sub [1, 2, 3, 4, 5, 0] rfl (hk (x4, x5 + (1 : Int32)) (Option.some.inj hm).symm)
          · have hm := ifn c9 hm
            refine oX_aload_n dX4_firstEnd_62 rfl rfl ?_
            refine oX_getF fX4_142 rfl oDs1 dX4_firstEnd_63 (ohF162 hM) ?_
            refine oX_iload dX4_firstEnd_66 rfl ?_
            obtain ⟨g10, hm⟩ := gd_s hm
            refine oX_iald oDs162 (oIn (ohN162 hM) g10) dX4_firstEnd_68 ?_
            refine oX_istore (ls' := [(4, vI (AI 162 0 x5.toNatClampNeg)), (0, vR (some (1, 0))), (1, vI x1), (2, vI x2), (3, vI x3), (5, vI x5)]) dX4_firstEnd_69 (by decide) rfl ?_
            refine oX_iinc (v := x5 + (1 : Int32)) (ls' := [(5, vI (x5 + (1 : Int32))), (4, vI (AI 162 0 x5.toNatClampNeg)), (0, vR (some (1, 0))), (1, vI x1), (2, vI x2), (3, vI x3)]) dX4_firstEnd_71 rfl rfl (by decide) rfl ?_
            refine oX_goto (tgt := 8) dX4_firstEnd_74 (by decide) ?_
            exact oX_sub [2, 3, 4, 5, 1, 0] rfl (hk (AI 162 0 x5.toNatClampNeg, x5 + (1 : Int32)) (Option.some.inj hm).symm)
      · have hm := ifn c5 hm
        refine oX_iinc (v := x5 + (1 : Int32)) (ls' := [(5, vI (x5 + (1 : Int32))), (0, vR (some (1, 0))), (1, vI x1), (2, vI x2), (3, vI x3), (4, vI x4)]) dX4_firstEnd_71 rfl rfl (by decide) rfl ?_
        refine oX_goto (tgt := 8) dX4_firstEnd_74 (by decide) ?_
        exact oX_sub [1, 2, 3, 4, 5, 0] rfl (hk (x4, x5 + (1 : Int32)) (Option.some.inj hm).symm)
    · have hm := ifn c3 hm
      refine oX_iinc (v := x5 + (1 : Int32)) (ls' := [(5, vI (x5 + (1 : Int32))), (0, vR (some (1, 0))), (1, vI x1), (2, vI x2), (3, vI x3), (4, vI x4)]) dX4_firstEnd_71 rfl rfl (by decide) rfl ?_
      refine oX_goto (tgt := 8) dX4_firstEnd_74 (by decide) ?_
      exact oX_sub [1, 2, 3, 4, 5, 0] rfl (hk (x4, x5 + (1 : Int32)) (Option.some.inj hm).symm)
theorem l_mX4_firstEnd_b8 {G : OhG} {FI : OhI} {FL : OhL} {FR : OhQ} {GR : OhQ} {AI : OhI} {AL : OhL} {AR : OhQ} {BR : OhQ} {AN : OhN} {C : OhC} {k : Nat × Nat} {Φ : OhP} {Ψ : OhX} (hM : ohShM FR AN) (n : Nat) (x1 : Int32) (x2 : Int32) (x3 : Int32) : ∀ (f : Nat) (x4 : Int32) (x5 : Int32) (b : (Int32)), lpF (fun v => mX4_firstEnd_b8 n FI FR AI AN x1 x2 x3 v.1 v.2) f (x4, x5) = some b → (oX G 1 iX4_firstEnd 77 [(4, vI b)] [] (FI, FL, FR, GR, AI, AL, AR, BR, AN, C) k Φ Ψ) → oX G 1 iX4_firstEnd 8 [(0, vR (some (1, 0))), (1, vI x1), (2, vI x2), (3, vI x3), (4, vI x4), (5, vI x5)] [] (FI, FL, FR, GR, AI, AL, AR, BR, AN, C) k Φ Ψ := by
  intro f
  induction f with
  | zero =>
    intro x4 x5 b hm
    cases hm
  | succ f ih =>
    intro x4 x5 b hm hx1
    obtain ⟨r, hr, hm⟩ := lp_s hm
    refine x_mX4_firstEnd_b8 hM n x1 x2 x3 x4 x5 hr (fun v e => ?_) (fun v e => ?_)
    · subst e; exact ih v.1 v.2 _ hm hx1
    · subst e; cases (show v = b from hm); exact hx1
noncomputable def mX4_firstEnd (n : Nat) (FI : OhI) (FR : OhQ) (AI : OhI) (AN : OhN) (x1 : Int32) (x2 : Int32) (x3 : Int32) : Option (Int32) :=
  (lpF (fun v => mX4_firstEnd_b8 n FI FR AI AN x1 x2 x3 v.1 v.2) n ((100000 : Int32), (0 : Int32))).bind fun v11 =>
  some v11
theorem x_mX4_firstEnd {G : OhG} {FI AI : OhI} {FL AL : OhL} {FR GR AR BR : OhQ} {AN : OhN} {C : OhC} {k : Nat × Nat} {Φ : OhP} {Ψ : OhX} (hM : ohShM FR AN) (n : Nat) (x1 : Int32) (x2 : Int32) (x3 : Int32) {r : Int32} (hm : mX4_firstEnd n FI FR AI AN x1 x2 x3 = some r) (hK : Φ (some (vI r)) (FI, FL, FR, GR, AI, AL, AR, BR, AN, C)) : oX G 1 iX4_firstEnd 0 [(0, vR (some (1, 0))), (1, vI x1), (2, vI x2), (3, vI x3)] [] (FI, FL, FR, GR, AI, AL, AR, BR, AN, C) k Φ Ψ := by
  unfold mX4_firstEnd at hm
  refine oX_ldcw q2346 dX4_firstEnd_0 ?_
  refine oX_istore (ls' := [(4, vI (100000 : Int32)), (0, vR (some (1, 0))), (1, vI x1), (2, vI x2), (3, vI x3)]) dX4_firstEnd_3 (by decide) rfl ?_
  refine oX_iconst (v := (0 : Int32)) dX4_firstEnd_5 (by decide) ?_
  refine oX_istore (ls' := [(5, vI (0 : Int32)), (4, vI (100000 : Int32)), (0, vR (some (1, 0))), (1, vI x1), (2, vI x2), (3, vI x3)]) dX4_firstEnd_6 (by decide) rfl ?_
  obtain ⟨v11, g11, hm⟩ := bd_s hm
  refine oX_sub [2, 3, 4, 5, 1, 0] rfl (l_mX4_firstEnd_b8 hM n x1 x2 x3 n (100000 : Int32) (0 : Int32) _ g11 ?_)
  refine oX_iload dX4_firstEnd_77 rfl ?_
  obtain rfl := Option.some.inj hm
  exact oX_iret dX4_firstEnd_79 rfl rfl hK
theorem t_X4_firstEnd {G : OhG} {FI AI : OhI} {FL AL : OhL} {FR GR AR BR : OhQ} {AN : OhN} {C : OhC} (hM : ohShM FR AN) (n : Nat) (x1 : Int32) (x2 : Int32) (x3 : Int32) {o : Int32} (hm : mX4_firstEnd n FI FR AI AN x1 x2 x3 = some o) : oT G 1 iX4_firstEnd [vR (some (1, 0)), vI x1, vI x2, vI x3] (FI, FL, FR, GR, AI, AL, AR, BR, AN, C) (0, 0) (fun v h => v = (some (vI o)) ∧ h = (FI, FL, FR, GR, AI, AL, AR, BR, AN, C)) ohNo :=
  oT_of (by decide) rfl (Nat.le_of_ble_eq_true rfl) (x_mX4_firstEnd hM n x1 x2 x3 hm ⟨rfl, rfl⟩)
abbrev iX4_isUnready : OhM := (yX4_isUnready, cX4_isUnready, 2, (some .boolean), [])
theorem ok_X4_isUnready : oOk iX4_isUnready 1 := ⟨by decide, by decide, by decide +kernel⟩

noncomputable def mX4_isUnready (n : Nat) (FI : OhI) (FR : OhQ) (AI : OhI) (AN : OhN) (x1 : Int32) : Option (Int32) :=
  gd (vp_in x1 66) <|
  (if (AI 163 0 x1.toNatClampNeg) = (3 : Int32) then
  gd (vp_in x1 66) <|
    gd (vp_in x1 66) <|
    gd (vp_in x1 66) <|
    (mX4_firstEnd n FI FR AI AN (AI 164 0 x1.toNatClampNeg) (0 : Int32) (0 : Int32)).bind fun r6 =>
    (mX4_firstEnd n FI FR AI AN (AI 164 0 x1.toNatClampNeg) (1 : Int32) r6).bind fun r7 =>
    (mX4_firstEnd n FI FR AI AN (AI 164 0 x1.toNatClampNeg) (2 : Int32) r7).bind fun r8 =>
    gd (vp_in x1 66) <|
    (if r8 ≤ (AI 161 0 x1.toNatClampNeg) then
    some (0 : Int32)
  else
    some (1 : Int32))
else
  some (0 : Int32))
theorem x_mX4_isUnready {G : OhG} {FI AI : OhI} {FL AL : OhL} {FR GR AR BR : OhQ} {AN : OhN} {C : OhC} {k : Nat × Nat} {Φ : OhP} {Ψ : OhX} (hM : ohShM FR AN) (n : Nat) (x1 : Int32) {r : Int32} (hm : mX4_isUnready n FI FR AI AN x1 = some r) (hK : Φ (some (vI r)) (FI, FL, FR, GR, AI, AL, AR, BR, AN, C)) : oX G 2 iX4_isUnready 0 [(0, vR (some (1, 0))), (1, vI x1)] [] (FI, FL, FR, GR, AI, AL, AR, BR, AN, C) k Φ Ψ := by
  unfold mX4_isUnready at hm
  refine oX_aload_n dX4_isUnready_0 rfl rfl ?_
  refine oX_getF fX4_145 rfl oDs1 dX4_isUnready_1 (ohF163 hM) ?_
  refine oX_iload_n dX4_isUnready_4 rfl rfl ?_
  obtain ⟨g1, hm⟩ := gd_s hm
  refine oX_iald oDs163 (oIn (ohN163 hM) g1) dX4_isUnready_5 ?_
  refine oX_iconst (v := (3 : Int32)) dX4_isUnready_6 (by decide) ?_
  refine oX_icmp_ne (tgt := 57) dX4_isUnready_7 (by decide) (fun c2 => ?_) (fun c2 => ?_)
  · have hm := ifp c2 hm
    refine oX_aload_n dX4_isUnready_10 rfl rfl ?_
    refine oX_aload_n dX4_isUnready_11 rfl rfl ?_
    refine oX_getF fX4_148 rfl oDs1 dX4_isUnready_12 (ohF164 hM) ?_
    refine oX_iload_n dX4_isUnready_15 rfl rfl ?_
    obtain ⟨g3, hm⟩ := gd_s hm
    refine oX_iald oDs164 (oIn (ohN164 hM) g3) dX4_isUnready_16 ?_
    refine oX_iconst (v := (2 : Int32)) dX4_isUnready_17 (by decide) ?_
    refine oX_aload_n dX4_isUnready_18 rfl rfl ?_
    refine oX_aload_n dX4_isUnready_19 rfl rfl ?_
    refine oX_getF fX4_148 rfl oDs1 dX4_isUnready_20 (ohF164 hM) ?_
    refine oX_iload_n dX4_isUnready_23 rfl rfl ?_
    obtain ⟨g4, hm⟩ := gd_s hm
    refine oX_iald oDs164 (oIn (ohN164 hM) g4) dX4_isUnready_24 ?_
    refine oX_iconst (v := (1 : Int32)) dX4_isUnready_25 (by decide) ?_
    refine oX_aload_n dX4_isUnready_26 rfl rfl ?_
    refine oX_aload_n dX4_isUnready_27 rfl rfl ?_
    refine oX_getF fX4_148 rfl oDs1 dX4_isUnready_28 (ohF164 hM) ?_
    refine oX_iload_n dX4_isUnready_31 rfl rfl ?_
    obtain ⟨g5, hm⟩ := gd_s hm
    refine oX_iald oDs164 (oIn (ohN164 hM) g5) dX4_isUnready_32 ?_
    refine oX_iconst (v := (0 : Int32)) dX4_isUnready_33 (by decide) ?_
    refine oX_iconst (v := (0 : Int32)) dX4_isUnready_34 (by decide) ?_
    obtain ⟨r6, g6, hm⟩ := bd_s hm
    refine oX_cV (as := [vI (AI 164 0 x1.toNatClampNeg), vI (0 : Int32), vI (0 : Int32)]) dX4_isUnready_35 rfl oDs1 rfl (by decide) rfl ok_X4_firstEnd rfl rfl q2342 q2344 qs110 q136 q2345 (by decide) (Nat.le_of_ble_eq_true rfl) (t_X4_firstEnd hM n (AI 164 0 x1.toNatClampNeg) (0 : Int32) (0 : Int32) g6) ?_
    obtain ⟨r7, g7, hm⟩ := bd_s hm
    refine oX_cV (as := [vI (AI 164 0 x1.toNatClampNeg), vI (1 : Int32), vI r6]) dX4_isUnready_38 rfl oDs1 rfl (by decide) rfl ok_X4_firstEnd rfl rfl q2342 q2344 qs110 q136 q2345 (by decide) (Nat.le_of_ble_eq_true rfl) (t_X4_firstEnd hM n (AI 164 0 x1.toNatClampNeg) (1 : Int32) r6 g7) ?_
    obtain ⟨r8, g8, hm⟩ := bd_s hm
    refine oX_cV (as := [vI (AI 164 0 x1.toNatClampNeg), vI (2 : Int32), vI r7]) dX4_isUnready_41 rfl oDs1 rfl (by decide) rfl ok_X4_firstEnd rfl rfl q2342 q2344 qs110 q136 q2345 (by decide) (Nat.le_of_ble_eq_true rfl) (t_X4_firstEnd hM n (AI 164 0 x1.toNatClampNeg) (2 : Int32) r7 g8) ?_
    refine oX_aload_n dX4_isUnready_44 rfl rfl ?_
    refine oX_getF fX4_139 rfl oDs1 dX4_isUnready_45 (ohF161 hM) ?_
    refine oX_iload_n dX4_isUnready_48 rfl rfl ?_
    obtain ⟨g9, hm⟩ := gd_s hm
    refine oX_iald oDs161 (oIn (ohN161 hM) g9) dX4_isUnready_49 ?_
    refine oX_icmp_le (tgt := 57) dX4_isUnready_50 (by decide) (fun c10 => ?_) (fun c10 => ?_)
    · have hm := ifp c10 hm
      refine oX_iconst (v := (0 : Int32)) dX4_isUnready_57 (by decide) ?_
      obtain rfl := Option.some.inj hm
      exact oX_iret dX4_isUnready_58 rfl (by decide) hK
    · have hm := ifn c10 hm
      refine oX_iconst (v := (1 : Int32)) dX4_isUnready_53 (by decide) ?_
      refine oX_goto (tgt := 58) dX4_isUnready_54 (by decide) ?_
      obtain rfl := Option.some.inj hm
      exact oX_iret dX4_isUnready_58 rfl (by decide) hK
  · have hm := ifn c2 hm
    refine oX_iconst (v := (0 : Int32)) dX4_isUnready_57 (by decide) ?_
    obtain rfl := Option.some.inj hm
    exact oX_iret dX4_isUnready_58 rfl (by decide) hK
theorem t_X4_isUnready {G : OhG} {FI AI : OhI} {FL AL : OhL} {FR GR AR BR : OhQ} {AN : OhN} {C : OhC} (hM : ohShM FR AN) (n : Nat) (x1 : Int32) {o : Int32} (hm : mX4_isUnready n FI FR AI AN x1 = some o) : oT G 2 iX4_isUnready [vR (some (1, 0)), vI x1] (FI, FL, FR, GR, AI, AL, AR, BR, AN, C) (0, 0) (fun v h => v = (some (vI o)) ∧ h = (FI, FL, FR, GR, AI, AL, AR, BR, AN, C)) ohNo :=
  oT_of (by decide) rfl (Nat.le_of_ble_eq_true rfl) (x_mX4_isUnready hM n x1 hm ⟨rfl, rfl⟩)
abbrev iX4_lacksPlayers : OhM := (yX4_lacksPlayers, cX4_lacksPlayers, 4, (some .boolean), [])
theorem ok_X4_lacksPlayers : oOk iX4_lacksPlayers 1 := ⟨by decide, by decide, by decide +kernel⟩

noncomputable def mX4_lacksPlayers_j63 (n : Nat) (FR : OhQ) (AI : OhI) (AN : OhN) (x1 : Int32) (x2 : Int32) (y0 : Int32) (y1 : Int32) : Option ((Int32) ⊕ ((Unit) ⊕ (Unit))) :=
  gd (vp_in x1 66) <|
  gd (vp_in (((4 : Int32) * (AI 164 0 x1.toNatClampNeg)) + x2) 36) <|
  (if (AI 110 0 (((4 : Int32) * (AI 164 0 x1.toNatClampNeg)) + x2).toNatClampNeg) ≤ (y0 + y1) then
  some (.inl (x2 + (1 : Int32)))
else
  some (.inr (.inr ())))
theorem x_mX4_lacksPlayers_j63 {G : OhG} {FI AI : OhI} {FL AL : OhL} {FR GR AR BR : OhQ} {AN : OhN} {C : OhC} {k : Nat × Nat} {Φ : OhP} {Ψ : OhX} (hM : ohShM FR AN) (n : Nat) (x1 : Int32) (x2 : Int32) (y0 : Int32) (y1 : Int32) {r : (Int32) ⊕ ((Unit) ⊕ (Unit))} (hm : mX4_lacksPlayers_j63 n FR AI AN x1 x2 y0 y1 = some r) (hk : ∀ v : Int32, r = .inl v → oX G 1 iX4_lacksPlayers 2 [(0, vR (some (1, 0))), (1, vI x1), (2, vI v)] [] (FI, FL, FR, GR, AI, AL, AR, BR, AN, C) k Φ Ψ) (hx1 : ∀ v : Unit, r = .inr (.inl v) → oX G 1 iX4_lacksPlayers 92 [] [] (FI, FL, FR, GR, AI, AL, AR, BR, AN, C) k Φ Ψ) (hx2 : ∀ v : Unit, r = .inr (.inr v) → oX G 1 iX4_lacksPlayers 84 [] [] (FI, FL, FR, GR, AI, AL, AR, BR, AN, C) k Φ Ψ) : oX G 1 iX4_lacksPlayers 63 [(0, vR (some (1, 0))), (1, vI x1), (2, vI x2)] [vI y1, vI y0] (FI, FL, FR, GR, AI, AL, AR, BR, AN, C) k Φ Ψ := by
  unfold mX4_lacksPlayers_j63 at hm
  refine oX_iadd dX4_lacksPlayers_63 ?_
  refine oX_istore_n (ls' := [(3, vI (y0 + y1)), (0, vR (some (1, 0))), (1, vI x1), (2, vI x2)]) dX4_lacksPlayers_64 rfl (by decide) rfl ?_
  refine oX_iload_n dX4_lacksPlayers_65 rfl rfl ?_
  refine oX_aload_n dX4_lacksPlayers_66 rfl rfl ?_
  refine oX_getF fX4_23 rfl oDs1 dX4_lacksPlayers_67 (ohF110 hM) ?_
  refine oX_iconst (v := (4 : Int32)) dX4_lacksPlayers_70 (by decide) ?_
  refine oX_aload_n dX4_lacksPlayers_71 rfl rfl ?_
  refine oX_getF fX4_148 rfl oDs1 dX4_lacksPlayers_72 (ohF164 hM) ?_
  refine oX_iload_n dX4_lacksPlayers_75 rfl rfl ?_
  obtain ⟨g10, hm⟩ := gd_s hm
  refine oX_iald oDs164 (oIn (ohN164 hM) g10) dX4_lacksPlayers_76 ?_
  refine oX_imul dX4_lacksPlayers_77 ?_
  refine oX_iload_n dX4_lacksPlayers_78 rfl rfl ?_
  refine oX_iadd dX4_lacksPlayers_79 ?_
  obtain ⟨g11, hm⟩ := gd_s hm
  refine oX_iald oDs110 (oIn (ohN110 hM) g11) dX4_lacksPlayers_80 ?_
  refine oX_icmp_ge (tgt := 86) dX4_lacksPlayers_81 (by decide) (fun c12 => ?_) (fun c12 => ?_)
  · have hm := ifp c12 hm
    refine oX_iinc (v := x2 + (1 : Int32)) (ls' := [(2, vI (x2 + (1 : Int32))), (3, vI (y0 + y1)), (0, vR (some (1, 0))), (1, vI x1)]) dX4_lacksPlayers_86 rfl rfl (by decide) rfl ?_
    refine oX_goto (tgt := 2) dX4_lacksPlayers_89 (by decide) ?_
    exact oX_sub [2, 3, 0] rfl (hk (x2 + (1 : Int32)) (Option.some.inj hm).symm)
  · have hm := ifn c12 hm
    exact oX_sub [] rfl (hx2 () (Option.some.inj hm).symm)
noncomputable def mX4_lacksPlayers_j39 (n : Nat) (FR : OhQ) (AI : OhI) (AN : OhN) (x1 : Int32) (x2 : Int32) (y0 : Int32) : Option ((Int32) ⊕ ((Unit) ⊕ (Unit))) :=
  gd (vp_in x1 66) <|
  (if ((AI 165 0 x1.toNatClampNeg) &&& (2 : Int32)) = (2 : Int32) then
  gd (vp_in ((4 : Int32) + x2) 8) <|
    mX4_lacksPlayers_j63 n FR AI AN x1 x2 y0 (AI 120 0 ((4 : Int32) + x2).toNatClampNeg)
else
  mX4_lacksPlayers_j63 n FR AI AN x1 x2 y0 (0 : Int32))
theorem x_mX4_lacksPlayers_j39 {G : OhG} {FI AI : OhI} {FL AL : OhL} {FR GR AR BR : OhQ} {AN : OhN} {C : OhC} {k : Nat × Nat} {Φ : OhP} {Ψ : OhX} (hM : ohShM FR AN) (n : Nat) (x1 : Int32) (x2 : Int32) (y0 : Int32) {r : (Int32) ⊕ ((Unit) ⊕ (Unit))} (hm : mX4_lacksPlayers_j39 n FR AI AN x1 x2 y0 = some r) (hk : ∀ v : Int32, r = .inl v → oX G 1 iX4_lacksPlayers 2 [(0, vR (some (1, 0))), (1, vI x1), (2, vI v)] [] (FI, FL, FR, GR, AI, AL, AR, BR, AN, C) k Φ Ψ) (hx1 : ∀ v : Unit, r = .inr (.inl v) → oX G 1 iX4_lacksPlayers 92 [] [] (FI, FL, FR, GR, AI, AL, AR, BR, AN, C) k Φ Ψ) (hx2 : ∀ v : Unit, r = .inr (.inr v) → oX G 1 iX4_lacksPlayers 84 [] [] (FI, FL, FR, GR, AI, AL, AR, BR, AN, C) k Φ Ψ) : oX G 1 iX4_lacksPlayers 39 [(0, vR (some (1, 0))), (1, vI x1), (2, vI x2)] [vI y0] (FI, FL, FR, GR, AI, AL, AR, BR, AN, C) k Φ Ψ := by
  unfold mX4_lacksPlayers_j39 at hm
  refine oX_aload_n dX4_lacksPlayers_39 rfl rfl ?_
  refine oX_getF fX4_151 rfl oDs1 dX4_lacksPlayers_40 (ohF165 hM) ?_
  refine oX_iload_n dX4_lacksPlayers_43 rfl rfl ?_
  obtain ⟨g7, hm⟩ := gd_s hm
  refine oX_iald oDs165 (oIn (ohN165 hM) g7) dX4_lacksPlayers_44 ?_
  refine oX_iconst (v := (2 : Int32)) dX4_lacksPlayers_45 (by decide) ?_
  refine oX_iand dX4_lacksPlayers_46 ?_
  refine oX_iconst (v := (2 : Int32)) dX4_lacksPlayers_47 (by decide) ?_
  refine oX_icmp_ne (tgt := 62) dX4_lacksPlayers_48 (by decide) (fun c8 => ?_) (fun c8 => ?_)
  · have hm := ifp c8 hm
    refine oX_aload_n dX4_lacksPlayers_51 rfl rfl ?_
    refine oX_getF fX4_54 rfl oDs1 dX4_lacksPlayers_52 (ohF120 hM) ?_
    refine oX_iconst (v := (4 : Int32)) dX4_lacksPlayers_55 (by decide) ?_
    refine oX_iload_n dX4_lacksPlayers_56 rfl rfl ?_
    refine oX_iadd dX4_lacksPlayers_57 ?_
    obtain ⟨g9, hm⟩ := gd_s hm
    refine oX_iald oDs120 (oIn (ohN120 hM) g9) dX4_lacksPlayers_58 ?_
    refine oX_goto (tgt := 63) dX4_lacksPlayers_59 (by decide) ?_
    exact oX_sub [0, 1, 2] rfl (x_mX4_lacksPlayers_j63 hM n x1 x2 y0 (AI 120 0 ((4 : Int32) + x2).toNatClampNeg) hm hk hx1 hx2)
  · have hm := ifn c8 hm
    refine oX_iconst (v := (0 : Int32)) dX4_lacksPlayers_62 (by decide) ?_
    exact oX_sub [0, 1, 2] rfl (x_mX4_lacksPlayers_j63 hM n x1 x2 y0 (0 : Int32) hm hk hx1 hx2)
noncomputable def mX4_lacksPlayers_b2 (n : Nat) (FR : OhQ) (AI : OhI) (AN : OhN) (x1 : Int32) (x2 : Int32) : Option ((Int32) ⊕ ((Unit) ⊕ (Unit))) :=
  (if (4 : Int32) ≤ x2 then
  some (.inr (.inl ()))
else
  gd (vp_in x1 66) <|
    (if (AI 163 0 x1.toNatClampNeg) < (2 : Int32) then
    some (.inr (.inl ()))
  else
    gd (vp_in x1 66) <|
      (if ((AI 165 0 x1.toNatClampNeg) &&& (1 : Int32)) = (1 : Int32) then
      gd (vp_in x2 8) <|
        mX4_lacksPlayers_j39 n FR AI AN x1 x2 (AI 120 0 x2.toNatClampNeg)
    else
      mX4_lacksPlayers_j39 n FR AI AN x1 x2 (0 : Int32))))
theorem x_mX4_lacksPlayers_b2 {G : OhG} {FI AI : OhI} {FL AL : OhL} {FR GR AR BR : OhQ} {AN : OhN} {C : OhC} {k : Nat × Nat} {Φ : OhP} {Ψ : OhX} (hM : ohShM FR AN) (n : Nat) (x1 : Int32) (x2 : Int32) {r : (Int32) ⊕ ((Unit) ⊕ (Unit))} (hm : mX4_lacksPlayers_b2 n FR AI AN x1 x2 = some r) (hk : ∀ v : Int32, r = .inl v → oX G 1 iX4_lacksPlayers 2 [(0, vR (some (1, 0))), (1, vI x1), (2, vI v)] [] (FI, FL, FR, GR, AI, AL, AR, BR, AN, C) k Φ Ψ) (hx1 : ∀ v : Unit, r = .inr (.inl v) → oX G 1 iX4_lacksPlayers 92 [] [] (FI, FL, FR, GR, AI, AL, AR, BR, AN, C) k Φ Ψ) (hx2 : ∀ v : Unit, r = .inr (.inr v) → oX G 1 iX4_lacksPlayers 84 [] [] (FI, FL, FR, GR, AI, AL, AR, BR, AN, C) k Φ Ψ) : oX G 1 iX4_lacksPlayers 2 [(0, vR (some (1, 0))), (1, vI x1), (2, vI x2)] [] (FI, FL, FR, GR, AI, AL, AR, BR, AN, C) k Φ Ψ := by
  unfold mX4_lacksPlayers_b2 at hm
  refine oX_iload_n dX4_lacksPlayers_2 rfl rfl ?_
  refine oX_iconst (v := (4 : Int32)) dX4_lacksPlayers_3 (by decide) ?_
  refine oX_icmp_ge (tgt := 92) dX4_lacksPlayers_4 (by decide) (fun c1 => ?_) (fun c1 => ?_)
  · have hm := ifp c1 hm
    exact oX_sub [] rfl (hx1 () (Option.some.inj hm).symm)
  · have hm := ifn c1 hm
    refine oX_aload_n dX4_lacksPlayers_7 rfl rfl ?_
    refine oX_getF fX4_145 rfl oDs1 dX4_lacksPlayers_8 (ohF163 hM) ?_
    refine oX_iload_n dX4_lacksPlayers_11 rfl rfl ?_
    obtain ⟨g2, hm⟩ := gd_s hm
    refine oX_iald oDs163 (oIn (ohN163 hM) g2) dX4_lacksPlayers_12 ?_
    refine oX_iconst (v := (2 : Int32)) dX4_lacksPlayers_13 (by decide) ?_
    refine oX_icmp_lt (tgt := 92) dX4_lacksPlayers_14 (by decide) (fun c3 => ?_) (fun c3 => ?_)
    · have hm := ifp c3 hm
      exact oX_sub [] rfl (hx1 () (Option.some.inj hm).symm)
    · have hm := ifn c3 hm
      refine oX_aload_n dX4_lacksPlayers_17 rfl rfl ?_
      refine oX_getF fX4_151 rfl oDs1 dX4_lacksPlayers_18 (ohF165 hM) ?_
      refine oX_iload_n dX4_lacksPlayers_21 rfl rfl ?_
      obtain ⟨g4, hm⟩ := gd_s hm
      refine oX_iald oDs165 (oIn (ohN165 hM) g4) dX4_lacksPlayers_22 ?_
      refine oX_iconst (v := (1 : Int32)) dX4_lacksPlayers_23 (by decide) ?_
      refine oX_iand dX4_lacksPlayers_24 ?_
      refine oX_iconst (v := (1 : Int32)) dX4_lacksPlayers_25 (by decide) ?_
      refine oX_icmp_ne (tgt := 38) dX4_lacksPlayers_26 (by decide) (fun c5 => ?_) (fun c5 => ?_)
      · have hm := ifp c5 hm
        refine oX_aload_n dX4_lacksPlayers_29 rfl rfl ?_
        refine oX_getF fX4_54 rfl oDs1 dX4_lacksPlayers_30 (ohF120 hM) ?_
        refine oX_iload_n dX4_lacksPlayers_33 rfl rfl ?_
        obtain ⟨g6, hm⟩ := gd_s hm
        refine oX_iald oDs120 (oIn (ohN120 hM) g6) dX4_lacksPlayers_34 ?_
        refine oX_goto (tgt := 39) dX4_lacksPlayers_35 (by decide) ?_
        exact oX_sub [0, 1, 2] rfl (x_mX4_lacksPlayers_j39 hM n x1 x2 (AI 120 0 x2.toNatClampNeg) hm hk hx1 hx2)
      · have hm := ifn c5 hm
        refine oX_iconst (v := (0 : Int32)) dX4_lacksPlayers_38 (by decide) ?_
        exact oX_sub [0, 1, 2] rfl (x_mX4_lacksPlayers_j39 hM n x1 x2 (0 : Int32) hm hk hx1 hx2)
theorem l_mX4_lacksPlayers_b2 {G : OhG} {FI : OhI} {FL : OhL} {FR : OhQ} {GR : OhQ} {AI : OhI} {AL : OhL} {AR : OhQ} {BR : OhQ} {AN : OhN} {C : OhC} {k : Nat × Nat} {Φ : OhP} {Ψ : OhX} (hM : ohShM FR AN) (n : Nat) (x1 : Int32) : ∀ (f : Nat) (x2 : Int32) (b : ((Unit) ⊕ (Unit))), lpF (fun v => mX4_lacksPlayers_b2 n FR AI AN x1 v) f x2 = some b → (∀ v : Unit, b = (.inl v) → oX G 1 iX4_lacksPlayers 92 [] [] (FI, FL, FR, GR, AI, AL, AR, BR, AN, C) k Φ Ψ) → (∀ v : Unit, b = (.inr v) → oX G 1 iX4_lacksPlayers 84 [] [] (FI, FL, FR, GR, AI, AL, AR, BR, AN, C) k Φ Ψ) → oX G 1 iX4_lacksPlayers 2 [(0, vR (some (1, 0))), (1, vI x1), (2, vI x2)] [] (FI, FL, FR, GR, AI, AL, AR, BR, AN, C) k Φ Ψ := by
  intro f
  induction f with
  | zero =>
    intro x2 b hm
    cases hm
  | succ f ih =>
    intro x2 b hm hx1 hx2
    obtain ⟨r, hr, hm⟩ := lp_s hm
    refine x_mX4_lacksPlayers_b2 hM n x1 x2 hr (fun v e => ?_) (fun v e => ?_) (fun v e => ?_)
    · subst e; exact ih v _ hm hx1 hx2
    · subst e; exact hx1 v hm.symm
    · subst e; exact hx2 v hm.symm
noncomputable def mX4_lacksPlayers (n : Nat) (FR : OhQ) (AI : OhI) (AN : OhN) (x1 : Int32) : Option (Int32) :=
  (lpF (fun v => mX4_lacksPlayers_b2 n FR AI AN x1 v) n (0 : Int32)).bind (Sum.elim (fun v13 => some (0 : Int32)) (fun v13 => some (1 : Int32)))
theorem x_mX4_lacksPlayers {G : OhG} {FI AI : OhI} {FL AL : OhL} {FR GR AR BR : OhQ} {AN : OhN} {C : OhC} {k : Nat × Nat} {Φ : OhP} {Ψ : OhX} (hM : ohShM FR AN) (n : Nat) (x1 : Int32) {r : Int32} (hm : mX4_lacksPlayers n FR AI AN x1 = some r) (hK : Φ (some (vI r)) (FI, FL, FR, GR, AI, AL, AR, BR, AN, C)) : oX G 1 iX4_lacksPlayers 0 [(0, vR (some (1, 0))), (1, vI x1)] [] (FI, FL, FR, GR, AI, AL, AR, BR, AN, C) k Φ Ψ := by
  unfold mX4_lacksPlayers at hm
  refine oX_iconst (v := (0 : Int32)) dX4_lacksPlayers_0 (by decide) ?_
  refine oX_istore_n (ls' := [(2, vI (0 : Int32)), (0, vR (some (1, 0))), (1, vI x1)]) dX4_lacksPlayers_1 rfl (by decide) rfl ?_
  obtain ⟨b13, g13, hm⟩ := bd_s hm
  refine oX_sub [1, 2, 0] rfl (l_mX4_lacksPlayers_b2 hM n x1 n (0 : Int32) _ g13 (fun v13 e13 => ?_) (fun v13 e13 => ?_))
  · subst e13
    have hm := el1 hm
    refine oX_iconst (v := (0 : Int32)) dX4_lacksPlayers_92 (by decide) ?_
    obtain rfl := Option.some.inj hm
    exact oX_iret dX4_lacksPlayers_93 rfl (by decide) hK
  · subst e13
    have hm := el2 hm
    refine oX_iconst (v := (1 : Int32)) dX4_lacksPlayers_84 (by decide) ?_
    obtain rfl := Option.some.inj hm
    exact oX_iret dX4_lacksPlayers_85 rfl (by decide) hK
theorem t_X4_lacksPlayers {G : OhG} {FI AI : OhI} {FL AL : OhL} {FR GR AR BR : OhQ} {AN : OhN} {C : OhC} (hM : ohShM FR AN) (n : Nat) (x1 : Int32) {o : Int32} (hm : mX4_lacksPlayers n FR AI AN x1 = some o) : oT G 1 iX4_lacksPlayers [vR (some (1, 0)), vI x1] (FI, FL, FR, GR, AI, AL, AR, BR, AN, C) (0, 0) (fun v h => v = (some (vI o)) ∧ h = (FI, FL, FR, GR, AI, AL, AR, BR, AN, C)) ohNo :=
  oT_of (by decide) rfl (Nat.le_of_ble_eq_true rfl) (x_mX4_lacksPlayers hM n x1 hm ⟨rfl, rfl⟩)
abbrev iX4_playsTwice : OhM := (yX4_playsTwice, cX4_playsTwice, 3, (some .boolean), [])
theorem ok_X4_playsTwice : oOk iX4_playsTwice 1 := ⟨by decide, by decide, by decide +kernel⟩

noncomputable def mX4_playsTwice_b2 (n : Nat) (FI : OhI) (FR : OhQ) (AI : OhI) (AN : OhN) (x1 : Int32) (x2 : Int32) : Option ((Int32) ⊕ ((Unit) ⊕ (Unit))) :=
  (if (FI 1 0 71) ≤ x2 then
  some (.inr (.inl ()))
else
  gd (vp_in x2 66) <|
    gd (vp_in x1 66) <|
    (if ((AI 165 0 x2.toNatClampNeg) &&& (AI 165 0 x1.toNatClampNeg)) = 0 then
    some (.inl (x2 + (1 : Int32)))
  else
    (mX4_isOn FR AI AN x2 x1).bind fun r5 =>
      (if r5 = 0 then
      some (.inl (x2 + (1 : Int32)))
    else
      some (.inr (.inr ())))))
theorem x_mX4_playsTwice_b2 {G : OhG} {FI AI : OhI} {FL AL : OhL} {FR GR AR BR : OhQ} {AN : OhN} {C : OhC} {k : Nat × Nat} {Φ : OhP} {Ψ : OhX} (hM : ohShM FR AN) (n : Nat) (x1 : Int32) (x2 : Int32) {r : (Int32) ⊕ ((Unit) ⊕ (Unit))} (hm : mX4_playsTwice_b2 n FI FR AI AN x1 x2 = some r) (hk : ∀ v : Int32, r = .inl v → oX G 2 iX4_playsTwice 2 [(0, vR (some (1, 0))), (1, vI x1), (2, vI v)] [] (FI, FL, FR, GR, AI, AL, AR, BR, AN, C) k Φ Ψ) (hx1 : ∀ v : Unit, r = .inr (.inl v) → oX G 2 iX4_playsTwice 43 [] [] (FI, FL, FR, GR, AI, AL, AR, BR, AN, C) k Φ Ψ) (hx2 : ∀ v : Unit, r = .inr (.inr v) → oX G 2 iX4_playsTwice 35 [] [] (FI, FL, FR, GR, AI, AL, AR, BR, AN, C) k Φ Ψ) : oX G 2 iX4_playsTwice 2 [(0, vR (some (1, 0))), (1, vI x1), (2, vI x2)] [] (FI, FL, FR, GR, AI, AL, AR, BR, AN, C) k Φ Ψ := by
  unfold mX4_playsTwice_b2 at hm
  refine oX_iload_n dX4_playsTwice_2 rfl rfl ?_
  refine oX_aload_n dX4_playsTwice_3 rfl rfl ?_
  refine oX_getI fX4_446 rfl oDs1 dX4_playsTwice_4 ?_
  refine oX_icmp_ge (tgt := 43) dX4_playsTwice_7 (by decide) (fun c1 => ?_) (fun c1 => ?_)
  · have hm := ifp c1 hm
    exact oX_sub [] rfl (hx1 () (Option.some.inj hm).symm)
  · have hm := ifn c1 hm
    refine oX_aload_n dX4_playsTwice_10 rfl rfl ?_
    refine oX_getF fX4_151 rfl oDs1 dX4_playsTwice_11 (ohF165 hM) ?_
    refine oX_iload_n dX4_playsTwice_14 rfl rfl ?_
    obtain ⟨g2, hm⟩ := gd_s hm
    refine oX_iald oDs165 (oIn (ohN165 hM) g2) dX4_playsTwice_15 ?_
    refine oX_aload_n dX4_playsTwice_16 rfl rfl ?_
    refine oX_getF fX4_151 rfl oDs1 dX4_playsTwice_17 (ohF165 hM) ?_
    refine oX_iload_n dX4_playsTwice_20 rfl rfl ?_
    obtain ⟨g3, hm⟩ := gd_s hm
    refine oX_iald oDs165 (oIn (ohN165 hM) g3) dX4_playsTwice_21 ?_
    refine oX_iand dX4_playsTwice_22 ?_
    refine oX_if_eq (tgt := 37) dX4_playsTwice_23 (by decide) (fun c4 => ?_) (fun c4 => ?_)
    · have hm := ifp c4 hm
      refine oX_iinc (v := x2 + (1 : Int32)) (ls' := [(2, vI (x2 + (1 : Int32))), (0, vR (some (1, 0))), (1, vI x1)]) dX4_playsTwice_37 rfl rfl (by decide) rfl ?_
      refine oX_goto (tgt := 2) dX4_playsTwice_40 (by decide) ?_
      exact oX_sub [1, 2, 0] rfl (hk (x2 + (1 : Int32)) (Option.some.inj hm).symm)
    · have hm := ifn c4 hm
      refine oX_aload_n dX4_playsTwice_26 rfl rfl ?_
      refine oX_iload_n dX4_playsTwice_27 rfl rfl ?_
      refine oX_iload_n dX4_playsTwice_28 rfl rfl ?_
      obtain ⟨r5, g5, hm⟩ := bd_s hm
      refine oX_cV (as := [vI x2, vI x1]) dX4_playsTwice_29 rfl oDs1 rfl (by decide) rfl ok_X4_isOn rfl rfl q2334 q2336 qs108 q136 q2337 (by decide) (Nat.le_of_ble_eq_true rfl) (t_X4_isOn hM x2 x1 g5) ?_
      refine oX_if_eq (tgt := 37) dX4_playsTwice_32 (by decide) (fun c6 => ?_) (fun c6 => ?_)
      · have hm := ifp c6 hm
        refine oX_iinc (v := x2 + (1 : Int32)) (ls' := [(2, vI (x2 + (1 : Int32))), (0, vR (some (1, 0))), (1, vI x1)]) dX4_playsTwice_37 rfl rfl (by decide) rfl ?_
        refine oX_goto (tgt := 2) dX4_playsTwice_40 (by decide) ?_
        exact oX_sub [1, 2, 0] rfl (hk (x2 + (1 : Int32)) (Option.some.inj hm).symm)
      · have hm := ifn c6 hm
        exact oX_sub [] rfl (hx2 () (Option.some.inj hm).symm)
theorem l_mX4_playsTwice_b2 {G : OhG} {FI : OhI} {FL : OhL} {FR : OhQ} {GR : OhQ} {AI : OhI} {AL : OhL} {AR : OhQ} {BR : OhQ} {AN : OhN} {C : OhC} {k : Nat × Nat} {Φ : OhP} {Ψ : OhX} (hM : ohShM FR AN) (n : Nat) (x1 : Int32) : ∀ (f : Nat) (x2 : Int32) (b : ((Unit) ⊕ (Unit))), lpF (fun v => mX4_playsTwice_b2 n FI FR AI AN x1 v) f x2 = some b → (∀ v : Unit, b = (.inl v) → oX G 2 iX4_playsTwice 43 [] [] (FI, FL, FR, GR, AI, AL, AR, BR, AN, C) k Φ Ψ) → (∀ v : Unit, b = (.inr v) → oX G 2 iX4_playsTwice 35 [] [] (FI, FL, FR, GR, AI, AL, AR, BR, AN, C) k Φ Ψ) → oX G 2 iX4_playsTwice 2 [(0, vR (some (1, 0))), (1, vI x1), (2, vI x2)] [] (FI, FL, FR, GR, AI, AL, AR, BR, AN, C) k Φ Ψ := by
  intro f
  induction f with
  | zero =>
    intro x2 b hm
    cases hm
  | succ f ih =>
    intro x2 b hm hx1 hx2
    obtain ⟨r, hr, hm⟩ := lp_s hm
    refine x_mX4_playsTwice_b2 hM n x1 x2 hr (fun v e => ?_) (fun v e => ?_) (fun v e => ?_)
    · subst e; exact ih v _ hm hx1 hx2
    · subst e; exact hx1 v hm.symm
    · subst e; exact hx2 v hm.symm
noncomputable def mX4_playsTwice (n : Nat) (FI : OhI) (FR : OhQ) (AI : OhI) (AN : OhN) (x1 : Int32) : Option (Int32) :=
  (lpF (fun v => mX4_playsTwice_b2 n FI FR AI AN x1 v) n (0 : Int32)).bind (Sum.elim (fun v7 => some (0 : Int32)) (fun v7 => some (1 : Int32)))
theorem x_mX4_playsTwice {G : OhG} {FI AI : OhI} {FL AL : OhL} {FR GR AR BR : OhQ} {AN : OhN} {C : OhC} {k : Nat × Nat} {Φ : OhP} {Ψ : OhX} (hM : ohShM FR AN) (n : Nat) (x1 : Int32) {r : Int32} (hm : mX4_playsTwice n FI FR AI AN x1 = some r) (hK : Φ (some (vI r)) (FI, FL, FR, GR, AI, AL, AR, BR, AN, C)) : oX G 2 iX4_playsTwice 0 [(0, vR (some (1, 0))), (1, vI x1)] [] (FI, FL, FR, GR, AI, AL, AR, BR, AN, C) k Φ Ψ := by
  unfold mX4_playsTwice at hm
  refine oX_iconst (v := (0 : Int32)) dX4_playsTwice_0 (by decide) ?_
  refine oX_istore_n (ls' := [(2, vI (0 : Int32)), (0, vR (some (1, 0))), (1, vI x1)]) dX4_playsTwice_1 rfl (by decide) rfl ?_
  obtain ⟨b7, g7, hm⟩ := bd_s hm
  refine oX_sub [1, 2, 0] rfl (l_mX4_playsTwice_b2 hM n x1 n (0 : Int32) _ g7 (fun v7 e7 => ?_) (fun v7 e7 => ?_))
  · subst e7
    have hm := el1 hm
    refine oX_iconst (v := (0 : Int32)) dX4_playsTwice_43 (by decide) ?_
    obtain rfl := Option.some.inj hm
    exact oX_iret dX4_playsTwice_44 rfl (by decide) hK
  · subst e7
    have hm := el2 hm
    refine oX_iconst (v := (1 : Int32)) dX4_playsTwice_35 (by decide) ?_
    obtain rfl := Option.some.inj hm
    exact oX_iret dX4_playsTwice_36 rfl (by decide) hK
theorem t_X4_playsTwice {G : OhG} {FI AI : OhI} {FL AL : OhL} {FR GR AR BR : OhQ} {AN : OhN} {C : OhC} (hM : ohShM FR AN) (n : Nat) (x1 : Int32) {o : Int32} (hm : mX4_playsTwice n FI FR AI AN x1 = some o) : oT G 2 iX4_playsTwice [vR (some (1, 0)), vI x1] (FI, FL, FR, GR, AI, AL, AR, BR, AN, C) (0, 0) (fun v h => v = (some (vI o)) ∧ h = (FI, FL, FR, GR, AI, AL, AR, BR, AN, C)) ohNo :=
  oT_of (by decide) rfl (Nat.le_of_ble_eq_true rfl) (x_mX4_playsTwice hM n x1 hm ⟨rfl, rfl⟩)
abbrev iX4_tiresChorus : OhM := (yX4_tiresChorus, cX4_tiresChorus, 6, (some .boolean), [])
theorem ok_X4_tiresChorus : oOk iX4_tiresChorus 1 := ⟨by decide, by decide, by decide +kernel⟩

noncomputable def mX4_tiresChorus_j107 (n : Nat) (FI : OhI) (FR : OhQ) (AI : OhI) (AN : OhN) (x1 : Int32) (x3 : Int32) (x4 : Int32) (x5 : Int32) (y0 : Int32) (y1 : Int32) : Option ((Int32 × Int32 × Int32) ⊕ (Int32 × Int32)) :=
  gd (vp_in x5 66) <|
  gd (vp_in x1 66) <|
  (if (AI 160 0 x5.toNatClampNeg) ≤ ((AI 160 0 x1.toNatClampNeg) - (7 : Int32)) then
  some (.inl (y0 + y1, x3 + (0 : Int32), x4 + (1 : Int32)))
else
  (mX4_longOf FR AI AN x5).bind fun r21 =>
    some (.inl (y0 + y1, x3 + r21, x4 + (1 : Int32))))
theorem x_mX4_tiresChorus_j107 {G : OhG} {FI AI : OhI} {FL AL : OhL} {FR GR AR BR : OhQ} {AN : OhN} {C : OhC} {k : Nat × Nat} {Φ : OhP} {Ψ : OhX} (hM : ohShM FR AN) (n : Nat) (x1 : Int32) (x3 : Int32) (x4 : Int32) (x5 : Int32) (y0 : Int32) (y1 : Int32) {r : (Int32 × Int32 × Int32) ⊕ (Int32 × Int32)} (hm : mX4_tiresChorus_j107 n FI FR AI AN x1 x3 x4 x5 y0 y1 = some r) (hk : ∀ v : Int32 × Int32 × Int32, r = .inl v → oX G 2 iX4_tiresChorus 32 [(0, vR (some (1, 0))), (1, vI x1), (2, vI v.1), (3, vI v.2.1), (4, vI v.2.2)] [] (FI, FL, FR, GR, AI, AL, AR, BR, AN, C) k Φ Ψ) (hx1 : ∀ v : Int32 × Int32, r = .inr v → oX G 2 iX4_tiresChorus 147 [(0, vR (some (1, 0))), (2, vI v.1), (3, vI v.2)] [] (FI, FL, FR, GR, AI, AL, AR, BR, AN, C) k Φ Ψ) : oX G 2 iX4_tiresChorus 107 [(0, vR (some (1, 0))), (1, vI x1), (3, vI x3), (4, vI x4), (5, vI x5)] [vI y1, vI y0] (FI, FL, FR, GR, AI, AL, AR, BR, AN, C) k Φ Ψ := by
  unfold mX4_tiresChorus_j107 at hm
  refine oX_iadd dX4_tiresChorus_107 ?_
  refine oX_istore_n (ls' := [(2, vI (y0 + y1)), (0, vR (some (1, 0))), (1, vI x1), (3, vI x3), (4, vI x4), (5, vI x5)]) dX4_tiresChorus_108 rfl (by decide) rfl ?_
  refine oX_iload_n dX4_tiresChorus_109 rfl rfl ?_
  refine oX_aload_n dX4_tiresChorus_110 rfl rfl ?_
  refine oX_getF fX4_136 rfl oDs1 dX4_tiresChorus_111 (ohF160 hM) ?_
  refine oX_iload dX4_tiresChorus_114 rfl ?_
  obtain ⟨g18, hm⟩ := gd_s hm
  refine oX_iald oDs160 (oIn (ohN160 hM) g18) dX4_tiresChorus_116 ?_
  refine oX_aload_n dX4_tiresChorus_117 rfl rfl ?_
  refine oX_getF fX4_136 rfl oDs1 dX4_tiresChorus_118 (ohF160 hM) ?_
  refine oX_iload_n dX4_tiresChorus_121 rfl rfl ?_
  obtain ⟨g19, hm⟩ := gd_s hm
  refine oX_iald oDs160 (oIn (ohN160 hM) g19) dX4_tiresChorus_122 ?_
  refine oX_bipush (v := (7 : Int32)) dX4_tiresChorus_123 (by decide) ?_
  refine oX_isub dX4_tiresChorus_125 ?_
  refine oX_icmp_le (tgt := 138) dX4_tiresChorus_126 (by decide) (fun c20 => ?_) (fun c20 => ?_)
  · have hm := ifp c20 hm
    refine oX_iconst (v := (0 : Int32)) dX4_tiresChorus_138 (by decide) ?_
    refine oX_iadd dX4_tiresChorus_139 ?_
    refine oX_istore_n (ls' := [(3, vI (x3 + (0 : Int32))), (2, vI (y0 + y1)), (0, vR (some (1, 0))), (1, vI x1), (4, vI x4), (5, vI x5)]) dX4_tiresChorus_140 rfl (by decide) rfl ?_
    refine oX_iinc (v := x4 + (1 : Int32)) (ls' := [(4, vI (x4 + (1 : Int32))), (3, vI (x3 + (0 : Int32))), (2, vI (y0 + y1)), (0, vR (some (1, 0))), (1, vI x1), (5, vI x5)]) dX4_tiresChorus_141 rfl rfl (by decide) rfl ?_
    refine oX_goto (tgt := 32) dX4_tiresChorus_144 (by decide) ?_
    exact oX_sub [3, 4, 2, 1, 0] rfl (hk (y0 + y1, x3 + (0 : Int32), x4 + (1 : Int32)) (Option.some.inj hm).symm)
  · have hm := ifn c20 hm
    refine oX_aload_n dX4_tiresChorus_129 rfl rfl ?_
    refine oX_iload dX4_tiresChorus_130 rfl ?_
    obtain ⟨r21, g21, hm⟩ := bd_s hm
    refine oX_cV (as := [vI x5]) dX4_tiresChorus_132 rfl oDs1 rfl (by decide) rfl ok_X4_longOf rfl rfl q2229 q2231 qs89 q136 q2232 (by decide) (Nat.le_of_ble_eq_true rfl) (t_X4_longOf hM x5 g21) ?_
    refine oX_goto (tgt := 139) dX4_tiresChorus_135 (by decide) ?_
    refine oX_iadd dX4_tiresChorus_139 ?_
    refine oX_istore_n (ls' := [(3, vI (x3 + r21)), (2, vI (y0 + y1)), (0, vR (some (1, 0))), (1, vI x1), (4, vI x4), (5, vI x5)]) dX4_tiresChorus_140 rfl (by decide) rfl ?_
    refine oX_iinc (v := x4 + (1 : Int32)) (ls' := [(4, vI (x4 + (1 : Int32))), (3, vI (x3 + r21)), (2, vI (y0 + y1)), (0, vR (some (1, 0))), (1, vI x1), (5, vI x5)]) dX4_tiresChorus_141 rfl rfl (by decide) rfl ?_
    refine oX_goto (tgt := 32) dX4_tiresChorus_144 (by decide) ?_
    exact oX_sub [3, 4, 2, 1, 0] rfl (hk (y0 + y1, x3 + r21, x4 + (1 : Int32)) (Option.some.inj hm).symm)
noncomputable def mX4_tiresChorus_b32 (n : Nat) (FI : OhI) (FR : OhQ) (AI : OhI) (AN : OhN) (x1 : Int32) (x2 : Int32) (x3 : Int32) (x4 : Int32) : Option ((Int32 × Int32 × Int32) ⊕ (Int32 × Int32)) :=
  gd (vp_in x1 66) <|
  (if (AI 176 0 x1.toNatClampNeg) < x4 then
  some (.inr (x2, x3))
else
  gd (vp_in x4 66) <|
    gd (vp_in (AI 175 0 x4.toNatClampNeg) 66) <|
    (if (AI 163 0 (AI 175 0 x4.toNatClampNeg).toNatClampNeg) = 0 then
    some (.inl (x2, x3, x4 + (1 : Int32)))
  else
    gd (vp_in (AI 175 0 x4.toNatClampNeg) 66) <|
      gd (vp_in (AI 164 0 (AI 175 0 x4.toNatClampNeg).toNatClampNeg) 9) <|
      (if (AI 116 0 (AI 164 0 (AI 175 0 x4.toNatClampNeg).toNatClampNeg).toNatClampNeg) = 0 then
      some (.inl (x2, x3, x4 + (1 : Int32)))
    else
      gd (vp_in (AI 175 0 x4.toNatClampNeg) 66) <|
        gd (vp_in x1 66) <|
        (if (AI 160 0 (AI 175 0 x4.toNatClampNeg).toNatClampNeg) = (AI 160 0 x1.toNatClampNeg) then
        (mX4_longOf FR AI AN (AI 175 0 x4.toNatClampNeg)).bind fun r17 =>
          mX4_tiresChorus_j107 n FI FR AI AN x1 x3 x4 (AI 175 0 x4.toNatClampNeg) x2 r17
      else
        mX4_tiresChorus_j107 n FI FR AI AN x1 x3 x4 (AI 175 0 x4.toNatClampNeg) x2 (0 : Int32)))))
theorem x_mX4_tiresChorus_b32 {G : OhG} {FI AI : OhI} {FL AL : OhL} {FR GR AR BR : OhQ} {AN : OhN} {C : OhC} {k : Nat × Nat} {Φ : OhP} {Ψ : OhX} (hM : ohShM FR AN) (n : Nat) (x1 : Int32) (x2 : Int32) (x3 : Int32) (x4 : Int32) {r : (Int32 × Int32 × Int32) ⊕ (Int32 × Int32)} (hm : mX4_tiresChorus_b32 n FI FR AI AN x1 x2 x3 x4 = some r) (hk : ∀ v : Int32 × Int32 × Int32, r = .inl v → oX G 2 iX4_tiresChorus 32 [(0, vR (some (1, 0))), (1, vI x1), (2, vI v.1), (3, vI v.2.1), (4, vI v.2.2)] [] (FI, FL, FR, GR, AI, AL, AR, BR, AN, C) k Φ Ψ) (hx1 : ∀ v : Int32 × Int32, r = .inr v → oX G 2 iX4_tiresChorus 147 [(0, vR (some (1, 0))), (2, vI v.1), (3, vI v.2)] [] (FI, FL, FR, GR, AI, AL, AR, BR, AN, C) k Φ Ψ) : oX G 2 iX4_tiresChorus 32 [(0, vR (some (1, 0))), (1, vI x1), (2, vI x2), (3, vI x3), (4, vI x4)] [] (FI, FL, FR, GR, AI, AL, AR, BR, AN, C) k Φ Ψ := by
  unfold mX4_tiresChorus_b32 at hm
  refine oX_iload dX4_tiresChorus_32 rfl ?_
  refine oX_aload_n dX4_tiresChorus_34 rfl rfl ?_
  refine oX_getF fX4_169 rfl oDs1 dX4_tiresChorus_35 (ohF176 hM) ?_
  refine oX_iload_n dX4_tiresChorus_38 rfl rfl ?_
  obtain ⟨g6, hm⟩ := gd_s hm
  refine oX_iald oDs176 (oIn (ohN176 hM) g6) dX4_tiresChorus_39 ?_
  refine oX_icmp_gt (tgt := 147) dX4_tiresChorus_40 (by decide) (fun c7 => ?_) (fun c7 => ?_)
  · have hm := ifp c7 hm
    exact oX_sub [0, 2, 3] rfl (hx1 (x2, x3) (Option.some.inj hm).symm)
  · have hm := ifn c7 hm
    refine oX_aload_n dX4_tiresChorus_43 rfl rfl ?_
    refine oX_getF fX4_166 rfl oDs1 dX4_tiresChorus_44 (ohF175 hM) ?_
    refine oX_iload dX4_tiresChorus_47 rfl ?_
    obtain ⟨g8, hm⟩ := gd_s hm
    refine oX_iald oDs175 (oIn (ohN175 hM) g8) dX4_tiresChorus_49 ?_
    refine oX_istore (ls' := [(5, vI (AI 175 0 x4.toNatClampNeg)), (0, vR (some (1, 0))), (1, vI x1), (2, vI x2), (3, vI x3), (4, vI x4)]) dX4_tiresChorus_50 (by decide) rfl ?_
    refine oX_aload_n dX4_tiresChorus_52 rfl rfl ?_
    refine oX_getF fX4_145 rfl oDs1 dX4_tiresChorus_53 (ohF163 hM) ?_
    refine oX_iload dX4_tiresChorus_56 rfl ?_
    obtain ⟨g9, hm⟩ := gd_s hm
    refine oX_iald oDs163 (oIn (ohN163 hM) g9) dX4_tiresChorus_58 ?_
    refine oX_if_eq (tgt := 141) dX4_tiresChorus_59 (by decide) (fun c10 => ?_) (fun c10 => ?_)
    · have hm := ifp c10 hm
      refine oX_iinc (v := x4 + (1 : Int32)) (ls' := [(4, vI (x4 + (1 : Int32))), (5, vI (AI 175 0 x4.toNatClampNeg)), (0, vR (some (1, 0))), (1, vI x1), (2, vI x2), (3, vI x3)]) dX4_tiresChorus_141 rfl rfl (by decide) rfl ?_
      refine oX_goto (tgt := 32) dX4_tiresChorus_144 (by decide) ?_
      exact oX_sub [2, 3, 4, 5, 0] rfl (hk (x2, x3, x4 + (1 : Int32)) (Option.some.inj hm).symm)
    · have hm := ifn c10 hm
      refine oX_aload_n dX4_tiresChorus_62 rfl rfl ?_
      refine oX_getF fX4_41 rfl oDs1 dX4_tiresChorus_63 (ohF116 hM) ?_
      refine oX_aload_n dX4_tiresChorus_66 rfl rfl ?_
      refine oX_getF fX4_148 rfl oDs1 dX4_tiresChorus_67 (ohF164 hM) ?_
      refine oX_iload dX4_tiresChorus_70 rfl ?_
      obtain ⟨g11, hm⟩ := gd_s hm
      refine oX_iald oDs164 (oIn (ohN164 hM) g11) dX4_tiresChorus_72 ?_
      obtain ⟨g12, hm⟩ := gd_s hm
      refine oX_zald oDs116 (oIn (ohN116 hM) g12) dX4_tiresChorus_73 ?_
      refine oX_if_ne (tgt := 80) dX4_tiresChorus_74 (by decide) (fun c13 => ?_) (fun c13 => ?_)
      · have hm := ifp c13 hm
        refine oX_goto (tgt := 141) dX4_tiresChorus_77 (by decide) ?_
        refine oX_iinc (v := x4 + (1 : Int32)) (ls' := [(4, vI (x4 + (1 : Int32))), (5, vI (AI 175 0 x4.toNatClampNeg)), (0, vR (some (1, 0))), (1, vI x1), (2, vI x2), (3, vI x3)]) dX4_tiresChorus_141 rfl rfl (by decide) rfl ?_
        refine oX_goto (tgt := 32) dX4_tiresChorus_144 (by decide) ?_
        exact oX_sub [2, 3, 4, 5, 0] rfl (hk (x2, x3, x4 + (1 : Int32)) (Option.some.inj hm).symm)
      · have hm := ifn c13 hm
        refine oX_iload_n dX4_tiresChorus_80 rfl rfl ?_
        refine oX_aload_n dX4_tiresChorus_81 rfl rfl ?_
        refine oX_getF fX4_136 rfl oDs1 dX4_tiresChorus_82 (ohF160 hM) ?_
        refine oX_iload dX4_tiresChorus_85 rfl ?_
        obtain ⟨g14, hm⟩ := gd_s hm
        refine oX_iald oDs160 (oIn (ohN160 hM) g14) dX4_tiresChorus_87 ?_
        refine oX_aload_n dX4_tiresChorus_88 rfl rfl ?_
        refine oX_getF fX4_136 rfl oDs1 dX4_tiresChorus_89 (ohF160 hM) ?_
        refine oX_iload_n dX4_tiresChorus_92 rfl rfl ?_
        obtain ⟨g15, hm⟩ := gd_s hm
        refine oX_iald oDs160 (oIn (ohN160 hM) g15) dX4_tiresChorus_93 ?_
        refine oX_icmp_ne (tgt := 106) dX4_tiresChorus_94 (by decide) (fun c16 => ?_) (fun c16 => ?_)
        · have hm := ifp c16 hm
          refine oX_aload_n dX4_tiresChorus_97 rfl rfl ?_
          refine oX_iload dX4_tiresChorus_98 rfl ?_
          obtain ⟨r17, g17, hm⟩ := bd_s hm
          refine oX_cV (as := [vI (AI 175 0 x4.toNatClampNeg)]) dX4_tiresChorus_100 rfl oDs1 rfl (by decide) rfl ok_X4_longOf rfl rfl q2229 q2231 qs89 q136 q2232 (by decide) (Nat.le_of_ble_eq_true rfl) (t_X4_longOf hM (AI 175 0 x4.toNatClampNeg) g17) ?_
          refine oX_goto (tgt := 107) dX4_tiresChorus_103 (by decide) ?_
          exact oX_sub [1, 2, 4, 5, 0] rfl (x_mX4_tiresChorus_j107 hM n x1 x3 x4 (AI 175 0 x4.toNatClampNeg) x2 r17 hm hk hx1)
        · have hm := ifn c16 hm
          refine oX_iconst (v := (0 : Int32)) dX4_tiresChorus_106 (by decide) ?_
          exact oX_sub [1, 2, 4, 5, 0] rfl (x_mX4_tiresChorus_j107 hM n x1 x3 x4 (AI 175 0 x4.toNatClampNeg) x2 (0 : Int32) hm hk hx1)
theorem l_mX4_tiresChorus_b32 {G : OhG} {FI : OhI} {FL : OhL} {FR : OhQ} {GR : OhQ} {AI : OhI} {AL : OhL} {AR : OhQ} {BR : OhQ} {AN : OhN} {C : OhC} {k : Nat × Nat} {Φ : OhP} {Ψ : OhX} (hM : ohShM FR AN) (n : Nat) (x1 : Int32) : ∀ (f : Nat) (x2 : Int32) (x3 : Int32) (x4 : Int32) (b : (Int32 × Int32)), lpF (fun v => mX4_tiresChorus_b32 n FI FR AI AN x1 v.1 v.2.1 v.2.2) f (x2, x3, x4) = some b → (oX G 2 iX4_tiresChorus 147 [(0, vR (some (1, 0))), (2, vI b.1), (3, vI b.2)] [] (FI, FL, FR, GR, AI, AL, AR, BR, AN, C) k Φ Ψ) → oX G 2 iX4_tiresChorus 32 [(0, vR (some (1, 0))), (1, vI x1), (2, vI x2), (3, vI x3), (4, vI x4)] [] (FI, FL, FR, GR, AI, AL, AR, BR, AN, C) k Φ Ψ := by
  intro f
  induction f with
  | zero =>
    intro x2 x3 x4 b hm
    cases hm
  | succ f ih =>
    intro x2 x3 x4 b hm hx1
    obtain ⟨r, hr, hm⟩ := lp_s hm
    refine x_mX4_tiresChorus_b32 hM n x1 x2 x3 x4 hr (fun v e => ?_) (fun v e => ?_)
    · subst e; exact ih v.1 v.2.1 v.2.2 _ hm hx1
    · subst e; cases (show v = b from hm); exact hx1
noncomputable def mX4_tiresChorus (n : Nat) (FI : OhI) (FR : OhQ) (AI : OhI) (AN : OhN) (x1 : Int32) : Option (Int32) :=
  gd (vp_in x1 66) <|
  (if (AI 163 0 x1.toNatClampNeg) = 0 then
  some (0 : Int32)
else
  gd (vp_in x1 66) <|
    gd (vp_in (AI 164 0 x1.toNatClampNeg) 9) <|
    (if (AI 116 0 (AI 164 0 x1.toNatClampNeg).toNatClampNeg) = 0 then
    some (0 : Int32)
  else
    (lpF (fun v => mX4_tiresChorus_b32 n FI FR AI AN x1 v.1 v.2.1 v.2.2) n ((0 : Int32), (0 : Int32), (0 : Int32))).bind fun v22 =>
      (if (FI 1 0 23) < v22.1 then
      some (1 : Int32)
    else
      (if v22.2 ≤ (FI 1 0 24) then
        some (0 : Int32)
      else
        some (1 : Int32)))))
theorem x_mX4_tiresChorus {G : OhG} {FI AI : OhI} {FL AL : OhL} {FR GR AR BR : OhQ} {AN : OhN} {C : OhC} {k : Nat × Nat} {Φ : OhP} {Ψ : OhX} (hM : ohShM FR AN) (n : Nat) (x1 : Int32) {r : Int32} (hm : mX4_tiresChorus n FI FR AI AN x1 = some r) (hK : Φ (some (vI r)) (FI, FL, FR, GR, AI, AL, AR, BR, AN, C)) : oX G 2 iX4_tiresChorus 0 [(0, vR (some (1, 0))), (1, vI x1)] [] (FI, FL, FR, GR, AI, AL, AR, BR, AN, C) k Φ Ψ := by
  unfold mX4_tiresChorus at hm
  refine oX_aload_n dX4_tiresChorus_0 rfl rfl ?_
  refine oX_getF fX4_145 rfl oDs1 dX4_tiresChorus_1 (ohF163 hM) ?_
  refine oX_iload_n dX4_tiresChorus_4 rfl rfl ?_
  obtain ⟨g1, hm⟩ := gd_s hm
  refine oX_iald oDs163 (oIn (ohN163 hM) g1) dX4_tiresChorus_5 ?_
  refine oX_if_eq (tgt := 23) dX4_tiresChorus_6 (by decide) (fun c2 => ?_) (fun c2 => ?_)
  · have hm := ifp c2 hm
    refine oX_iconst (v := (0 : Int32)) dX4_tiresChorus_23 (by decide) ?_
    obtain rfl := Option.some.inj hm
    exact oX_iret dX4_tiresChorus_24 rfl (by decide) hK
  · have hm := ifn c2 hm
    refine oX_aload_n dX4_tiresChorus_9 rfl rfl ?_
    refine oX_getF fX4_41 rfl oDs1 dX4_tiresChorus_10 (ohF116 hM) ?_
    refine oX_aload_n dX4_tiresChorus_13 rfl rfl ?_
    refine oX_getF fX4_148 rfl oDs1 dX4_tiresChorus_14 (ohF164 hM) ?_
    refine oX_iload_n dX4_tiresChorus_17 rfl rfl ?_
    obtain ⟨g3, hm⟩ := gd_s hm
    refine oX_iald oDs164 (oIn (ohN164 hM) g3) dX4_tiresChorus_18 ?_
    obtain ⟨g4, hm⟩ := gd_s hm
    refine oX_zald oDs116 (oIn (ohN116 hM) g4) dX4_tiresChorus_19 ?_
    refine oX_if_ne (tgt := 25) dX4_tiresChorus_20 (by decide) (fun c5 => ?_) (fun c5 => ?_)
    · have hm := ifp c5 hm
      refine oX_iconst (v := (0 : Int32)) dX4_tiresChorus_23 (by decide) ?_
      obtain rfl := Option.some.inj hm
      exact oX_iret dX4_tiresChorus_24 rfl (by decide) hK
    · have hm := ifn c5 hm
      refine oX_iconst (v := (0 : Int32)) dX4_tiresChorus_25 (by decide) ?_
      refine oX_istore_n (ls' := [(2, vI (0 : Int32)), (0, vR (some (1, 0))), (1, vI x1)]) dX4_tiresChorus_26 rfl (by decide) rfl ?_
      refine oX_iconst (v := (0 : Int32)) dX4_tiresChorus_27 (by decide) ?_
      refine oX_istore_n (ls' := [(3, vI (0 : Int32)), (2, vI (0 : Int32)), (0, vR (some (1, 0))), (1, vI x1)]) dX4_tiresChorus_28 rfl (by decide) rfl ?_
      refine oX_iconst (v := (0 : Int32)) dX4_tiresChorus_29 (by decide) ?_
      refine oX_istore (ls' := [(4, vI (0 : Int32)), (3, vI (0 : Int32)), (2, vI (0 : Int32)), (0, vR (some (1, 0))), (1, vI x1)]) dX4_tiresChorus_30 (by decide) rfl ?_
      obtain ⟨v22, g22, hm⟩ := bd_s hm
      refine oX_sub [3, 4, 2, 1, 0] rfl (l_mX4_tiresChorus_b32 hM n x1 n (0 : Int32) (0 : Int32) (0 : Int32) _ g22 ?_)
      refine oX_iload_n dX4_tiresChorus_147 rfl rfl ?_
      refine oX_aload_n dX4_tiresChorus_148 rfl rfl ?_
      refine oX_getI fX4_57 rfl oDs1 dX4_tiresChorus_149 ?_
      refine oX_icmp_gt (tgt := 163) dX4_tiresChorus_152 (by decide) (fun c23 => ?_) (fun c23 => ?_)
      · have hm := ifp c23 hm
        refine oX_iconst (v := (1 : Int32)) dX4_tiresChorus_163 (by decide) ?_
        refine oX_goto (tgt := 168) dX4_tiresChorus_164 (by decide) ?_
        obtain rfl := Option.some.inj hm
        exact oX_iret dX4_tiresChorus_168 rfl (by decide) hK
      · have hm := ifn c23 hm
        refine oX_iload_n dX4_tiresChorus_155 rfl rfl ?_
        refine oX_aload_n dX4_tiresChorus_156 rfl rfl ?_
        refine oX_getI fX4_61 rfl oDs1 dX4_tiresChorus_157 ?_
        refine oX_icmp_le (tgt := 167) dX4_tiresChorus_160 (by decide) (fun c24 => ?_) (fun c24 => ?_)
        · have hm := ifp c24 hm
          refine oX_iconst (v := (0 : Int32)) dX4_tiresChorus_167 (by decide) ?_
          obtain rfl := Option.some.inj hm
          exact oX_iret dX4_tiresChorus_168 rfl (by decide) hK
        · have hm := ifn c24 hm
          refine oX_iconst (v := (1 : Int32)) dX4_tiresChorus_163 (by decide) ?_
          refine oX_goto (tgt := 168) dX4_tiresChorus_164 (by decide) ?_
          obtain rfl := Option.some.inj hm
          exact oX_iret dX4_tiresChorus_168 rfl (by decide) hK
theorem t_X4_tiresChorus {G : OhG} {FI AI : OhI} {FL AL : OhL} {FR GR AR BR : OhQ} {AN : OhN} {C : OhC} (hM : ohShM FR AN) (n : Nat) (x1 : Int32) {o : Int32} (hm : mX4_tiresChorus n FI FR AI AN x1 = some o) : oT G 2 iX4_tiresChorus [vR (some (1, 0)), vI x1] (FI, FL, FR, GR, AI, AL, AR, BR, AN, C) (0, 0) (fun v h => v = (some (vI o)) ∧ h = (FI, FL, FR, GR, AI, AL, AR, BR, AN, C)) ohNo :=
  oT_of (by decide) rfl (Nat.le_of_ble_eq_true rfl) (x_mX4_tiresChorus hM n x1 hm ⟨rfl, rfl⟩)
abbrev iX4_isCallWrong : OhM := (yX4_isCallWrong, cX4_isCallWrong, 3, (some .boolean), [])
theorem ok_X4_isCallWrong : oOk iX4_isCallWrong 2 := ⟨by decide, by decide, by decide +kernel⟩

noncomputable def mX4_isCallWrong (n : Nat) (FI : OhI) (FR : OhQ) (AI : OhI) (AN : OhN) (x1 : Int32) (x2 : Int32) : Option (Int32) :=
  (if x1 = (1 : Int32) then
  (mX4_isFullStage n FI FR AI AN x2).bind fun r2 =>
    gd (r2 = 0 ∨ r2 = 1) <|
    some r2
else
if x1 = (2 : Int32) then
  gd (vp_in x2 66) <|
    (if (AI 163 0 x2.toNatClampNeg) < (2 : Int32) then
    some (0 : Int32)
  else
    gd (vp_in x2 66) <|
      (if (AI 183 0 x2.toNatClampNeg) = 0 then
      some (0 : Int32)
    else
      some (1 : Int32)))
else
if x1 = (3 : Int32) then
  (mX4_isUnready n FI FR AI AN x2).bind fun r10 =>
    gd (r10 = 0 ∨ r10 = 1) <|
    some r10
else
if x1 = (4 : Int32) then
  (mX4_lacksPlayers n FR AI AN x2).bind fun r13 =>
    gd (r13 = 0 ∨ r13 = 1) <|
    some r13
else
if x1 = (5 : Int32) then
  (mX4_playsTwice n FI FR AI AN x2).bind fun r16 =>
    gd (r16 = 0 ∨ r16 = 1) <|
    some r16
else
  (mX4_tiresChorus n FI FR AI AN x2).bind fun r18 =>
    gd (r18 = 0 ∨ r18 = 1) <|
    some r18)
theorem x_mX4_isCallWrong {G : OhG} {FI AI : OhI} {FL AL : OhL} {FR GR AR BR : OhQ} {AN : OhN} {C : OhC} {k : Nat × Nat} {Φ : OhP} {Ψ : OhX} (hM : ohShM FR AN) (n : Nat) (x1 : Int32) (x2 : Int32) {r : Int32} (hm : mX4_isCallWrong n FI FR AI AN x1 x2 = some r) (hK : Φ (some (vI r)) (FI, FL, FR, GR, AI, AL, AR, BR, AN, C)) : oX G 3 iX4_isCallWrong 0 [(0, vR (some (1, 0))), (1, vI x1), (2, vI x2)] [] (FI, FL, FR, GR, AI, AL, AR, BR, AN, C) k Φ Ψ := by
  unfold mX4_isCallWrong at hm
  refine oX_iload_n dX4_isCallWrong_0 rfl rfl ?_
  by_cases c1 : x1 = (1 : Int32)
  · have hm := ifp c1 hm
    refine oX_tin (tgt := 36) dX4_isCallWrong_1 c1 (by decide) (by decide) rfl (by decide) ?_
    refine oX_aload_n dX4_isCallWrong_36 rfl rfl ?_
    refine oX_iload_n dX4_isCallWrong_37 rfl rfl ?_
    obtain ⟨r2, g2, hm⟩ := bd_s hm
    refine oX_cV (as := [vI x2]) dX4_isCallWrong_38 rfl oDs1 rfl (by decide) rfl ok_X4_isFullStage rfl rfl q2330 q2332 qs107 q136 q2333 (by decide) (Nat.le_of_ble_eq_true rfl) (t_X4_isFullStage hM n x2 g2) ?_
    obtain ⟨g3, hm⟩ := gd_s hm
    obtain rfl := Option.some.inj hm
    exact oX_iret dX4_isCallWrong_41 rfl (oNz g3) hK
  have hm := ifn c1 hm
  by_cases c4 : x1 = (2 : Int32)
  · have hm := ifp c4 hm
    refine oX_tin (tgt := 42) dX4_isCallWrong_1 c4 (by decide) (by decide) rfl (by decide) ?_
    refine oX_aload_n dX4_isCallWrong_42 rfl rfl ?_
    refine oX_getF fX4_145 rfl oDs1 dX4_isCallWrong_43 (ohF163 hM) ?_
    refine oX_iload_n dX4_isCallWrong_46 rfl rfl ?_
    obtain ⟨g5, hm⟩ := gd_s hm
    refine oX_iald oDs163 (oIn (ohN163 hM) g5) dX4_isCallWrong_47 ?_
    refine oX_iconst (v := (2 : Int32)) dX4_isCallWrong_48 (by decide) ?_
    refine oX_icmp_lt (tgt := 65) dX4_isCallWrong_49 (by decide) (fun c6 => ?_) (fun c6 => ?_)
    · have hm := ifp c6 hm
      refine oX_iconst (v := (0 : Int32)) dX4_isCallWrong_65 (by decide) ?_
      obtain rfl := Option.some.inj hm
      exact oX_iret dX4_isCallWrong_66 rfl (by decide) hK
    · have hm := ifn c6 hm
      refine oX_aload_n dX4_isCallWrong_52 rfl rfl ?_
      refine oX_getF fX4_187 rfl oDs1 dX4_isCallWrong_53 (ohF183 hM) ?_
      refine oX_iload_n dX4_isCallWrong_56 rfl rfl ?_
      obtain ⟨g7, hm⟩ := gd_s hm
      refine oX_zald oDs183 (oIn (ohN183 hM) g7) dX4_isCallWrong_57 ?_
      refine oX_if_eq (tgt := 65) dX4_isCallWrong_58 (by decide) (fun c8 => ?_) (fun c8 => ?_)
      · have hm := ifp c8 hm
        refine oX_iconst (v := (0 : Int32)) dX4_isCallWrong_65 (by decide) ?_
        obtain rfl := Option.some.inj hm
        exact oX_iret dX4_isCallWrong_66 rfl (by decide) hK
      · have hm := ifn c8 hm
        refine oX_iconst (v := (1 : Int32)) dX4_isCallWrong_61 (by decide) ?_
        refine oX_goto (tgt := 66) dX4_isCallWrong_62 (by decide) ?_
        obtain rfl := Option.some.inj hm
        exact oX_iret dX4_isCallWrong_66 rfl (by decide) hK
  have hm := ifn c4 hm
  by_cases c9 : x1 = (3 : Int32)
  · have hm := ifp c9 hm
    refine oX_tin (tgt := 67) dX4_isCallWrong_1 c9 (by decide) (by decide) rfl (by decide) ?_
    refine oX_aload_n dX4_isCallWrong_67 rfl rfl ?_
    refine oX_iload_n dX4_isCallWrong_68 rfl rfl ?_
    obtain ⟨r10, g10, hm⟩ := bd_s hm
    refine oX_cV (as := [vI x2]) dX4_isCallWrong_69 rfl oDs1 rfl (by decide) rfl ok_X4_isUnready rfl rfl q2338 q2340 qs109 q136 q2341 (by decide) (Nat.le_of_ble_eq_true rfl) (t_X4_isUnready hM n x2 g10) ?_
    obtain ⟨g11, hm⟩ := gd_s hm
    obtain rfl := Option.some.inj hm
    exact oX_iret dX4_isCallWrong_72 rfl (oNz g11) hK
  have hm := ifn c9 hm
  by_cases c12 : x1 = (4 : Int32)
  · have hm := ifp c12 hm
    refine oX_tin (tgt := 73) dX4_isCallWrong_1 c12 (by decide) (by decide) rfl (by decide) ?_
    refine oX_aload_n dX4_isCallWrong_73 rfl rfl ?_
    refine oX_iload_n dX4_isCallWrong_74 rfl rfl ?_
    obtain ⟨r13, g13, hm⟩ := bd_s hm
    refine oX_cV (as := [vI x2]) dX4_isCallWrong_75 rfl oDs1 rfl (by decide) rfl ok_X4_lacksPlayers rfl rfl q2347 q2349 qs111 q136 q2350 (by decide) (Nat.le_of_ble_eq_true rfl) (t_X4_lacksPlayers hM n x2 g13) ?_
    obtain ⟨g14, hm⟩ := gd_s hm
    obtain rfl := Option.some.inj hm
    exact oX_iret dX4_isCallWrong_78 rfl (oNz g14) hK
  have hm := ifn c12 hm
  by_cases c15 : x1 = (5 : Int32)
  · have hm := ifp c15 hm
    refine oX_tin (tgt := 79) dX4_isCallWrong_1 c15 (by decide) (by decide) rfl (by decide) ?_
    refine oX_aload_n dX4_isCallWrong_79 rfl rfl ?_
    refine oX_iload_n dX4_isCallWrong_80 rfl rfl ?_
    obtain ⟨r16, g16, hm⟩ := bd_s hm
    refine oX_cV (as := [vI x2]) dX4_isCallWrong_81 rfl oDs1 rfl (by decide) rfl ok_X4_playsTwice rfl rfl q2351 q2353 qs112 q136 q2354 (by decide) (Nat.le_of_ble_eq_true rfl) (t_X4_playsTwice hM n x2 g16) ?_
    obtain ⟨g17, hm⟩ := gd_s hm
    obtain rfl := Option.some.inj hm
    exact oX_iret dX4_isCallWrong_84 rfl (oNz g17) hK
  have hm := ifn c15 hm
  refine oX_tout (tgt := 85) 5 (l := [(1 : Int32), (2 : Int32), (3 : Int32), (4 : Int32), (5 : Int32)]) dX4_isCallWrong_1 (by decide) (fun c hc => by simp only [List.mem_cons, List.not_mem_nil, or_false] at hc; rcases hc with rfl | rfl | rfl | rfl | rfl <;> assumption) (by decide) (by decide) ?_
  refine oX_aload_n dX4_isCallWrong_85 rfl rfl ?_
  refine oX_iload_n dX4_isCallWrong_86 rfl rfl ?_
  obtain ⟨r18, g18, hm⟩ := bd_s hm
  refine oX_cV (as := [vI x2]) dX4_isCallWrong_87 rfl oDs1 rfl (by decide) rfl ok_X4_tiresChorus rfl rfl q2355 q2357 qs113 q136 q2358 (by decide) (Nat.le_of_ble_eq_true rfl) (t_X4_tiresChorus hM n x2 g18) ?_
  obtain ⟨g19, hm⟩ := gd_s hm
  obtain rfl := Option.some.inj hm
  exact oX_iret dX4_isCallWrong_90 rfl (oNz g19) hK
theorem t_X4_isCallWrong {G : OhG} {FI AI : OhI} {FL AL : OhL} {FR GR AR BR : OhQ} {AN : OhN} {C : OhC} (hM : ohShM FR AN) (n : Nat) (x1 : Int32) (x2 : Int32) {o : Int32} (hm : mX4_isCallWrong n FI FR AI AN x1 x2 = some o) : oT G 3 iX4_isCallWrong [vR (some (1, 0)), vI x1, vI x2] (FI, FL, FR, GR, AI, AL, AR, BR, AN, C) (0, 0) (fun v h => v = (some (vI o)) ∧ h = (FI, FL, FR, GR, AI, AL, AR, BR, AN, C)) ohNo :=
  oT_of (by decide) rfl (Nat.le_of_ble_eq_true rfl) (x_mX4_isCallWrong hM n x1 x2 hm ⟨rfl, rfl⟩)
abbrev iX4_note : OhM := (yX4_note, cX4_note, 4, none, [])
theorem ok_X4_note : oOk iX4_note 3 := ⟨by decide, by decide, by decide +kernel⟩

noncomputable def mX4_note (FI : OhI) (FR : OhQ) (AI : OhI) (AN : OhN) (x1 : Int32) (x2 : Int32) (x3 : Int32) : Option (OhI × OhI) :=
  gd (vp_in (FI 1 0 88) 5200) <|
  oLet (sA AI 184 0 (uA (AI 184 0) (FI 1 0 88).toNatClampNeg x1)) fun AI1 =>
  gd (vp_in (FI 1 0 88) 5200) <|
  oLet (sA AI1 185 0 (uA (AI1 185 0) (FI 1 0 88).toNatClampNeg x2)) fun AI2 =>
  gd (vp_in (FI 1 0 88) 5200) <|
  oLet (sA AI2 186 0 (uA (AI2 186 0) (FI 1 0 88).toNatClampNeg x3)) fun AI3 =>
  oLet (sA FI 1 0 (uA (FI 1 0) 88 ((FI 1 0 88) + (1 : Int32)))) fun FI4 =>
  some (FI4, AI3)
theorem x_mX4_note {G : OhG} {FI AI : OhI} {FL AL : OhL} {FR GR AR BR : OhQ} {AN : OhN} {C : OhC} {k : Nat × Nat} {Φ : OhP} {Ψ : OhX} (hM : ohShM FR AN) (x1 : Int32) (x2 : Int32) (x3 : Int32) {r : OhI × OhI} (hm : mX4_note FI FR AI AN x1 x2 x3 = some r) (hK : Φ none (r.1, FL, FR, GR, r.2, AL, AR, BR, AN, C)) : oX G 1 iX4_note 0 [(0, vR (some (1, 0))), (1, vI x1), (2, vI x2), (3, vI x3)] [] (FI, FL, FR, GR, AI, AL, AR, BR, AN, C) k Φ Ψ := by
  unfold mX4_note at hm
  refine oX_aload_n dX4_note_0 rfl rfl ?_
  refine oX_getF fX4_190 rfl oDs1 dX4_note_1 (ohF184 hM) ?_
  refine oX_aload_n dX4_note_4 rfl rfl ?_
  refine oX_getI fX4_551 rfl oDs1 dX4_note_5 ?_
  refine oX_iload_n dX4_note_8 rfl rfl ?_
  obtain ⟨g1, hm⟩ := gd_s hm
  obtain ⟨AI1, hAI1, hm⟩ := oLs hm
  refine oX_iast oDs184 (oIn (ohN184 hM) g1) dX4_note_9 hAI1 ?_
  refine oX_aload_n dX4_note_10 rfl rfl ?_
  refine oX_getF fX4_193 rfl oDs1 dX4_note_11 (ohF185 hM) ?_
  refine oX_aload_n dX4_note_14 rfl rfl ?_
  refine oX_getI fX4_551 rfl oDs1 dX4_note_15 ?_
  refine oX_iload_n dX4_note_18 rfl rfl ?_
  obtain ⟨g2, hm⟩ := gd_s hm
  obtain ⟨AI2, hAI2, hm⟩ := oLs hm
  refine oX_iast oDs185 (oIn (ohN185 hM) g2) dX4_note_19 hAI2 ?_
  refine oX_aload_n dX4_note_20 rfl rfl ?_
  refine oX_getF fX4_196 rfl oDs1 dX4_note_21 (ohF186 hM) ?_
  refine oX_aload_n dX4_note_24 rfl rfl ?_
  refine oX_getI fX4_551 rfl oDs1 dX4_note_25 ?_
  refine oX_iload_n dX4_note_28 rfl rfl ?_
  obtain ⟨g3, hm⟩ := gd_s hm
  obtain ⟨AI3, hAI3, hm⟩ := oLs hm
  refine oX_iast oDs186 (oIn (ohN186 hM) g3) dX4_note_29 hAI3 ?_
  refine oX_aload_n dX4_note_30 rfl rfl ?_
  refine oX_dup dX4_note_31 trivial ?_
  refine oX_getI fX4_551 rfl oDs1 dX4_note_32 ?_
  refine oX_iconst (v := (1 : Int32)) dX4_note_35 (by decide) ?_
  refine oX_iadd dX4_note_36 ?_
  obtain ⟨FI4, hFI4, hm⟩ := oLs hm
  refine oX_putI fX4_551 rfl (fun h9 => by cases h9) oDs1 dX4_note_37 ⟨rfl, rfl⟩ hFI4 ?_
  obtain rfl := Option.some.inj hm
  exact oX_vret dX4_note_40 rfl hK
theorem t_X4_note {G : OhG} {FI AI : OhI} {FL AL : OhL} {FR GR AR BR : OhQ} {AN : OhN} {C : OhC} (hM : ohShM FR AN) (x1 : Int32) (x2 : Int32) (x3 : Int32) {o : OhI × OhI} (hm : mX4_note FI FR AI AN x1 x2 x3 = some o) : oT G 1 iX4_note [vR (some (1, 0)), vI x1, vI x2, vI x3] (FI, FL, FR, GR, AI, AL, AR, BR, AN, C) (0, 0) (fun v h => v = none ∧ h = (o.1, FL, FR, GR, o.2, AL, AR, BR, AN, C)) ohNo :=
  oT_of (by decide) rfl (Nat.le_of_ble_eq_true rfl) (x_mX4_note hM x1 x2 x3 hm ⟨rfl, rfl⟩)
abbrev iX4_apart : OhM := (yX4_apart, cX4_apart, 2, (some .int), [])
theorem ok_X4_apart : oOk iX4_apart 2 := ⟨by decide, by decide, by decide +kernel⟩

noncomputable def mX4_apart (x0 : Int32) (x1 : Int32) : Option (Int32) :=
  (if x1 ≤ x0 then
  some (x0 - x1)
else
  some (x1 - x0))
theorem x_mX4_apart {G : OhG} {FI AI : OhI} {FL AL : OhL} {FR GR AR BR : OhQ} {AN : OhN} {C : OhC} {k : Nat × Nat} {Φ : OhP} {Ψ : OhX} (x0 : Int32) (x1 : Int32) {r : Int32} (hm : mX4_apart x0 x1 = some r) (hK : Φ (some (vI r)) (FI, FL, FR, GR, AI, AL, AR, BR, AN, C)) : oX G 1 iX4_apart 0 [(0, vI x0), (1, vI x1)] [] (FI, FL, FR, GR, AI, AL, AR, BR, AN, C) k Φ Ψ := by
  unfold mX4_apart at hm
  refine oX_iload_n dX4_apart_0 rfl rfl ?_
  refine oX_iload_n dX4_apart_1 rfl rfl ?_
  refine oX_icmp_ge (tgt := 11) dX4_apart_2 (by decide) (fun c1 => ?_) (fun c1 => ?_)
  · have hm := ifp c1 hm
    refine oX_iload_n dX4_apart_11 rfl rfl ?_
    refine oX_iload_n dX4_apart_12 rfl rfl ?_
    refine oX_isub dX4_apart_13 ?_
    obtain rfl := Option.some.inj hm
    exact oX_iret dX4_apart_14 rfl rfl hK
  · have hm := ifn c1 hm
    refine oX_iload_n dX4_apart_5 rfl rfl ?_
    refine oX_iload_n dX4_apart_6 rfl rfl ?_
    refine oX_isub dX4_apart_7 ?_
    refine oX_goto (tgt := 14) dX4_apart_8 (by decide) ?_
    obtain rfl := Option.some.inj hm
    exact oX_iret dX4_apart_14 rfl rfl hK
theorem t_X4_apart {G : OhG} {FI AI : OhI} {FL AL : OhL} {FR GR AR BR : OhQ} {AN : OhN} {C : OhC} (x0 : Int32) (x1 : Int32) {o : Int32} (hm : mX4_apart x0 x1 = some o) : oT G 1 iX4_apart [vI x0, vI x1] (FI, FL, FR, GR, AI, AL, AR, BR, AN, C) (0, 0) (fun v h => v = (some (vI o)) ∧ h = (FI, FL, FR, GR, AI, AL, AR, BR, AN, C)) ohNo :=
  oT_of (by decide) rfl (Nat.le_of_ble_eq_true rfl) (x_mX4_apart x0 x1 hm ⟨rfl, rfl⟩)
abbrev iX4_suits : OhM := (yX4_suits, cX4_suits, 5, (some .boolean), [])
theorem ok_X4_suits : oOk iX4_suits 3 := ⟨by decide, by decide, by decide +kernel⟩

noncomputable def mX4_suits (FR : OhQ) (AI : OhI) (AN : OhN) (x1 : Int32) (x2 : Int32) (x3 : Int32) : Option (Int32) :=
  gd (vp_in x1 20) <|
  gd (vp_in (((8 : Int32) * x2) + x3) 72) <|
  (if (((AI 117 0 x1.toNatClampNeg) >>> ((AI 112 0 (((8 : Int32) * x2) + x3).toNatClampNeg) &&& 31)) &&& (1 : Int32)) = (1 : Int32) then
  gd (vp_in x1 20) <|
    gd (vp_in (((8 : Int32) * x2) + x3) 72) <|
    (if (((AI 118 0 x1.toNatClampNeg) >>> ((AI 114 0 (((8 : Int32) * x2) + x3).toNatClampNeg) &&& 31)) &&& (1 : Int32)) = (1 : Int32) then
    gd (vp_in x1 20) <|
      gd (vp_in (((8 : Int32) * x2) + x3) 72) <|
      (mX4_apart (AI 119 0 x1.toNatClampNeg) (AI 115 0 (((8 : Int32) * x2) + x3).toNatClampNeg)).bind fun r9 =>
      (if (1 : Int32) < r9 then
      some (0 : Int32)
    else
      some (1 : Int32))
  else
    some (0 : Int32))
else
  some (0 : Int32))
theorem x_mX4_suits {G : OhG} {FI AI : OhI} {FL AL : OhL} {FR GR AR BR : OhQ} {AN : OhN} {C : OhC} {k : Nat × Nat} {Φ : OhP} {Ψ : OhX} (hM : ohShM FR AN) (x1 : Int32) (x2 : Int32) (x3 : Int32) {r : Int32} (hm : mX4_suits FR AI AN x1 x2 x3 = some r) (hK : Φ (some (vI r)) (FI, FL, FR, GR, AI, AL, AR, BR, AN, C)) : oX G 2 iX4_suits 0 [(0, vR (some (1, 0))), (1, vI x1), (2, vI x2), (3, vI x3)] [] (FI, FL, FR, GR, AI, AL, AR, BR, AN, C) k Φ Ψ := by
  unfold mX4_suits at hm
  refine oX_bipush (v := (8 : Int32)) dX4_suits_0 (by decide) ?_
  refine oX_iload_n dX4_suits_2 rfl rfl ?_
  refine oX_imul dX4_suits_3 ?_
  refine oX_iload_n dX4_suits_4 rfl rfl ?_
  refine oX_iadd dX4_suits_5 ?_
  refine oX_istore (ls' := [(4, vI (((8 : Int32) * x2) + x3)), (0, vR (some (1, 0))), (1, vI x1), (2, vI x2), (3, vI x3)]) dX4_suits_6 (by decide) rfl ?_
  refine oX_aload_n dX4_suits_8 rfl rfl ?_
  refine oX_getF fX4_45 rfl oDs1 dX4_suits_9 (ohF117 hM) ?_
  refine oX_iload_n dX4_suits_12 rfl rfl ?_
  obtain ⟨g1, hm⟩ := gd_s hm
  refine oX_iald oDs117 (oIn (ohN117 hM) g1) dX4_suits_13 ?_
  refine oX_aload_n dX4_suits_14 rfl rfl ?_
  refine oX_getF fX4_29 rfl oDs1 dX4_suits_15 (ohF112 hM) ?_
  refine oX_iload dX4_suits_18 rfl ?_
  obtain ⟨g2, hm⟩ := gd_s hm
  refine oX_iald oDs112 (oIn (ohN112 hM) g2) dX4_suits_20 ?_
  refine oX_ishr dX4_suits_21 ?_
  refine oX_iconst (v := (1 : Int32)) dX4_suits_22 (by decide) ?_
  refine oX_iand dX4_suits_23 ?_
  refine oX_iconst (v := (1 : Int32)) dX4_suits_24 (by decide) ?_
  refine oX_icmp_ne (tgt := 72) dX4_suits_25 (by decide) (fun c3 => ?_) (fun c3 => ?_)
  · have hm := ifp c3 hm
    refine oX_aload_n dX4_suits_28 rfl rfl ?_
    refine oX_getF fX4_48 rfl oDs1 dX4_suits_29 (ohF118 hM) ?_
    refine oX_iload_n dX4_suits_32 rfl rfl ?_
    obtain ⟨g4, hm⟩ := gd_s hm
    refine oX_iald oDs118 (oIn (ohN118 hM) g4) dX4_suits_33 ?_
    refine oX_aload_n dX4_suits_34 rfl rfl ?_
    refine oX_getF fX4_35 rfl oDs1 dX4_suits_35 (ohF114 hM) ?_
    refine oX_iload dX4_suits_38 rfl ?_
    obtain ⟨g5, hm⟩ := gd_s hm
    refine oX_iald oDs114 (oIn (ohN114 hM) g5) dX4_suits_40 ?_
    refine oX_ishr dX4_suits_41 ?_
    refine oX_iconst (v := (1 : Int32)) dX4_suits_42 (by decide) ?_
    refine oX_iand dX4_suits_43 ?_
    refine oX_iconst (v := (1 : Int32)) dX4_suits_44 (by decide) ?_
    refine oX_icmp_ne (tgt := 72) dX4_suits_45 (by decide) (fun c6 => ?_) (fun c6 => ?_)
    · have hm := ifp c6 hm
      refine oX_aload_n dX4_suits_48 rfl rfl ?_
      refine oX_getF fX4_51 rfl oDs1 dX4_suits_49 (ohF119 hM) ?_
      refine oX_iload_n dX4_suits_52 rfl rfl ?_
      obtain ⟨g7, hm⟩ := gd_s hm
      refine oX_iald oDs119 (oIn (ohN119 hM) g7) dX4_suits_53 ?_
      refine oX_aload_n dX4_suits_54 rfl rfl ?_
      refine oX_getF fX4_38 rfl oDs1 dX4_suits_55 (ohF115 hM) ?_
      refine oX_iload dX4_suits_58 rfl ?_
      obtain ⟨g8, hm⟩ := gd_s hm
      refine oX_iald oDs115 (oIn (ohN115 hM) g8) dX4_suits_60 ?_
      obtain ⟨r9, g9, hm⟩ := bd_s hm
      refine oX_cS (as := [vI (AI 119 0 x1.toNatClampNeg), vI (AI 115 0 (((8 : Int32) * x2) + x3).toNatClampNeg)]) dX4_suits_61 rfl ok_X4_apart rfl rfl q2371 q2372 q136 q2373 (by decide) (Nat.le_of_ble_eq_true rfl) (t_X4_apart (AI 119 0 x1.toNatClampNeg) (AI 115 0 (((8 : Int32) * x2) + x3).toNatClampNeg) g9) ?_
      refine oX_iconst (v := (1 : Int32)) dX4_suits_64 (by decide) ?_
      refine oX_icmp_gt (tgt := 72) dX4_suits_65 (by decide) (fun c10 => ?_) (fun c10 => ?_)
      · have hm := ifp c10 hm
        refine oX_iconst (v := (0 : Int32)) dX4_suits_72 (by decide) ?_
        obtain rfl := Option.some.inj hm
        exact oX_iret dX4_suits_73 rfl (by decide) hK
      · have hm := ifn c10 hm
        refine oX_iconst (v := (1 : Int32)) dX4_suits_68 (by decide) ?_
        refine oX_goto (tgt := 73) dX4_suits_69 (by decide) ?_
        obtain rfl := Option.some.inj hm
        exact oX_iret dX4_suits_73 rfl (by decide) hK
    · have hm := ifn c6 hm
      refine oX_iconst (v := (0 : Int32)) dX4_suits_72 (by decide) ?_
      obtain rfl := Option.some.inj hm
      exact oX_iret dX4_suits_73 rfl (by decide) hK
  · have hm := ifn c3 hm
    refine oX_iconst (v := (0 : Int32)) dX4_suits_72 (by decide) ?_
    obtain rfl := Option.some.inj hm
    exact oX_iret dX4_suits_73 rfl (by decide) hK
theorem t_X4_suits {G : OhG} {FI AI : OhI} {FL AL : OhL} {FR GR AR BR : OhQ} {AN : OhN} {C : OhC} (hM : ohShM FR AN) (x1 : Int32) (x2 : Int32) (x3 : Int32) {o : Int32} (hm : mX4_suits FR AI AN x1 x2 x3 = some o) : oT G 2 iX4_suits [vR (some (1, 0)), vI x1, vI x2, vI x3] (FI, FL, FR, GR, AI, AL, AR, BR, AN, C) (0, 0) (fun v h => v = (some (vI o)) ∧ h = (FI, FL, FR, GR, AI, AL, AR, BR, AN, C)) ohNo :=
  oT_of (by decide) rfl (Nat.le_of_ble_eq_true rfl) (x_mX4_suits hM x1 x2 x3 hm ⟨rfl, rfl⟩)
abbrev iX4_isAway : OhM := (yX4_isAway, cX4_isAway, 4, (some .boolean), [])
theorem ok_X4_isAway : oOk iX4_isAway 2 := ⟨by decide, by decide, by decide +kernel⟩

noncomputable def mX4_isAway_b2 (n : Nat) (FR : OhQ) (AI : OhI) (AN : OhN) (x1 : Int32) (x2 : Int32) (x3 : Int32) : Option ((Int32) ⊕ ((Unit) ⊕ (Unit))) :=
  gd (vp_in x1 21) <|
  (if (AI 126 0 x1.toNatClampNeg) ≤ x3 then
  some (.inr (.inl ()))
else
  gd (vp_in (((6 : Int32) * x1) + x3) 126) <|
    gd (vp_in (((6 : Int32) * x1) + x3) 126) <|
    (mX4_isIn x2 (AI 127 0 (((6 : Int32) * x1) + x3).toNatClampNeg) (AI 128 0 (((6 : Int32) * x1) + x3).toNatClampNeg)).bind fun r5 =>
    (if r5 = 0 then
    some (.inl (x3 + (1 : Int32)))
  else
    some (.inr (.inr ()))))
theorem x_mX4_isAway_b2 {G : OhG} {FI AI : OhI} {FL AL : OhL} {FR GR AR BR : OhQ} {AN : OhN} {C : OhC} {k : Nat × Nat} {Φ : OhP} {Ψ : OhX} (hM : ohShM FR AN) (n : Nat) (x1 : Int32) (x2 : Int32) (x3 : Int32) {r : (Int32) ⊕ ((Unit) ⊕ (Unit))} (hm : mX4_isAway_b2 n FR AI AN x1 x2 x3 = some r) (hk : ∀ v : Int32, r = .inl v → oX G 2 iX4_isAway 2 [(0, vR (some (1, 0))), (1, vI x1), (2, vI x2), (3, vI v)] [] (FI, FL, FR, GR, AI, AL, AR, BR, AN, C) k Φ Ψ) (hx1 : ∀ v : Unit, r = .inr (.inl v) → oX G 2 iX4_isAway 49 [] [] (FI, FL, FR, GR, AI, AL, AR, BR, AN, C) k Φ Ψ) (hx2 : ∀ v : Unit, r = .inr (.inr v) → oX G 2 iX4_isAway 41 [] [] (FI, FL, FR, GR, AI, AL, AR, BR, AN, C) k Φ Ψ) : oX G 2 iX4_isAway 2 [(0, vR (some (1, 0))), (1, vI x1), (2, vI x2), (3, vI x3)] [] (FI, FL, FR, GR, AI, AL, AR, BR, AN, C) k Φ Ψ := by
  unfold mX4_isAway_b2 at hm
  refine oX_iload_n dX4_isAway_2 rfl rfl ?_
  refine oX_aload_n dX4_isAway_3 rfl rfl ?_
  refine oX_getF fX4_67 rfl oDs1 dX4_isAway_4 (ohF126 hM) ?_
  refine oX_iload_n dX4_isAway_7 rfl rfl ?_
  obtain ⟨g1, hm⟩ := gd_s hm
  refine oX_iald oDs126 (oIn (ohN126 hM) g1) dX4_isAway_8 ?_
  refine oX_icmp_ge (tgt := 49) dX4_isAway_9 (by decide) (fun c2 => ?_) (fun c2 => ?_)
  · have hm := ifp c2 hm
    exact oX_sub [] rfl (hx1 () (Option.some.inj hm).symm)
  · have hm := ifn c2 hm
    refine oX_iload_n dX4_isAway_12 rfl rfl ?_
    refine oX_aload_n dX4_isAway_13 rfl rfl ?_
    refine oX_getF fX4_70 rfl oDs1 dX4_isAway_14 (ohF127 hM) ?_
    refine oX_bipush (v := (6 : Int32)) dX4_isAway_17 (by decide) ?_
    refine oX_iload_n dX4_isAway_19 rfl rfl ?_
    refine oX_imul dX4_isAway_20 ?_
    refine oX_iload_n dX4_isAway_21 rfl rfl ?_
    refine oX_iadd dX4_isAway_22 ?_
    obtain ⟨g3, hm⟩ := gd_s hm
    refine oX_iald oDs127 (oIn (ohN127 hM) g3) dX4_isAway_23 ?_
    refine oX_aload_n dX4_isAway_24 rfl rfl ?_
    refine oX_getF fX4_73 rfl oDs1 dX4_isAway_25 (ohF128 hM) ?_
    refine oX_bipush (v := (6 : Int32)) dX4_isAway_28 (by decide) ?_
    refine oX_iload_n dX4_isAway_30 rfl rfl ?_
    refine oX_imul dX4_isAway_31 ?_
    refine oX_iload_n dX4_isAway_32 rfl rfl ?_
    refine oX_iadd dX4_isAway_33 ?_
    obtain ⟨g4, hm⟩ := gd_s hm
    refine oX_iald oDs128 (oIn (ohN128 hM) g4) dX4_isAway_34 ?_
    obtain ⟨r5, g5, hm⟩ := bd_s hm
    refine oX_cS (as := [vI x2, vI (AI 127 0 (((6 : Int32) * x1) + x3).toNatClampNeg), vI (AI 128 0 (((6 : Int32) * x1) + x3).toNatClampNeg)]) dX4_isAway_35 rfl ok_X4_isIn rfl rfl q2032 q2033 q136 q2034 (by decide) (Nat.le_of_ble_eq_true rfl) (t_X4_isIn x2 (AI 127 0 (((6 : Int32) * x1) + x3).toNatClampNeg) (AI 128 0 (((6 : Int32) * x1) + x3).toNatClampNeg) g5) ?_
    refine oX_if_eq (tgt := 43) dX4_isAway_38 (by decide) (fun c6 => ?_) (fun c6 => ?_)
    · have hm := ifp c6 hm
      refine oX_iinc (v := x3 + (1 : Int32)) (ls' := [(3, vI (x3 + (1 : Int32))), (0, vR (some (1, 0))), (1, vI x1), (2, vI x2)]) dX4_isAway_43 rfl rfl (by decide) rfl ?_
      refine oX_goto (tgt := 2) dX4_isAway_46 (by decide) ?_
      exact oX_sub [1, 2, 3, 0] rfl (hk (x3 + (1 : Int32)) (Option.some.inj hm).symm)
    · have hm := ifn c6 hm
      exact oX_sub [] rfl (hx2 () (Option.some.inj hm).symm)
theorem l_mX4_isAway_b2 {G : OhG} {FI : OhI} {FL : OhL} {FR : OhQ} {GR : OhQ} {AI : OhI} {AL : OhL} {AR : OhQ} {BR : OhQ} {AN : OhN} {C : OhC} {k : Nat × Nat} {Φ : OhP} {Ψ : OhX} (hM : ohShM FR AN) (n : Nat) (x1 : Int32) (x2 : Int32) : ∀ (f : Nat) (x3 : Int32) (b : ((Unit) ⊕ (Unit))), lpF (fun v => mX4_isAway_b2 n FR AI AN x1 x2 v) f x3 = some b → (∀ v : Unit, b = (.inl v) → oX G 2 iX4_isAway 49 [] [] (FI, FL, FR, GR, AI, AL, AR, BR, AN, C) k Φ Ψ) → (∀ v : Unit, b = (.inr v) → oX G 2 iX4_isAway 41 [] [] (FI, FL, FR, GR, AI, AL, AR, BR, AN, C) k Φ Ψ) → oX G 2 iX4_isAway 2 [(0, vR (some (1, 0))), (1, vI x1), (2, vI x2), (3, vI x3)] [] (FI, FL, FR, GR, AI, AL, AR, BR, AN, C) k Φ Ψ := by
  intro f
  induction f with
  | zero =>
    intro x3 b hm
    cases hm
  | succ f ih =>
    intro x3 b hm hx1 hx2
    obtain ⟨r, hr, hm⟩ := lp_s hm
    refine x_mX4_isAway_b2 hM n x1 x2 x3 hr (fun v e => ?_) (fun v e => ?_) (fun v e => ?_)
    · subst e; exact ih v _ hm hx1 hx2
    · subst e; exact hx1 v hm.symm
    · subst e; exact hx2 v hm.symm
noncomputable def mX4_isAway (n : Nat) (FR : OhQ) (AI : OhI) (AN : OhN) (x1 : Int32) (x2 : Int32) : Option (Int32) :=
  (lpF (fun v => mX4_isAway_b2 n FR AI AN x1 x2 v) n (0 : Int32)).bind (Sum.elim (fun v7 => some (0 : Int32)) (fun v7 => some (1 : Int32)))
theorem x_mX4_isAway {G : OhG} {FI AI : OhI} {FL AL : OhL} {FR GR AR BR : OhQ} {AN : OhN} {C : OhC} {k : Nat × Nat} {Φ : OhP} {Ψ : OhX} (hM : ohShM FR AN) (n : Nat) (x1 : Int32) (x2 : Int32) {r : Int32} (hm : mX4_isAway n FR AI AN x1 x2 = some r) (hK : Φ (some (vI r)) (FI, FL, FR, GR, AI, AL, AR, BR, AN, C)) : oX G 2 iX4_isAway 0 [(0, vR (some (1, 0))), (1, vI x1), (2, vI x2)] [] (FI, FL, FR, GR, AI, AL, AR, BR, AN, C) k Φ Ψ := by
  unfold mX4_isAway at hm
  refine oX_iconst (v := (0 : Int32)) dX4_isAway_0 (by decide) ?_
  refine oX_istore_n (ls' := [(3, vI (0 : Int32)), (0, vR (some (1, 0))), (1, vI x1), (2, vI x2)]) dX4_isAway_1 rfl (by decide) rfl ?_
  obtain ⟨b7, g7, hm⟩ := bd_s hm
  refine oX_sub [1, 2, 3, 0] rfl (l_mX4_isAway_b2 hM n x1 x2 n (0 : Int32) _ g7 (fun v7 e7 => ?_) (fun v7 e7 => ?_))
  · subst e7
    have hm := el1 hm
    refine oX_iconst (v := (0 : Int32)) dX4_isAway_49 (by decide) ?_
    obtain rfl := Option.some.inj hm
    exact oX_iret dX4_isAway_50 rfl (by decide) hK
  · subst e7
    have hm := el2 hm
    refine oX_iconst (v := (1 : Int32)) dX4_isAway_41 (by decide) ?_
    obtain rfl := Option.some.inj hm
    exact oX_iret dX4_isAway_42 rfl (by decide) hK
theorem t_X4_isAway {G : OhG} {FI AI : OhI} {FL AL : OhL} {FR GR AR BR : OhQ} {AN : OhN} {C : OhC} (hM : ohShM FR AN) (n : Nat) (x1 : Int32) (x2 : Int32) {o : Int32} (hm : mX4_isAway n FR AI AN x1 x2 = some o) : oT G 2 iX4_isAway [vR (some (1, 0)), vI x1, vI x2] (FI, FL, FR, GR, AI, AL, AR, BR, AN, C) (0, 0) (fun v h => v = (some (vI o)) ∧ h = (FI, FL, FR, GR, AI, AL, AR, BR, AN, C)) ohNo :=
  oT_of (by decide) rfl (Nat.le_of_ble_eq_true rfl) (x_mX4_isAway hM n x1 x2 hm ⟨rfl, rfl⟩)
abbrev iX4_isBusy : OhM := (yX4_isBusy, cX4_isBusy, 5, (some .boolean), [])
theorem ok_X4_isBusy : oOk iX4_isBusy 3 := ⟨by decide, by decide, by decide +kernel⟩

noncomputable def mX4_isBusy_b3 (n : Nat) (FI : OhI) (FR : OhQ) (AI : OhI) (AN : OhN) (x1 : Int32) (x2 : Int32) (x3 : Int32) (x4 : Int32) : Option ((Int32) ⊕ ((Unit) ⊕ (Unit))) :=
  (if x3 ≤ x4 then
  some (.inr (.inl ()))
else
  gd (vp_in (((8 : Int32) * x2) + x4) 528) <|
    (if (AI 172 0 (((8 : Int32) * x2) + x4).toNatClampNeg) = x1 then
    some (.inr (.inr ()))
  else
    some (.inl (x4 + (1 : Int32)))))
theorem x_mX4_isBusy_b3 {G : OhG} {FI AI : OhI} {FL AL : OhL} {FR GR AR BR : OhQ} {AN : OhN} {C : OhC} {k : Nat × Nat} {Φ : OhP} {Ψ : OhX} (hM : ohShM FR AN) (n : Nat) (x1 : Int32) (x2 : Int32) (x3 : Int32) (x4 : Int32) {r : (Int32) ⊕ ((Unit) ⊕ (Unit))} (hm : mX4_isBusy_b3 n FI FR AI AN x1 x2 x3 x4 = some r) (hk : ∀ v : Int32, r = .inl v → oX G 2 iX4_isBusy 3 [(0, vR (some (1, 0))), (1, vI x1), (2, vI x2), (3, vI x3), (4, vI v)] [] (FI, FL, FR, GR, AI, AL, AR, BR, AN, C) k Φ Ψ) (hx1 : ∀ v : Unit, r = .inr (.inl v) → oX G 2 iX4_isBusy 33 [(0, vR (some (1, 0))), (1, vI x1), (2, vI x2)] [] (FI, FL, FR, GR, AI, AL, AR, BR, AN, C) k Φ Ψ) (hx2 : ∀ v : Unit, r = .inr (.inr v) → oX G 2 iX4_isBusy 25 [] [] (FI, FL, FR, GR, AI, AL, AR, BR, AN, C) k Φ Ψ) : oX G 2 iX4_isBusy 3 [(0, vR (some (1, 0))), (1, vI x1), (2, vI x2), (3, vI x3), (4, vI x4)] [] (FI, FL, FR, GR, AI, AL, AR, BR, AN, C) k Φ Ψ := by
  unfold mX4_isBusy_b3 at hm
  refine oX_iload dX4_isBusy_3 rfl ?_
  refine oX_iload_n dX4_isBusy_5 rfl rfl ?_
  refine oX_icmp_ge (tgt := 33) dX4_isBusy_6 (by decide) (fun c1 => ?_) (fun c1 => ?_)
  · have hm := ifp c1 hm
    exact oX_sub [0, 1, 2] rfl (hx1 () (Option.some.inj hm).symm)
  · have hm := ifn c1 hm
    refine oX_aload_n dX4_isBusy_9 rfl rfl ?_
    refine oX_getF fX4_157 rfl oDs1 dX4_isBusy_10 (ohF172 hM) ?_
    refine oX_bipush (v := (8 : Int32)) dX4_isBusy_13 (by decide) ?_
    refine oX_iload_n dX4_isBusy_15 rfl rfl ?_
    refine oX_imul dX4_isBusy_16 ?_
    refine oX_iload dX4_isBusy_17 rfl ?_
    refine oX_iadd dX4_isBusy_19 ?_
    obtain ⟨g2, hm⟩ := gd_s hm
    refine oX_iald oDs172 (oIn (ohN172 hM) g2) dX4_isBusy_20 ?_
    refine oX_iload_n dX4_isBusy_21 rfl rfl ?_
    refine oX_icmp_ne (tgt := 27) dX4_isBusy_22 (by decide) (fun c3 => ?_) (fun c3 => ?_)
    · have hm := ifp c3 hm
      exact oX_sub [] rfl (hx2 () (Option.some.inj hm).symm)
    · have hm := ifn c3 hm
      refine oX_iinc (v := x4 + (1 : Int32)) (ls' := [(4, vI (x4 + (1 : Int32))), (0, vR (some (1, 0))), (1, vI x1), (2, vI x2), (3, vI x3)]) dX4_isBusy_27 rfl rfl (by decide) rfl ?_
      refine oX_goto (tgt := 3) dX4_isBusy_30 (by decide) ?_
      exact oX_sub [1, 2, 3, 4, 0] rfl (hk (x4 + (1 : Int32)) (Option.some.inj hm).symm)
theorem l_mX4_isBusy_b3 {G : OhG} {FI : OhI} {FL : OhL} {FR : OhQ} {GR : OhQ} {AI : OhI} {AL : OhL} {AR : OhQ} {BR : OhQ} {AN : OhN} {C : OhC} {k : Nat × Nat} {Φ : OhP} {Ψ : OhX} (hM : ohShM FR AN) (n : Nat) (x1 : Int32) (x2 : Int32) (x3 : Int32) : ∀ (f : Nat) (x4 : Int32) (b : ((Unit) ⊕ (Unit))), lpF (fun v => mX4_isBusy_b3 n FI FR AI AN x1 x2 x3 v) f x4 = some b → (∀ v : Unit, b = (.inl v) → oX G 2 iX4_isBusy 33 [(0, vR (some (1, 0))), (1, vI x1), (2, vI x2)] [] (FI, FL, FR, GR, AI, AL, AR, BR, AN, C) k Φ Ψ) → (∀ v : Unit, b = (.inr v) → oX G 2 iX4_isBusy 25 [] [] (FI, FL, FR, GR, AI, AL, AR, BR, AN, C) k Φ Ψ) → oX G 2 iX4_isBusy 3 [(0, vR (some (1, 0))), (1, vI x1), (2, vI x2), (3, vI x3), (4, vI x4)] [] (FI, FL, FR, GR, AI, AL, AR, BR, AN, C) k Φ Ψ := by
  intro f
  induction f with
  | zero =>
    intro x4 b hm
    cases hm
  | succ f ih =>
    intro x4 b hm hx1 hx2
    obtain ⟨r, hr, hm⟩ := lp_s hm
    refine x_mX4_isBusy_b3 hM n x1 x2 x3 x4 hr (fun v e => ?_) (fun v e => ?_) (fun v e => ?_)
    · subst e; exact ih v _ hm hx1 hx2
    · subst e; exact hx1 v hm.symm
    · subst e; exact hx2 v hm.symm
noncomputable def mX4_isBusy_b36 (n : Nat) (FI : OhI) (FR : OhQ) (AI : OhI) (AN : OhN) (x1 : Int32) (x2 : Int32) (x4 : Int32) : Option ((Int32) ⊕ ((Unit) ⊕ (Unit))) :=
  (if (FI 1 0 71) ≤ x4 then
  some (.inr (.inl ()))
else
  (mX4_isOn FR AI AN x4 x2).bind fun r6 =>
    (if r6 = 0 then
    some (.inl (x4 + (1 : Int32)))
  else
    (mX4_isIn_2 FR AI AN x1 x4).bind fun r8 =>
      (if r8 = 0 then
      some (.inl (x4 + (1 : Int32)))
    else
      some (.inr (.inr ())))))
theorem x_mX4_isBusy_b36 {G : OhG} {FI AI : OhI} {FL AL : OhL} {FR GR AR BR : OhQ} {AN : OhN} {C : OhC} {k : Nat × Nat} {Φ : OhP} {Ψ : OhX} (hM : ohShM FR AN) (n : Nat) (x1 : Int32) (x2 : Int32) (x4 : Int32) {r : (Int32) ⊕ ((Unit) ⊕ (Unit))} (hm : mX4_isBusy_b36 n FI FR AI AN x1 x2 x4 = some r) (hk : ∀ v : Int32, r = .inl v → oX G 2 iX4_isBusy 36 [(0, vR (some (1, 0))), (1, vI x1), (2, vI x2), (4, vI v)] [] (FI, FL, FR, GR, AI, AL, AR, BR, AN, C) k Φ Ψ) (hx1 : ∀ v : Unit, r = .inr (.inl v) → oX G 2 iX4_isBusy 73 [] [] (FI, FL, FR, GR, AI, AL, AR, BR, AN, C) k Φ Ψ) (hx2 : ∀ v : Unit, r = .inr (.inr v) → oX G 2 iX4_isBusy 65 [] [] (FI, FL, FR, GR, AI, AL, AR, BR, AN, C) k Φ Ψ) : oX G 2 iX4_isBusy 36 [(0, vR (some (1, 0))), (1, vI x1), (2, vI x2), (4, vI x4)] [] (FI, FL, FR, GR, AI, AL, AR, BR, AN, C) k Φ Ψ := by
  unfold mX4_isBusy_b36 at hm
  refine oX_iload dX4_isBusy_36 rfl ?_
  refine oX_aload_n dX4_isBusy_38 rfl rfl ?_
  refine oX_getI fX4_446 rfl oDs1 dX4_isBusy_39 ?_
  refine oX_icmp_ge (tgt := 73) dX4_isBusy_42 (by decide) (fun c5 => ?_) (fun c5 => ?_)
  · have hm := ifp c5 hm
    exact oX_sub [] rfl (hx1 () (Option.some.inj hm).symm)
  · have hm := ifn c5 hm
    refine oX_aload_n dX4_isBusy_45 rfl rfl ?_
    refine oX_iload dX4_isBusy_46 rfl ?_
    refine oX_iload_n dX4_isBusy_48 rfl rfl ?_
    obtain ⟨r6, g6, hm⟩ := bd_s hm
    refine oX_cV (as := [vI x4, vI x2]) dX4_isBusy_49 rfl oDs1 rfl (by decide) rfl ok_X4_isOn rfl rfl q2334 q2336 qs108 q136 q2337 (by decide) (Nat.le_of_ble_eq_true rfl) (t_X4_isOn hM x4 x2 g6) ?_
    refine oX_if_eq (tgt := 67) dX4_isBusy_52 (by decide) (fun c7 => ?_) (fun c7 => ?_)
    · have hm := ifp c7 hm
      refine oX_iinc (v := x4 + (1 : Int32)) (ls' := [(4, vI (x4 + (1 : Int32))), (0, vR (some (1, 0))), (1, vI x1), (2, vI x2)]) dX4_isBusy_67 rfl rfl (by decide) rfl ?_
      refine oX_goto (tgt := 36) dX4_isBusy_70 (by decide) ?_
      exact oX_sub [1, 2, 3, 0] rfl (hk (x4 + (1 : Int32)) (Option.some.inj hm).symm)
    · have hm := ifn c7 hm
      refine oX_aload_n dX4_isBusy_55 rfl rfl ?_
      refine oX_iload_n dX4_isBusy_56 rfl rfl ?_
      refine oX_iload dX4_isBusy_57 rfl ?_
      obtain ⟨r8, g8, hm⟩ := bd_s hm
      refine oX_cV (as := [vI x1, vI x4]) dX4_isBusy_59 rfl oDs1 rfl (by decide) rfl ok_X4_isIn_2 rfl rfl q2241 q2243 qs91 q136 q2244 (by decide) (Nat.le_of_ble_eq_true rfl) (t_X4_isIn_2 hM x1 x4 g8) ?_
      refine oX_if_eq (tgt := 67) dX4_isBusy_62 (by decide) (fun c9 => ?_) (fun c9 => ?_)
      · have hm := ifp c9 hm
        refine oX_iinc (v := x4 + (1 : Int32)) (ls' := [(4, vI (x4 + (1 : Int32))), (0, vR (some (1, 0))), (1, vI x1), (2, vI x2)]) dX4_isBusy_67 rfl rfl (by decide) rfl ?_
        refine oX_goto (tgt := 36) dX4_isBusy_70 (by decide) ?_
        exact oX_sub [1, 2, 3, 0] rfl (hk (x4 + (1 : Int32)) (Option.some.inj hm).symm)
      · have hm := ifn c9 hm
        exact oX_sub [] rfl (hx2 () (Option.some.inj hm).symm)
theorem l_mX4_isBusy_b36 {G : OhG} {FI : OhI} {FL : OhL} {FR : OhQ} {GR : OhQ} {AI : OhI} {AL : OhL} {AR : OhQ} {BR : OhQ} {AN : OhN} {C : OhC} {k : Nat × Nat} {Φ : OhP} {Ψ : OhX} (hM : ohShM FR AN) (n : Nat) (x1 : Int32) (x2 : Int32) : ∀ (f : Nat) (x4 : Int32) (b : ((Unit) ⊕ (Unit))), lpF (fun v => mX4_isBusy_b36 n FI FR AI AN x1 x2 v) f x4 = some b → (∀ v : Unit, b = (.inl v) → oX G 2 iX4_isBusy 73 [] [] (FI, FL, FR, GR, AI, AL, AR, BR, AN, C) k Φ Ψ) → (∀ v : Unit, b = (.inr v) → oX G 2 iX4_isBusy 65 [] [] (FI, FL, FR, GR, AI, AL, AR, BR, AN, C) k Φ Ψ) → oX G 2 iX4_isBusy 36 [(0, vR (some (1, 0))), (1, vI x1), (2, vI x2), (4, vI x4)] [] (FI, FL, FR, GR, AI, AL, AR, BR, AN, C) k Φ Ψ := by
  intro f
  induction f with
  | zero =>
    intro x4 b hm
    cases hm
  | succ f ih =>
    intro x4 b hm hx1 hx2
    obtain ⟨r, hr, hm⟩ := lp_s hm
    refine x_mX4_isBusy_b36 hM n x1 x2 x4 hr (fun v e => ?_) (fun v e => ?_) (fun v e => ?_)
    · subst e; exact ih v _ hm hx1 hx2
    · subst e; exact hx1 v hm.symm
    · subst e; exact hx2 v hm.symm
noncomputable def mX4_isBusy (n : Nat) (FI : OhI) (FR : OhQ) (AI : OhI) (AN : OhN) (x1 : Int32) (x2 : Int32) (x3 : Int32) : Option (Int32) :=
  (lpF (fun v => mX4_isBusy_b3 n FI FR AI AN x1 x2 x3 v) n (0 : Int32)).bind (Sum.elim (fun v4 => (lpF (fun v => mX4_isBusy_b36 n FI FR AI AN x1 x2 v) n (0 : Int32)).bind (Sum.elim (fun v10 => some (0 : Int32)) (fun v10 => some (1 : Int32)))) (fun v4 => some (1 : Int32)))
theorem x_mX4_isBusy {G : OhG} {FI AI : OhI} {FL AL : OhL} {FR GR AR BR : OhQ} {AN : OhN} {C : OhC} {k : Nat × Nat} {Φ : OhP} {Ψ : OhX} (hM : ohShM FR AN) (n : Nat) (x1 : Int32) (x2 : Int32) (x3 : Int32) {r : Int32} (hm : mX4_isBusy n FI FR AI AN x1 x2 x3 = some r) (hK : Φ (some (vI r)) (FI, FL, FR, GR, AI, AL, AR, BR, AN, C)) : oX G 2 iX4_isBusy 0 [(0, vR (some (1, 0))), (1, vI x1), (2, vI x2), (3, vI x3)] [] (FI, FL, FR, GR, AI, AL, AR, BR, AN, C) k Φ Ψ := by
  unfold mX4_isBusy at hm
  refine oX_iconst (v := (0 : Int32)) dX4_isBusy_0 (by decide) ?_
  refine oX_istore (ls' := [(4, vI (0 : Int32)), (0, vR (some (1, 0))), (1, vI x1), (2, vI x2), (3, vI x3)]) dX4_isBusy_1 (by decide) rfl ?_
  obtain ⟨b4, g4, hm⟩ := bd_s hm
  refine oX_sub [1, 2, 3, 4, 0] rfl (l_mX4_isBusy_b3 hM n x1 x2 x3 n (0 : Int32) _ g4 (fun v4 e4 => ?_) (fun v4 e4 => ?_))
  · subst e4
    have hm := el1 hm
    refine oX_iconst (v := (0 : Int32)) dX4_isBusy_33 (by decide) ?_
    refine oX_istore (ls' := [(4, vI (0 : Int32)), (0, vR (some (1, 0))), (1, vI x1), (2, vI x2)]) dX4_isBusy_34 (by decide) rfl ?_
    obtain ⟨b10, g10, hm⟩ := bd_s hm
    refine oX_sub [1, 2, 3, 0] rfl (l_mX4_isBusy_b36 hM n x1 x2 n (0 : Int32) _ g10 (fun v10 e10 => ?_) (fun v10 e10 => ?_))
    · subst e10
      have hm := el1 hm
      refine oX_iconst (v := (0 : Int32)) dX4_isBusy_73 (by decide) ?_
      obtain rfl := Option.some.inj hm
      exact oX_iret dX4_isBusy_74 rfl (by decide) hK
    · subst e10
      have hm := el2 hm
      refine oX_iconst (v := (1 : Int32)) dX4_isBusy_65 (by decide) ?_
      obtain rfl := Option.some.inj hm
      exact oX_iret dX4_isBusy_66 rfl (by decide) hK
  · subst e4
    have hm := el2 hm
    refine oX_iconst (v := (1 : Int32)) dX4_isBusy_25 (by decide) ?_
    obtain rfl := Option.some.inj hm
    exact oX_iret dX4_isBusy_26 rfl (by decide) hK
theorem t_X4_isBusy {G : OhG} {FI AI : OhI} {FL AL : OhL} {FR GR AR BR : OhQ} {AN : OhN} {C : OhC} (hM : ohShM FR AN) (n : Nat) (x1 : Int32) (x2 : Int32) (x3 : Int32) {o : Int32} (hm : mX4_isBusy n FI FR AI AN x1 x2 x3 = some o) : oT G 2 iX4_isBusy [vR (some (1, 0)), vI x1, vI x2, vI x3] (FI, FL, FR, GR, AI, AL, AR, BR, AN, C) (0, 0) (fun v h => v = (some (vI o)) ∧ h = (FI, FL, FR, GR, AI, AL, AR, BR, AN, C)) ohNo :=
  oT_of (by decide) rfl (Nat.le_of_ble_eq_true rfl) (x_mX4_isBusy hM n x1 x2 x3 hm ⟨rfl, rfl⟩)
abbrev iX4_lacksRest : OhM := (yX4_lacksRest, cX4_lacksRest, 5, (some .boolean), [])
theorem ok_X4_lacksRest : oOk iX4_lacksRest 2 := ⟨by decide, by decide, by decide +kernel⟩

noncomputable def mX4_lacksRest_b9 (n : Nat) (FR : OhQ) (AI : OhI) (AN : OhN) (x1 : Int32) (x2 : Int32) (x3 : Int32) : Option ((Int32) ⊕ ((Unit) ⊕ (Int32))) :=
  (if x3 < 0 then
  some (.inr (.inl ()))
else
  gd (vp_in x3 66) <|
    gd (vp_in (AI 175 0 x3.toNatClampNeg) 66) <|
    (if (AI 163 0 (AI 175 0 x3.toNatClampNeg).toNatClampNeg) < (2 : Int32) then
    some (.inl (x3 + (-1 : Int32)))
  else
    (mX4_isIn_2 FR AI AN x1 (AI 175 0 x3.toNatClampNeg)).bind fun r6 =>
      (if r6 = 0 then
      some (.inl (x3 + (-1 : Int32)))
    else
      some (.inr (.inr (AI 175 0 x3.toNatClampNeg))))))
theorem x_mX4_lacksRest_b9 {G : OhG} {FI AI : OhI} {FL AL : OhL} {FR GR AR BR : OhQ} {AN : OhN} {C : OhC} {k : Nat × Nat} {Φ : OhP} {Ψ : OhX} (hM : ohShM FR AN) (n : Nat) (x1 : Int32) (x2 : Int32) (x3 : Int32) {r : (Int32) ⊕ ((Unit) ⊕ (Int32))} (hm : mX4_lacksRest_b9 n FR AI AN x1 x2 x3 = some r) (hk : ∀ v : Int32, r = .inl v → oX G 2 iX4_lacksRest 9 [(0, vR (some (1, 0))), (1, vI x1), (2, vI x2), (3, vI v)] [] (FI, FL, FR, GR, AI, AL, AR, BR, AN, C) k Φ Ψ) (hx1 : ∀ v : Unit, r = .inr (.inl v) → oX G 2 iX4_lacksRest 97 [] [] (FI, FL, FR, GR, AI, AL, AR, BR, AN, C) k Φ Ψ) (hx2 : ∀ v : Int32, r = .inr (.inr v) → oX G 2 iX4_lacksRest 42 [(0, vR (some (1, 0))), (1, vI x1), (2, vI x2), (4, vI v)] [] (FI, FL, FR, GR, AI, AL, AR, BR, AN, C) k Φ Ψ) : oX G 2 iX4_lacksRest 9 [(0, vR (some (1, 0))), (1, vI x1), (2, vI x2), (3, vI x3)] [] (FI, FL, FR, GR, AI, AL, AR, BR, AN, C) k Φ Ψ := by
  unfold mX4_lacksRest_b9 at hm
  refine oX_iload_n dX4_lacksRest_9 rfl rfl ?_
  refine oX_if_lt (tgt := 97) dX4_lacksRest_10 (by decide) (fun c2 => ?_) (fun c2 => ?_)
  · have hm := ifp c2 hm
    exact oX_sub [] rfl (hx1 () (Option.some.inj hm).symm)
  · have hm := ifn c2 hm
    refine oX_aload_n dX4_lacksRest_13 rfl rfl ?_
    refine oX_getF fX4_166 rfl oDs1 dX4_lacksRest_14 (ohF175 hM) ?_
    refine oX_iload_n dX4_lacksRest_17 rfl rfl ?_
    obtain ⟨g3, hm⟩ := gd_s hm
    refine oX_iald oDs175 (oIn (ohN175 hM) g3) dX4_lacksRest_18 ?_
    refine oX_istore (ls' := [(4, vI (AI 175 0 x3.toNatClampNeg)), (0, vR (some (1, 0))), (1, vI x1), (2, vI x2), (3, vI x3)]) dX4_lacksRest_19 (by decide) rfl ?_
    refine oX_aload_n dX4_lacksRest_21 rfl rfl ?_
    refine oX_getF fX4_145 rfl oDs1 dX4_lacksRest_22 (ohF163 hM) ?_
    refine oX_iload dX4_lacksRest_25 rfl ?_
    obtain ⟨g4, hm⟩ := gd_s hm
    refine oX_iald oDs163 (oIn (ohN163 hM) g4) dX4_lacksRest_27 ?_
    refine oX_iconst (v := (2 : Int32)) dX4_lacksRest_28 (by decide) ?_
    refine oX_icmp_lt (tgt := 91) dX4_lacksRest_29 (by decide) (fun c5 => ?_) (fun c5 => ?_)
    · have hm := ifp c5 hm
      refine oX_iinc (v := x3 + (-1 : Int32)) (ls' := [(3, vI (x3 + (-1 : Int32))), (4, vI (AI 175 0 x3.toNatClampNeg)), (0, vR (some (1, 0))), (1, vI x1), (2, vI x2)]) dX4_lacksRest_91 rfl rfl (by decide) rfl ?_
      refine oX_goto (tgt := 9) dX4_lacksRest_94 (by decide) ?_
      exact oX_sub [2, 3, 4, 0] rfl (hk (x3 + (-1 : Int32)) (Option.some.inj hm).symm)
    · have hm := ifn c5 hm
      refine oX_aload_n dX4_lacksRest_32 rfl rfl ?_
      refine oX_iload_n dX4_lacksRest_33 rfl rfl ?_
      refine oX_iload dX4_lacksRest_34 rfl ?_
      obtain ⟨r6, g6, hm⟩ := bd_s hm
      refine oX_cV (as := [vI x1, vI (AI 175 0 x3.toNatClampNeg)]) dX4_lacksRest_36 rfl oDs1 rfl (by decide) rfl ok_X4_isIn_2 rfl rfl q2241 q2243 qs91 q136 q2244 (by decide) (Nat.le_of_ble_eq_true rfl) (t_X4_isIn_2 hM x1 (AI 175 0 x3.toNatClampNeg) g6) ?_
      refine oX_if_eq (tgt := 91) dX4_lacksRest_39 (by decide) (fun c7 => ?_) (fun c7 => ?_)
      · have hm := ifp c7 hm
        refine oX_iinc (v := x3 + (-1 : Int32)) (ls' := [(3, vI (x3 + (-1 : Int32))), (4, vI (AI 175 0 x3.toNatClampNeg)), (0, vR (some (1, 0))), (1, vI x1), (2, vI x2)]) dX4_lacksRest_91 rfl rfl (by decide) rfl ?_
        refine oX_goto (tgt := 9) dX4_lacksRest_94 (by decide) ?_
        exact oX_sub [2, 3, 4, 0] rfl (hk (x3 + (-1 : Int32)) (Option.some.inj hm).symm)
      · have hm := ifn c7 hm
        exact oX_sub [1, 2, 3, 0] rfl (hx2 (AI 175 0 x3.toNatClampNeg) (Option.some.inj hm).symm)
theorem l_mX4_lacksRest_b9 {G : OhG} {FI : OhI} {FL : OhL} {FR : OhQ} {GR : OhQ} {AI : OhI} {AL : OhL} {AR : OhQ} {BR : OhQ} {AN : OhN} {C : OhC} {k : Nat × Nat} {Φ : OhP} {Ψ : OhX} (hM : ohShM FR AN) (n : Nat) (x1 : Int32) (x2 : Int32) : ∀ (f : Nat) (x3 : Int32) (b : ((Unit) ⊕ (Int32))), lpF (fun v => mX4_lacksRest_b9 n FR AI AN x1 x2 v) f x3 = some b → (∀ v : Unit, b = (.inl v) → oX G 2 iX4_lacksRest 97 [] [] (FI, FL, FR, GR, AI, AL, AR, BR, AN, C) k Φ Ψ) → (∀ v : Int32, b = (.inr v) → oX G 2 iX4_lacksRest 42 [(0, vR (some (1, 0))), (1, vI x1), (2, vI x2), (4, vI v)] [] (FI, FL, FR, GR, AI, AL, AR, BR, AN, C) k Φ Ψ) → oX G 2 iX4_lacksRest 9 [(0, vR (some (1, 0))), (1, vI x1), (2, vI x2), (3, vI x3)] [] (FI, FL, FR, GR, AI, AL, AR, BR, AN, C) k Φ Ψ := by
  intro f
  induction f with
  | zero =>
    intro x3 b hm
    cases hm
  | succ f ih =>
    intro x3 b hm hx1 hx2
    obtain ⟨r, hr, hm⟩ := lp_s hm
    refine x_mX4_lacksRest_b9 hM n x1 x2 x3 hr (fun v e => ?_) (fun v e => ?_) (fun v e => ?_)
    · subst e; exact ih v _ hm hx1 hx2
    · subst e; exact hx1 v hm.symm
    · subst e; exact hx2 v hm.symm
noncomputable def mX4_lacksRest (n : Nat) (FR : OhQ) (AI : OhI) (AN : OhN) (x1 : Int32) (x2 : Int32) : Option (Int32) :=
  gd (vp_in x2 66) <|
  (lpF (fun v => mX4_lacksRest_b9 n FR AI AN x1 x2 v) n ((AI 176 0 x2.toNatClampNeg) - (1 : Int32))).bind (Sum.elim (fun v8 => some (0 : Int32)) (fun v8 => gd (vp_in v8 66) <|
  gd (vp_in x2 66) <|
  (if (AI 160 0 v8.toNatClampNeg) = (AI 160 0 x2.toNatClampNeg) then
  some (0 : Int32)
else
  gd (vp_in x2 66) <|
    gd (vp_in v8 66) <|
    gd (vp_in (((4 : Int32) * x1) + (0 : Int32)) 84) <|
    (if (AI 125 0 (((4 : Int32) * x1) + (0 : Int32)).toNatClampNeg) ≤ ((AI 161 0 x2.toNatClampNeg) - (AI 162 0 v8.toNatClampNeg)) then
    some (0 : Int32)
  else
    some (1 : Int32)))))
theorem x_mX4_lacksRest {G : OhG} {FI AI : OhI} {FL AL : OhL} {FR GR AR BR : OhQ} {AN : OhN} {C : OhC} {k : Nat × Nat} {Φ : OhP} {Ψ : OhX} (hM : ohShM FR AN) (n : Nat) (x1 : Int32) (x2 : Int32) {r : Int32} (hm : mX4_lacksRest n FR AI AN x1 x2 = some r) (hK : Φ (some (vI r)) (FI, FL, FR, GR, AI, AL, AR, BR, AN, C)) : oX G 2 iX4_lacksRest 0 [(0, vR (some (1, 0))), (1, vI x1), (2, vI x2)] [] (FI, FL, FR, GR, AI, AL, AR, BR, AN, C) k Φ Ψ := by
  unfold mX4_lacksRest at hm
  refine oX_aload_n dX4_lacksRest_0 rfl rfl ?_
  refine oX_getF fX4_169 rfl oDs1 dX4_lacksRest_1 (ohF176 hM) ?_
  refine oX_iload_n dX4_lacksRest_4 rfl rfl ?_
  obtain ⟨g1, hm⟩ := gd_s hm
  refine oX_iald oDs176 (oIn (ohN176 hM) g1) dX4_lacksRest_5 ?_
  refine oX_iconst (v := (1 : Int32)) dX4_lacksRest_6 (by decide) ?_
  refine oX_isub dX4_lacksRest_7 ?_
  refine oX_istore_n (ls' := [(3, vI ((AI 176 0 x2.toNatClampNeg) - (1 : Int32))), (0, vR (some (1, 0))), (1, vI x1), (2, vI x2)]) dX4_lacksRest_8 rfl (by decide) rfl ?_
  obtain ⟨b8, g8, hm⟩ := bd_s hm
  refine oX_sub [1, 2, 3, 0] rfl (l_mX4_lacksRest_b9 hM n x1 x2 n ((AI 176 0 x2.toNatClampNeg) - (1 : Int32)) _ g8 (fun v8 e8 => ?_) (fun v8 e8 => ?_))
  · subst e8
    have hm := el1 hm
    refine oX_iconst (v := (0 : Int32)) dX4_lacksRest_97 (by decide) ?_
    obtain rfl := Option.some.inj hm
    exact oX_iret dX4_lacksRest_98 rfl (by decide) hK
  · subst e8
    have hm := el2 hm
    refine oX_aload_n dX4_lacksRest_42 rfl rfl ?_
    refine oX_getF fX4_136 rfl oDs1 dX4_lacksRest_43 (ohF160 hM) ?_
    refine oX_iload dX4_lacksRest_46 rfl ?_
    obtain ⟨g9, hm⟩ := gd_s hm
    refine oX_iald oDs160 (oIn (ohN160 hM) g9) dX4_lacksRest_48 ?_
    refine oX_aload_n dX4_lacksRest_49 rfl rfl ?_
    refine oX_getF fX4_136 rfl oDs1 dX4_lacksRest_50 (ohF160 hM) ?_
    refine oX_iload_n dX4_lacksRest_53 rfl rfl ?_
    obtain ⟨g10, hm⟩ := gd_s hm
    refine oX_iald oDs160 (oIn (ohN160 hM) g10) dX4_lacksRest_54 ?_
    refine oX_icmp_eq (tgt := 89) dX4_lacksRest_55 (by decide) (fun c11 => ?_) (fun c11 => ?_)
    · have hm := ifp c11 hm
      refine oX_iconst (v := (0 : Int32)) dX4_lacksRest_89 (by decide) ?_
      obtain rfl := Option.some.inj hm
      exact oX_iret dX4_lacksRest_90 rfl (by decide) hK
    · have hm := ifn c11 hm
      refine oX_aload_n dX4_lacksRest_58 rfl rfl ?_
      refine oX_getF fX4_139 rfl oDs1 dX4_lacksRest_59 (ohF161 hM) ?_
      refine oX_iload_n dX4_lacksRest_62 rfl rfl ?_
      obtain ⟨g12, hm⟩ := gd_s hm
      refine oX_iald oDs161 (oIn (ohN161 hM) g12) dX4_lacksRest_63 ?_
      refine oX_aload_n dX4_lacksRest_64 rfl rfl ?_
      refine oX_getF fX4_142 rfl oDs1 dX4_lacksRest_65 (ohF162 hM) ?_
      refine oX_iload dX4_lacksRest_68 rfl ?_
      obtain ⟨g13, hm⟩ := gd_s hm
      refine oX_iald oDs162 (oIn (ohN162 hM) g13) dX4_lacksRest_70 ?_
      refine oX_isub dX4_lacksRest_71 ?_
      refine oX_aload_n dX4_lacksRest_72 rfl rfl ?_
      refine oX_getF fX4_64 rfl oDs1 dX4_lacksRest_73 (ohF125 hM) ?_
      refine oX_iconst (v := (4 : Int32)) dX4_lacksRest_76 (by decide) ?_
      refine oX_iload_n dX4_lacksRest_77 rfl rfl ?_
      refine oX_imul dX4_lacksRest_78 ?_
      refine oX_iconst (v := (0 : Int32)) dX4_lacksRest_79 (by decide) ?_
      refine oX_iadd dX4_lacksRest_80 ?_
      obtain ⟨g14, hm⟩ := gd_s hm
      refine oX_iald oDs125 (oIn (ohN125 hM) g14) dX4_lacksRest_81 ?_
      refine oX_icmp_ge (tgt := 89) dX4_lacksRest_82 (by decide) (fun c15 => ?_) (fun c15 => ?_)
      · have hm := ifp c15 hm
        refine oX_iconst (v := (0 : Int32)) dX4_lacksRest_89 (by decide) ?_
        obtain rfl := Option.some.inj hm
        exact oX_iret dX4_lacksRest_90 rfl (by decide) hK
      · have hm := ifn c15 hm
        refine oX_iconst (v := (1 : Int32)) dX4_lacksRest_85 (by decide) ?_
        refine oX_goto (tgt := 90) dX4_lacksRest_86 (by decide) ?_
        obtain rfl := Option.some.inj hm
        exact oX_iret dX4_lacksRest_90 rfl (by decide) hK
theorem t_X4_lacksRest {G : OhG} {FI AI : OhI} {FL AL : OhL} {FR GR AR BR : OhQ} {AN : OhN} {C : OhC} (hM : ohShM FR AN) (n : Nat) (x1 : Int32) (x2 : Int32) {o : Int32} (hm : mX4_lacksRest n FR AI AN x1 x2 = some o) : oT G 2 iX4_lacksRest [vR (some (1, 0)), vI x1, vI x2] (FI, FL, FR, GR, AI, AL, AR, BR, AN, C) (0, 0) (fun v h => v = (some (vI o)) ∧ h = (FI, FL, FR, GR, AI, AL, AR, BR, AN, C)) ohNo :=
  oT_of (by decide) rfl (Nat.le_of_ble_eq_true rfl) (x_mX4_lacksRest hM n x1 x2 hm ⟨rfl, rfl⟩)
abbrev iX4_isWrong : OhM := (yX4_isWrong, cX4_isWrong, 5, (some .boolean), [])
theorem ok_X4_isWrong : oOk iX4_isWrong 4 := ⟨by decide, by decide, by decide +kernel⟩

noncomputable def mX4_isWrong (n : Nat) (FI : OhI) (FR : OhQ) (AI : OhI) (AN : OhN) (x1 : Int32) (x2 : Int32) (x3 : Int32) (x4 : Int32) : Option (Int32) :=
  (if x1 = (8 : Int32) then
  gd (vp_in x3 66) <|
    (mX4_suits FR AI AN x2 (AI 164 0 x3.toNatClampNeg) x4).bind fun r3 =>
    (if r3 = 0 then
    some (1 : Int32)
  else
    some (0 : Int32))
else
if x1 = (9 : Int32) then
  gd (vp_in x3 66) <|
    (if (AI 163 0 x3.toNatClampNeg) = (3 : Int32) then
    (mX4_learnedOf n FI FR AI AN x2 x3 x4).bind fun r8 =>
      gd (vp_in x3 66) <|
      gd (vp_in (AI 164 0 x3.toNatClampNeg) 9) <|
      (if (AI 109 0 (AI 164 0 x3.toNatClampNeg).toNatClampNeg) ≤ r8 then
      some (0 : Int32)
    else
      some (1 : Int32))
  else
    some (0 : Int32))
else
if x1 = (10 : Int32) then
  gd (vp_in x3 66) <|
    (mX4_isAway n FR AI AN x2 (AI 160 0 x3.toNatClampNeg)).bind fun r14 =>
    (if r14 = 0 then
    gd (vp_in x3 66) <|
      (mX4_isIll n FI FR AI AN x2 (AI 160 0 x3.toNatClampNeg)).bind fun r17 =>
      (if r17 = 0 then
      some (0 : Int32)
    else
      some (1 : Int32))
  else
    some (1 : Int32))
else
if x1 = (11 : Int32) then
  (mX4_isBusy n FI FR AI AN x2 x3 x4).bind fun r20 =>
    gd (r20 = 0 ∨ r20 = 1) <|
    some r20
else
if x1 = (12 : Int32) then
  (mX4_lacksRest n FR AI AN x2 x3).bind fun r23 =>
    gd (r23 = 0 ∨ r23 = 1) <|
    some r23
else
if x1 = (13 : Int32) then
  (mX4_dayHours n FR AI AN x2 x3).bind fun r26 =>
    gd (vp_in (((4 : Int32) * x2) + (1 : Int32)) 84) <|
    (if r26 ≤ ((AI 125 0 (((4 : Int32) * x2) + (1 : Int32)).toNatClampNeg) + (4 : Int32)) then
    some (0 : Int32)
  else
    some (1 : Int32))
else
if x1 = (14 : Int32) then
  gd (vp_in x3 66) <|
    (if (AI 163 0 x3.toNatClampNeg) = (3 : Int32) then
    (mX4_nights n FR AI AN x2 x3 (7 : Int32)).bind fun r32 =>
      gd (vp_in (((4 : Int32) * x2) + (2 : Int32)) 84) <|
      (if r32 ≤ (AI 125 0 (((4 : Int32) * x2) + (2 : Int32)).toNatClampNeg) then
      some (0 : Int32)
    else
      some (1 : Int32))
  else
    some (0 : Int32))
else
  (mX4_tiredOf n FR AI AN x2 x3).bind fun r35 =>
    gd (vp_in (((4 : Int32) * x2) + (3 : Int32)) 84) <|
    (if r35 ≤ (AI 125 0 (((4 : Int32) * x2) + (3 : Int32)).toNatClampNeg) then
    some (0 : Int32)
  else
    some (1 : Int32)))
theorem x_mX4_isWrong {G : OhG} {FI AI : OhI} {FL AL : OhL} {FR GR AR BR : OhQ} {AN : OhN} {C : OhC} {k : Nat × Nat} {Φ : OhP} {Ψ : OhX} (hM : ohShM FR AN) (n : Nat) (x1 : Int32) (x2 : Int32) (x3 : Int32) (x4 : Int32) {r : Int32} (hm : mX4_isWrong n FI FR AI AN x1 x2 x3 x4 = some r) (hK : Φ (some (vI r)) (FI, FL, FR, GR, AI, AL, AR, BR, AN, C)) : oX G 3 iX4_isWrong 0 [(0, vR (some (1, 0))), (1, vI x1), (2, vI x2), (3, vI x3), (4, vI x4)] [] (FI, FL, FR, GR, AI, AL, AR, BR, AN, C) k Φ Ψ := by
  unfold mX4_isWrong at hm
  refine oX_iload_n dX4_isWrong_0 rfl rfl ?_
  by_cases c1 : x1 = (8 : Int32)
  · have hm := ifp c1 hm
    refine oX_tin (tgt := 44) dX4_isWrong_1 c1 (by decide) (by decide) rfl (by decide) ?_
    refine oX_aload_n dX4_isWrong_44 rfl rfl ?_
    refine oX_iload_n dX4_isWrong_45 rfl rfl ?_
    refine oX_aload_n dX4_isWrong_46 rfl rfl ?_
    refine oX_getF fX4_148 rfl oDs1 dX4_isWrong_47 (ohF164 hM) ?_
    refine oX_iload_n dX4_isWrong_50 rfl rfl ?_
    obtain ⟨g2, hm⟩ := gd_s hm
    refine oX_iald oDs164 (oIn (ohN164 hM) g2) dX4_isWrong_51 ?_
    refine oX_iload dX4_isWrong_52 rfl ?_
    obtain ⟨r3, g3, hm⟩ := bd_s hm
    refine oX_cV (as := [vI x2, vI (AI 164 0 x3.toNatClampNeg), vI x4]) dX4_isWrong_54 rfl oDs1 rfl (by decide) rfl ok_X4_suits rfl rfl q2367 q2369 qs116 q136 q2370 (by decide) (Nat.le_of_ble_eq_true rfl) (t_X4_suits hM x2 (AI 164 0 x3.toNatClampNeg) x4 g3) ?_
    refine oX_if_ne (tgt := 64) dX4_isWrong_57 (by decide) (fun c4 => ?_) (fun c4 => ?_)
    · have hm := ifp c4 hm
      refine oX_iconst (v := (1 : Int32)) dX4_isWrong_60 (by decide) ?_
      refine oX_goto (tgt := 65) dX4_isWrong_61 (by decide) ?_
      obtain rfl := Option.some.inj hm
      exact oX_iret dX4_isWrong_65 rfl (by decide) hK
    · have hm := ifn c4 hm
      refine oX_iconst (v := (0 : Int32)) dX4_isWrong_64 (by decide) ?_
      obtain rfl := Option.some.inj hm
      exact oX_iret dX4_isWrong_65 rfl (by decide) hK
  have hm := ifn c1 hm
  by_cases c5 : x1 = (9 : Int32)
  · have hm := ifp c5 hm
    refine oX_tin (tgt := 66) dX4_isWrong_1 c5 (by decide) (by decide) rfl (by decide) ?_
    refine oX_aload_n dX4_isWrong_66 rfl rfl ?_
    refine oX_getF fX4_145 rfl oDs1 dX4_isWrong_67 (ohF163 hM) ?_
    refine oX_iload_n dX4_isWrong_70 rfl rfl ?_
    obtain ⟨g6, hm⟩ := gd_s hm
    refine oX_iald oDs163 (oIn (ohN163 hM) g6) dX4_isWrong_71 ?_
    refine oX_iconst (v := (3 : Int32)) dX4_isWrong_72 (by decide) ?_
    refine oX_icmp_ne (tgt := 102) dX4_isWrong_73 (by decide) (fun c7 => ?_) (fun c7 => ?_)
    · have hm := ifp c7 hm
      refine oX_aload_n dX4_isWrong_76 rfl rfl ?_
      refine oX_iload_n dX4_isWrong_77 rfl rfl ?_
      refine oX_iload_n dX4_isWrong_78 rfl rfl ?_
      refine oX_iload dX4_isWrong_79 rfl ?_
      obtain ⟨r8, g8, hm⟩ := bd_s hm
      refine oX_cV (as := [vI x2, vI x3, vI x4]) dX4_isWrong_81 rfl oDs1 rfl (by decide) rfl ok_X4_learnedOf rfl rfl q2225 q2227 qs88 q136 q2228 (by decide) (Nat.le_of_ble_eq_true rfl) (t_X4_learnedOf hM n x2 x3 x4 g8) ?_
      refine oX_aload_n dX4_isWrong_84 rfl rfl ?_
      refine oX_getF fX4_20 rfl oDs1 dX4_isWrong_85 (ohF109 hM) ?_
      refine oX_aload_n dX4_isWrong_88 rfl rfl ?_
      refine oX_getF fX4_148 rfl oDs1 dX4_isWrong_89 (ohF164 hM) ?_
      refine oX_iload_n dX4_isWrong_92 rfl rfl ?_
      obtain ⟨g9, hm⟩ := gd_s hm
      refine oX_iald oDs164 (oIn (ohN164 hM) g9) dX4_isWrong_93 ?_
      obtain ⟨g10, hm⟩ := gd_s hm
      refine oX_iald oDs109 (oIn (ohN109 hM) g10) dX4_isWrong_94 ?_
      refine oX_icmp_ge (tgt := 102) dX4_isWrong_95 (by decide) (fun c11 => ?_) (fun c11 => ?_)
      · have hm := ifp c11 hm
        refine oX_iconst (v := (0 : Int32)) dX4_isWrong_102 (by decide) ?_
        obtain rfl := Option.some.inj hm
        exact oX_iret dX4_isWrong_103 rfl (by decide) hK
      · have hm := ifn c11 hm
        refine oX_iconst (v := (1 : Int32)) dX4_isWrong_98 (by decide) ?_
        refine oX_goto (tgt := 103) dX4_isWrong_99 (by decide) ?_
        obtain rfl := Option.some.inj hm
        exact oX_iret dX4_isWrong_103 rfl (by decide) hK
    · have hm := ifn c7 hm
      refine oX_iconst (v := (0 : Int32)) dX4_isWrong_102 (by decide) ?_
      obtain rfl := Option.some.inj hm
      exact oX_iret dX4_isWrong_103 rfl (by decide) hK
  have hm := ifn c5 hm
  by_cases c12 : x1 = (10 : Int32)
  · have hm := ifp c12 hm
    refine oX_tin (tgt := 104) dX4_isWrong_1 c12 (by decide) (by decide) rfl (by decide) ?_
    refine oX_aload_n dX4_isWrong_104 rfl rfl ?_
    refine oX_iload_n dX4_isWrong_105 rfl rfl ?_
    refine oX_aload_n dX4_isWrong_106 rfl rfl ?_
    refine oX_getF fX4_136 rfl oDs1 dX4_isWrong_107 (ohF160 hM) ?_
    refine oX_iload_n dX4_isWrong_110 rfl rfl ?_
    obtain ⟨g13, hm⟩ := gd_s hm
    refine oX_iald oDs160 (oIn (ohN160 hM) g13) dX4_isWrong_111 ?_
    obtain ⟨r14, g14, hm⟩ := bd_s hm
    refine oX_cV (as := [vI x2, vI (AI 160 0 x3.toNatClampNeg)]) dX4_isWrong_112 rfl oDs1 rfl (by decide) rfl ok_X4_isAway rfl rfl q2374 q2376 qs117 q136 q2377 (by decide) (Nat.le_of_ble_eq_true rfl) (t_X4_isAway hM n x2 (AI 160 0 x3.toNatClampNeg) g14) ?_
    refine oX_if_ne (tgt := 132) dX4_isWrong_115 (by decide) (fun c15 => ?_) (fun c15 => ?_)
    · have hm := ifp c15 hm
      refine oX_aload_n dX4_isWrong_118 rfl rfl ?_
      refine oX_iload_n dX4_isWrong_119 rfl rfl ?_
      refine oX_aload_n dX4_isWrong_120 rfl rfl ?_
      refine oX_getF fX4_136 rfl oDs1 dX4_isWrong_121 (ohF160 hM) ?_
      refine oX_iload_n dX4_isWrong_124 rfl rfl ?_
      obtain ⟨g16, hm⟩ := gd_s hm
      refine oX_iald oDs160 (oIn (ohN160 hM) g16) dX4_isWrong_125 ?_
      obtain ⟨r17, g17, hm⟩ := bd_s hm
      refine oX_cV (as := [vI x2, vI (AI 160 0 x3.toNatClampNeg)]) dX4_isWrong_126 rfl oDs1 rfl (by decide) rfl ok_X4_isIll rfl rfl q2257 q2259 qs94 q136 q2260 (by decide) (Nat.le_of_ble_eq_true rfl) (t_X4_isIll hM n x2 (AI 160 0 x3.toNatClampNeg) g17) ?_
      refine oX_if_eq (tgt := 136) dX4_isWrong_129 (by decide) (fun c18 => ?_) (fun c18 => ?_)
      · have hm := ifp c18 hm
        refine oX_iconst (v := (0 : Int32)) dX4_isWrong_136 (by decide) ?_
        obtain rfl := Option.some.inj hm
        exact oX_iret dX4_isWrong_137 rfl (by decide) hK
      · have hm := ifn c18 hm
        refine oX_iconst (v := (1 : Int32)) dX4_isWrong_132 (by decide) ?_
        refine oX_goto (tgt := 137) dX4_isWrong_133 (by decide) ?_
        obtain rfl := Option.some.inj hm
        exact oX_iret dX4_isWrong_137 rfl (by decide) hK
    · have hm := ifn c15 hm
      refine oX_iconst (v := (1 : Int32)) dX4_isWrong_132 (by decide) ?_
      refine oX_goto (tgt := 137) dX4_isWrong_133 (by decide) ?_
      obtain rfl := Option.some.inj hm
      exact oX_iret dX4_isWrong_137 rfl (by decide) hK
  have hm := ifn c12 hm
  by_cases c19 : x1 = (11 : Int32)
  · have hm := ifp c19 hm
    refine oX_tin (tgt := 138) dX4_isWrong_1 c19 (by decide) (by decide) rfl (by decide) ?_
    refine oX_aload_n dX4_isWrong_138 rfl rfl ?_
    refine oX_iload_n dX4_isWrong_139 rfl rfl ?_
    refine oX_iload_n dX4_isWrong_140 rfl rfl ?_
    refine oX_iload dX4_isWrong_141 rfl ?_
    obtain ⟨r20, g20, hm⟩ := bd_s hm
    refine oX_cV (as := [vI x2, vI x3, vI x4]) dX4_isWrong_143 rfl oDs1 rfl (by decide) rfl ok_X4_isBusy rfl rfl q2378 q2380 qs118 q136 q2381 (by decide) (Nat.le_of_ble_eq_true rfl) (t_X4_isBusy hM n x2 x3 x4 g20) ?_
    obtain ⟨g21, hm⟩ := gd_s hm
    obtain rfl := Option.some.inj hm
    exact oX_iret dX4_isWrong_146 rfl (oNz g21) hK
  have hm := ifn c19 hm
  by_cases c22 : x1 = (12 : Int32)
  · have hm := ifp c22 hm
    refine oX_tin (tgt := 147) dX4_isWrong_1 c22 (by decide) (by decide) rfl (by decide) ?_
    refine oX_aload_n dX4_isWrong_147 rfl rfl ?_
    refine oX_iload_n dX4_isWrong_148 rfl rfl ?_
    refine oX_iload_n dX4_isWrong_149 rfl rfl ?_
    obtain ⟨r23, g23, hm⟩ := bd_s hm
    refine oX_cV (as := [vI x2, vI x3]) dX4_isWrong_150 rfl oDs1 rfl (by decide) rfl ok_X4_lacksRest rfl rfl q2382 q2384 qs119 q136 q2385 (by decide) (Nat.le_of_ble_eq_true rfl) (t_X4_lacksRest hM n x2 x3 g23) ?_
    obtain ⟨g24, hm⟩ := gd_s hm
    obtain rfl := Option.some.inj hm
    exact oX_iret dX4_isWrong_153 rfl (oNz g24) hK
  have hm := ifn c22 hm
  by_cases c25 : x1 = (13 : Int32)
  · have hm := ifp c25 hm
    refine oX_tin (tgt := 154) dX4_isWrong_1 c25 (by decide) (by decide) rfl (by decide) ?_
    refine oX_aload_n dX4_isWrong_154 rfl rfl ?_
    refine oX_iload_n dX4_isWrong_155 rfl rfl ?_
    refine oX_iload_n dX4_isWrong_156 rfl rfl ?_
    obtain ⟨r26, g26, hm⟩ := bd_s hm
    refine oX_cV (as := [vI x2, vI x3]) dX4_isWrong_157 rfl oDs1 rfl (by decide) rfl ok_X4_dayHours rfl rfl q2281 q2283 qs100 q136 q2284 (by decide) (Nat.le_of_ble_eq_true rfl) (t_X4_dayHours hM n x2 x3 g26) ?_
    refine oX_aload_n dX4_isWrong_160 rfl rfl ?_
    refine oX_getF fX4_64 rfl oDs1 dX4_isWrong_161 (ohF125 hM) ?_
    refine oX_iconst (v := (4 : Int32)) dX4_isWrong_164 (by decide) ?_
    refine oX_iload_n dX4_isWrong_165 rfl rfl ?_
    refine oX_imul dX4_isWrong_166 ?_
    refine oX_iconst (v := (1 : Int32)) dX4_isWrong_167 (by decide) ?_
    refine oX_iadd dX4_isWrong_168 ?_
    obtain ⟨g27, hm⟩ := gd_s hm
    refine oX_iald oDs125 (oIn (ohN125 hM) g27) dX4_isWrong_169 ?_
    refine oX_iconst (v := (4 : Int32)) dX4_isWrong_170 (by decide) ?_
    refine oX_iadd dX4_isWrong_171 ?_
    refine oX_icmp_le (tgt := 179) dX4_isWrong_172 (by decide) (fun c28 => ?_) (fun c28 => ?_)
    · have hm := ifp c28 hm
      refine oX_iconst (v := (0 : Int32)) dX4_isWrong_179 (by decide) ?_
      obtain rfl := Option.some.inj hm
      exact oX_iret dX4_isWrong_180 rfl (by decide) hK
    · have hm := ifn c28 hm
      refine oX_iconst (v := (1 : Int32)) dX4_isWrong_175 (by decide) ?_
      refine oX_goto (tgt := 180) dX4_isWrong_176 (by decide) ?_
      obtain rfl := Option.some.inj hm
      exact oX_iret dX4_isWrong_180 rfl (by decide) hK
  have hm := ifn c25 hm
  by_cases c29 : x1 = (14 : Int32)
  · have hm := ifp c29 hm
    refine oX_tin (tgt := 181) dX4_isWrong_1 c29 (by decide) (by decide) rfl (by decide) ?_
    refine oX_aload_n dX4_isWrong_181 rfl rfl ?_
    refine oX_getF fX4_145 rfl oDs1 dX4_isWrong_182 (ohF163 hM) ?_
    refine oX_iload_n dX4_isWrong_185 rfl rfl ?_
    obtain ⟨g30, hm⟩ := gd_s hm
    refine oX_iald oDs163 (oIn (ohN163 hM) g30) dX4_isWrong_186 ?_
    refine oX_iconst (v := (3 : Int32)) dX4_isWrong_187 (by decide) ?_
    refine oX_icmp_ne (tgt := 216) dX4_isWrong_188 (by decide) (fun c31 => ?_) (fun c31 => ?_)
    · have hm := ifp c31 hm
      refine oX_aload_n dX4_isWrong_191 rfl rfl ?_
      refine oX_iload_n dX4_isWrong_192 rfl rfl ?_
      refine oX_iload_n dX4_isWrong_193 rfl rfl ?_
      refine oX_bipush (v := (7 : Int32)) dX4_isWrong_194 (by decide) ?_
      obtain ⟨r32, g32, hm⟩ := bd_s hm
      refine oX_cV (as := [vI x2, vI x3, vI (7 : Int32)]) dX4_isWrong_196 rfl oDs1 rfl (by decide) rfl ok_X4_nights rfl rfl q2277 q2279 qs99 q136 q2280 (by decide) (Nat.le_of_ble_eq_true rfl) (t_X4_nights hM n x2 x3 (7 : Int32) g32) ?_
      refine oX_aload_n dX4_isWrong_199 rfl rfl ?_
      refine oX_getF fX4_64 rfl oDs1 dX4_isWrong_200 (ohF125 hM) ?_
      refine oX_iconst (v := (4 : Int32)) dX4_isWrong_203 (by decide) ?_
      refine oX_iload_n dX4_isWrong_204 rfl rfl ?_
      refine oX_imul dX4_isWrong_205 ?_
      refine oX_iconst (v := (2 : Int32)) dX4_isWrong_206 (by decide) ?_
      refine oX_iadd dX4_isWrong_207 ?_
      obtain ⟨g33, hm⟩ := gd_s hm
      refine oX_iald oDs125 (oIn (ohN125 hM) g33) dX4_isWrong_208 ?_
      refine oX_icmp_le (tgt := 216) dX4_isWrong_209 (by decide) (fun c34 => ?_) (fun c34 => ?_)
      · have hm := ifp c34 hm
        refine oX_iconst (v := (0 : Int32)) dX4_isWrong_216 (by decide) ?_
        obtain rfl := Option.some.inj hm
        exact oX_iret dX4_isWrong_217 rfl (by decide) hK
      · have hm := ifn c34 hm
        refine oX_iconst (v := (1 : Int32)) dX4_isWrong_212 (by decide) ?_
        refine oX_goto (tgt := 217) dX4_isWrong_213 (by decide) ?_
        obtain rfl := Option.some.inj hm
        exact oX_iret dX4_isWrong_217 rfl (by decide) hK
    · have hm := ifn c31 hm
      refine oX_iconst (v := (0 : Int32)) dX4_isWrong_216 (by decide) ?_
      obtain rfl := Option.some.inj hm
      exact oX_iret dX4_isWrong_217 rfl (by decide) hK
  have hm := ifn c29 hm
  refine oX_tout (tgt := 218) 7 (l := [(8 : Int32), (9 : Int32), (10 : Int32), (11 : Int32), (12 : Int32), (13 : Int32), (14 : Int32)]) dX4_isWrong_1 (by decide) (fun c hc => by simp only [List.mem_cons, List.not_mem_nil, or_false] at hc; rcases hc with rfl | rfl | rfl | rfl | rfl | rfl | rfl <;> assumption) (by decide) (by decide) ?_
  refine oX_aload_n dX4_isWrong_218 rfl rfl ?_
  refine oX_iload_n dX4_isWrong_219 rfl rfl ?_
  refine oX_iload_n dX4_isWrong_220 rfl rfl ?_
  obtain ⟨r35, g35, hm⟩ := bd_s hm
  refine oX_cV (as := [vI x2, vI x3]) dX4_isWrong_221 rfl oDs1 rfl (by decide) rfl ok_X4_tiredOf rfl rfl q2237 q2239 qs90 q136 q2240 (by decide) (Nat.le_of_ble_eq_true rfl) (t_X4_tiredOf hM n x2 x3 g35) ?_
  refine oX_aload_n dX4_isWrong_224 rfl rfl ?_
  refine oX_getF fX4_64 rfl oDs1 dX4_isWrong_225 (ohF125 hM) ?_
  refine oX_iconst (v := (4 : Int32)) dX4_isWrong_228 (by decide) ?_
  refine oX_iload_n dX4_isWrong_229 rfl rfl ?_
  refine oX_imul dX4_isWrong_230 ?_
  refine oX_iconst (v := (3 : Int32)) dX4_isWrong_231 (by decide) ?_
  refine oX_iadd dX4_isWrong_232 ?_
  obtain ⟨g36, hm⟩ := gd_s hm
  refine oX_iald oDs125 (oIn (ohN125 hM) g36) dX4_isWrong_233 ?_
  refine oX_icmp_le (tgt := 241) dX4_isWrong_234 (by decide) (fun c37 => ?_) (fun c37 => ?_)
  · have hm := ifp c37 hm
    refine oX_iconst (v := (0 : Int32)) dX4_isWrong_241 (by decide) ?_
    obtain rfl := Option.some.inj hm
    exact oX_iret dX4_isWrong_242 rfl (by decide) hK
  · have hm := ifn c37 hm
    refine oX_iconst (v := (1 : Int32)) dX4_isWrong_237 (by decide) ?_
    refine oX_goto (tgt := 242) dX4_isWrong_238 (by decide) ?_
    obtain rfl := Option.some.inj hm
    exact oX_iret dX4_isWrong_242 rfl (by decide) hK
theorem t_X4_isWrong {G : OhG} {FI AI : OhI} {FL AL : OhL} {FR GR AR BR : OhQ} {AN : OhN} {C : OhC} (hM : ohShM FR AN) (n : Nat) (x1 : Int32) (x2 : Int32) (x3 : Int32) (x4 : Int32) {o : Int32} (hm : mX4_isWrong n FI FR AI AN x1 x2 x3 x4 = some o) : oT G 3 iX4_isWrong [vR (some (1, 0)), vI x1, vI x2, vI x3, vI x4] (FI, FL, FR, GR, AI, AL, AR, BR, AN, C) (0, 0) (fun v h => v = (some (vI o)) ∧ h = (FI, FL, FR, GR, AI, AL, AR, BR, AN, C)) ohNo :=
  oT_of (by decide) rfl (Nat.le_of_ble_eq_true rfl) (x_mX4_isWrong hM n x1 x2 x3 x4 hm ⟨rfl, rfl⟩)
abbrev iX4_judge : OhM := (yX4_judge, cX4_judge, 6, none, [])
theorem ok_X4_judge : oOk iX4_judge 0 := ⟨by decide, by decide, by decide +kernel⟩

noncomputable def mX4_judge_b28 (n : Nat) (FI : OhI) (FR : OhQ) (AI : OhI) (AN : OhN) (x1 : Int32) (x2 : Int32) (x3 : Int32) : Option ((Int32 × OhI × OhI) ⊕ (OhI × OhI)) :=
  (if (6 : Int32) < x3 then
  some (.inr (FI, AI))
else
  (mX4_isCallWrong n FI FR AI AN x3 x2).bind fun r6 =>
    (if r6 = 0 then
    some (.inl (x3 + (1 : Int32), FI, AI))
  else
    (mX4_note FI FR AI AN x3 x2 (-1 : Int32)).bind fun r8 =>
      some (.inl (x3 + (1 : Int32), r8.1, r8.2))))
theorem x_mX4_judge_b28 {G : OhG} {FI AI : OhI} {FL AL : OhL} {FR GR AR BR : OhQ} {AN : OhN} {C : OhC} {k : Nat × Nat} {Φ : OhP} {Ψ : OhX} (hM : ohShM FR AN) (n : Nat) (x1 : Int32) (x2 : Int32) (x3 : Int32) {r : (Int32 × OhI × OhI) ⊕ (OhI × OhI)} (hm : mX4_judge_b28 n FI FR AI AN x1 x2 x3 = some r) (hk : ∀ v : Int32 × OhI × OhI, r = .inl v → oX G 5 iX4_judge 28 [(0, vR (some (1, 0))), (1, vI x1), (2, vI x2), (3, vI v.1)] [] (v.2.1, FL, FR, GR, v.2.2, AL, AR, BR, AN, C) k Φ Ψ) (hx1 : ∀ v : OhI × OhI, r = .inr v → oX G 5 iX4_judge 56 [(0, vR (some (1, 0))), (1, vI x1), (2, vI x2)] [] (v.1, FL, FR, GR, v.2, AL, AR, BR, AN, C) k Φ Ψ) : oX G 5 iX4_judge 28 [(0, vR (some (1, 0))), (1, vI x1), (2, vI x2), (3, vI x3)] [] (FI, FL, FR, GR, AI, AL, AR, BR, AN, C) k Φ Ψ := by
  unfold mX4_judge_b28 at hm
  refine oX_iload_n dX4_judge_28 rfl rfl ?_
  refine oX_bipush (v := (6 : Int32)) dX4_judge_29 (by decide) ?_
  refine oX_icmp_gt (tgt := 56) dX4_judge_31 (by decide) (fun c5 => ?_) (fun c5 => ?_)
  · have hm := ifp c5 hm
    exact oX_sub [0, 1, 2] rfl (hx1 (FI, AI) (Option.some.inj hm).symm)
  · have hm := ifn c5 hm
    refine oX_aload_n dX4_judge_34 rfl rfl ?_
    refine oX_iload_n dX4_judge_35 rfl rfl ?_
    refine oX_iload_n dX4_judge_36 rfl rfl ?_
    obtain ⟨r6, g6, hm⟩ := bd_s hm
    refine oX_cV (as := [vI x3, vI x2]) dX4_judge_37 rfl oDs1 rfl (by decide) rfl ok_X4_isCallWrong rfl rfl q2326 q2328 qs106 q136 q2329 (by decide) (Nat.le_of_ble_eq_true rfl) (t_X4_isCallWrong hM n x3 x2 g6) ?_
    refine oX_if_eq (tgt := 50) dX4_judge_40 (by decide) (fun c7 => ?_) (fun c7 => ?_)
    · have hm := ifp c7 hm
      refine oX_iinc (v := x3 + (1 : Int32)) (ls' := [(3, vI (x3 + (1 : Int32))), (0, vR (some (1, 0))), (1, vI x1), (2, vI x2)]) dX4_judge_50 rfl rfl (by decide) rfl ?_
      refine oX_goto (tgt := 28) dX4_judge_53 (by decide) ?_
      exact oX_sub [1, 2, 3, 0] rfl (hk (x3 + (1 : Int32), FI, AI) (Option.some.inj hm).symm)
    · have hm := ifn c7 hm
      refine oX_aload_n dX4_judge_43 rfl rfl ?_
      refine oX_iload_n dX4_judge_44 rfl rfl ?_
      refine oX_iload_n dX4_judge_45 rfl rfl ?_
      refine oX_iconst (v := (-1 : Int32)) dX4_judge_46 (by decide) ?_
      obtain ⟨r8, g8, hm⟩ := bd_s hm
      refine oX_cV_ (as := [vI x3, vI x2, vI (-1 : Int32)]) dX4_judge_47 rfl oDs1 rfl (by decide) rfl ok_X4_note rfl rfl q2359 q2361 qs114 q136 q2362 (by decide) (Nat.le_of_ble_eq_true rfl) (t_X4_note hM x3 x2 (-1 : Int32) g8) ?_
      refine oX_iinc (v := x3 + (1 : Int32)) (ls' := [(3, vI (x3 + (1 : Int32))), (0, vR (some (1, 0))), (1, vI x1), (2, vI x2)]) dX4_judge_50 rfl rfl (by decide) rfl ?_
      refine oX_goto (tgt := 28) dX4_judge_53 (by decide) ?_
      exact oX_sub [1, 2, 3, 0] rfl (hk (x3 + (1 : Int32), r8.1, r8.2) (Option.some.inj hm).symm)
theorem l_mX4_judge_b28 {G : OhG} {FL : OhL} {FR : OhQ} {GR : OhQ} {AL : OhL} {AR : OhQ} {BR : OhQ} {AN : OhN} {C : OhC} {k : Nat × Nat} {Φ : OhP} {Ψ : OhX} (hM : ohShM FR AN) (n : Nat) (x1 : Int32) (x2 : Int32) : ∀ (f : Nat) (x3 : Int32) (FI : OhI) (AI : OhI) (b : (OhI × OhI)), lpF (fun v => mX4_judge_b28 n v.2.1 FR v.2.2 AN x1 x2 v.1) f (x3, FI, AI) = some b → (oX G 5 iX4_judge 56 [(0, vR (some (1, 0))), (1, vI x1), (2, vI x2)] [] (b.1, FL, FR, GR, b.2, AL, AR, BR, AN, C) k Φ Ψ) → oX G 5 iX4_judge 28 [(0, vR (some (1, 0))), (1, vI x1), (2, vI x2), (3, vI x3)] [] (FI, FL, FR, GR, AI, AL, AR, BR, AN, C) k Φ Ψ := by
  intro f
  induction f with
  | zero =>
    intro x3 FI AI b hm
    cases hm
  | succ f ih =>
    intro x3 FI AI b hm hx1
    obtain ⟨r, hr, hm⟩ := lp_s hm
    refine x_mX4_judge_b28 hM n x1 x2 x3 hr (fun v e => ?_) (fun v e => ?_)
    · subst e; exact ih v.1 v.2.1 v.2.2 _ hm hx1
    · subst e; cases (show v = b from hm); exact hx1
noncomputable def mX4_judge_j130 (n : Nat) (FI : OhI) (FR : OhQ) (AI : OhI) (AN : OhN) (x1 : Int32) (x2 : Int32) (x3 : Int32) (x4 : Int32) : Option ((Int32 × OhI × OhI) ⊕ (OhI × OhI)) :=
  (mX4_note FI FR AI AN x3 x2 x4).bind fun r17 =>
  some (.inl (x4 + (1 : Int32), r17.1, r17.2))
theorem x_mX4_judge_j130 {G : OhG} {FI AI : OhI} {FL AL : OhL} {FR GR AR BR : OhQ} {AN : OhN} {C : OhC} {k : Nat × Nat} {Φ : OhP} {Ψ : OhX} (hM : ohShM FR AN) (n : Nat) (x1 : Int32) (x2 : Int32) (x3 : Int32) (x4 : Int32) {r : (Int32 × OhI × OhI) ⊕ (OhI × OhI)} (hm : mX4_judge_j130 n FI FR AI AN x1 x2 x3 x4 = some r) (hk : ∀ v : Int32 × OhI × OhI, r = .inl v → oX G 5 iX4_judge 68 [(0, vR (some (1, 0))), (1, vI x1), (2, vI x2), (3, vI x3), (4, vI v.1)] [] (v.2.1, FL, FR, GR, v.2.2, AL, AR, BR, AN, C) k Φ Ψ) (hx1 : ∀ v : OhI × OhI, r = .inr v → oX G 5 iX4_judge 144 [(0, vR (some (1, 0))), (1, vI x1), (2, vI x2), (3, vI x3)] [] (v.1, FL, FR, GR, v.2, AL, AR, BR, AN, C) k Φ Ψ) : oX G 5 iX4_judge 130 [(0, vR (some (1, 0))), (1, vI x1), (2, vI x2), (3, vI x3), (4, vI x4)] [] (FI, FL, FR, GR, AI, AL, AR, BR, AN, C) k Φ Ψ := by
  unfold mX4_judge_j130 at hm
  refine oX_aload_n dX4_judge_130 rfl rfl ?_
  refine oX_iload_n dX4_judge_131 rfl rfl ?_
  refine oX_iload_n dX4_judge_132 rfl rfl ?_
  refine oX_iload dX4_judge_133 rfl ?_
  obtain ⟨r17, g17, hm⟩ := bd_s hm
  refine oX_cV_ (as := [vI x3, vI x2, vI x4]) dX4_judge_135 rfl oDs1 rfl (by decide) rfl ok_X4_note rfl rfl q2359 q2361 qs114 q136 q2362 (by decide) (Nat.le_of_ble_eq_true rfl) (t_X4_note hM x3 x2 x4 g17) ?_
  refine oX_iinc (v := x4 + (1 : Int32)) (ls' := [(4, vI (x4 + (1 : Int32))), (0, vR (some (1, 0))), (1, vI x1), (2, vI x2), (3, vI x3)]) dX4_judge_138 rfl rfl (by decide) rfl ?_
  refine oX_goto (tgt := 68) dX4_judge_141 (by decide) ?_
  exact oX_sub [1, 2, 3, 4, 0] rfl (hk (x4 + (1 : Int32), r17.1, r17.2) (Option.some.inj hm).symm)
noncomputable def mX4_judge_b68 (n : Nat) (FI : OhI) (FR : OhQ) (AI : OhI) (AN : OhN) (x1 : Int32) (x2 : Int32) (x3 : Int32) (x4 : Int32) : Option ((Int32 × OhI × OhI) ⊕ (OhI × OhI)) :=
  gd (vp_in x2 66) <|
  gd (vp_in (AI 164 0 x2.toNatClampNeg) 9) <|
  (if (AI 111 0 (AI 164 0 x2.toNatClampNeg).toNatClampNeg) ≤ x4 then
  some (.inr (FI, AI))
else
  gd (vp_in (((8 : Int32) * x2) + x4) 528) <|
    (if x3 = (7 : Int32) then
    (if 0 ≤ (AI 172 0 (((8 : Int32) * x2) + x4).toNatClampNeg) then
      some (.inl (x4 + (1 : Int32), FI, AI))
    else
      mX4_judge_j130 n FI FR AI AN x1 x2 x3 x4)
  else
    (if (AI 172 0 (((8 : Int32) * x2) + x4).toNatClampNeg) < 0 then
      some (.inl (x4 + (1 : Int32), FI, AI))
    else
      (mX4_isWrong n FI FR AI AN x3 (AI 172 0 (((8 : Int32) * x2) + x4).toNatClampNeg) x2 x4).bind fun r19 =>
        (if r19 = 0 then
        some (.inl (x4 + (1 : Int32), FI, AI))
      else
        mX4_judge_j130 n FI FR AI AN x1 x2 x3 x4))))
theorem x_mX4_judge_b68 {G : OhG} {FI AI : OhI} {FL AL : OhL} {FR GR AR BR : OhQ} {AN : OhN} {C : OhC} {k : Nat × Nat} {Φ : OhP} {Ψ : OhX} (hM : ohShM FR AN) (n : Nat) (x1 : Int32) (x2 : Int32) (x3 : Int32) (x4 : Int32) {r : (Int32 × OhI × OhI) ⊕ (OhI × OhI)} (hm : mX4_judge_b68 n FI FR AI AN x1 x2 x3 x4 = some r) (hk : ∀ v : Int32 × OhI × OhI, r = .inl v → oX G 5 iX4_judge 68 [(0, vR (some (1, 0))), (1, vI x1), (2, vI x2), (3, vI x3), (4, vI v.1)] [] (v.2.1, FL, FR, GR, v.2.2, AL, AR, BR, AN, C) k Φ Ψ) (hx1 : ∀ v : OhI × OhI, r = .inr v → oX G 5 iX4_judge 144 [(0, vR (some (1, 0))), (1, vI x1), (2, vI x2), (3, vI x3)] [] (v.1, FL, FR, GR, v.2, AL, AR, BR, AN, C) k Φ Ψ) : oX G 5 iX4_judge 68 [(0, vR (some (1, 0))), (1, vI x1), (2, vI x2), (3, vI x3), (4, vI x4)] [] (FI, FL, FR, GR, AI, AL, AR, BR, AN, C) k Φ Ψ := by
  unfold mX4_judge_b68 at hm
  refine oX_iload dX4_judge_68 rfl ?_
  refine oX_aload_n dX4_judge_70 rfl rfl ?_
  refine oX_getF fX4_26 rfl oDs1 dX4_judge_71 (ohF111 hM) ?_
  refine oX_aload_n dX4_judge_74 rfl rfl ?_
  refine oX_getF fX4_148 rfl oDs1 dX4_judge_75 (ohF164 hM) ?_
  refine oX_iload_n dX4_judge_78 rfl rfl ?_
  obtain ⟨g11, hm⟩ := gd_s hm
  refine oX_iald oDs164 (oIn (ohN164 hM) g11) dX4_judge_79 ?_
  obtain ⟨g12, hm⟩ := gd_s hm
  refine oX_iald oDs111 (oIn (ohN111 hM) g12) dX4_judge_80 ?_
  refine oX_icmp_ge (tgt := 144) dX4_judge_81 (by decide) (fun c13 => ?_) (fun c13 => ?_)
  · have hm := ifp c13 hm
    exact oX_sub [0, 1, 2, 3] rfl (hx1 (FI, AI) (Option.some.inj hm).symm)
  · have hm := ifn c13 hm
    refine oX_aload_n dX4_judge_84 rfl rfl ?_
    refine oX_getF fX4_157 rfl oDs1 dX4_judge_85 (ohF172 hM) ?_
    refine oX_bipush (v := (8 : Int32)) dX4_judge_88 (by decide) ?_
    refine oX_iload_n dX4_judge_90 rfl rfl ?_
    refine oX_imul dX4_judge_91 ?_
    refine oX_iload dX4_judge_92 rfl ?_
    refine oX_iadd dX4_judge_94 ?_
    obtain ⟨g14, hm⟩ := gd_s hm
    refine oX_iald oDs172 (oIn (ohN172 hM) g14) dX4_judge_95 ?_
    refine oX_istore (ls' := [(5, vI (AI 172 0 (((8 : Int32) * x2) + x4).toNatClampNeg)), (0, vR (some (1, 0))), (1, vI x1), (2, vI x2), (3, vI x3), (4, vI x4)]) dX4_judge_96 (by decide) rfl ?_
    refine oX_iload_n dX4_judge_98 rfl rfl ?_
    refine oX_bipush (v := (7 : Int32)) dX4_judge_99 (by decide) ?_
    refine oX_icmp_ne (tgt := 112) dX4_judge_101 (by decide) (fun c15 => ?_) (fun c15 => ?_)
    · have hm := ifp c15 hm
      refine oX_iload dX4_judge_104 rfl ?_
      refine oX_if_ge (tgt := 138) dX4_judge_106 (by decide) (fun c16 => ?_) (fun c16 => ?_)
      · have hm := ifp c16 hm
        refine oX_iinc (v := x4 + (1 : Int32)) (ls' := [(4, vI (x4 + (1 : Int32))), (5, vI (AI 172 0 (((8 : Int32) * x2) + x4).toNatClampNeg)), (0, vR (some (1, 0))), (1, vI x1), (2, vI x2), (3, vI x3)]) dX4_judge_138 rfl rfl (by decide) rfl ?_
        refine oX_goto (tgt := 68) dX4_judge_141 (by decide) ?_
        exact oX_sub [2, 3, 4, 5, 0] rfl (hk (x4 + (1 : Int32), FI, AI) (Option.some.inj hm).symm)
      · have hm := ifn c16 hm
        refine oX_goto (tgt := 130) dX4_judge_109 (by decide) ?_
        exact oX_sub [1, 2, 3, 4, 5] rfl (x_mX4_judge_j130 hM n x1 x2 x3 x4 hm hk hx1)
    · have hm := ifn c15 hm
      refine oX_iload dX4_judge_112 rfl ?_
      refine oX_if_lt (tgt := 138) dX4_judge_114 (by decide) (fun c18 => ?_) (fun c18 => ?_)
      · have hm := ifp c18 hm
        refine oX_iinc (v := x4 + (1 : Int32)) (ls' := [(4, vI (x4 + (1 : Int32))), (5, vI (AI 172 0 (((8 : Int32) * x2) + x4).toNatClampNeg)), (0, vR (some (1, 0))), (1, vI x1), (2, vI x2), (3, vI x3)]) dX4_judge_138 rfl rfl (by decide) rfl ?_
        refine oX_goto (tgt := 68) dX4_judge_141 (by decide) ?_
        exact oX_sub [2, 3, 4, 5, 0] rfl (hk (x4 + (1 : Int32), FI, AI) (Option.some.inj hm).symm)
      · have hm := ifn c18 hm
        refine oX_aload_n dX4_judge_117 rfl rfl ?_
        refine oX_iload_n dX4_judge_118 rfl rfl ?_
        refine oX_iload dX4_judge_119 rfl ?_
        refine oX_iload_n dX4_judge_121 rfl rfl ?_
        refine oX_iload dX4_judge_122 rfl ?_
        obtain ⟨r19, g19, hm⟩ := bd_s hm
        refine oX_cV (as := [vI x3, vI (AI 172 0 (((8 : Int32) * x2) + x4).toNatClampNeg), vI x2, vI x4]) dX4_judge_124 rfl oDs1 rfl (by decide) rfl ok_X4_isWrong rfl rfl q2363 q2365 qs115 q136 q2366 (by decide) (Nat.le_of_ble_eq_true rfl) (t_X4_isWrong hM n x3 (AI 172 0 (((8 : Int32) * x2) + x4).toNatClampNeg) x2 x4 g19) ?_
        refine oX_if_eq (tgt := 138) dX4_judge_127 (by decide) (fun c20 => ?_) (fun c20 => ?_)
        · have hm := ifp c20 hm
          refine oX_iinc (v := x4 + (1 : Int32)) (ls' := [(4, vI (x4 + (1 : Int32))), (5, vI (AI 172 0 (((8 : Int32) * x2) + x4).toNatClampNeg)), (0, vR (some (1, 0))), (1, vI x1), (2, vI x2), (3, vI x3)]) dX4_judge_138 rfl rfl (by decide) rfl ?_
          refine oX_goto (tgt := 68) dX4_judge_141 (by decide) ?_
          exact oX_sub [2, 3, 4, 5, 0] rfl (hk (x4 + (1 : Int32), FI, AI) (Option.some.inj hm).symm)
        · have hm := ifn c20 hm
          exact oX_sub [1, 2, 3, 4, 5] rfl (x_mX4_judge_j130 hM n x1 x2 x3 x4 hm hk hx1)
theorem l_mX4_judge_b68 {G : OhG} {FL : OhL} {FR : OhQ} {GR : OhQ} {AL : OhL} {AR : OhQ} {BR : OhQ} {AN : OhN} {C : OhC} {k : Nat × Nat} {Φ : OhP} {Ψ : OhX} (hM : ohShM FR AN) (n : Nat) (x1 : Int32) (x2 : Int32) (x3 : Int32) : ∀ (f : Nat) (x4 : Int32) (FI : OhI) (AI : OhI) (b : (OhI × OhI)), lpF (fun v => mX4_judge_b68 n v.2.1 FR v.2.2 AN x1 x2 x3 v.1) f (x4, FI, AI) = some b → (oX G 5 iX4_judge 144 [(0, vR (some (1, 0))), (1, vI x1), (2, vI x2), (3, vI x3)] [] (b.1, FL, FR, GR, b.2, AL, AR, BR, AN, C) k Φ Ψ) → oX G 5 iX4_judge 68 [(0, vR (some (1, 0))), (1, vI x1), (2, vI x2), (3, vI x3), (4, vI x4)] [] (FI, FL, FR, GR, AI, AL, AR, BR, AN, C) k Φ Ψ := by
  intro f
  induction f with
  | zero =>
    intro x4 FI AI b hm
    cases hm
  | succ f ih =>
    intro x4 FI AI b hm hx1
    obtain ⟨r, hr, hm⟩ := lp_s hm
    refine x_mX4_judge_b68 hM n x1 x2 x3 x4 hr (fun v e => ?_) (fun v e => ?_)
    · subst e; exact ih v.1 v.2.1 v.2.2 _ hm hx1
    · subst e; cases (show v = b from hm); exact hx1
noncomputable def mX4_judge_b59 (n : Nat) (FI : OhI) (FR : OhQ) (AI : OhI) (AN : OhN) (x1 : Int32) (x2 : Int32) (x3 : Int32) : Option ((Int32 × OhI × OhI) ⊕ (OhI × OhI)) :=
  (if (15 : Int32) < x3 then
  some (.inr (FI, AI))
else
  (lpF (fun v => mX4_judge_b68 n v.2.1 FR v.2.2 AN x1 x2 x3 v.1) n ((0 : Int32), FI, AI)).bind fun v21 =>
    some (.inl (x3 + (1 : Int32), v21.1, v21.2)))
theorem x_mX4_judge_b59 {G : OhG} {FI AI : OhI} {FL AL : OhL} {FR GR AR BR : OhQ} {AN : OhN} {C : OhC} {k : Nat × Nat} {Φ : OhP} {Ψ : OhX} (hM : ohShM FR AN) (n : Nat) (x1 : Int32) (x2 : Int32) (x3 : Int32) {r : (Int32 × OhI × OhI) ⊕ (OhI × OhI)} (hm : mX4_judge_b59 n FI FR AI AN x1 x2 x3 = some r) (hk : ∀ v : Int32 × OhI × OhI, r = .inl v → oX G 5 iX4_judge 59 [(0, vR (some (1, 0))), (1, vI x1), (2, vI x2), (3, vI v.1)] [] (v.2.1, FL, FR, GR, v.2.2, AL, AR, BR, AN, C) k Φ Ψ) (hx1 : ∀ v : OhI × OhI, r = .inr v → oX G 5 iX4_judge 150 [(0, vR (some (1, 0))), (1, vI x1)] [] (v.1, FL, FR, GR, v.2, AL, AR, BR, AN, C) k Φ Ψ) : oX G 5 iX4_judge 59 [(0, vR (some (1, 0))), (1, vI x1), (2, vI x2), (3, vI x3)] [] (FI, FL, FR, GR, AI, AL, AR, BR, AN, C) k Φ Ψ := by
  unfold mX4_judge_b59 at hm
  refine oX_iload_n dX4_judge_59 rfl rfl ?_
  refine oX_bipush (v := (15 : Int32)) dX4_judge_60 (by decide) ?_
  refine oX_icmp_gt (tgt := 150) dX4_judge_62 (by decide) (fun c10 => ?_) (fun c10 => ?_)
  · have hm := ifp c10 hm
    exact oX_sub [0, 1] rfl (hx1 (FI, AI) (Option.some.inj hm).symm)
  · have hm := ifn c10 hm
    refine oX_iconst (v := (0 : Int32)) dX4_judge_65 (by decide) ?_
    refine oX_istore (ls' := [(4, vI (0 : Int32)), (0, vR (some (1, 0))), (1, vI x1), (2, vI x2), (3, vI x3)]) dX4_judge_66 (by decide) rfl ?_
    obtain ⟨v21, g21, hm⟩ := bd_s hm
    refine oX_sub [1, 2, 3, 4, 0] rfl (l_mX4_judge_b68 hM n x1 x2 x3 n (0 : Int32) FI AI _ g21 ?_)
    refine oX_iinc (v := x3 + (1 : Int32)) (ls' := [(3, vI (x3 + (1 : Int32))), (0, vR (some (1, 0))), (1, vI x1), (2, vI x2)]) dX4_judge_144 rfl rfl (by decide) rfl ?_
    refine oX_goto (tgt := 59) dX4_judge_147 (by decide) ?_
    exact oX_sub [1, 2, 3, 0] rfl (hk (x3 + (1 : Int32), v21.1, v21.2) (Option.some.inj hm).symm)
theorem l_mX4_judge_b59 {G : OhG} {FL : OhL} {FR : OhQ} {GR : OhQ} {AL : OhL} {AR : OhQ} {BR : OhQ} {AN : OhN} {C : OhC} {k : Nat × Nat} {Φ : OhP} {Ψ : OhX} (hM : ohShM FR AN) (n : Nat) (x1 : Int32) (x2 : Int32) : ∀ (f : Nat) (x3 : Int32) (FI : OhI) (AI : OhI) (b : (OhI × OhI)), lpF (fun v => mX4_judge_b59 n v.2.1 FR v.2.2 AN x1 x2 v.1) f (x3, FI, AI) = some b → (oX G 5 iX4_judge 150 [(0, vR (some (1, 0))), (1, vI x1)] [] (b.1, FL, FR, GR, b.2, AL, AR, BR, AN, C) k Φ Ψ) → oX G 5 iX4_judge 59 [(0, vR (some (1, 0))), (1, vI x1), (2, vI x2), (3, vI x3)] [] (FI, FL, FR, GR, AI, AL, AR, BR, AN, C) k Φ Ψ := by
  intro f
  induction f with
  | zero =>
    intro x3 FI AI b hm
    cases hm
  | succ f ih =>
    intro x3 FI AI b hm hx1
    obtain ⟨r, hr, hm⟩ := lp_s hm
    refine x_mX4_judge_b59 hM n x1 x2 x3 hr (fun v e => ?_) (fun v e => ?_)
    · subst e; exact ih v.1 v.2.1 v.2.2 _ hm hx1
    · subst e; cases (show v = b from hm); exact hx1
noncomputable def mX4_judge_b11 (n : Nat) (FI : OhI) (FR : OhQ) (AI : OhI) (AN : OhN) (x1 : Int32) : Option ((Int32 × OhI × OhI) ⊕ (OhI × OhI)) :=
  (if (FI 1 0 71) ≤ x1 then
  some (.inr (FI, AI))
else
  gd (vp_in x1 66) <|
    (lpF (fun v => mX4_judge_b28 n v.2.1 FR v.2.2 AN x1 (AI 175 0 x1.toNatClampNeg) v.1) n ((1 : Int32), FI, AI)).bind fun v9 =>
    (lpF (fun v => mX4_judge_b59 n v.2.1 FR v.2.2 AN x1 (AI 175 0 x1.toNatClampNeg) v.1) n ((7 : Int32), v9.1, v9.2)).bind fun v22 =>
    some (.inl (x1 + (1 : Int32), v22.1, v22.2)))
theorem x_mX4_judge_b11 {G : OhG} {FI AI : OhI} {FL AL : OhL} {FR GR AR BR : OhQ} {AN : OhN} {C : OhC} {k : Nat × Nat} {Φ : OhP} {Ψ : OhX} (hM : ohShM FR AN) (n : Nat) (x1 : Int32) {r : (Int32 × OhI × OhI) ⊕ (OhI × OhI)} (hm : mX4_judge_b11 n FI FR AI AN x1 = some r) (hk : ∀ v : Int32 × OhI × OhI, r = .inl v → oX G 5 iX4_judge 11 [(0, vR (some (1, 0))), (1, vI v.1)] [] (v.2.1, FL, FR, GR, v.2.2, AL, AR, BR, AN, C) k Φ Ψ) (hx1 : ∀ v : OhI × OhI, r = .inr v → oX G 5 iX4_judge 156 [] [] (v.1, FL, FR, GR, v.2, AL, AR, BR, AN, C) k Φ Ψ) : oX G 5 iX4_judge 11 [(0, vR (some (1, 0))), (1, vI x1)] [] (FI, FL, FR, GR, AI, AL, AR, BR, AN, C) k Φ Ψ := by
  unfold mX4_judge_b11 at hm
  refine oX_iload_n dX4_judge_11 rfl rfl ?_
  refine oX_aload_n dX4_judge_12 rfl rfl ?_
  refine oX_getI fX4_446 rfl oDs1 dX4_judge_13 ?_
  refine oX_icmp_ge (tgt := 156) dX4_judge_16 (by decide) (fun c3 => ?_) (fun c3 => ?_)
  · have hm := ifp c3 hm
    exact oX_sub [] rfl (hx1 (FI, AI) (Option.some.inj hm).symm)
  · have hm := ifn c3 hm
    refine oX_aload_n dX4_judge_19 rfl rfl ?_
    refine oX_getF fX4_166 rfl oDs1 dX4_judge_20 (ohF175 hM) ?_
    refine oX_iload_n dX4_judge_23 rfl rfl ?_
    obtain ⟨g4, hm⟩ := gd_s hm
    refine oX_iald oDs175 (oIn (ohN175 hM) g4) dX4_judge_24 ?_
    refine oX_istore_n (ls' := [(2, vI (AI 175 0 x1.toNatClampNeg)), (0, vR (some (1, 0))), (1, vI x1)]) dX4_judge_25 rfl (by decide) rfl ?_
    refine oX_iconst (v := (1 : Int32)) dX4_judge_26 (by decide) ?_
    refine oX_istore_n (ls' := [(3, vI (1 : Int32)), (2, vI (AI 175 0 x1.toNatClampNeg)), (0, vR (some (1, 0))), (1, vI x1)]) dX4_judge_27 rfl (by decide) rfl ?_
    obtain ⟨v9, g9, hm⟩ := bd_s hm
    refine oX_sub [2, 3, 1, 0] rfl (l_mX4_judge_b28 hM n x1 (AI 175 0 x1.toNatClampNeg) n (1 : Int32) FI AI _ g9 ?_)
    refine oX_bipush (v := (7 : Int32)) dX4_judge_56 (by decide) ?_
    refine oX_istore_n (ls' := [(3, vI (7 : Int32)), (0, vR (some (1, 0))), (1, vI x1), (2, vI (AI 175 0 x1.toNatClampNeg))]) dX4_judge_58 rfl (by decide) rfl ?_
    obtain ⟨v22, g22, hm⟩ := bd_s hm
    refine oX_sub [1, 2, 3, 0] rfl (l_mX4_judge_b59 hM n x1 (AI 175 0 x1.toNatClampNeg) n (7 : Int32) v9.1 v9.2 _ g22 ?_)
    refine oX_iinc (v := x1 + (1 : Int32)) (ls' := [(1, vI (x1 + (1 : Int32))), (0, vR (some (1, 0)))]) dX4_judge_150 rfl rfl (by decide) rfl ?_
    refine oX_goto (tgt := 11) dX4_judge_153 (by decide) ?_
    exact oX_sub [1, 0] rfl (hk (x1 + (1 : Int32), v22.1, v22.2) (Option.some.inj hm).symm)
theorem l_mX4_judge_b11 {G : OhG} {FL : OhL} {FR : OhQ} {GR : OhQ} {AL : OhL} {AR : OhQ} {BR : OhQ} {AN : OhN} {C : OhC} {k : Nat × Nat} {Φ : OhP} {Ψ : OhX} (hM : ohShM FR AN) (n : Nat) : ∀ (f : Nat) (x1 : Int32) (FI : OhI) (AI : OhI) (b : (OhI × OhI)), lpF (fun v => mX4_judge_b11 n v.2.1 FR v.2.2 AN v.1) f (x1, FI, AI) = some b → (oX G 5 iX4_judge 156 [] [] (b.1, FL, FR, GR, b.2, AL, AR, BR, AN, C) k Φ Ψ) → oX G 5 iX4_judge 11 [(0, vR (some (1, 0))), (1, vI x1)] [] (FI, FL, FR, GR, AI, AL, AR, BR, AN, C) k Φ Ψ := by
  intro f
  induction f with
  | zero =>
    intro x1 FI AI b hm
    cases hm
  | succ f ih =>
    intro x1 FI AI b hm hx1
    obtain ⟨r, hr, hm⟩ := lp_s hm
    refine x_mX4_judge_b11 hM n x1 hr (fun v e => ?_) (fun v e => ?_)
    · subst e; exact ih v.1 v.2.1 v.2.2 _ hm hx1
    · subst e; cases (show v = b from hm); exact hx1
noncomputable def mX4_judge (n : Nat) (FI : OhI) (FR : OhQ) (AI : OhI) (AN : OhN) : Option (OhI × OhI) :=
  oLet (sA FI 1 0 (uA (FI 1 0) 88 (0 : Int32))) fun FI1 =>
  (mX4_roll n FI1 FR AI AN).bind fun r2 =>
  (lpF (fun v => mX4_judge_b11 n v.2.1 FR v.2.2 AN v.1) n ((0 : Int32), FI1, r2)).bind fun v23 =>
  some (v23.1, v23.2)
theorem x_mX4_judge {G : OhG} {FI AI : OhI} {FL AL : OhL} {FR GR AR BR : OhQ} {AN : OhN} {C : OhC} {k : Nat × Nat} {Φ : OhP} {Ψ : OhX} (hM : ohShM FR AN) (n : Nat) {r : OhI × OhI} (hm : mX4_judge n FI FR AI AN = some r) (hK : Φ none (r.1, FL, FR, GR, r.2, AL, AR, BR, AN, C)) : oX G 5 iX4_judge 0 [(0, vR (some (1, 0)))] [] (FI, FL, FR, GR, AI, AL, AR, BR, AN, C) k Φ Ψ := by
  unfold mX4_judge at hm
  refine oX_aload_n dX4_judge_0 rfl rfl ?_
  refine oX_iconst (v := (0 : Int32)) dX4_judge_1 (by decide) ?_
  obtain ⟨FI1, hFI1, hm⟩ := oLs hm
  refine oX_putI fX4_551 rfl (fun h9 => by cases h9) oDs1 dX4_judge_2 ⟨rfl, rfl⟩ hFI1 ?_
  refine oX_aload_n dX4_judge_5 rfl rfl ?_
  obtain ⟨r2, g2, hm⟩ := bd_s hm
  refine oX_cV_ (as := []) dX4_judge_6 rfl oDs1 rfl (by decide) rfl ok_X4_roll rfl rfl q2322 q2324 qs105 q136 q2325 (by decide) (Nat.le_of_ble_eq_true rfl) (t_X4_roll hM n g2) ?_
  refine oX_iconst (v := (0 : Int32)) dX4_judge_9 (by decide) ?_
  refine oX_istore_n (ls' := [(1, vI (0 : Int32)), (0, vR (some (1, 0)))]) dX4_judge_10 rfl (by decide) rfl ?_
  obtain ⟨v23, g23, hm⟩ := bd_s hm
  refine oX_sub [1, 0] rfl (l_mX4_judge_b11 hM n n (0 : Int32) FI1 r2 _ g23 ?_)
  obtain rfl := Option.some.inj hm
  exact oX_vret dX4_judge_156 rfl hK
theorem t_X4_judge {G : OhG} {FI AI : OhI} {FL AL : OhL} {FR GR AR BR : OhQ} {AN : OhN} {C : OhC} (hM : ohShM FR AN) (n : Nat) {o : OhI × OhI} (hm : mX4_judge n FI FR AI AN = some o) : oT G 5 iX4_judge [vR (some (1, 0))] (FI, FL, FR, GR, AI, AL, AR, BR, AN, C) (0, 0) (fun v h => v = none ∧ h = (o.1, FL, FR, GR, o.2, AL, AR, BR, AN, C)) ohNo :=
  oT_of (by decide) rfl (Nat.le_of_ble_eq_true rfl) (x_mX4_judge hM n hm ⟨rfl, rfl⟩)
abbrev iX4_wrong : OhM := (yX4_wrong, cX4_wrong, 3, (some .int), [])
theorem ok_X4_wrong : oOk iX4_wrong 1 := ⟨by decide, by decide, by decide +kernel⟩

noncomputable def mX4_wrong_b24 (n : Nat) (FI : OhI) (FR : OhQ) (AI : OhI) (AN : OhN) (x2 : Int32) : Option ((Int32 × OhI) ⊕ (OhI)) :=
  (if (FI 1 0 88) ≤ x2 then
  some (.inr AI)
else
  gd (vp_in x2 5200) <|
    gd (vp_in x2 5200) <|
    oLet (sA AI 190 0 (uA (AI 190 0) x2.toNatClampNeg (AI 184 0 x2.toNatClampNeg))) fun AI7 =>
    gd (vp_in x2 5200) <|
    gd (vp_in x2 5200) <|
    oLet (sA AI7 191 0 (uA (AI7 191 0) x2.toNatClampNeg (AI7 185 0 x2.toNatClampNeg))) fun AI9 =>
    gd (vp_in x2 5200) <|
    gd (vp_in x2 5200) <|
    oLet (sA AI9 192 0 (uA (AI9 192 0) x2.toNatClampNeg (AI9 186 0 x2.toNatClampNeg))) fun AI11 =>
    some (.inl (x2 + (1 : Int32), AI11)))
theorem x_mX4_wrong_b24 {G : OhG} {FI AI : OhI} {FL AL : OhL} {FR GR AR BR : OhQ} {AN : OhN} {C : OhC} {k : Nat × Nat} {Φ : OhP} {Ψ : OhX} (hM : ohShM FR AN) (n : Nat) (x2 : Int32) {r : (Int32 × OhI) ⊕ (OhI)} (hm : mX4_wrong_b24 n FI FR AI AN x2 = some r) (hk : ∀ v : Int32 × OhI, r = .inl v → oX G 6 iX4_wrong 24 [(0, vR (some (1, 0))), (2, vI v.1)] [] (FI, FL, FR, GR, v.2, AL, AR, BR, AN, C) k Φ Ψ) (hx1 : ∀ v : OhI, r = .inr v → oX G 6 iX4_wrong 74 [(0, vR (some (1, 0)))] [] (FI, FL, FR, GR, v, AL, AR, BR, AN, C) k Φ Ψ) : oX G 6 iX4_wrong 24 [(0, vR (some (1, 0))), (2, vI x2)] [] (FI, FL, FR, GR, AI, AL, AR, BR, AN, C) k Φ Ψ := by
  unfold mX4_wrong_b24 at hm
  refine oX_iload_n dX4_wrong_24 rfl rfl ?_
  refine oX_aload_n dX4_wrong_25 rfl rfl ?_
  refine oX_getI fX4_551 rfl oDs1 dX4_wrong_26 ?_
  refine oX_icmp_ge (tgt := 74) dX4_wrong_29 (by decide) (fun c5 => ?_) (fun c5 => ?_)
  · have hm := ifp c5 hm
    exact oX_sub [0] rfl (hx1 AI (Option.some.inj hm).symm)
  · have hm := ifn c5 hm
    refine oX_aload_n dX4_wrong_32 rfl rfl ?_
    refine oX_getF fX4_202 rfl oDs1 dX4_wrong_33 (ohF190 hM) ?_
    refine oX_iload_n dX4_wrong_36 rfl rfl ?_
    refine oX_aload_n dX4_wrong_37 rfl rfl ?_
    refine oX_getF fX4_190 rfl oDs1 dX4_wrong_38 (ohF184 hM) ?_
    refine oX_iload_n dX4_wrong_41 rfl rfl ?_
    obtain ⟨g6, hm⟩ := gd_s hm
    refine oX_iald oDs184 (oIn (ohN184 hM) g6) dX4_wrong_42 ?_
    obtain ⟨g7, hm⟩ := gd_s hm
    obtain ⟨AI7, hAI7, hm⟩ := oLs hm
    refine oX_iast oDs190 (oIn (ohN190 hM) g7) dX4_wrong_43 hAI7 ?_
    refine oX_aload_n dX4_wrong_44 rfl rfl ?_
    refine oX_getF fX4_205 rfl oDs1 dX4_wrong_45 (ohF191 hM) ?_
    refine oX_iload_n dX4_wrong_48 rfl rfl ?_
    refine oX_aload_n dX4_wrong_49 rfl rfl ?_
    refine oX_getF fX4_193 rfl oDs1 dX4_wrong_50 (ohF185 hM) ?_
    refine oX_iload_n dX4_wrong_53 rfl rfl ?_
    obtain ⟨g8, hm⟩ := gd_s hm
    refine oX_iald oDs185 (oIn (ohN185 hM) g8) dX4_wrong_54 ?_
    obtain ⟨g9, hm⟩ := gd_s hm
    obtain ⟨AI9, hAI9, hm⟩ := oLs hm
    refine oX_iast oDs191 (oIn (ohN191 hM) g9) dX4_wrong_55 hAI9 ?_
    refine oX_aload_n dX4_wrong_56 rfl rfl ?_
    refine oX_getF fX4_208 rfl oDs1 dX4_wrong_57 (ohF192 hM) ?_
    refine oX_iload_n dX4_wrong_60 rfl rfl ?_
    refine oX_aload_n dX4_wrong_61 rfl rfl ?_
    refine oX_getF fX4_196 rfl oDs1 dX4_wrong_62 (ohF186 hM) ?_
    refine oX_iload_n dX4_wrong_65 rfl rfl ?_
    obtain ⟨g10, hm⟩ := gd_s hm
    refine oX_iald oDs186 (oIn (ohN186 hM) g10) dX4_wrong_66 ?_
    obtain ⟨g11, hm⟩ := gd_s hm
    obtain ⟨AI11, hAI11, hm⟩ := oLs hm
    refine oX_iast oDs192 (oIn (ohN192 hM) g11) dX4_wrong_67 hAI11 ?_
    refine oX_iinc (v := x2 + (1 : Int32)) (ls' := [(2, vI (x2 + (1 : Int32))), (0, vR (some (1, 0)))]) dX4_wrong_68 rfl rfl (by decide) rfl ?_
    refine oX_goto (tgt := 24) dX4_wrong_71 (by decide) ?_
    exact oX_sub [1, 0] rfl (hk (x2 + (1 : Int32), AI11) (Option.some.inj hm).symm)
theorem l_mX4_wrong_b24 {G : OhG} {FI : OhI} {FL : OhL} {FR : OhQ} {GR : OhQ} {AL : OhL} {AR : OhQ} {BR : OhQ} {AN : OhN} {C : OhC} {k : Nat × Nat} {Φ : OhP} {Ψ : OhX} (hM : ohShM FR AN) (n : Nat) : ∀ (f : Nat) (x2 : Int32) (AI : OhI) (b : (OhI)), lpF (fun v => mX4_wrong_b24 n FI FR v.2 AN v.1) f (x2, AI) = some b → (oX G 6 iX4_wrong 74 [(0, vR (some (1, 0)))] [] (FI, FL, FR, GR, b, AL, AR, BR, AN, C) k Φ Ψ) → oX G 6 iX4_wrong 24 [(0, vR (some (1, 0))), (2, vI x2)] [] (FI, FL, FR, GR, AI, AL, AR, BR, AN, C) k Φ Ψ := by
  intro f
  induction f with
  | zero =>
    intro x2 AI b hm
    cases hm
  | succ f ih =>
    intro x2 AI b hm hx1
    obtain ⟨r, hr, hm⟩ := lp_s hm
    refine x_mX4_wrong_b24 hM n x2 hr (fun v e => ?_) (fun v e => ?_)
    · subst e; exact ih v.1 v.2 _ hm hx1
    · subst e; cases (show v = b from hm); exact hx1
noncomputable def mX4_wrong (n : Nat) (FI : OhI) (FR : OhQ) (AI : OhI) (AN : OhN) (x1 : Int32) : Option (Int32 × OhI × OhI) :=
  oLet (sA FI 1 0 (uA (FI 1 0) 0 (0 : Int32))) fun FI1 =>
  (mX4_load n FI1 FR AI AN x1).bind fun r2 =>
  (mX4_judge n r2.1 FR r2.2 AN).bind fun r3 =>
  oLet (sA r3.1 1 0 (uA (r3.1 1 0) 89 (r3.1 1 0 88))) fun FI4 =>
  (lpF (fun v => mX4_wrong_b24 n FI4 FR v.2 AN v.1) n ((0 : Int32), r3.2)).bind fun v12 =>
  some (FI4 1 0 88, FI4, v12)
theorem x_mX4_wrong {G : OhG} {FI AI : OhI} {FL AL : OhL} {FR GR AR BR : OhQ} {AN : OhN} {C : OhC} {k : Nat × Nat} {Φ : OhP} {Ψ : OhX} (hM : ohShM FR AN) (n : Nat) (x1 : Int32) {r : Int32 × OhI × OhI} (hm : mX4_wrong n FI FR AI AN x1 = some r) (hK : Φ (some (vI r.1)) (r.2.1, FL, FR, GR, r.2.2, AL, AR, BR, AN, C)) : oX G 6 iX4_wrong 0 [(0, vR (some (1, 0))), (1, vI x1)] [] (FI, FL, FR, GR, AI, AL, AR, BR, AN, C) k Φ Ψ := by
  unfold mX4_wrong at hm
  refine oX_aload_n dX4_wrong_0 rfl rfl ?_
  refine oX_iconst (v := (0 : Int32)) dX4_wrong_1 (by decide) ?_
  obtain ⟨FI1, hFI1, hm⟩ := oLs hm
  refine oX_putI fX4_226 rfl (fun h9 => by cases h9) oDs1 dX4_wrong_2 ⟨rfl, rfl⟩ hFI1 ?_
  refine oX_aload_n dX4_wrong_5 rfl rfl ?_
  refine oX_iload_n dX4_wrong_6 rfl rfl ?_
  obtain ⟨r2, g2, hm⟩ := bd_s hm
  refine oX_cV_ (as := [vI x1]) dX4_wrong_7 rfl oDs1 rfl (by decide) rfl ok_X4_load rfl rfl q2209 q2211 qs85 q136 q2212 (by decide) (Nat.le_of_ble_eq_true rfl) (t_X4_load hM n x1 g2) ?_
  refine oX_aload_n dX4_wrong_10 rfl rfl ?_
  obtain ⟨r3, g3, hm⟩ := bd_s hm
  refine oX_cV_ (as := []) dX4_wrong_11 rfl oDs1 rfl (by decide) rfl ok_X4_judge rfl rfl q2318 q2320 qs104 q136 q2321 (by decide) (Nat.le_of_ble_eq_true rfl) (t_X4_judge hM n g3) ?_
  refine oX_aload_n dX4_wrong_14 rfl rfl ?_
  refine oX_aload_n dX4_wrong_15 rfl rfl ?_
  refine oX_getI fX4_551 rfl oDs1 dX4_wrong_16 ?_
  obtain ⟨FI4, hFI4, hm⟩ := oLs hm
  refine oX_putI fX4_570 rfl (fun h9 => by cases h9) oDs1 dX4_wrong_19 ⟨rfl, rfl⟩ hFI4 ?_
  refine oX_iconst (v := (0 : Int32)) dX4_wrong_22 (by decide) ?_
  refine oX_istore_n (ls' := [(2, vI (0 : Int32)), (0, vR (some (1, 0))), (1, vI x1)]) dX4_wrong_23 rfl (by decide) rfl ?_
  obtain ⟨v12, g12, hm⟩ := bd_s hm
  refine oX_sub [1, 0] rfl (l_mX4_wrong_b24 hM n n (0 : Int32) r3.2 _ g12 ?_)
  refine oX_aload_n dX4_wrong_74 rfl rfl ?_
  refine oX_getI fX4_551 rfl oDs1 dX4_wrong_75 ?_
  obtain rfl := Option.some.inj hm
  exact oX_iret dX4_wrong_78 rfl rfl hK
theorem t_X4_wrong {G : OhG} {FI AI : OhI} {FL AL : OhL} {FR GR AR BR : OhQ} {AN : OhN} {C : OhC} (hM : ohShM FR AN) (n : Nat) (x1 : Int32) {o : Int32 × OhI × OhI} (hm : mX4_wrong n FI FR AI AN x1 = some o) : oT G 6 iX4_wrong [vR (some (1, 0)), vI x1] (FI, FL, FR, GR, AI, AL, AR, BR, AN, C) (0, 0) (fun v h => v = (some (vI o.1)) ∧ h = (o.2.1, FL, FR, GR, o.2.2, AL, AR, BR, AN, C)) ohNo :=
  oT_of (by decide) rfl (Nat.le_of_ble_eq_true rfl) (x_mX4_wrong hM n x1 hm ⟨rfl, rfl⟩)
abbrev iX4_throwsIf : OhM := (yX4_throwsIf, cX4_throwsIf, 2, (some .boolean), [])
theorem ok_X4_throwsIf : oOk iX4_throwsIf 1 := ⟨by decide, by decide, by decide +kernel⟩

noncomputable def mX4_throwsIf_j10 (FI : OhI) (x1 : Int32) (y1 : Int32) : Option (Int32 × OhI) :=
  oLet (sA FI 1 0 (uA (FI 1 0) 0 y1)) fun FI2 =>
  gd (x1 = 0 ∨ x1 = 1) <|
  some (x1, FI2)
theorem x_mX4_throwsIf_j10 {G : OhG} {FI AI : OhI} {FL AL : OhL} {FR GR AR BR : OhQ} {AN : OhN} {C : OhC} {k : Nat × Nat} {Φ : OhP} {Ψ : OhX} (x1 : Int32) (y1 : Int32) {r : Int32 × OhI} (hm : mX4_throwsIf_j10 FI x1 y1 = some r) (hK : Φ (some (vI r.1)) (r.2, FL, FR, GR, AI, AL, AR, BR, AN, C)) : oX G 1 iX4_throwsIf 10 [(1, vI x1)] [vI y1, vR (some (1, 0))] (FI, FL, FR, GR, AI, AL, AR, BR, AN, C) k Φ Ψ := by
  unfold mX4_throwsIf_j10 at hm
  obtain ⟨FI2, hFI2, hm⟩ := oLs hm
  refine oX_putI fX4_226 rfl (fun h9 => by cases h9) oDs1 dX4_throwsIf_10 ⟨rfl, rfl⟩ hFI2 ?_
  refine oX_iload_n dX4_throwsIf_13 rfl rfl ?_
  obtain ⟨g3, hm⟩ := gd_s hm
  obtain rfl := Option.some.inj hm
  exact oX_iret dX4_throwsIf_14 rfl (oNz g3) hK
noncomputable def mX4_throwsIf (FI : OhI) (x1 : Int32) : Option (Int32 × OhI) :=
  (if x1 = 0 then
  mX4_throwsIf_j10 FI x1 (0 : Int32)
else
  mX4_throwsIf_j10 FI x1 (1 : Int32))
theorem x_mX4_throwsIf {G : OhG} {FI AI : OhI} {FL AL : OhL} {FR GR AR BR : OhQ} {AN : OhN} {C : OhC} {k : Nat × Nat} {Φ : OhP} {Ψ : OhX} (x1 : Int32) {r : Int32 × OhI} (hm : mX4_throwsIf FI x1 = some r) (hK : Φ (some (vI r.1)) (r.2, FL, FR, GR, AI, AL, AR, BR, AN, C)) : oX G 1 iX4_throwsIf 0 [(0, vR (some (1, 0))), (1, vI x1)] [] (FI, FL, FR, GR, AI, AL, AR, BR, AN, C) k Φ Ψ := by
  unfold mX4_throwsIf at hm
  refine oX_aload_n dX4_throwsIf_0 rfl rfl ?_
  refine oX_iload_n dX4_throwsIf_1 rfl rfl ?_
  refine oX_if_eq (tgt := 9) dX4_throwsIf_2 (by decide) (fun c1 => ?_) (fun c1 => ?_)
  · have hm := ifp c1 hm
    refine oX_iconst (v := (0 : Int32)) dX4_throwsIf_9 (by decide) ?_
    exact oX_sub [1] rfl (x_mX4_throwsIf_j10 x1 (0 : Int32) hm hK)
  · have hm := ifn c1 hm
    refine oX_iconst (v := (1 : Int32)) dX4_throwsIf_5 (by decide) ?_
    refine oX_goto (tgt := 10) dX4_throwsIf_6 (by decide) ?_
    exact oX_sub [1] rfl (x_mX4_throwsIf_j10 x1 (1 : Int32) hm hK)
theorem t_X4_throwsIf {G : OhG} {FI AI : OhI} {FL AL : OhL} {FR GR AR BR : OhQ} {AN : OhN} {C : OhC} (x1 : Int32) {o : Int32 × OhI} (hm : mX4_throwsIf FI x1 = some o) : oT G 1 iX4_throwsIf [vR (some (1, 0)), vI x1] (FI, FL, FR, GR, AI, AL, AR, BR, AN, C) (0, 0) (fun v h => v = (some (vI o.1)) ∧ h = (o.2, FL, FR, GR, AI, AL, AR, BR, AN, C)) ohNo :=
  oT_of (by decide) rfl (Nat.le_of_ble_eq_true rfl) (x_mX4_throwsIf x1 hm ⟨rfl, rfl⟩)
abbrev iX4_told : OhM := (yX4_told, cX4_told, 3, (some .int), [])
theorem ok_X4_told : oOk iX4_told 2 := ⟨by decide, by decide, by decide +kernel⟩

noncomputable def mX4_told_j27 (FI : OhI) (FR : OhQ) (AI : OhI) (AN : OhN) (x1 : Int32) (x2 : Int32) (y1 : Int32) : Option (Int32 × OhI) :=
  (mX4_throwsIf FI y1).bind fun r2 =>
  (if r2.1 = 0 then
  (if x2 = 0 then
    gd (vp_in x1 5200) <|
      some (AI 190 0 x1.toNatClampNeg, r2.2)
  else
    (if x2 = (1 : Int32) then
      gd (vp_in x1 5200) <|
        some (AI 191 0 x1.toNatClampNeg, r2.2)
    else
      gd (vp_in x1 5200) <|
        some (AI 192 0 x1.toNatClampNeg, r2.2)))
else
  some ((0 : Int32), r2.2))
theorem x_mX4_told_j27 {G : OhG} {FI AI : OhI} {FL AL : OhL} {FR GR AR BR : OhQ} {AN : OhN} {C : OhC} {k : Nat × Nat} {Φ : OhP} {Ψ : OhX} (hM : ohShM FR AN) (x1 : Int32) (x2 : Int32) (y1 : Int32) {r : Int32 × OhI} (hm : mX4_told_j27 FI FR AI AN x1 x2 y1 = some r) (hK : Φ (some (vI r.1)) (r.2, FL, FR, GR, AI, AL, AR, BR, AN, C)) : oX G 2 iX4_told 27 [(0, vR (some (1, 0))), (1, vI x1), (2, vI x2)] [vI y1, vR (some (1, 0))] (FI, FL, FR, GR, AI, AL, AR, BR, AN, C) k Φ Ψ := by
  unfold mX4_told_j27 at hm
  obtain ⟨r2, g2, hm⟩ := bd_s hm
  refine oX_cV (as := [vI y1]) dX4_told_27 rfl oDs1 rfl (by decide) rfl ok_X4_throwsIf rfl rfl q2390 q2392 qs120 q136 q2393 (by decide) (Nat.le_of_ble_eq_true rfl) (t_X4_throwsIf y1 g2) ?_
  refine oX_if_eq (tgt := 35) dX4_told_30 (by decide) (fun c3 => ?_) (fun c3 => ?_)
  · have hm := ifp c3 hm
    refine oX_iload_n dX4_told_35 rfl rfl ?_
    refine oX_if_ne (tgt := 48) dX4_told_36 (by decide) (fun c4 => ?_) (fun c4 => ?_)
    · have hm := ifp c4 hm
      refine oX_aload_n dX4_told_39 rfl rfl ?_
      refine oX_getF fX4_202 rfl oDs1 dX4_told_40 (ohF190 hM) ?_
      refine oX_iload_n dX4_told_43 rfl rfl ?_
      obtain ⟨g5, hm⟩ := gd_s hm
      refine oX_iald oDs190 (oIn (ohN190 hM) g5) dX4_told_44 ?_
      refine oX_goto (tgt := 68) dX4_told_45 (by decide) ?_
      obtain rfl := Option.some.inj hm
      exact oX_iret dX4_told_68 rfl rfl hK
    · have hm := ifn c4 hm
      refine oX_iload_n dX4_told_48 rfl rfl ?_
      refine oX_iconst (v := (1 : Int32)) dX4_told_49 (by decide) ?_
      refine oX_icmp_ne (tgt := 62) dX4_told_50 (by decide) (fun c6 => ?_) (fun c6 => ?_)
      · have hm := ifp c6 hm
        refine oX_aload_n dX4_told_53 rfl rfl ?_
        refine oX_getF fX4_205 rfl oDs1 dX4_told_54 (ohF191 hM) ?_
        refine oX_iload_n dX4_told_57 rfl rfl ?_
        obtain ⟨g7, hm⟩ := gd_s hm
        refine oX_iald oDs191 (oIn (ohN191 hM) g7) dX4_told_58 ?_
        refine oX_goto (tgt := 68) dX4_told_59 (by decide) ?_
        obtain rfl := Option.some.inj hm
        exact oX_iret dX4_told_68 rfl rfl hK
      · have hm := ifn c6 hm
        refine oX_aload_n dX4_told_62 rfl rfl ?_
        refine oX_getF fX4_208 rfl oDs1 dX4_told_63 (ohF192 hM) ?_
        refine oX_iload_n dX4_told_66 rfl rfl ?_
        obtain ⟨g8, hm⟩ := gd_s hm
        refine oX_iald oDs192 (oIn (ohN192 hM) g8) dX4_told_67 ?_
        obtain rfl := Option.some.inj hm
        exact oX_iret dX4_told_68 rfl rfl hK
  · have hm := ifn c3 hm
    refine oX_iconst (v := (0 : Int32)) dX4_told_33 (by decide) ?_
    obtain rfl := Option.some.inj hm
    exact oX_iret dX4_told_34 rfl rfl hK
noncomputable def mX4_told_j22 (FI : OhI) (FR : OhQ) (AI : OhI) (AN : OhN) (x1 : Int32) (x2 : Int32) : Option (Int32 × OhI) :=
  mX4_told_j27 FI FR AI AN x1 x2 (1 : Int32)
theorem x_mX4_told_j22 {G : OhG} {FI AI : OhI} {FL AL : OhL} {FR GR AR BR : OhQ} {AN : OhN} {C : OhC} {k : Nat × Nat} {Φ : OhP} {Ψ : OhX} (hM : ohShM FR AN) (x1 : Int32) (x2 : Int32) {r : Int32 × OhI} (hm : mX4_told_j22 FI FR AI AN x1 x2 = some r) (hK : Φ (some (vI r.1)) (r.2, FL, FR, GR, AI, AL, AR, BR, AN, C)) : oX G 2 iX4_told 22 [(0, vR (some (1, 0))), (1, vI x1), (2, vI x2)] [vR (some (1, 0))] (FI, FL, FR, GR, AI, AL, AR, BR, AN, C) k Φ Ψ := by
  unfold mX4_told_j22 at hm
  refine oX_iconst (v := (1 : Int32)) dX4_told_22 (by decide) ?_
  refine oX_goto (tgt := 27) dX4_told_23 (by decide) ?_
  exact oX_sub [0, 1, 2] rfl (x_mX4_told_j27 hM x1 x2 (1 : Int32) hm hK)
noncomputable def mX4_told (FI : OhI) (FR : OhQ) (AI : OhI) (AN : OhN) (x1 : Int32) (x2 : Int32) : Option (Int32 × OhI) :=
  (if x1 < 0 then
  mX4_told_j22 FI FR AI AN x1 x2
else
  (if (FI 1 0 89) ≤ x1 then
    mX4_told_j22 FI FR AI AN x1 x2
  else
    (if x2 < 0 then
      mX4_told_j22 FI FR AI AN x1 x2
    else
      (if x2 ≤ (2 : Int32) then
        mX4_told_j27 FI FR AI AN x1 x2 (0 : Int32)
      else
        mX4_told_j22 FI FR AI AN x1 x2))))
theorem x_mX4_told {G : OhG} {FI AI : OhI} {FL AL : OhL} {FR GR AR BR : OhQ} {AN : OhN} {C : OhC} {k : Nat × Nat} {Φ : OhP} {Ψ : OhX} (hM : ohShM FR AN) (x1 : Int32) (x2 : Int32) {r : Int32 × OhI} (hm : mX4_told FI FR AI AN x1 x2 = some r) (hK : Φ (some (vI r.1)) (r.2, FL, FR, GR, AI, AL, AR, BR, AN, C)) : oX G 2 iX4_told 0 [(0, vR (some (1, 0))), (1, vI x1), (2, vI x2)] [] (FI, FL, FR, GR, AI, AL, AR, BR, AN, C) k Φ Ψ := by
  unfold mX4_told at hm
  refine oX_aload_n dX4_told_0 rfl rfl ?_
  refine oX_iload_n dX4_told_1 rfl rfl ?_
  refine oX_if_lt (tgt := 22) dX4_told_2 (by decide) (fun c1 => ?_) (fun c1 => ?_)
  · have hm := ifp c1 hm
    exact oX_sub [0, 1, 2] rfl (x_mX4_told_j22 hM x1 x2 hm hK)
  · have hm := ifn c1 hm
    refine oX_iload_n dX4_told_5 rfl rfl ?_
    refine oX_aload_n dX4_told_6 rfl rfl ?_
    refine oX_getI fX4_570 rfl oDs1 dX4_told_7 ?_
    refine oX_icmp_ge (tgt := 22) dX4_told_10 (by decide) (fun c9 => ?_) (fun c9 => ?_)
    · have hm := ifp c9 hm
      exact oX_sub [0, 1, 2] rfl (x_mX4_told_j22 hM x1 x2 hm hK)
    · have hm := ifn c9 hm
      refine oX_iload_n dX4_told_13 rfl rfl ?_
      refine oX_if_lt (tgt := 22) dX4_told_14 (by decide) (fun c10 => ?_) (fun c10 => ?_)
      · have hm := ifp c10 hm
        exact oX_sub [0, 1, 2] rfl (x_mX4_told_j22 hM x1 x2 hm hK)
      · have hm := ifn c10 hm
        refine oX_iload_n dX4_told_17 rfl rfl ?_
        refine oX_iconst (v := (2 : Int32)) dX4_told_18 (by decide) ?_
        refine oX_icmp_le (tgt := 26) dX4_told_19 (by decide) (fun c11 => ?_) (fun c11 => ?_)
        · have hm := ifp c11 hm
          refine oX_iconst (v := (0 : Int32)) dX4_told_26 (by decide) ?_
          exact oX_sub [0, 1, 2] rfl (x_mX4_told_j27 hM x1 x2 (0 : Int32) hm hK)
        · have hm := ifn c11 hm
          exact oX_sub [0, 1, 2] rfl (x_mX4_told_j22 hM x1 x2 hm hK)
theorem t_X4_told {G : OhG} {FI AI : OhI} {FL AL : OhL} {FR GR AR BR : OhQ} {AN : OhN} {C : OhC} (hM : ohShM FR AN) (x1 : Int32) (x2 : Int32) {o : Int32 × OhI} (hm : mX4_told FI FR AI AN x1 x2 = some o) : oT G 2 iX4_told [vR (some (1, 0)), vI x1, vI x2] (FI, FL, FR, GR, AI, AL, AR, BR, AN, C) (0, 0) (fun v h => v = (some (vI o.1)) ∧ h = (o.2, FL, FR, GR, AI, AL, AR, BR, AN, C)) ohNo :=
  oT_of (by decide) rfl (Nat.le_of_ble_eq_true rfl) (x_mX4_told hM x1 x2 hm ⟨rfl, rfl⟩)
abbrev iX4_unmark : OhM := (yX4_unmark, cX4_unmark, 2, none, [])
theorem ok_X4_unmark : oOk iX4_unmark 0 := ⟨by decide, by decide, by decide +kernel⟩

noncomputable def mX4_unmark_b2 (n : Nat) (FR : OhQ) (AI : OhI) (AN : OhN) (x1 : Int32) : Option ((Int32 × OhI) ⊕ (OhI)) :=
  (if (9504 : Int32) ≤ x1 then
  some (.inr AI)
else
  gd (vp_in x1 9504) <|
    oLet (sA AI 187 0 (uA (AI 187 0) x1.toNatClampNeg (vp_nar .boolean (0 : Int32)))) fun AI2 =>
    some (.inl (x1 + (1 : Int32), AI2)))
theorem x_mX4_unmark_b2 {G : OhG} {FI AI : OhI} {FL AL : OhL} {FR GR AR BR : OhQ} {AN : OhN} {C : OhC} {k : Nat × Nat} {Φ : OhP} {Ψ : OhX} (hM : ohShM FR AN) (n : Nat) (x1 : Int32) {r : (Int32 × OhI) ⊕ (OhI)} (hm : mX4_unmark_b2 n FR AI AN x1 = some r) (hk : ∀ v : Int32 × OhI, r = .inl v → oX G 1 iX4_unmark 2 [(0, vR (some (1, 0))), (1, vI v.1)] [] (FI, FL, FR, GR, v.2, AL, AR, BR, AN, C) k Φ Ψ) (hx1 : ∀ v : OhI, r = .inr v → oX G 1 iX4_unmark 22 [] [] (FI, FL, FR, GR, v, AL, AR, BR, AN, C) k Φ Ψ) : oX G 1 iX4_unmark 2 [(0, vR (some (1, 0))), (1, vI x1)] [] (FI, FL, FR, GR, AI, AL, AR, BR, AN, C) k Φ Ψ := by
  unfold mX4_unmark_b2 at hm
  refine oX_iload_n dX4_unmark_2 rfl rfl ?_
  refine oX_sipush (v := (9504 : Int32)) dX4_unmark_3 (by decide) ?_
  refine oX_icmp_ge (tgt := 22) dX4_unmark_6 (by decide) (fun c1 => ?_) (fun c1 => ?_)
  · have hm := ifp c1 hm
    exact oX_sub [] rfl (hx1 AI (Option.some.inj hm).symm)
  · have hm := ifn c1 hm
    refine oX_aload_n dX4_unmark_9 rfl rfl ?_
    refine oX_getF fX4_199 rfl oDs1 dX4_unmark_10 (ohF187 hM) ?_
    refine oX_iload_n dX4_unmark_13 rfl rfl ?_
    refine oX_iconst (v := (0 : Int32)) dX4_unmark_14 (by decide) ?_
    obtain ⟨g2, hm⟩ := gd_s hm
    obtain ⟨AI2, hAI2, hm⟩ := oLs hm
    refine oX_zast oDs187 (oIn (ohN187 hM) g2) dX4_unmark_15 hAI2 ?_
    refine oX_iinc (v := x1 + (1 : Int32)) (ls' := [(1, vI (x1 + (1 : Int32))), (0, vR (some (1, 0)))]) dX4_unmark_16 rfl rfl (by decide) rfl ?_
    refine oX_goto (tgt := 2) dX4_unmark_19 (by decide) ?_
    exact oX_sub [1, 0] rfl (hk (x1 + (1 : Int32), AI2) (Option.some.inj hm).symm)
theorem l_mX4_unmark_b2 {G : OhG} {FI : OhI} {FL : OhL} {FR : OhQ} {GR : OhQ} {AL : OhL} {AR : OhQ} {BR : OhQ} {AN : OhN} {C : OhC} {k : Nat × Nat} {Φ : OhP} {Ψ : OhX} (hM : ohShM FR AN) (n : Nat) : ∀ (f : Nat) (x1 : Int32) (AI : OhI) (b : (OhI)), lpF (fun v => mX4_unmark_b2 n FR v.2 AN v.1) f (x1, AI) = some b → (oX G 1 iX4_unmark 22 [] [] (FI, FL, FR, GR, b, AL, AR, BR, AN, C) k Φ Ψ) → oX G 1 iX4_unmark 2 [(0, vR (some (1, 0))), (1, vI x1)] [] (FI, FL, FR, GR, AI, AL, AR, BR, AN, C) k Φ Ψ := by
  intro f
  induction f with
  | zero =>
    intro x1 AI b hm
    cases hm
  | succ f ih =>
    intro x1 AI b hm hx1
    obtain ⟨r, hr, hm⟩ := lp_s hm
    refine x_mX4_unmark_b2 hM n x1 hr (fun v e => ?_) (fun v e => ?_)
    · subst e; exact ih v.1 v.2 _ hm hx1
    · subst e; cases (show v = b from hm); exact hx1
noncomputable def mX4_unmark (n : Nat) (FR : OhQ) (AI : OhI) (AN : OhN) : Option (OhI) :=
  (lpF (fun v => mX4_unmark_b2 n FR v.2 AN v.1) n ((0 : Int32), AI)).bind fun v3 =>
  some v3
theorem x_mX4_unmark {G : OhG} {FI AI : OhI} {FL AL : OhL} {FR GR AR BR : OhQ} {AN : OhN} {C : OhC} {k : Nat × Nat} {Φ : OhP} {Ψ : OhX} (hM : ohShM FR AN) (n : Nat) {r : OhI} (hm : mX4_unmark n FR AI AN = some r) (hK : Φ none (FI, FL, FR, GR, r, AL, AR, BR, AN, C)) : oX G 1 iX4_unmark 0 [(0, vR (some (1, 0)))] [] (FI, FL, FR, GR, AI, AL, AR, BR, AN, C) k Φ Ψ := by
  unfold mX4_unmark at hm
  refine oX_iconst (v := (0 : Int32)) dX4_unmark_0 (by decide) ?_
  refine oX_istore_n (ls' := [(1, vI (0 : Int32)), (0, vR (some (1, 0)))]) dX4_unmark_1 rfl (by decide) rfl ?_
  obtain ⟨v3, g3, hm⟩ := bd_s hm
  refine oX_sub [1, 0] rfl (l_mX4_unmark_b2 hM n n (0 : Int32) AI _ g3 ?_)
  obtain rfl := Option.some.inj hm
  exact oX_vret dX4_unmark_22 rfl hK
theorem t_X4_unmark {G : OhG} {FI AI : OhI} {FL AL : OhL} {FR GR AR BR : OhQ} {AN : OhN} {C : OhC} (hM : ohShM FR AN) (n : Nat) {o : OhI} (hm : mX4_unmark n FR AI AN = some o) : oT G 1 iX4_unmark [vR (some (1, 0))] (FI, FL, FR, GR, AI, AL, AR, BR, AN, C) (0, 0) (fun v h => v = none ∧ h = (FI, FL, FR, GR, o, AL, AR, BR, AN, C)) ohNo :=
  oT_of (by decide) rfl (Nat.le_of_ble_eq_true rfl) (x_mX4_unmark hM n hm ⟨rfl, rfl⟩)
abbrev iX4_markOf : OhM := (yX4_markOf, cX4_markOf, 3, (some .int), [])
theorem ok_X4_markOf : oOk iX4_markOf 3 := ⟨by decide, by decide, by decide +kernel⟩

noncomputable def mX4_markOf (x0 : Int32) (x1 : Int32) (x2 : Int32) : Option (Int32) :=
  (if 0 ≤ x2 then
  some ((((x0 * (66 : Int32)) + x1) * (9 : Int32)) + x2)
else
  some ((((x0 * (66 : Int32)) + x1) * (9 : Int32)) + (8 : Int32)))
theorem x_mX4_markOf {G : OhG} {FI AI : OhI} {FL AL : OhL} {FR GR AR BR : OhQ} {AN : OhN} {C : OhC} {k : Nat × Nat} {Φ : OhP} {Ψ : OhX} (x0 : Int32) (x1 : Int32) (x2 : Int32) {r : Int32} (hm : mX4_markOf x0 x1 x2 = some r) (hK : Φ (some (vI r)) (FI, FL, FR, GR, AI, AL, AR, BR, AN, C)) : oX G 1 iX4_markOf 0 [(0, vI x0), (1, vI x1), (2, vI x2)] [] (FI, FL, FR, GR, AI, AL, AR, BR, AN, C) k Φ Ψ := by
  unfold mX4_markOf at hm
  refine oX_iload_n dX4_markOf_0 rfl rfl ?_
  refine oX_bipush (v := (66 : Int32)) dX4_markOf_1 (by decide) ?_
  refine oX_imul dX4_markOf_3 ?_
  refine oX_iload_n dX4_markOf_4 rfl rfl ?_
  refine oX_iadd dX4_markOf_5 ?_
  refine oX_bipush (v := (9 : Int32)) dX4_markOf_6 (by decide) ?_
  refine oX_imul dX4_markOf_8 ?_
  refine oX_iload_n dX4_markOf_9 rfl rfl ?_
  refine oX_if_ge (tgt := 18) dX4_markOf_10 (by decide) (fun c1 => ?_) (fun c1 => ?_)
  · have hm := ifp c1 hm
    refine oX_iload_n dX4_markOf_18 rfl rfl ?_
    refine oX_iadd dX4_markOf_19 ?_
    obtain rfl := Option.some.inj hm
    exact oX_iret dX4_markOf_20 rfl rfl hK
  · have hm := ifn c1 hm
    refine oX_bipush (v := (8 : Int32)) dX4_markOf_13 (by decide) ?_
    refine oX_goto (tgt := 19) dX4_markOf_15 (by decide) ?_
    refine oX_iadd dX4_markOf_19 ?_
    obtain rfl := Option.some.inj hm
    exact oX_iret dX4_markOf_20 rfl rfl hK
theorem t_X4_markOf {G : OhG} {FI AI : OhI} {FL AL : OhL} {FR GR AR BR : OhQ} {AN : OhN} {C : OhC} (x0 : Int32) (x1 : Int32) (x2 : Int32) {o : Int32} (hm : mX4_markOf x0 x1 x2 = some o) : oT G 1 iX4_markOf [vI x0, vI x1, vI x2] (FI, FL, FR, GR, AI, AL, AR, BR, AN, C) (0, 0) (fun v h => v = (some (vI o)) ∧ h = (FI, FL, FR, GR, AI, AL, AR, BR, AN, C)) ohNo :=
  oT_of (by decide) rfl (Nat.le_of_ble_eq_true rfl) (x_mX4_markOf x0 x1 x2 hm ⟨rfl, rfl⟩)
abbrev iX4_marks : OhM := (yX4_marks, cX4_marks, 7, (some .boolean), [])
theorem ok_X4_marks : oOk iX4_marks 2 := ⟨by decide, by decide, by decide +kernel⟩

noncomputable def mX4_marks_j84 (n : Nat) (FI : OhI) (FR : OhQ) (AI : OhI) (AN : OhN) (x1 : Int32) (x2 : Int32) (x3 : Int32) (x4 : Int32) (x5 : Int32) (y0 : Int32) : Option ((Int32 × OhI) ⊕ ((OhI) ⊕ (OhI))) :=
  (if x2 = 0 then
  (if y0 = 0 then
    some (.inl (x5 + (1 : Int32), AI))
  else
    (mX4_markOf x5 x3 x4).bind fun r11 =>
      gd (vp_in r11 9504) <|
      (if (AI 187 0 r11.toNatClampNeg) = 0 then
      some (.inr (.inr AI))
    else
      some (.inl (x5 + (1 : Int32), AI))))
else
  (mX4_markOf x5 x3 x4).bind fun r14 =>
    gd (vp_in r14 9504) <|
    oLet (sA AI 187 0 (uA (AI 187 0) r14.toNatClampNeg (vp_nar .boolean y0))) fun AI15 =>
    some (.inl (x5 + (1 : Int32), AI15)))
theorem x_mX4_marks_j84 {G : OhG} {FI AI : OhI} {FL AL : OhL} {FR GR AR BR : OhQ} {AN : OhN} {C : OhC} {k : Nat × Nat} {Φ : OhP} {Ψ : OhX} (hM : ohShM FR AN) (n : Nat) (x1 : Int32) (x2 : Int32) (x3 : Int32) (x4 : Int32) (x5 : Int32) (y0 : Int32) {r : (Int32 × OhI) ⊕ ((OhI) ⊕ (OhI))} (hm : mX4_marks_j84 n FI FR AI AN x1 x2 x3 x4 x5 y0 = some r) (hk : ∀ v : Int32 × OhI, r = .inl v → oX G 4 iX4_marks 52 [(0, vR (some (1, 0))), (1, vI x1), (2, vI x2), (3, vI x3), (4, vI x4), (5, vI v.1)] [] (FI, FL, FR, GR, v.2, AL, AR, BR, AN, C) k Φ Ψ) (hx1 : ∀ v : OhI, r = .inr (.inl v) → oX G 4 iX4_marks 137 [(0, vR (some (1, 0))), (1, vI x1), (2, vI x2), (3, vI x3), (4, vI x4)] [] (FI, FL, FR, GR, v, AL, AR, BR, AN, C) k Φ Ψ) (hx2 : ∀ v : OhI, r = .inr (.inr v) → oX G 4 iX4_marks 129 [] [] (FI, FL, FR, GR, v, AL, AR, BR, AN, C) k Φ Ψ) : oX G 4 iX4_marks 84 [(0, vR (some (1, 0))), (1, vI x1), (2, vI x2), (3, vI x3), (4, vI x4), (5, vI x5)] [vI y0] (FI, FL, FR, GR, AI, AL, AR, BR, AN, C) k Φ Ψ := by
  unfold mX4_marks_j84 at hm
  refine oX_istore (ls' := [(6, vI y0), (0, vR (some (1, 0))), (1, vI x1), (2, vI x2), (3, vI x3), (4, vI x4), (5, vI x5)]) dX4_marks_84 (by decide) rfl ?_
  refine oX_iload_n dX4_marks_86 rfl rfl ?_
  refine oX_if_eq (tgt := 108) dX4_marks_87 (by decide) (fun c9 => ?_) (fun c9 => ?_)
  · have hm := ifp c9 hm
    refine oX_iload dX4_marks_108 rfl ?_
    refine oX_if_eq (tgt := 131) dX4_marks_110 (by decide) (fun c10 => ?_) (fun c10 => ?_)
    · have hm := ifp c10 hm
      refine oX_iinc (v := x5 + (1 : Int32)) (ls' := [(5, vI (x5 + (1 : Int32))), (6, vI y0), (0, vR (some (1, 0))), (1, vI x1), (2, vI x2), (3, vI x3), (4, vI x4)]) dX4_marks_131 rfl rfl (by decide) rfl ?_
      refine oX_goto (tgt := 52) dX4_marks_134 (by decide) ?_
      exact oX_sub [2, 3, 4, 5, 6, 0] rfl (hk (x5 + (1 : Int32), AI) (Option.some.inj hm).symm)
    · have hm := ifn c10 hm
      refine oX_aload_n dX4_marks_113 rfl rfl ?_
      refine oX_getF fX4_199 rfl oDs1 dX4_marks_114 (ohF187 hM) ?_
      refine oX_iload dX4_marks_117 rfl ?_
      refine oX_iload_n dX4_marks_119 rfl rfl ?_
      refine oX_iload dX4_marks_120 rfl ?_
      obtain ⟨r11, g11, hm⟩ := bd_s hm
      refine oX_cS (as := [vI x5, vI x3, vI x4]) dX4_marks_122 rfl ok_X4_markOf rfl rfl q2410 q2411 q136 q2412 (by decide) (Nat.le_of_ble_eq_true rfl) (t_X4_markOf x5 x3 x4 g11) ?_
      obtain ⟨g12, hm⟩ := gd_s hm
      refine oX_zald oDs187 (oIn (ohN187 hM) g12) dX4_marks_125 ?_
      refine oX_if_ne (tgt := 131) dX4_marks_126 (by decide) (fun c13 => ?_) (fun c13 => ?_)
      · have hm := ifp c13 hm
        exact oX_sub [] rfl (hx2 AI (Option.some.inj hm).symm)
      · have hm := ifn c13 hm
        refine oX_iinc (v := x5 + (1 : Int32)) (ls' := [(5, vI (x5 + (1 : Int32))), (6, vI y0), (0, vR (some (1, 0))), (1, vI x1), (2, vI x2), (3, vI x3), (4, vI x4)]) dX4_marks_131 rfl rfl (by decide) rfl ?_
        refine oX_goto (tgt := 52) dX4_marks_134 (by decide) ?_
        exact oX_sub [2, 3, 4, 5, 6, 0] rfl (hk (x5 + (1 : Int32), AI) (Option.some.inj hm).symm)
  · have hm := ifn c9 hm
    refine oX_aload_n dX4_marks_90 rfl rfl ?_
    refine oX_getF fX4_199 rfl oDs1 dX4_marks_91 (ohF187 hM) ?_
    refine oX_iload dX4_marks_94 rfl ?_
    refine oX_iload_n dX4_marks_96 rfl rfl ?_
    refine oX_iload dX4_marks_97 rfl ?_
    obtain ⟨r14, g14, hm⟩ := bd_s hm
    refine oX_cS (as := [vI x5, vI x3, vI x4]) dX4_marks_99 rfl ok_X4_markOf rfl rfl q2410 q2411 q136 q2412 (by decide) (Nat.le_of_ble_eq_true rfl) (t_X4_markOf x5 x3 x4 g14) ?_
    refine oX_iload dX4_marks_102 rfl ?_
    obtain ⟨g15, hm⟩ := gd_s hm
    obtain ⟨AI15, hAI15, hm⟩ := oLs hm
    refine oX_zast oDs187 (oIn (ohN187 hM) g15) dX4_marks_104 hAI15 ?_
    refine oX_goto (tgt := 131) dX4_marks_105 (by decide) ?_
    refine oX_iinc (v := x5 + (1 : Int32)) (ls' := [(5, vI (x5 + (1 : Int32))), (6, vI y0), (0, vR (some (1, 0))), (1, vI x1), (2, vI x2), (3, vI x3), (4, vI x4)]) dX4_marks_131 rfl rfl (by decide) rfl ?_
    refine oX_goto (tgt := 52) dX4_marks_134 (by decide) ?_
    exact oX_sub [2, 3, 4, 5, 6, 0] rfl (hk (x5 + (1 : Int32), AI15) (Option.some.inj hm).symm)
noncomputable def mX4_marks_j83 (n : Nat) (FI : OhI) (FR : OhQ) (AI : OhI) (AN : OhN) (x1 : Int32) (x2 : Int32) (x3 : Int32) (x4 : Int32) (x5 : Int32) : Option ((Int32 × OhI) ⊕ ((OhI) ⊕ (OhI))) :=
  mX4_marks_j84 n FI FR AI AN x1 x2 x3 x4 x5 (0 : Int32)
theorem x_mX4_marks_j83 {G : OhG} {FI AI : OhI} {FL AL : OhL} {FR GR AR BR : OhQ} {AN : OhN} {C : OhC} {k : Nat × Nat} {Φ : OhP} {Ψ : OhX} (hM : ohShM FR AN) (n : Nat) (x1 : Int32) (x2 : Int32) (x3 : Int32) (x4 : Int32) (x5 : Int32) {r : (Int32 × OhI) ⊕ ((OhI) ⊕ (OhI))} (hm : mX4_marks_j83 n FI FR AI AN x1 x2 x3 x4 x5 = some r) (hk : ∀ v : Int32 × OhI, r = .inl v → oX G 4 iX4_marks 52 [(0, vR (some (1, 0))), (1, vI x1), (2, vI x2), (3, vI x3), (4, vI x4), (5, vI v.1)] [] (FI, FL, FR, GR, v.2, AL, AR, BR, AN, C) k Φ Ψ) (hx1 : ∀ v : OhI, r = .inr (.inl v) → oX G 4 iX4_marks 137 [(0, vR (some (1, 0))), (1, vI x1), (2, vI x2), (3, vI x3), (4, vI x4)] [] (FI, FL, FR, GR, v, AL, AR, BR, AN, C) k Φ Ψ) (hx2 : ∀ v : OhI, r = .inr (.inr v) → oX G 4 iX4_marks 129 [] [] (FI, FL, FR, GR, v, AL, AR, BR, AN, C) k Φ Ψ) : oX G 4 iX4_marks 83 [(0, vR (some (1, 0))), (1, vI x1), (2, vI x2), (3, vI x3), (4, vI x4), (5, vI x5)] [] (FI, FL, FR, GR, AI, AL, AR, BR, AN, C) k Φ Ψ := by
  unfold mX4_marks_j83 at hm
  refine oX_iconst (v := (0 : Int32)) dX4_marks_83 (by decide) ?_
  exact oX_sub [0, 1, 2, 3, 4, 5] rfl (x_mX4_marks_j84 hM n x1 x2 x3 x4 x5 (0 : Int32) hm hk hx1 hx2)
noncomputable def mX4_marks_b52 (n : Nat) (FI : OhI) (FR : OhQ) (AI : OhI) (AN : OhN) (x1 : Int32) (x2 : Int32) (x3 : Int32) (x4 : Int32) (x5 : Int32) : Option ((Int32 × OhI) ⊕ ((OhI) ⊕ (OhI))) :=
  (if (15 : Int32) < x5 then
  some (.inr (.inl AI))
else
  (if x5 = (9 : Int32) then
    mX4_marks_j83 n FI FR AI AN x1 x2 x3 x4 x5
  else
    (mX4_isWrong n FI FR AI AN x5 x1 x3 x4).bind fun r16 =>
      (if r16 = 0 then
      mX4_marks_j83 n FI FR AI AN x1 x2 x3 x4 x5
    else
      mX4_marks_j84 n FI FR AI AN x1 x2 x3 x4 x5 (1 : Int32))))
theorem x_mX4_marks_b52 {G : OhG} {FI AI : OhI} {FL AL : OhL} {FR GR AR BR : OhQ} {AN : OhN} {C : OhC} {k : Nat × Nat} {Φ : OhP} {Ψ : OhX} (hM : ohShM FR AN) (n : Nat) (x1 : Int32) (x2 : Int32) (x3 : Int32) (x4 : Int32) (x5 : Int32) {r : (Int32 × OhI) ⊕ ((OhI) ⊕ (OhI))} (hm : mX4_marks_b52 n FI FR AI AN x1 x2 x3 x4 x5 = some r) (hk : ∀ v : Int32 × OhI, r = .inl v → oX G 4 iX4_marks 52 [(0, vR (some (1, 0))), (1, vI x1), (2, vI x2), (3, vI x3), (4, vI x4), (5, vI v.1)] [] (FI, FL, FR, GR, v.2, AL, AR, BR, AN, C) k Φ Ψ) (hx1 : ∀ v : OhI, r = .inr (.inl v) → oX G 4 iX4_marks 137 [(0, vR (some (1, 0))), (1, vI x1), (2, vI x2), (3, vI x3), (4, vI x4)] [] (FI, FL, FR, GR, v, AL, AR, BR, AN, C) k Φ Ψ) (hx2 : ∀ v : OhI, r = .inr (.inr v) → oX G 4 iX4_marks 129 [] [] (FI, FL, FR, GR, v, AL, AR, BR, AN, C) k Φ Ψ) : oX G 4 iX4_marks 52 [(0, vR (some (1, 0))), (1, vI x1), (2, vI x2), (3, vI x3), (4, vI x4), (5, vI x5)] [] (FI, FL, FR, GR, AI, AL, AR, BR, AN, C) k Φ Ψ := by
  unfold mX4_marks_b52 at hm
  refine oX_iload dX4_marks_52 rfl ?_
  refine oX_bipush (v := (15 : Int32)) dX4_marks_54 (by decide) ?_
  refine oX_icmp_gt (tgt := 137) dX4_marks_56 (by decide) (fun c7 => ?_) (fun c7 => ?_)
  · have hm := ifp c7 hm
    exact oX_sub [0, 1, 2, 3, 4] rfl (hx1 AI (Option.some.inj hm).symm)
  · have hm := ifn c7 hm
    refine oX_iload dX4_marks_59 rfl ?_
    refine oX_bipush (v := (9 : Int32)) dX4_marks_61 (by decide) ?_
    refine oX_icmp_eq (tgt := 83) dX4_marks_63 (by decide) (fun c8 => ?_) (fun c8 => ?_)
    · have hm := ifp c8 hm
      exact oX_sub [0, 1, 2, 3, 4, 5] rfl (x_mX4_marks_j83 hM n x1 x2 x3 x4 x5 hm hk hx1 hx2)
    · have hm := ifn c8 hm
      refine oX_aload_n dX4_marks_66 rfl rfl ?_
      refine oX_iload dX4_marks_67 rfl ?_
      refine oX_iload_n dX4_marks_69 rfl rfl ?_
      refine oX_iload_n dX4_marks_70 rfl rfl ?_
      refine oX_iload dX4_marks_71 rfl ?_
      obtain ⟨r16, g16, hm⟩ := bd_s hm
      refine oX_cV (as := [vI x5, vI x1, vI x3, vI x4]) dX4_marks_73 rfl oDs1 rfl (by decide) rfl ok_X4_isWrong rfl rfl q2363 q2365 qs115 q136 q2366 (by decide) (Nat.le_of_ble_eq_true rfl) (t_X4_isWrong hM n x5 x1 x3 x4 g16) ?_
      refine oX_if_eq (tgt := 83) dX4_marks_76 (by decide) (fun c17 => ?_) (fun c17 => ?_)
      · have hm := ifp c17 hm
        exact oX_sub [0, 1, 2, 3, 4, 5] rfl (x_mX4_marks_j83 hM n x1 x2 x3 x4 x5 hm hk hx1 hx2)
      · have hm := ifn c17 hm
        refine oX_iconst (v := (1 : Int32)) dX4_marks_79 (by decide) ?_
        refine oX_goto (tgt := 84) dX4_marks_80 (by decide) ?_
        exact oX_sub [0, 1, 2, 3, 4, 5] rfl (x_mX4_marks_j84 hM n x1 x2 x3 x4 x5 (1 : Int32) hm hk hx1 hx2)
theorem l_mX4_marks_b52 {G : OhG} {FI : OhI} {FL : OhL} {FR : OhQ} {GR : OhQ} {AL : OhL} {AR : OhQ} {BR : OhQ} {AN : OhN} {C : OhC} {k : Nat × Nat} {Φ : OhP} {Ψ : OhX} (hM : ohShM FR AN) (n : Nat) (x1 : Int32) (x2 : Int32) (x3 : Int32) (x4 : Int32) : ∀ (f : Nat) (x5 : Int32) (AI : OhI) (b : ((OhI) ⊕ (OhI))), lpF (fun v => mX4_marks_b52 n FI FR v.2 AN x1 x2 x3 x4 v.1) f (x5, AI) = some b → (∀ v : OhI, b = (.inl v) → oX G 4 iX4_marks 137 [(0, vR (some (1, 0))), (1, vI x1), (2, vI x2), (3, vI x3), (4, vI x4)] [] (FI, FL, FR, GR, v, AL, AR, BR, AN, C) k Φ Ψ) → (∀ v : OhI, b = (.inr v) → oX G 4 iX4_marks 129 [] [] (FI, FL, FR, GR, v, AL, AR, BR, AN, C) k Φ Ψ) → oX G 4 iX4_marks 52 [(0, vR (some (1, 0))), (1, vI x1), (2, vI x2), (3, vI x3), (4, vI x4), (5, vI x5)] [] (FI, FL, FR, GR, AI, AL, AR, BR, AN, C) k Φ Ψ := by
  intro f
  induction f with
  | zero =>
    intro x5 AI b hm
    cases hm
  | succ f ih =>
    intro x5 AI b hm hx1 hx2
    obtain ⟨r, hr, hm⟩ := lp_s hm
    refine x_mX4_marks_b52 hM n x1 x2 x3 x4 x5 hr (fun v e => ?_) (fun v e => ?_) (fun v e => ?_)
    · subst e; exact ih v.1 v.2 _ hm hx1 hx2
    · subst e; exact hx1 v hm.symm
    · subst e; exact hx2 v hm.symm
noncomputable def mX4_marks_b13 (n : Nat) (FI : OhI) (FR : OhQ) (AI : OhI) (AN : OhN) (x1 : Int32) (x2 : Int32) (x3 : Int32) (x4 : Int32) : Option ((Int32 × OhI) ⊕ ((OhI) ⊕ (OhI))) :=
  gd (vp_in x3 66) <|
  gd (vp_in (AI 164 0 x3.toNatClampNeg) 9) <|
  (if (AI 111 0 (AI 164 0 x3.toNatClampNeg).toNatClampNeg) ≤ x4 then
  some (.inr (.inl AI))
else
  gd (vp_in (((8 : Int32) * x3) + x4) 528) <|
    (if (AI 172 0 (((8 : Int32) * x3) + x4).toNatClampNeg) = x1 then
    (lpF (fun v => mX4_marks_b52 n FI FR v.2 AN x1 x2 x3 x4 v.1) n ((8 : Int32), AI)).bind (Sum.elim (fun v18 => some (.inl (x4 + (1 : Int32), v18))) (fun v18 => some (.inr (.inr v18))))
  else
    some (.inl (x4 + (1 : Int32), AI))))
theorem x_mX4_marks_b13 {G : OhG} {FI AI : OhI} {FL AL : OhL} {FR GR AR BR : OhQ} {AN : OhN} {C : OhC} {k : Nat × Nat} {Φ : OhP} {Ψ : OhX} (hM : ohShM FR AN) (n : Nat) (x1 : Int32) (x2 : Int32) (x3 : Int32) (x4 : Int32) {r : (Int32 × OhI) ⊕ ((OhI) ⊕ (OhI))} (hm : mX4_marks_b13 n FI FR AI AN x1 x2 x3 x4 = some r) (hk : ∀ v : Int32 × OhI, r = .inl v → oX G 4 iX4_marks 13 [(0, vR (some (1, 0))), (1, vI x1), (2, vI x2), (3, vI x3), (4, vI v.1)] [] (FI, FL, FR, GR, v.2, AL, AR, BR, AN, C) k Φ Ψ) (hx1 : ∀ v : OhI, r = .inr (.inl v) → oX G 4 iX4_marks 143 [(0, vR (some (1, 0))), (1, vI x1), (2, vI x2), (3, vI x3)] [] (FI, FL, FR, GR, v, AL, AR, BR, AN, C) k Φ Ψ) (hx2 : ∀ v : OhI, r = .inr (.inr v) → oX G 4 iX4_marks 129 [] [] (FI, FL, FR, GR, v, AL, AR, BR, AN, C) k Φ Ψ) : oX G 4 iX4_marks 13 [(0, vR (some (1, 0))), (1, vI x1), (2, vI x2), (3, vI x3), (4, vI x4)] [] (FI, FL, FR, GR, AI, AL, AR, BR, AN, C) k Φ Ψ := by
  unfold mX4_marks_b13 at hm
  refine oX_iload dX4_marks_13 rfl ?_
  refine oX_aload_n dX4_marks_15 rfl rfl ?_
  refine oX_getF fX4_26 rfl oDs1 dX4_marks_16 (ohF111 hM) ?_
  refine oX_aload_n dX4_marks_19 rfl rfl ?_
  refine oX_getF fX4_148 rfl oDs1 dX4_marks_20 (ohF164 hM) ?_
  refine oX_iload_n dX4_marks_23 rfl rfl ?_
  obtain ⟨g2, hm⟩ := gd_s hm
  refine oX_iald oDs164 (oIn (ohN164 hM) g2) dX4_marks_24 ?_
  obtain ⟨g3, hm⟩ := gd_s hm
  refine oX_iald oDs111 (oIn (ohN111 hM) g3) dX4_marks_25 ?_
  refine oX_icmp_ge (tgt := 143) dX4_marks_26 (by decide) (fun c4 => ?_) (fun c4 => ?_)
  · have hm := ifp c4 hm
    exact oX_sub [0, 1, 2, 3] rfl (hx1 AI (Option.some.inj hm).symm)
  · have hm := ifn c4 hm
    refine oX_aload_n dX4_marks_29 rfl rfl ?_
    refine oX_getF fX4_157 rfl oDs1 dX4_marks_30 (ohF172 hM) ?_
    refine oX_bipush (v := (8 : Int32)) dX4_marks_33 (by decide) ?_
    refine oX_iload_n dX4_marks_35 rfl rfl ?_
    refine oX_imul dX4_marks_36 ?_
    refine oX_iload dX4_marks_37 rfl ?_
    refine oX_iadd dX4_marks_39 ?_
    obtain ⟨g5, hm⟩ := gd_s hm
    refine oX_iald oDs172 (oIn (ohN172 hM) g5) dX4_marks_40 ?_
    refine oX_iload_n dX4_marks_41 rfl rfl ?_
    refine oX_icmp_eq (tgt := 48) dX4_marks_42 (by decide) (fun c6 => ?_) (fun c6 => ?_)
    · have hm := ifp c6 hm
      refine oX_bipush (v := (8 : Int32)) dX4_marks_48 (by decide) ?_
      refine oX_istore (ls' := [(5, vI (8 : Int32)), (0, vR (some (1, 0))), (1, vI x1), (2, vI x2), (3, vI x3), (4, vI x4)]) dX4_marks_50 (by decide) rfl ?_
      obtain ⟨b18, g18, hm⟩ := bd_s hm
      refine oX_sub [1, 2, 3, 4, 5, 0] rfl (l_mX4_marks_b52 hM n x1 x2 x3 x4 n (8 : Int32) AI _ g18 (fun v18 e18 => ?_) (fun v18 e18 => ?_))
      · subst e18
        have hm := el1 hm
        refine oX_iinc (v := x4 + (1 : Int32)) (ls' := [(4, vI (x4 + (1 : Int32))), (0, vR (some (1, 0))), (1, vI x1), (2, vI x2), (3, vI x3)]) dX4_marks_137 rfl rfl (by decide) rfl ?_
        refine oX_goto (tgt := 13) dX4_marks_140 (by decide) ?_
        exact oX_sub [1, 2, 3, 4, 0] rfl (hk (x4 + (1 : Int32), v18) (Option.some.inj hm).symm)
      · subst e18
        have hm := el2 hm
        exact oX_sub [] rfl (hx2 v18 (Option.some.inj hm).symm)
    · have hm := ifn c6 hm
      refine oX_goto (tgt := 137) dX4_marks_45 (by decide) ?_
      refine oX_iinc (v := x4 + (1 : Int32)) (ls' := [(4, vI (x4 + (1 : Int32))), (0, vR (some (1, 0))), (1, vI x1), (2, vI x2), (3, vI x3)]) dX4_marks_137 rfl rfl (by decide) rfl ?_
      refine oX_goto (tgt := 13) dX4_marks_140 (by decide) ?_
      exact oX_sub [1, 2, 3, 4, 0] rfl (hk (x4 + (1 : Int32), AI) (Option.some.inj hm).symm)
theorem l_mX4_marks_b13 {G : OhG} {FI : OhI} {FL : OhL} {FR : OhQ} {GR : OhQ} {AL : OhL} {AR : OhQ} {BR : OhQ} {AN : OhN} {C : OhC} {k : Nat × Nat} {Φ : OhP} {Ψ : OhX} (hM : ohShM FR AN) (n : Nat) (x1 : Int32) (x2 : Int32) (x3 : Int32) : ∀ (f : Nat) (x4 : Int32) (AI : OhI) (b : ((OhI) ⊕ (OhI))), lpF (fun v => mX4_marks_b13 n FI FR v.2 AN x1 x2 x3 v.1) f (x4, AI) = some b → (∀ v : OhI, b = (.inl v) → oX G 4 iX4_marks 143 [(0, vR (some (1, 0))), (1, vI x1), (2, vI x2), (3, vI x3)] [] (FI, FL, FR, GR, v, AL, AR, BR, AN, C) k Φ Ψ) → (∀ v : OhI, b = (.inr v) → oX G 4 iX4_marks 129 [] [] (FI, FL, FR, GR, v, AL, AR, BR, AN, C) k Φ Ψ) → oX G 4 iX4_marks 13 [(0, vR (some (1, 0))), (1, vI x1), (2, vI x2), (3, vI x3), (4, vI x4)] [] (FI, FL, FR, GR, AI, AL, AR, BR, AN, C) k Φ Ψ := by
  intro f
  induction f with
  | zero =>
    intro x4 AI b hm
    cases hm
  | succ f ih =>
    intro x4 AI b hm hx1 hx2
    obtain ⟨r, hr, hm⟩ := lp_s hm
    refine x_mX4_marks_b13 hM n x1 x2 x3 x4 hr (fun v e => ?_) (fun v e => ?_) (fun v e => ?_)
    · subst e; exact ih v.1 v.2 _ hm hx1 hx2
    · subst e; exact hx1 v hm.symm
    · subst e; exact hx2 v hm.symm
noncomputable def mX4_marks_b2 (n : Nat) (FI : OhI) (FR : OhQ) (AI : OhI) (AN : OhN) (x1 : Int32) (x2 : Int32) (x3 : Int32) : Option ((Int32 × OhI) ⊕ ((OhI) ⊕ (OhI))) :=
  (if (FI 1 0 71) ≤ x3 then
  some (.inr (.inl AI))
else
  (lpF (fun v => mX4_marks_b13 n FI FR v.2 AN x1 x2 x3 v.1) n ((0 : Int32), AI)).bind (Sum.elim (fun v19 => some (.inl (x3 + (1 : Int32), v19))) (fun v19 => some (.inr (.inr v19)))))
theorem x_mX4_marks_b2 {G : OhG} {FI AI : OhI} {FL AL : OhL} {FR GR AR BR : OhQ} {AN : OhN} {C : OhC} {k : Nat × Nat} {Φ : OhP} {Ψ : OhX} (hM : ohShM FR AN) (n : Nat) (x1 : Int32) (x2 : Int32) (x3 : Int32) {r : (Int32 × OhI) ⊕ ((OhI) ⊕ (OhI))} (hm : mX4_marks_b2 n FI FR AI AN x1 x2 x3 = some r) (hk : ∀ v : Int32 × OhI, r = .inl v → oX G 4 iX4_marks 2 [(0, vR (some (1, 0))), (1, vI x1), (2, vI x2), (3, vI v.1)] [] (FI, FL, FR, GR, v.2, AL, AR, BR, AN, C) k Φ Ψ) (hx1 : ∀ v : OhI, r = .inr (.inl v) → oX G 4 iX4_marks 149 [] [] (FI, FL, FR, GR, v, AL, AR, BR, AN, C) k Φ Ψ) (hx2 : ∀ v : OhI, r = .inr (.inr v) → oX G 4 iX4_marks 129 [] [] (FI, FL, FR, GR, v, AL, AR, BR, AN, C) k Φ Ψ) : oX G 4 iX4_marks 2 [(0, vR (some (1, 0))), (1, vI x1), (2, vI x2), (3, vI x3)] [] (FI, FL, FR, GR, AI, AL, AR, BR, AN, C) k Φ Ψ := by
  unfold mX4_marks_b2 at hm
  refine oX_iload_n dX4_marks_2 rfl rfl ?_
  refine oX_aload_n dX4_marks_3 rfl rfl ?_
  refine oX_getI fX4_446 rfl oDs1 dX4_marks_4 ?_
  refine oX_icmp_ge (tgt := 149) dX4_marks_7 (by decide) (fun c1 => ?_) (fun c1 => ?_)
  · have hm := ifp c1 hm
    exact oX_sub [] rfl (hx1 AI (Option.some.inj hm).symm)
  · have hm := ifn c1 hm
    refine oX_iconst (v := (0 : Int32)) dX4_marks_10 (by decide) ?_
    refine oX_istore (ls' := [(4, vI (0 : Int32)), (0, vR (some (1, 0))), (1, vI x1), (2, vI x2), (3, vI x3)]) dX4_marks_11 (by decide) rfl ?_
    obtain ⟨b19, g19, hm⟩ := bd_s hm
    refine oX_sub [1, 2, 3, 4, 0] rfl (l_mX4_marks_b13 hM n x1 x2 x3 n (0 : Int32) AI _ g19 (fun v19 e19 => ?_) (fun v19 e19 => ?_))
    · subst e19
      have hm := el1 hm
      refine oX_iinc (v := x3 + (1 : Int32)) (ls' := [(3, vI (x3 + (1 : Int32))), (0, vR (some (1, 0))), (1, vI x1), (2, vI x2)]) dX4_marks_143 rfl rfl (by decide) rfl ?_
      refine oX_goto (tgt := 2) dX4_marks_146 (by decide) ?_
      exact oX_sub [1, 2, 3, 0] rfl (hk (x3 + (1 : Int32), v19) (Option.some.inj hm).symm)
    · subst e19
      have hm := el2 hm
      exact oX_sub [] rfl (hx2 v19 (Option.some.inj hm).symm)
theorem l_mX4_marks_b2 {G : OhG} {FI : OhI} {FL : OhL} {FR : OhQ} {GR : OhQ} {AL : OhL} {AR : OhQ} {BR : OhQ} {AN : OhN} {C : OhC} {k : Nat × Nat} {Φ : OhP} {Ψ : OhX} (hM : ohShM FR AN) (n : Nat) (x1 : Int32) (x2 : Int32) : ∀ (f : Nat) (x3 : Int32) (AI : OhI) (b : ((OhI) ⊕ (OhI))), lpF (fun v => mX4_marks_b2 n FI FR v.2 AN x1 x2 v.1) f (x3, AI) = some b → (∀ v : OhI, b = (.inl v) → oX G 4 iX4_marks 149 [] [] (FI, FL, FR, GR, v, AL, AR, BR, AN, C) k Φ Ψ) → (∀ v : OhI, b = (.inr v) → oX G 4 iX4_marks 129 [] [] (FI, FL, FR, GR, v, AL, AR, BR, AN, C) k Φ Ψ) → oX G 4 iX4_marks 2 [(0, vR (some (1, 0))), (1, vI x1), (2, vI x2), (3, vI x3)] [] (FI, FL, FR, GR, AI, AL, AR, BR, AN, C) k Φ Ψ := by
  intro f
  induction f with
  | zero =>
    intro x3 AI b hm
    cases hm
  | succ f ih =>
    intro x3 AI b hm hx1 hx2
    obtain ⟨r, hr, hm⟩ := lp_s hm
    refine x_mX4_marks_b2 hM n x1 x2 x3 hr (fun v e => ?_) (fun v e => ?_) (fun v e => ?_)
    · subst e; exact ih v.1 v.2 _ hm hx1 hx2
    · subst e; exact hx1 v hm.symm
    · subst e; exact hx2 v hm.symm
noncomputable def mX4_marks (n : Nat) (FI : OhI) (FR : OhQ) (AI : OhI) (AN : OhN) (x1 : Int32) (x2 : Int32) : Option (Int32 × OhI) :=
  (lpF (fun v => mX4_marks_b2 n FI FR v.2 AN x1 x2 v.1) n ((0 : Int32), AI)).bind (Sum.elim (fun v20 => some ((1 : Int32), v20)) (fun v20 => some ((0 : Int32), v20)))
theorem x_mX4_marks {G : OhG} {FI AI : OhI} {FL AL : OhL} {FR GR AR BR : OhQ} {AN : OhN} {C : OhC} {k : Nat × Nat} {Φ : OhP} {Ψ : OhX} (hM : ohShM FR AN) (n : Nat) (x1 : Int32) (x2 : Int32) {r : Int32 × OhI} (hm : mX4_marks n FI FR AI AN x1 x2 = some r) (hK : Φ (some (vI r.1)) (FI, FL, FR, GR, r.2, AL, AR, BR, AN, C)) : oX G 4 iX4_marks 0 [(0, vR (some (1, 0))), (1, vI x1), (2, vI x2)] [] (FI, FL, FR, GR, AI, AL, AR, BR, AN, C) k Φ Ψ := by
  unfold mX4_marks at hm
  refine oX_iconst (v := (0 : Int32)) dX4_marks_0 (by decide) ?_
  refine oX_istore_n (ls' := [(3, vI (0 : Int32)), (0, vR (some (1, 0))), (1, vI x1), (2, vI x2)]) dX4_marks_1 rfl (by decide) rfl ?_
  obtain ⟨b20, g20, hm⟩ := bd_s hm
  refine oX_sub [1, 2, 3, 0] rfl (l_mX4_marks_b2 hM n x1 x2 n (0 : Int32) AI _ g20 (fun v20 e20 => ?_) (fun v20 e20 => ?_))
  · subst e20
    have hm := el1 hm
    refine oX_iconst (v := (1 : Int32)) dX4_marks_149 (by decide) ?_
    obtain rfl := Option.some.inj hm
    exact oX_iret dX4_marks_150 rfl (by decide) hK
  · subst e20
    have hm := el2 hm
    refine oX_iconst (v := (0 : Int32)) dX4_marks_129 (by decide) ?_
    obtain rfl := Option.some.inj hm
    exact oX_iret dX4_marks_130 rfl (by decide) hK
theorem t_X4_marks {G : OhG} {FI AI : OhI} {FL AL : OhL} {FR GR AR BR : OhQ} {AN : OhN} {C : OhC} (hM : ohShM FR AN) (n : Nat) (x1 : Int32) (x2 : Int32) {o : Int32 × OhI} (hm : mX4_marks n FI FR AI AN x1 x2 = some o) : oT G 4 iX4_marks [vR (some (1, 0)), vI x1, vI x2] (FI, FL, FR, GR, AI, AL, AR, BR, AN, C) (0, 0) (fun v h => v = (some (vI o.1)) ∧ h = (FI, FL, FR, GR, o.2, AL, AR, BR, AN, C)) ohNo :=
  oT_of (by decide) rfl (Nat.le_of_ble_eq_true rfl) (x_mX4_marks hM n x1 x2 hm ⟨rfl, rfl⟩)
abbrev iX4_put : OhM := (yX4_put, cX4_put, 4, none, [])
theorem ok_X4_put : oOk iX4_put 3 := ⟨by decide, by decide, by decide +kernel⟩

noncomputable def mX4_put (n : Nat) (FR : OhQ) (AI : OhI) (AN : OhN) (x1 : Int32) (x2 : Int32) (x3 : Int32) : Option (OhI) :=
  gd (vp_in (((8 : Int32) * x2) + x3) 528) <|
  gd (vp_in (((8 : Int32) * x2) + x3) 528) <|
  oLet (sA AI 174 0 (uA (AI 174 0) (((8 : Int32) * x2) + x3).toNatClampNeg (AI 172 0 (((8 : Int32) * x2) + x3).toNatClampNeg))) fun AI2 =>
  gd (vp_in (((8 : Int32) * x2) + x3) 528) <|
  oLet (sA AI2 172 0 (uA (AI2 172 0) (((8 : Int32) * x2) + x3).toNatClampNeg x1)) fun AI3 =>
  (mX4_enroll n FR AI3 AN x2).bind fun r4 =>
  some r4
theorem x_mX4_put {G : OhG} {FI AI : OhI} {FL AL : OhL} {FR GR AR BR : OhQ} {AN : OhN} {C : OhC} {k : Nat × Nat} {Φ : OhP} {Ψ : OhX} (hM : ohShM FR AN) (n : Nat) (x1 : Int32) (x2 : Int32) (x3 : Int32) {r : OhI} (hm : mX4_put n FR AI AN x1 x2 x3 = some r) (hK : Φ none (FI, FL, FR, GR, r, AL, AR, BR, AN, C)) : oX G 2 iX4_put 0 [(0, vR (some (1, 0))), (1, vI x1), (2, vI x2), (3, vI x3)] [] (FI, FL, FR, GR, AI, AL, AR, BR, AN, C) k Φ Ψ := by
  unfold mX4_put at hm
  refine oX_aload_n dX4_put_0 rfl rfl ?_
  refine oX_getF fX4_163 rfl oDs1 dX4_put_1 (ohF174 hM) ?_
  refine oX_bipush (v := (8 : Int32)) dX4_put_4 (by decide) ?_
  refine oX_iload_n dX4_put_6 rfl rfl ?_
  refine oX_imul dX4_put_7 ?_
  refine oX_iload_n dX4_put_8 rfl rfl ?_
  refine oX_iadd dX4_put_9 ?_
  refine oX_aload_n dX4_put_10 rfl rfl ?_
  refine oX_getF fX4_157 rfl oDs1 dX4_put_11 (ohF172 hM) ?_
  refine oX_bipush (v := (8 : Int32)) dX4_put_14 (by decide) ?_
  refine oX_iload_n dX4_put_16 rfl rfl ?_
  refine oX_imul dX4_put_17 ?_
  refine oX_iload_n dX4_put_18 rfl rfl ?_
  refine oX_iadd dX4_put_19 ?_
  obtain ⟨g1, hm⟩ := gd_s hm
  refine oX_iald oDs172 (oIn (ohN172 hM) g1) dX4_put_20 ?_
  obtain ⟨g2, hm⟩ := gd_s hm
  obtain ⟨AI2, hAI2, hm⟩ := oLs hm
  refine oX_iast oDs174 (oIn (ohN174 hM) g2) dX4_put_21 hAI2 ?_
  refine oX_aload_n dX4_put_22 rfl rfl ?_
  refine oX_getF fX4_157 rfl oDs1 dX4_put_23 (ohF172 hM) ?_
  refine oX_bipush (v := (8 : Int32)) dX4_put_26 (by decide) ?_
  refine oX_iload_n dX4_put_28 rfl rfl ?_
  refine oX_imul dX4_put_29 ?_
  refine oX_iload_n dX4_put_30 rfl rfl ?_
  refine oX_iadd dX4_put_31 ?_
  refine oX_iload_n dX4_put_32 rfl rfl ?_
  obtain ⟨g3, hm⟩ := gd_s hm
  obtain ⟨AI3, hAI3, hm⟩ := oLs hm
  refine oX_iast oDs172 (oIn (ohN172 hM) g3) dX4_put_33 hAI3 ?_
  refine oX_aload_n dX4_put_34 rfl rfl ?_
  refine oX_iload_n dX4_put_35 rfl rfl ?_
  obtain ⟨r4, g4, hm⟩ := bd_s hm
  refine oX_cV_ (as := [vI x2]) dX4_put_36 rfl oDs1 rfl (by decide) rfl ok_X4_enroll rfl rfl q2217 q2219 qs87 q136 q2220 (by decide) (Nat.le_of_ble_eq_true rfl) (t_X4_enroll hM n x2 g4) ?_
  obtain rfl := Option.some.inj hm
  exact oX_vret dX4_put_39 rfl hK
theorem t_X4_put {G : OhG} {FI AI : OhI} {FL AL : OhL} {FR GR AR BR : OhQ} {AN : OhN} {C : OhC} (hM : ohShM FR AN) (n : Nat) (x1 : Int32) (x2 : Int32) (x3 : Int32) {o : OhI} (hm : mX4_put n FR AI AN x1 x2 x3 = some o) : oT G 2 iX4_put [vR (some (1, 0)), vI x1, vI x2, vI x3] (FI, FL, FR, GR, AI, AL, AR, BR, AN, C) (0, 0) (fun v h => v = none ∧ h = (FI, FL, FR, GR, o, AL, AR, BR, AN, C)) ohNo :=
  oT_of (by decide) rfl (Nat.le_of_ble_eq_true rfl) (x_mX4_put hM n x1 x2 x3 hm ⟨rfl, rfl⟩)
abbrev iX4_mayHave : OhM := (yX4_mayHave, cX4_mayHave, 4, (some .boolean), [])
theorem ok_X4_mayHave : oOk iX4_mayHave 3 := ⟨by decide, by decide, by decide +kernel⟩

noncomputable def mX4_mayHave (n : Nat) (FI : OhI) (FR : OhQ) (AI : OhI) (AN : OhN) (x1 : Int32) (x2 : Int32) (x3 : Int32) : Option (Int32 × OhI × OhI) :=
  (mX4_load n FI FR AI AN (FI 1 0 5)).bind fun r1 =>
  gd (vp_in x2 66) <|
  (if (r1.2 160 0 x2.toNatClampNeg) < (r1.1 1 0 5) then
  some ((0 : Int32), r1.1, r1.2)
else
  (mX4_isIn_2 FR r1.2 AN x1 x2).bind fun r4 =>
    (if r4 = 0 then
    (mX4_unmark n FR r1.2 AN).bind fun r6 =>
      (mX4_marks n r1.1 FR r6 AN x1 (1 : Int32)).bind fun r7 =>
      (mX4_put n FR r7.2 AN x1 x2 x3).bind fun r8 =>
      (mX4_marks n r1.1 FR r8 AN x1 (0 : Int32)).bind fun r9 =>
      gd (r9.1 = 0 ∨ r9.1 = 1) <|
      some (r9.1, r1.1, r9.2)
  else
    some ((0 : Int32), r1.1, r1.2)))
theorem x_mX4_mayHave {G : OhG} {FI AI : OhI} {FL AL : OhL} {FR GR AR BR : OhQ} {AN : OhN} {C : OhC} {k : Nat × Nat} {Φ : OhP} {Ψ : OhX} (hM : ohShM FR AN) (n : Nat) (x1 : Int32) (x2 : Int32) (x3 : Int32) {r : Int32 × OhI × OhI} (hm : mX4_mayHave n FI FR AI AN x1 x2 x3 = some r) (hK : Φ (some (vI r.1)) (r.2.1, FL, FR, GR, r.2.2, AL, AR, BR, AN, C)) : oX G 5 iX4_mayHave 0 [(0, vR (some (1, 0))), (1, vI x1), (2, vI x2), (3, vI x3)] [] (FI, FL, FR, GR, AI, AL, AR, BR, AN, C) k Φ Ψ := by
  unfold mX4_mayHave at hm
  refine oX_aload_n dX4_mayHave_0 rfl rfl ?_
  refine oX_aload_n dX4_mayHave_1 rfl rfl ?_
  refine oX_getI fX4_246 rfl oDs1 dX4_mayHave_2 ?_
  obtain ⟨r1, g1, hm⟩ := bd_s hm
  refine oX_cV_ (as := [vI (FI 1 0 5)]) dX4_mayHave_5 rfl oDs1 rfl (by decide) rfl ok_X4_load rfl rfl q2209 q2211 qs85 q136 q2212 (by decide) (Nat.le_of_ble_eq_true rfl) (t_X4_load hM n (FI 1 0 5) g1) ?_
  refine oX_aload_n dX4_mayHave_8 rfl rfl ?_
  refine oX_getF fX4_136 rfl oDs1 dX4_mayHave_9 (ohF160 hM) ?_
  refine oX_iload_n dX4_mayHave_12 rfl rfl ?_
  obtain ⟨g2, hm⟩ := gd_s hm
  refine oX_iald oDs160 (oIn (ohN160 hM) g2) dX4_mayHave_13 ?_
  refine oX_aload_n dX4_mayHave_14 rfl rfl ?_
  refine oX_getI fX4_246 rfl oDs1 dX4_mayHave_15 ?_
  refine oX_icmp_lt (tgt := 30) dX4_mayHave_18 (by decide) (fun c3 => ?_) (fun c3 => ?_)
  · have hm := ifp c3 hm
    refine oX_iconst (v := (0 : Int32)) dX4_mayHave_30 (by decide) ?_
    obtain rfl := Option.some.inj hm
    exact oX_iret dX4_mayHave_31 rfl (by decide) hK
  · have hm := ifn c3 hm
    refine oX_aload_n dX4_mayHave_21 rfl rfl ?_
    refine oX_iload_n dX4_mayHave_22 rfl rfl ?_
    refine oX_iload_n dX4_mayHave_23 rfl rfl ?_
    obtain ⟨r4, g4, hm⟩ := bd_s hm
    refine oX_cV (as := [vI x1, vI x2]) dX4_mayHave_24 rfl oDs1 rfl (by decide) rfl ok_X4_isIn_2 rfl rfl q2241 q2243 qs91 q136 q2244 (by decide) (Nat.le_of_ble_eq_true rfl) (t_X4_isIn_2 hM x1 x2 g4) ?_
    refine oX_if_eq (tgt := 32) dX4_mayHave_27 (by decide) (fun c5 => ?_) (fun c5 => ?_)
    · have hm := ifp c5 hm
      refine oX_aload_n dX4_mayHave_32 rfl rfl ?_
      obtain ⟨r6, g6, hm⟩ := bd_s hm
      refine oX_cV_ (as := []) dX4_mayHave_33 rfl oDs1 rfl (by decide) rfl ok_X4_unmark rfl rfl q2402 q2404 qs122 q136 q2405 (by decide) (Nat.le_of_ble_eq_true rfl) (t_X4_unmark hM n g6) ?_
      refine oX_aload_n dX4_mayHave_36 rfl rfl ?_
      refine oX_iload_n dX4_mayHave_37 rfl rfl ?_
      refine oX_iconst (v := (1 : Int32)) dX4_mayHave_38 (by decide) ?_
      obtain ⟨r7, g7, hm⟩ := bd_s hm
      refine oX_cV (as := [vI x1, vI (1 : Int32)]) dX4_mayHave_39 rfl oDs1 rfl (by decide) rfl ok_X4_marks rfl rfl q2406 q2408 qs123 q136 q2409 (by decide) (Nat.le_of_ble_eq_true rfl) (t_X4_marks hM n x1 (1 : Int32) g7) ?_
      refine oX_pop dX4_mayHave_42 trivial ?_
      refine oX_aload_n dX4_mayHave_43 rfl rfl ?_
      refine oX_iload_n dX4_mayHave_44 rfl rfl ?_
      refine oX_iload_n dX4_mayHave_45 rfl rfl ?_
      refine oX_iload_n dX4_mayHave_46 rfl rfl ?_
      obtain ⟨r8, g8, hm⟩ := bd_s hm
      refine oX_cV_ (as := [vI x1, vI x2, vI x3]) dX4_mayHave_47 rfl oDs1 rfl (by decide) rfl ok_X4_put rfl rfl q2413 q2415 qs124 q136 q2416 (by decide) (Nat.le_of_ble_eq_true rfl) (t_X4_put hM n x1 x2 x3 g8) ?_
      refine oX_aload_n dX4_mayHave_50 rfl rfl ?_
      refine oX_iload_n dX4_mayHave_51 rfl rfl ?_
      refine oX_iconst (v := (0 : Int32)) dX4_mayHave_52 (by decide) ?_
      obtain ⟨r9, g9, hm⟩ := bd_s hm
      refine oX_cV (as := [vI x1, vI (0 : Int32)]) dX4_mayHave_53 rfl oDs1 rfl (by decide) rfl ok_X4_marks rfl rfl q2406 q2408 qs123 q136 q2409 (by decide) (Nat.le_of_ble_eq_true rfl) (t_X4_marks hM n x1 (0 : Int32) g9) ?_
      obtain ⟨g10, hm⟩ := gd_s hm
      obtain rfl := Option.some.inj hm
      exact oX_iret dX4_mayHave_56 rfl (oNz g10) hK
    · have hm := ifn c5 hm
      refine oX_iconst (v := (0 : Int32)) dX4_mayHave_30 (by decide) ?_
      obtain rfl := Option.some.inj hm
      exact oX_iret dX4_mayHave_31 rfl (by decide) hK
theorem t_X4_mayHave {G : OhG} {FI AI : OhI} {FL AL : OhL} {FR GR AR BR : OhQ} {AN : OhN} {C : OhC} (hM : ohShM FR AN) (n : Nat) (x1 : Int32) (x2 : Int32) (x3 : Int32) {o : Int32 × OhI × OhI} (hm : mX4_mayHave n FI FR AI AN x1 x2 x3 = some o) : oT G 5 iX4_mayHave [vR (some (1, 0)), vI x1, vI x2, vI x3] (FI, FL, FR, GR, AI, AL, AR, BR, AN, C) (0, 0) (fun v h => v = (some (vI o.1)) ∧ h = (o.2.1, FL, FR, GR, o.2.2, AL, AR, BR, AN, C)) ohNo :=
  oT_of (by decide) rfl (Nat.le_of_ble_eq_true rfl) (x_mX4_mayHave hM n x1 x2 x3 hm ⟨rfl, rfl⟩)
abbrev iX4_may : OhM := (yX4_may, cX4_may, 4, (some .boolean), [])
theorem ok_X4_may : oOk iX4_may 3 := ⟨by decide, by decide, by decide +kernel⟩

noncomputable def mX4_may (n : Nat) (FI : OhI) (FR : OhQ) (AI : OhI) (AN : OhN) (x1 : Int32) (x2 : Int32) (x3 : Int32) : Option (Int32 × OhI × OhI) :=
  oLet (sA FI 1 0 (uA (FI 1 0) 0 (0 : Int32))) fun FI1 =>
  (mX4_isSinger FI1 x1).bind fun r2 =>
  (if r2 = 0 then
  some ((0 : Int32), FI1, AI)
else
  (mX4_isCallRole FI1 FR AI AN x2 x3).bind fun r4 =>
    (if r4 = 0 then
    some ((0 : Int32), FI1, AI)
  else
    (mX4_mayHave n FI1 FR AI AN x1 x2 x3).bind fun r6 =>
      (if r6.1 = 0 then
      some ((0 : Int32), r6.2.1, r6.2.2)
    else
      some ((1 : Int32), r6.2.1, r6.2.2))))
theorem x_mX4_may {G : OhG} {FI AI : OhI} {FL AL : OhL} {FR GR AR BR : OhQ} {AN : OhN} {C : OhC} {k : Nat × Nat} {Φ : OhP} {Ψ : OhX} (hM : ohShM FR AN) (n : Nat) (x1 : Int32) (x2 : Int32) (x3 : Int32) {r : Int32 × OhI × OhI} (hm : mX4_may n FI FR AI AN x1 x2 x3 = some r) (hK : Φ (some (vI r.1)) (r.2.1, FL, FR, GR, r.2.2, AL, AR, BR, AN, C)) : oX G 6 iX4_may 0 [(0, vR (some (1, 0))), (1, vI x1), (2, vI x2), (3, vI x3)] [] (FI, FL, FR, GR, AI, AL, AR, BR, AN, C) k Φ Ψ := by
  unfold mX4_may at hm
  refine oX_aload_n dX4_may_0 rfl rfl ?_
  refine oX_iconst (v := (0 : Int32)) dX4_may_1 (by decide) ?_
  obtain ⟨FI1, hFI1, hm⟩ := oLs hm
  refine oX_putI fX4_226 rfl (fun h9 => by cases h9) oDs1 dX4_may_2 ⟨rfl, rfl⟩ hFI1 ?_
  refine oX_aload_n dX4_may_5 rfl rfl ?_
  refine oX_iload_n dX4_may_6 rfl rfl ?_
  obtain ⟨r2, g2, hm⟩ := bd_s hm
  refine oX_cV (as := [vI x1]) dX4_may_7 rfl oDs1 rfl (by decide) rfl ok_X4_isSinger rfl rfl q2063 q2065 qs62 q136 q2066 (by decide) (Nat.le_of_ble_eq_true rfl) (t_X4_isSinger x1 g2) ?_
  refine oX_if_eq (tgt := 36) dX4_may_10 (by decide) (fun c3 => ?_) (fun c3 => ?_)
  · have hm := ifp c3 hm
    refine oX_iconst (v := (0 : Int32)) dX4_may_36 (by decide) ?_
    obtain rfl := Option.some.inj hm
    exact oX_iret dX4_may_37 rfl (by decide) hK
  · have hm := ifn c3 hm
    refine oX_aload_n dX4_may_13 rfl rfl ?_
    refine oX_iload_n dX4_may_14 rfl rfl ?_
    refine oX_iload_n dX4_may_15 rfl rfl ?_
    obtain ⟨r4, g4, hm⟩ := bd_s hm
    refine oX_cV (as := [vI x2, vI x3]) dX4_may_16 rfl oDs1 rfl (by decide) rfl ok_X4_isCallRole rfl rfl q2193 q2195 qs83 q136 q2196 (by decide) (Nat.le_of_ble_eq_true rfl) (t_X4_isCallRole hM x2 x3 g4) ?_
    refine oX_if_eq (tgt := 36) dX4_may_19 (by decide) (fun c5 => ?_) (fun c5 => ?_)
    · have hm := ifp c5 hm
      refine oX_iconst (v := (0 : Int32)) dX4_may_36 (by decide) ?_
      obtain rfl := Option.some.inj hm
      exact oX_iret dX4_may_37 rfl (by decide) hK
    · have hm := ifn c5 hm
      refine oX_aload_n dX4_may_22 rfl rfl ?_
      refine oX_iload_n dX4_may_23 rfl rfl ?_
      refine oX_iload_n dX4_may_24 rfl rfl ?_
      refine oX_iload_n dX4_may_25 rfl rfl ?_
      obtain ⟨r6, g6, hm⟩ := bd_s hm
      refine oX_cV (as := [vI x1, vI x2, vI x3]) dX4_may_26 rfl oDs1 rfl (by decide) rfl ok_X4_mayHave rfl rfl q2398 q2400 qs121 q136 q2401 (by decide) (Nat.le_of_ble_eq_true rfl) (t_X4_mayHave hM n x1 x2 x3 g6) ?_
      refine oX_if_eq (tgt := 36) dX4_may_29 (by decide) (fun c7 => ?_) (fun c7 => ?_)
      · have hm := ifp c7 hm
        refine oX_iconst (v := (0 : Int32)) dX4_may_36 (by decide) ?_
        obtain rfl := Option.some.inj hm
        exact oX_iret dX4_may_37 rfl (by decide) hK
      · have hm := ifn c7 hm
        refine oX_iconst (v := (1 : Int32)) dX4_may_32 (by decide) ?_
        refine oX_goto (tgt := 37) dX4_may_33 (by decide) ?_
        obtain rfl := Option.some.inj hm
        exact oX_iret dX4_may_37 rfl (by decide) hK
theorem t_X4_may {G : OhG} {FI AI : OhI} {FL AL : OhL} {FR GR AR BR : OhQ} {AN : OhN} {C : OhC} (hM : ohShM FR AN) (n : Nat) (x1 : Int32) (x2 : Int32) (x3 : Int32) {o : Int32 × OhI × OhI} (hm : mX4_may n FI FR AI AN x1 x2 x3 = some o) : oT G 6 iX4_may [vR (some (1, 0)), vI x1, vI x2, vI x3] (FI, FL, FR, GR, AI, AL, AR, BR, AN, C) (0, 0) (fun v h => v = (some (vI o.1)) ∧ h = (o.2.1, FL, FR, GR, o.2.2, AL, AR, BR, AN, C)) ohNo :=
  oT_of (by decide) rfl (Nat.le_of_ble_eq_true rfl) (x_mX4_may hM n x1 x2 x3 hm ⟨rfl, rfl⟩)
abbrev iX4_harmOf : OhM := (yX4_harmOf, cX4_harmOf, 6, (some .int), [])
theorem ok_X4_harmOf : oOk iX4_harmOf 3 := ⟨by decide, by decide, by decide +kernel⟩

noncomputable def mX4_harmOf_j79 (n : Nat) (FI : OhI) (FR : OhQ) (AI : OhI) (AN : OhN) (x1 : Int32) (x2 : Int32) (x3 : Int32) (y0 : Int32) (y1 : Int32) : Option (Int32 × OhI × OhI) :=
  gd (vp_in x1 20) <|
  gd (vp_in x2 66) <|
  gd (vp_in (((8 : Int32) * (AI 164 0 x2.toNatClampNeg)) + x3) 72) <|
  (mX4_apart (AI 119 0 x1.toNatClampNeg) (AI 115 0 (((8 : Int32) * (AI 164 0 x2.toNatClampNeg)) + x3).toNatClampNeg)).bind fun r13 =>
  (mX4_put n FR AI AN x1 x2 x3).bind fun r14 =>
  (mX4_feeOf n FI FR r14 AN x1 x2).bind fun r15 =>
  some (((y0 + y1) + ((3 : Int32) * r13)) + (r15.1 / (100 : Int32)), FI, r15.2)
theorem x_mX4_harmOf_j79 {G : OhG} {FI AI : OhI} {FL AL : OhL} {FR GR AR BR : OhQ} {AN : OhN} {C : OhC} {k : Nat × Nat} {Φ : OhP} {Ψ : OhX} (hM : ohShM FR AN) (n : Nat) (x1 : Int32) (x2 : Int32) (x3 : Int32) (y0 : Int32) (y1 : Int32) {r : Int32 × OhI × OhI} (hm : mX4_harmOf_j79 n FI FR AI AN x1 x2 x3 y0 y1 = some r) (hK : Φ (some (vI r.1)) (r.2.1, FL, FR, GR, r.2.2, AL, AR, BR, AN, C)) : oX G 6 iX4_harmOf 79 [(0, vR (some (1, 0))), (1, vI x1), (2, vI x2), (3, vI x3)] [vI y1, vI y0] (FI, FL, FR, GR, AI, AL, AR, BR, AN, C) k Φ Ψ := by
  unfold mX4_harmOf_j79 at hm
  refine oX_iadd dX4_harmOf_79 ?_
  refine oX_istore (ls' := [(4, vI (y0 + y1)), (0, vR (some (1, 0))), (1, vI x1), (2, vI x2), (3, vI x3)]) dX4_harmOf_80 (by decide) rfl ?_
  refine oX_iload dX4_harmOf_82 rfl ?_
  refine oX_iconst (v := (3 : Int32)) dX4_harmOf_84 (by decide) ?_
  refine oX_aload_n dX4_harmOf_85 rfl rfl ?_
  refine oX_getF fX4_51 rfl oDs1 dX4_harmOf_86 (ohF119 hM) ?_
  refine oX_iload_n dX4_harmOf_89 rfl rfl ?_
  obtain ⟨g10, hm⟩ := gd_s hm
  refine oX_iald oDs119 (oIn (ohN119 hM) g10) dX4_harmOf_90 ?_
  refine oX_aload_n dX4_harmOf_91 rfl rfl ?_
  refine oX_getF fX4_38 rfl oDs1 dX4_harmOf_92 (ohF115 hM) ?_
  refine oX_bipush (v := (8 : Int32)) dX4_harmOf_95 (by decide) ?_
  refine oX_aload_n dX4_harmOf_97 rfl rfl ?_
  refine oX_getF fX4_148 rfl oDs1 dX4_harmOf_98 (ohF164 hM) ?_
  refine oX_iload_n dX4_harmOf_101 rfl rfl ?_
  obtain ⟨g11, hm⟩ := gd_s hm
  refine oX_iald oDs164 (oIn (ohN164 hM) g11) dX4_harmOf_102 ?_
  refine oX_imul dX4_harmOf_103 ?_
  refine oX_iload_n dX4_harmOf_104 rfl rfl ?_
  refine oX_iadd dX4_harmOf_105 ?_
  obtain ⟨g12, hm⟩ := gd_s hm
  refine oX_iald oDs115 (oIn (ohN115 hM) g12) dX4_harmOf_106 ?_
  obtain ⟨r13, g13, hm⟩ := bd_s hm
  refine oX_cS (as := [vI (AI 119 0 x1.toNatClampNeg), vI (AI 115 0 (((8 : Int32) * (AI 164 0 x2.toNatClampNeg)) + x3).toNatClampNeg)]) dX4_harmOf_107 rfl ok_X4_apart rfl rfl q2371 q2372 q136 q2373 (by decide) (Nat.le_of_ble_eq_true rfl) (t_X4_apart (AI 119 0 x1.toNatClampNeg) (AI 115 0 (((8 : Int32) * (AI 164 0 x2.toNatClampNeg)) + x3).toNatClampNeg) g13) ?_
  refine oX_imul dX4_harmOf_110 ?_
  refine oX_iadd dX4_harmOf_111 ?_
  refine oX_istore (ls' := [(4, vI ((y0 + y1) + ((3 : Int32) * r13))), (0, vR (some (1, 0))), (1, vI x1), (2, vI x2), (3, vI x3)]) dX4_harmOf_112 (by decide) rfl ?_
  refine oX_aload_n dX4_harmOf_114 rfl rfl ?_
  refine oX_iload_n dX4_harmOf_115 rfl rfl ?_
  refine oX_iload_n dX4_harmOf_116 rfl rfl ?_
  refine oX_iload_n dX4_harmOf_117 rfl rfl ?_
  obtain ⟨r14, g14, hm⟩ := bd_s hm
  refine oX_cV_ (as := [vI x1, vI x2, vI x3]) dX4_harmOf_118 rfl oDs1 rfl (by decide) rfl ok_X4_put rfl rfl q2413 q2415 qs124 q136 q2416 (by decide) (Nat.le_of_ble_eq_true rfl) (t_X4_put hM n x1 x2 x3 g14) ?_
  refine oX_iload dX4_harmOf_121 rfl ?_
  refine oX_aload_n dX4_harmOf_123 rfl rfl ?_
  refine oX_iload_n dX4_harmOf_124 rfl rfl ?_
  refine oX_iload_n dX4_harmOf_125 rfl rfl ?_
  obtain ⟨r15, g15, hm⟩ := bd_s hm
  refine oX_cV (as := [vI x1, vI x2]) dX4_harmOf_126 rfl oDs1 rfl (by decide) rfl ok_X4_feeOf rfl rfl q2249 q2251 qs92 q136 q2252 (by decide) (Nat.le_of_ble_eq_true rfl) (t_X4_feeOf hM n x1 x2 g15) ?_
  refine oX_bipush (v := (100 : Int32)) dX4_harmOf_129 (by decide) ?_
  refine oX_idiv dX4_harmOf_131 (by decide) ?_
  refine oX_iadd dX4_harmOf_132 ?_
  obtain rfl := Option.some.inj hm
  exact oX_iret dX4_harmOf_133 rfl rfl hK
noncomputable def mX4_harmOf_j40 (n : Nat) (FI : OhI) (FR : OhQ) (AI : OhI) (AN : OhN) (x1 : Int32) (x2 : Int32) (x3 : Int32) (y0 : Int32) : Option (Int32 × OhI × OhI) :=
  gd (vp_in x2 66) <|
  gd (vp_in (AI 164 0 x2.toNatClampNeg) 9) <|
  (mX4_learnedOf n FI FR AI AN x1 x2 x3).bind fun r8 =>
  (if ((AI 109 0 (AI 164 0 x2.toNatClampNeg).toNatClampNeg) - r8) ≤ 0 then
  mX4_harmOf_j79 n FI FR AI AN x1 x2 x3 y0 (0 : Int32)
else
  mX4_harmOf_j79 n FI FR AI AN x1 x2 x3 y0 ((10 : Int32) * ((AI 109 0 (AI 164 0 x2.toNatClampNeg).toNatClampNeg) - r8)))
theorem x_mX4_harmOf_j40 {G : OhG} {FI AI : OhI} {FL AL : OhL} {FR GR AR BR : OhQ} {AN : OhN} {C : OhC} {k : Nat × Nat} {Φ : OhP} {Ψ : OhX} (hM : ohShM FR AN) (n : Nat) (x1 : Int32) (x2 : Int32) (x3 : Int32) (y0 : Int32) {r : Int32 × OhI × OhI} (hm : mX4_harmOf_j40 n FI FR AI AN x1 x2 x3 y0 = some r) (hK : Φ (some (vI r.1)) (r.2.1, FL, FR, GR, r.2.2, AL, AR, BR, AN, C)) : oX G 6 iX4_harmOf 40 [(0, vR (some (1, 0))), (1, vI x1), (2, vI x2), (3, vI x3)] [vI y0] (FI, FL, FR, GR, AI, AL, AR, BR, AN, C) k Φ Ψ := by
  unfold mX4_harmOf_j40 at hm
  refine oX_istore (ls' := [(4, vI y0), (0, vR (some (1, 0))), (1, vI x1), (2, vI x2), (3, vI x3)]) dX4_harmOf_40 (by decide) rfl ?_
  refine oX_aload_n dX4_harmOf_42 rfl rfl ?_
  refine oX_getF fX4_20 rfl oDs1 dX4_harmOf_43 (ohF109 hM) ?_
  refine oX_aload_n dX4_harmOf_46 rfl rfl ?_
  refine oX_getF fX4_148 rfl oDs1 dX4_harmOf_47 (ohF164 hM) ?_
  refine oX_iload_n dX4_harmOf_50 rfl rfl ?_
  obtain ⟨g6, hm⟩ := gd_s hm
  refine oX_iald oDs164 (oIn (ohN164 hM) g6) dX4_harmOf_51 ?_
  obtain ⟨g7, hm⟩ := gd_s hm
  refine oX_iald oDs109 (oIn (ohN109 hM) g7) dX4_harmOf_52 ?_
  refine oX_aload_n dX4_harmOf_53 rfl rfl ?_
  refine oX_iload_n dX4_harmOf_54 rfl rfl ?_
  refine oX_iload_n dX4_harmOf_55 rfl rfl ?_
  refine oX_iload_n dX4_harmOf_56 rfl rfl ?_
  obtain ⟨r8, g8, hm⟩ := bd_s hm
  refine oX_cV (as := [vI x1, vI x2, vI x3]) dX4_harmOf_57 rfl oDs1 rfl (by decide) rfl ok_X4_learnedOf rfl rfl q2225 q2227 qs88 q136 q2228 (by decide) (Nat.le_of_ble_eq_true rfl) (t_X4_learnedOf hM n x1 x2 x3 g8) ?_
  refine oX_isub dX4_harmOf_60 ?_
  refine oX_istore (ls' := [(5, vI ((AI 109 0 (AI 164 0 x2.toNatClampNeg).toNatClampNeg) - r8)), (4, vI y0), (0, vR (some (1, 0))), (1, vI x1), (2, vI x2), (3, vI x3)]) dX4_harmOf_61 (by decide) rfl ?_
  refine oX_iload dX4_harmOf_63 rfl ?_
  refine oX_iload dX4_harmOf_65 rfl ?_
  refine oX_if_le (tgt := 78) dX4_harmOf_67 (by decide) (fun c9 => ?_) (fun c9 => ?_)
  · have hm := ifp c9 hm
    refine oX_iconst (v := (0 : Int32)) dX4_harmOf_78 (by decide) ?_
    exact oX_sub [2, 3, 4, 5] rfl (x_mX4_harmOf_j79 hM n x1 x2 x3 y0 (0 : Int32) hm hK)
  · have hm := ifn c9 hm
    refine oX_bipush (v := (10 : Int32)) dX4_harmOf_70 (by decide) ?_
    refine oX_iload dX4_harmOf_72 rfl ?_
    refine oX_imul dX4_harmOf_74 ?_
    refine oX_goto (tgt := 79) dX4_harmOf_75 (by decide) ?_
    exact oX_sub [2, 3, 4, 5] rfl (x_mX4_harmOf_j79 hM n x1 x2 x3 y0 ((10 : Int32) * ((AI 109 0 (AI 164 0 x2.toNatClampNeg).toNatClampNeg) - r8)) hm hK)
noncomputable def mX4_harmOf (n : Nat) (FI : OhI) (FR : OhQ) (AI : OhI) (AN : OhN) (x1 : Int32) (x2 : Int32) (x3 : Int32) : Option (Int32 × OhI × OhI) :=
  (mX4_load n FI FR AI AN (FI 1 0 5)).bind fun r1 =>
  (mX4_isIn_2 FR r1.2 AN x1 x2).bind fun r2 =>
  (if r2 = 0 then
  gd (vp_in (((8 : Int32) * x2) + x3) 528) <|
    (if (r1.2 173 0 (((8 : Int32) * x2) + x3).toNatClampNeg) = x1 then
    mX4_harmOf_j40 n r1.1 FR r1.2 AN x1 x2 x3 (0 : Int32)
  else
    mX4_harmOf_j40 n r1.1 FR r1.2 AN x1 x2 x3 (100 : Int32))
else
  some ((-1 : Int32), r1.1, r1.2))
theorem x_mX4_harmOf {G : OhG} {FI AI : OhI} {FL AL : OhL} {FR GR AR BR : OhQ} {AN : OhN} {C : OhC} {k : Nat × Nat} {Φ : OhP} {Ψ : OhX} (hM : ohShM FR AN) (n : Nat) (x1 : Int32) (x2 : Int32) (x3 : Int32) {r : Int32 × OhI × OhI} (hm : mX4_harmOf n FI FR AI AN x1 x2 x3 = some r) (hK : Φ (some (vI r.1)) (r.2.1, FL, FR, GR, r.2.2, AL, AR, BR, AN, C)) : oX G 6 iX4_harmOf 0 [(0, vR (some (1, 0))), (1, vI x1), (2, vI x2), (3, vI x3)] [] (FI, FL, FR, GR, AI, AL, AR, BR, AN, C) k Φ Ψ := by
  unfold mX4_harmOf at hm
  refine oX_aload_n dX4_harmOf_0 rfl rfl ?_
  refine oX_aload_n dX4_harmOf_1 rfl rfl ?_
  refine oX_getI fX4_246 rfl oDs1 dX4_harmOf_2 ?_
  obtain ⟨r1, g1, hm⟩ := bd_s hm
  refine oX_cV_ (as := [vI (FI 1 0 5)]) dX4_harmOf_5 rfl oDs1 rfl (by decide) rfl ok_X4_load rfl rfl q2209 q2211 qs85 q136 q2212 (by decide) (Nat.le_of_ble_eq_true rfl) (t_X4_load hM n (FI 1 0 5) g1) ?_
  refine oX_aload_n dX4_harmOf_8 rfl rfl ?_
  refine oX_iload_n dX4_harmOf_9 rfl rfl ?_
  refine oX_iload_n dX4_harmOf_10 rfl rfl ?_
  obtain ⟨r2, g2, hm⟩ := bd_s hm
  refine oX_cV (as := [vI x1, vI x2]) dX4_harmOf_11 rfl oDs1 rfl (by decide) rfl ok_X4_isIn_2 rfl rfl q2241 q2243 qs91 q136 q2244 (by decide) (Nat.le_of_ble_eq_true rfl) (t_X4_isIn_2 hM x1 x2 g2) ?_
  refine oX_if_eq (tgt := 19) dX4_harmOf_14 (by decide) (fun c3 => ?_) (fun c3 => ?_)
  · have hm := ifp c3 hm
    refine oX_aload_n dX4_harmOf_19 rfl rfl ?_
    refine oX_getF fX4_160 rfl oDs1 dX4_harmOf_20 (ohF173 hM) ?_
    refine oX_bipush (v := (8 : Int32)) dX4_harmOf_23 (by decide) ?_
    refine oX_iload_n dX4_harmOf_25 rfl rfl ?_
    refine oX_imul dX4_harmOf_26 ?_
    refine oX_iload_n dX4_harmOf_27 rfl rfl ?_
    refine oX_iadd dX4_harmOf_28 ?_
    obtain ⟨g4, hm⟩ := gd_s hm
    refine oX_iald oDs173 (oIn (ohN173 hM) g4) dX4_harmOf_29 ?_
    refine oX_iload_n dX4_harmOf_30 rfl rfl ?_
    refine oX_icmp_ne (tgt := 38) dX4_harmOf_31 (by decide) (fun c5 => ?_) (fun c5 => ?_)
    · have hm := ifp c5 hm
      refine oX_iconst (v := (0 : Int32)) dX4_harmOf_34 (by decide) ?_
      refine oX_goto (tgt := 40) dX4_harmOf_35 (by decide) ?_
      exact oX_sub [0, 1, 2, 3] rfl (x_mX4_harmOf_j40 hM n x1 x2 x3 (0 : Int32) hm hK)
    · have hm := ifn c5 hm
      refine oX_bipush (v := (100 : Int32)) dX4_harmOf_38 (by decide) ?_
      exact oX_sub [0, 1, 2, 3] rfl (x_mX4_harmOf_j40 hM n x1 x2 x3 (100 : Int32) hm hK)
  · have hm := ifn c3 hm
    refine oX_iconst (v := (-1 : Int32)) dX4_harmOf_17 (by decide) ?_
    obtain rfl := Option.some.inj hm
    exact oX_iret dX4_harmOf_18 rfl rfl hK
theorem t_X4_harmOf {G : OhG} {FI AI : OhI} {FL AL : OhL} {FR GR AR BR : OhQ} {AN : OhN} {C : OhC} (hM : ohShM FR AN) (n : Nat) (x1 : Int32) (x2 : Int32) (x3 : Int32) {o : Int32 × OhI × OhI} (hm : mX4_harmOf n FI FR AI AN x1 x2 x3 = some o) : oT G 6 iX4_harmOf [vR (some (1, 0)), vI x1, vI x2, vI x3] (FI, FL, FR, GR, AI, AL, AR, BR, AN, C) (0, 0) (fun v h => v = (some (vI o.1)) ∧ h = (o.2.1, FL, FR, GR, o.2.2, AL, AR, BR, AN, C)) ohNo :=
  oT_of (by decide) rfl (Nat.le_of_ble_eq_true rfl) (x_mX4_harmOf hM n x1 x2 x3 hm ⟨rfl, rfl⟩)
abbrev iX4_harm : OhM := (yX4_harm, cX4_harm, 4, (some .int), [])
theorem ok_X4_harm : oOk iX4_harm 3 := ⟨by decide, by decide, by decide +kernel⟩

noncomputable def mX4_harm (n : Nat) (FI : OhI) (FR : OhQ) (AI : OhI) (AN : OhN) (x1 : Int32) (x2 : Int32) (x3 : Int32) : Option (Int32 × OhI × OhI) :=
  oLet (sA FI 1 0 (uA (FI 1 0) 0 (0 : Int32))) fun FI1 =>
  (mX4_isSinger FI1 x1).bind fun r2 =>
  (if r2 = 0 then
  some ((-1 : Int32), FI1, AI)
else
  (mX4_isCallRole FI1 FR AI AN x2 x3).bind fun r4 =>
    (if r4 = 0 then
    some ((-1 : Int32), FI1, AI)
  else
    (mX4_harmOf n FI1 FR AI AN x1 x2 x3).bind fun r6 =>
      some (r6.1, r6.2.1, r6.2.2)))
theorem x_mX4_harm {G : OhG} {FI AI : OhI} {FL AL : OhL} {FR GR AR BR : OhQ} {AN : OhN} {C : OhC} {k : Nat × Nat} {Φ : OhP} {Ψ : OhX} (hM : ohShM FR AN) (n : Nat) (x1 : Int32) (x2 : Int32) (x3 : Int32) {r : Int32 × OhI × OhI} (hm : mX4_harm n FI FR AI AN x1 x2 x3 = some r) (hK : Φ (some (vI r.1)) (r.2.1, FL, FR, GR, r.2.2, AL, AR, BR, AN, C)) : oX G 7 iX4_harm 0 [(0, vR (some (1, 0))), (1, vI x1), (2, vI x2), (3, vI x3)] [] (FI, FL, FR, GR, AI, AL, AR, BR, AN, C) k Φ Ψ := by
  unfold mX4_harm at hm
  refine oX_aload_n dX4_harm_0 rfl rfl ?_
  refine oX_iconst (v := (0 : Int32)) dX4_harm_1 (by decide) ?_
  obtain ⟨FI1, hFI1, hm⟩ := oLs hm
  refine oX_putI fX4_226 rfl (fun h9 => by cases h9) oDs1 dX4_harm_2 ⟨rfl, rfl⟩ hFI1 ?_
  refine oX_aload_n dX4_harm_5 rfl rfl ?_
  refine oX_iload_n dX4_harm_6 rfl rfl ?_
  obtain ⟨r2, g2, hm⟩ := bd_s hm
  refine oX_cV (as := [vI x1]) dX4_harm_7 rfl oDs1 rfl (by decide) rfl ok_X4_isSinger rfl rfl q2063 q2065 qs62 q136 q2066 (by decide) (Nat.le_of_ble_eq_true rfl) (t_X4_isSinger x1 g2) ?_
  refine oX_if_eq (tgt := 32) dX4_harm_10 (by decide) (fun c3 => ?_) (fun c3 => ?_)
  · have hm := ifp c3 hm
    refine oX_iconst (v := (-1 : Int32)) dX4_harm_32 (by decide) ?_
    obtain rfl := Option.some.inj hm
    exact oX_iret dX4_harm_33 rfl rfl hK
  · have hm := ifn c3 hm
    refine oX_aload_n dX4_harm_13 rfl rfl ?_
    refine oX_iload_n dX4_harm_14 rfl rfl ?_
    refine oX_iload_n dX4_harm_15 rfl rfl ?_
    obtain ⟨r4, g4, hm⟩ := bd_s hm
    refine oX_cV (as := [vI x2, vI x3]) dX4_harm_16 rfl oDs1 rfl (by decide) rfl ok_X4_isCallRole rfl rfl q2193 q2195 qs83 q136 q2196 (by decide) (Nat.le_of_ble_eq_true rfl) (t_X4_isCallRole hM x2 x3 g4) ?_
    refine oX_if_eq (tgt := 32) dX4_harm_19 (by decide) (fun c5 => ?_) (fun c5 => ?_)
    · have hm := ifp c5 hm
      refine oX_iconst (v := (-1 : Int32)) dX4_harm_32 (by decide) ?_
      obtain rfl := Option.some.inj hm
      exact oX_iret dX4_harm_33 rfl rfl hK
    · have hm := ifn c5 hm
      refine oX_aload_n dX4_harm_22 rfl rfl ?_
      refine oX_iload_n dX4_harm_23 rfl rfl ?_
      refine oX_iload_n dX4_harm_24 rfl rfl ?_
      refine oX_iload_n dX4_harm_25 rfl rfl ?_
      obtain ⟨r6, g6, hm⟩ := bd_s hm
      refine oX_cV (as := [vI x1, vI x2, vI x3]) dX4_harm_26 rfl oDs1 rfl (by decide) rfl ok_X4_harmOf rfl rfl q2421 q2423 qs125 q136 q2424 (by decide) (Nat.le_of_ble_eq_true rfl) (t_X4_harmOf hM n x1 x2 x3 g6) ?_
      refine oX_goto (tgt := 33) dX4_harm_29 (by decide) ?_
      obtain rfl := Option.some.inj hm
      exact oX_iret dX4_harm_33 rfl rfl hK
theorem t_X4_harm {G : OhG} {FI AI : OhI} {FL AL : OhL} {FR GR AR BR : OhQ} {AN : OhN} {C : OhC} (hM : ohShM FR AN) (n : Nat) (x1 : Int32) (x2 : Int32) (x3 : Int32) {o : Int32 × OhI × OhI} (hm : mX4_harm n FI FR AI AN x1 x2 x3 = some o) : oT G 7 iX4_harm [vR (some (1, 0)), vI x1, vI x2, vI x3] (FI, FL, FR, GR, AI, AL, AR, BR, AN, C) (0, 0) (fun v h => v = (some (vI o.1)) ∧ h = (o.2.1, FL, FR, GR, o.2.2, AL, AR, BR, AN, C)) ohNo :=
  oT_of (by decide) rfl (Nat.le_of_ble_eq_true rfl) (x_mX4_harm hM n x1 x2 x3 hm ⟨rfl, rfl⟩)
abbrev iX4_instead : OhM := (yX4_instead, cX4_instead, 7, (some .int), [])
theorem ok_X4_instead : oOk iX4_instead 2 := ⟨by decide, by decide, by decide +kernel⟩

noncomputable def mX4_instead_b24 (n : Nat) (FI : OhI) (FR : OhQ) (AI : OhI) (AN : OhN) (x1 : Int32) (x2 : Int32) (x3 : Int32) (x4 : Int32) (x5 : Int32) : Option ((Int32 × Int32 × Int32 × OhI × OhI) ⊕ (Int32 × OhI × OhI)) :=
  (if (FI 1 0 22) ≤ x5 then
  some (.inr (x3, FI, AI))
else
  (mX4_mayHave n FI FR AI AN x5 x1 x2).bind fun r5 =>
    (if r5.1 = 0 then
    some (.inl (x3, x4, x5 + (1 : Int32), r5.2.1, r5.2.2))
  else
    (mX4_harmOf n r5.2.1 FR r5.2.2 AN x5 x1 x2).bind fun r7 =>
      (if x3 < 0 then
      some (.inl (x5, r7.1, x5 + (1 : Int32), r7.2.1, r7.2.2))
    else
      (if r7.1 < x4 then
        some (.inl (x5, r7.1, x5 + (1 : Int32), r7.2.1, r7.2.2))
      else
        some (.inl (x3, x4, x5 + (1 : Int32), r7.2.1, r7.2.2))))))
theorem x_mX4_instead_b24 {G : OhG} {FI AI : OhI} {FL AL : OhL} {FR GR AR BR : OhQ} {AN : OhN} {C : OhC} {k : Nat × Nat} {Φ : OhP} {Ψ : OhX} (hM : ohShM FR AN) (n : Nat) (x1 : Int32) (x2 : Int32) (x3 : Int32) (x4 : Int32) (x5 : Int32) {r : (Int32 × Int32 × Int32 × OhI × OhI) ⊕ (Int32 × OhI × OhI)} (hm : mX4_instead_b24 n FI FR AI AN x1 x2 x3 x4 x5 = some r) (hk : ∀ v : Int32 × Int32 × Int32 × OhI × OhI, r = .inl v → oX G 7 iX4_instead 24 [(0, vR (some (1, 0))), (1, vI x1), (2, vI x2), (3, vI v.1), (4, vI v.2.1), (5, vI v.2.2.1)] [] (v.2.2.2.1, FL, FR, GR, v.2.2.2.2, AL, AR, BR, AN, C) k Φ Ψ) (hx1 : ∀ v : Int32 × OhI × OhI, r = .inr v → oX G 7 iX4_instead 84 [(3, vI v.1)] [] (v.2.1, FL, FR, GR, v.2.2, AL, AR, BR, AN, C) k Φ Ψ) : oX G 7 iX4_instead 24 [(0, vR (some (1, 0))), (1, vI x1), (2, vI x2), (3, vI x3), (4, vI x4), (5, vI x5)] [] (FI, FL, FR, GR, AI, AL, AR, BR, AN, C) k Φ Ψ := by
  unfold mX4_instead_b24 at hm
  refine oX_iload dX4_instead_24 rfl ?_
  refine oX_aload_n dX4_instead_26 rfl rfl ?_
  refine oX_getI fX4_258 rfl oDs1 dX4_instead_27 ?_
  refine oX_icmp_ge (tgt := 84) dX4_instead_30 (by decide) (fun c4 => ?_) (fun c4 => ?_)
  · have hm := ifp c4 hm
    exact oX_sub [3] rfl (hx1 (x3, FI, AI) (Option.some.inj hm).symm)
  · have hm := ifn c4 hm
    refine oX_aload_n dX4_instead_33 rfl rfl ?_
    refine oX_iload dX4_instead_34 rfl ?_
    refine oX_iload_n dX4_instead_36 rfl rfl ?_
    refine oX_iload_n dX4_instead_37 rfl rfl ?_
    obtain ⟨r5, g5, hm⟩ := bd_s hm
    refine oX_cV (as := [vI x5, vI x1, vI x2]) dX4_instead_38 rfl oDs1 rfl (by decide) rfl ok_X4_mayHave rfl rfl q2398 q2400 qs121 q136 q2401 (by decide) (Nat.le_of_ble_eq_true rfl) (t_X4_mayHave hM n x5 x1 x2 g5) ?_
    refine oX_if_ne (tgt := 47) dX4_instead_41 (by decide) (fun c6 => ?_) (fun c6 => ?_)
    · have hm := ifp c6 hm
      refine oX_goto (tgt := 78) dX4_instead_44 (by decide) ?_
      refine oX_iinc (v := x5 + (1 : Int32)) (ls' := [(5, vI (x5 + (1 : Int32))), (0, vR (some (1, 0))), (1, vI x1), (2, vI x2), (3, vI x3), (4, vI x4)]) dX4_instead_78 rfl rfl (by decide) rfl ?_
      refine oX_goto (tgt := 24) dX4_instead_81 (by decide) ?_
      exact oX_sub [1, 2, 3, 4, 5, 0] rfl (hk (x3, x4, x5 + (1 : Int32), r5.2.1, r5.2.2) (Option.some.inj hm).symm)
    · have hm := ifn c6 hm
      refine oX_aload_n dX4_instead_47 rfl rfl ?_
      refine oX_iload dX4_instead_48 rfl ?_
      refine oX_iload_n dX4_instead_50 rfl rfl ?_
      refine oX_iload_n dX4_instead_51 rfl rfl ?_
      obtain ⟨r7, g7, hm⟩ := bd_s hm
      refine oX_cV (as := [vI x5, vI x1, vI x2]) dX4_instead_52 rfl oDs1 rfl (by decide) rfl ok_X4_harmOf rfl rfl q2421 q2423 qs125 q136 q2424 (by decide) (Nat.le_of_ble_eq_true rfl) (t_X4_harmOf hM n x5 x1 x2 g7) ?_
      refine oX_istore (ls' := [(6, vI r7.1), (0, vR (some (1, 0))), (1, vI x1), (2, vI x2), (3, vI x3), (4, vI x4), (5, vI x5)]) dX4_instead_55 (by decide) rfl ?_
      refine oX_iload_n dX4_instead_57 rfl rfl ?_
      refine oX_if_lt (tgt := 71) dX4_instead_58 (by decide) (fun c8 => ?_) (fun c8 => ?_)
      · have hm := ifp c8 hm
        refine oX_iload dX4_instead_71 rfl ?_
        refine oX_istore_n (ls' := [(3, vI x5), (6, vI r7.1), (0, vR (some (1, 0))), (1, vI x1), (2, vI x2), (4, vI x4), (5, vI x5)]) dX4_instead_73 rfl (by decide) rfl ?_
        refine oX_iload dX4_instead_74 rfl ?_
        refine oX_istore (ls' := [(4, vI r7.1), (3, vI x5), (6, vI r7.1), (0, vR (some (1, 0))), (1, vI x1), (2, vI x2), (5, vI x5)]) dX4_instead_76 (by decide) rfl ?_
        refine oX_iinc (v := x5 + (1 : Int32)) (ls' := [(5, vI (x5 + (1 : Int32))), (4, vI r7.1), (3, vI x5), (6, vI r7.1), (0, vR (some (1, 0))), (1, vI x1), (2, vI x2)]) dX4_instead_78 rfl rfl (by decide) rfl ?_
        refine oX_goto (tgt := 24) dX4_instead_81 (by decide) ?_
        exact oX_sub [4, 5, 6, 2, 1, 0] rfl (hk (x5, r7.1, x5 + (1 : Int32), r7.2.1, r7.2.2) (Option.some.inj hm).symm)
      · have hm := ifn c8 hm
        refine oX_iload dX4_instead_61 rfl ?_
        refine oX_iload dX4_instead_63 rfl ?_
        refine oX_icmp_lt (tgt := 71) dX4_instead_65 (by decide) (fun c9 => ?_) (fun c9 => ?_)
        · have hm := ifp c9 hm
          refine oX_iload dX4_instead_71 rfl ?_
          refine oX_istore_n (ls' := [(3, vI x5), (6, vI r7.1), (0, vR (some (1, 0))), (1, vI x1), (2, vI x2), (4, vI x4), (5, vI x5)]) dX4_instead_73 rfl (by decide) rfl ?_
          refine oX_iload dX4_instead_74 rfl ?_
          refine oX_istore (ls' := [(4, vI r7.1), (3, vI x5), (6, vI r7.1), (0, vR (some (1, 0))), (1, vI x1), (2, vI x2), (5, vI x5)]) dX4_instead_76 (by decide) rfl ?_
          refine oX_iinc (v := x5 + (1 : Int32)) (ls' := [(5, vI (x5 + (1 : Int32))), (4, vI r7.1), (3, vI x5), (6, vI r7.1), (0, vR (some (1, 0))), (1, vI x1), (2, vI x2)]) dX4_instead_78 rfl rfl (by decide) rfl ?_
          refine oX_goto (tgt := 24) dX4_instead_81 (by decide) ?_
          exact oX_sub [4, 5, 6, 2, 1, 0] rfl (hk (x5, r7.1, x5 + (1 : Int32), r7.2.1, r7.2.2) (Option.some.inj hm).symm)
        · have hm := ifn c9 hm
          refine oX_goto (tgt := 78) dX4_instead_68 (by decide) ?_
          refine oX_iinc (v := x5 + (1 : Int32)) (ls' := [(5, vI (x5 + (1 : Int32))), (6, vI r7.1), (0, vR (some (1, 0))), (1, vI x1), (2, vI x2), (3, vI x3), (4, vI x4)]) dX4_instead_78 rfl rfl (by decide) rfl ?_
          refine oX_goto (tgt := 24) dX4_instead_81 (by decide) ?_
          exact oX_sub [2, 3, 4, 5, 6, 0] rfl (hk (x3, x4, x5 + (1 : Int32), r7.2.1, r7.2.2) (Option.some.inj hm).symm)
theorem l_mX4_instead_b24 {G : OhG} {FL : OhL} {FR : OhQ} {GR : OhQ} {AL : OhL} {AR : OhQ} {BR : OhQ} {AN : OhN} {C : OhC} {k : Nat × Nat} {Φ : OhP} {Ψ : OhX} (hM : ohShM FR AN) (n : Nat) (x1 : Int32) (x2 : Int32) : ∀ (f : Nat) (x3 : Int32) (x4 : Int32) (x5 : Int32) (FI : OhI) (AI : OhI) (b : (Int32 × OhI × OhI)), lpF (fun v => mX4_instead_b24 n v.2.2.2.1 FR v.2.2.2.2 AN x1 x2 v.1 v.2.1 v.2.2.1) f (x3, x4, x5, FI, AI) = some b → (oX G 7 iX4_instead 84 [(3, vI b.1)] [] (b.2.1, FL, FR, GR, b.2.2, AL, AR, BR, AN, C) k Φ Ψ) → oX G 7 iX4_instead 24 [(0, vR (some (1, 0))), (1, vI x1), (2, vI x2), (3, vI x3), (4, vI x4), (5, vI x5)] [] (FI, FL, FR, GR, AI, AL, AR, BR, AN, C) k Φ Ψ := by
  intro f
  induction f with
  | zero =>
    intro x3 x4 x5 FI AI b hm
    cases hm
  | succ f ih =>
    intro x3 x4 x5 FI AI b hm hx1
    obtain ⟨r, hr, hm⟩ := lp_s hm
    refine x_mX4_instead_b24 hM n x1 x2 x3 x4 x5 hr (fun v e => ?_) (fun v e => ?_)
    · subst e; exact ih v.1 v.2.1 v.2.2.1 v.2.2.2.1 v.2.2.2.2 _ hm hx1
    · subst e; cases (show v = b from hm); exact hx1
noncomputable def mX4_instead (n : Nat) (FI : OhI) (FR : OhQ) (AI : OhI) (AN : OhN) (x1 : Int32) (x2 : Int32) : Option (Int32 × OhI × OhI) :=
  oLet (sA FI 1 0 (uA (FI 1 0) 0 (0 : Int32))) fun FI1 =>
  (mX4_isCallRole FI1 FR AI AN x1 x2).bind fun r2 =>
  (if r2 = 0 then
  some ((-1 : Int32), FI1, AI)
else
  (lpF (fun v => mX4_instead_b24 n v.2.2.2.1 FR v.2.2.2.2 AN x1 x2 v.1 v.2.1 v.2.2.1) n ((-1 : Int32), (0 : Int32), (0 : Int32), FI1, AI)).bind fun v10 =>
    some (v10.1, v10.2.1, v10.2.2))
theorem x_mX4_instead {G : OhG} {FI AI : OhI} {FL AL : OhL} {FR GR AR BR : OhQ} {AN : OhN} {C : OhC} {k : Nat × Nat} {Φ : OhP} {Ψ : OhX} (hM : ohShM FR AN) (n : Nat) (x1 : Int32) (x2 : Int32) {r : Int32 × OhI × OhI} (hm : mX4_instead n FI FR AI AN x1 x2 = some r) (hK : Φ (some (vI r.1)) (r.2.1, FL, FR, GR, r.2.2, AL, AR, BR, AN, C)) : oX G 7 iX4_instead 0 [(0, vR (some (1, 0))), (1, vI x1), (2, vI x2)] [] (FI, FL, FR, GR, AI, AL, AR, BR, AN, C) k Φ Ψ := by
  unfold mX4_instead at hm
  refine oX_aload_n dX4_instead_0 rfl rfl ?_
  refine oX_iconst (v := (0 : Int32)) dX4_instead_1 (by decide) ?_
  obtain ⟨FI1, hFI1, hm⟩ := oLs hm
  refine oX_putI fX4_226 rfl (fun h9 => by cases h9) oDs1 dX4_instead_2 ⟨rfl, rfl⟩ hFI1 ?_
  refine oX_aload_n dX4_instead_5 rfl rfl ?_
  refine oX_iload_n dX4_instead_6 rfl rfl ?_
  refine oX_iload_n dX4_instead_7 rfl rfl ?_
  obtain ⟨r2, g2, hm⟩ := bd_s hm
  refine oX_cV (as := [vI x1, vI x2]) dX4_instead_8 rfl oDs1 rfl (by decide) rfl ok_X4_isCallRole rfl rfl q2193 q2195 qs83 q136 q2196 (by decide) (Nat.le_of_ble_eq_true rfl) (t_X4_isCallRole hM x1 x2 g2) ?_
  refine oX_if_ne (tgt := 16) dX4_instead_11 (by decide) (fun c3 => ?_) (fun c3 => ?_)
  · have hm := ifp c3 hm
    refine oX_iconst (v := (-1 : Int32)) dX4_instead_14 (by decide) ?_
    obtain rfl := Option.some.inj hm
    exact oX_iret dX4_instead_15 rfl rfl hK
  · have hm := ifn c3 hm
    refine oX_iconst (v := (-1 : Int32)) dX4_instead_16 (by decide) ?_
    refine oX_istore_n (ls' := [(3, vI (-1 : Int32)), (0, vR (some (1, 0))), (1, vI x1), (2, vI x2)]) dX4_instead_17 rfl (by decide) rfl ?_
    refine oX_iconst (v := (0 : Int32)) dX4_instead_18 (by decide) ?_
    refine oX_istore (ls' := [(4, vI (0 : Int32)), (3, vI (-1 : Int32)), (0, vR (some (1, 0))), (1, vI x1), (2, vI x2)]) dX4_instead_19 (by decide) rfl ?_
    refine oX_iconst (v := (0 : Int32)) dX4_instead_21 (by decide) ?_
    refine oX_istore (ls' := [(5, vI (0 : Int32)), (4, vI (0 : Int32)), (3, vI (-1 : Int32)), (0, vR (some (1, 0))), (1, vI x1), (2, vI x2)]) dX4_instead_22 (by decide) rfl ?_
    obtain ⟨v10, g10, hm⟩ := bd_s hm
    refine oX_sub [3, 4, 5, 2, 1, 0] rfl (l_mX4_instead_b24 hM n x1 x2 n (-1 : Int32) (0 : Int32) (0 : Int32) FI1 AI _ g10 ?_)
    refine oX_iload_n dX4_instead_84 rfl rfl ?_
    obtain rfl := Option.some.inj hm
    exact oX_iret dX4_instead_85 rfl rfl hK
theorem t_X4_instead {G : OhG} {FI AI : OhI} {FL AL : OhL} {FR GR AR BR : OhQ} {AN : OhN} {C : OhC} (hM : ohShM FR AN) (n : Nat) (x1 : Int32) (x2 : Int32) {o : Int32 × OhI × OhI} (hm : mX4_instead n FI FR AI AN x1 x2 = some o) : oT G 7 iX4_instead [vR (some (1, 0)), vI x1, vI x2] (FI, FL, FR, GR, AI, AL, AR, BR, AN, C) (0, 0) (fun v h => v = (some (vI o.1)) ∧ h = (o.2.1, FL, FR, GR, o.2.2, AL, AR, BR, AN, C)) ohNo :=
  oT_of (by decide) rfl (Nat.le_of_ble_eq_true rfl) (x_mX4_instead hM n x1 x2 hm ⟨rfl, rfl⟩)
abbrev iX4_putNight : OhM := (yX4_putNight, cX4_putNight, 7, none, [])
theorem ok_X4_putNight : oOk iX4_putNight 3 := ⟨by decide, by decide, by decide +kernel⟩

noncomputable def mX4_putNight_b35 (n : Nat) (FI : OhI) (FR : OhQ) (AI : OhI) (AN : OhN) (x1 : Int32) (x4 : Int32) (x5 : Int32) (x6 : Int32) : Option ((Int32 × Int32) ⊕ (Int32)) :=
  (if x6 < 0 then
  some (.inr x5)
else
  gd (vp_in x6 66) <|
    gd (vp_in x1 6) <|
    (if (AI 164 0 x6.toNatClampNeg) = (AI 193 0 x1.toNatClampNeg) then
    some (.inl (x6, x6 + (-1 : Int32)))
  else
    some (.inl (x5, x6 + (-1 : Int32)))))
theorem x_mX4_putNight_b35 {G : OhG} {FI AI : OhI} {FL AL : OhL} {FR GR AR BR : OhQ} {AN : OhN} {C : OhC} {k : Nat × Nat} {Φ : OhP} {Ψ : OhX} (hM : ohShM FR AN) (n : Nat) (x1 : Int32) (x4 : Int32) (x5 : Int32) (x6 : Int32) {r : (Int32 × Int32) ⊕ (Int32)} (hm : mX4_putNight_b35 n FI FR AI AN x1 x4 x5 x6 = some r) (hk : ∀ v : Int32 × Int32, r = .inl v → oX G 3 iX4_putNight 35 [(0, vR (some (1, 0))), (1, vI x1), (4, vI x4), (5, vI v.1), (6, vI v.2)] [] (FI, FL, FR, GR, AI, AL, AR, BR, AN, C) k Φ Ψ) (hx1 : ∀ v : Int32, r = .inr v → oX G 3 iX4_putNight 71 [(0, vR (some (1, 0))), (1, vI x1), (4, vI x4), (5, vI v)] [] (FI, FL, FR, GR, AI, AL, AR, BR, AN, C) k Φ Ψ) : oX G 3 iX4_putNight 35 [(0, vR (some (1, 0))), (1, vI x1), (4, vI x4), (5, vI x5), (6, vI x6)] [] (FI, FL, FR, GR, AI, AL, AR, BR, AN, C) k Φ Ψ := by
  unfold mX4_putNight_b35 at hm
  refine oX_iload dX4_putNight_35 rfl ?_
  refine oX_if_lt (tgt := 71) dX4_putNight_37 (by decide) (fun c3 => ?_) (fun c3 => ?_)
  · have hm := ifp c3 hm
    exact oX_sub [0, 1, 2, 3] rfl (hx1 x5 (Option.some.inj hm).symm)
  · have hm := ifn c3 hm
    refine oX_aload_n dX4_putNight_40 rfl rfl ?_
    refine oX_getF fX4_148 rfl oDs1 dX4_putNight_41 (ohF164 hM) ?_
    refine oX_iload dX4_putNight_44 rfl ?_
    obtain ⟨g4, hm⟩ := gd_s hm
    refine oX_iald oDs164 (oIn (ohN164 hM) g4) dX4_putNight_46 ?_
    refine oX_aload_n dX4_putNight_47 rfl rfl ?_
    refine oX_getF fX4_211 rfl oDs1 dX4_putNight_48 (ohF193 hM) ?_
    refine oX_iload_n dX4_putNight_51 rfl rfl ?_
    obtain ⟨g5, hm⟩ := gd_s hm
    refine oX_iald oDs193 (oIn (ohN193 hM) g5) dX4_putNight_52 ?_
    refine oX_icmp_ne (tgt := 61) dX4_putNight_53 (by decide) (fun c6 => ?_) (fun c6 => ?_)
    · have hm := ifp c6 hm
      refine oX_iload dX4_putNight_56 rfl ?_
      refine oX_goto (tgt := 63) dX4_putNight_58 (by decide) ?_
      refine oX_istore (ls' := [(5, vI x6), (0, vR (some (1, 0))), (1, vI x1), (4, vI x4), (6, vI x6)]) dX4_putNight_63 (by decide) rfl ?_
      refine oX_iinc (v := x6 + (-1 : Int32)) (ls' := [(6, vI (x6 + (-1 : Int32))), (5, vI x6), (0, vR (some (1, 0))), (1, vI x1), (4, vI x4)]) dX4_putNight_65 rfl rfl (by decide) rfl ?_
      refine oX_goto (tgt := 35) dX4_putNight_68 (by decide) ?_
      exact oX_sub [2, 3, 4, 1, 0] rfl (hk (x6, x6 + (-1 : Int32)) (Option.some.inj hm).symm)
    · have hm := ifn c6 hm
      refine oX_iload dX4_putNight_61 rfl ?_
      refine oX_istore (ls' := [(5, vI x5), (0, vR (some (1, 0))), (1, vI x1), (4, vI x4), (6, vI x6)]) dX4_putNight_63 (by decide) rfl ?_
      refine oX_iinc (v := x6 + (-1 : Int32)) (ls' := [(6, vI (x6 + (-1 : Int32))), (5, vI x5), (0, vR (some (1, 0))), (1, vI x1), (4, vI x4)]) dX4_putNight_65 rfl rfl (by decide) rfl ?_
      refine oX_goto (tgt := 35) dX4_putNight_68 (by decide) ?_
      exact oX_sub [2, 3, 4, 1, 0] rfl (hk (x5, x6 + (-1 : Int32)) (Option.some.inj hm).symm)
theorem l_mX4_putNight_b35 {G : OhG} {FI : OhI} {FL : OhL} {FR : OhQ} {GR : OhQ} {AI : OhI} {AL : OhL} {AR : OhQ} {BR : OhQ} {AN : OhN} {C : OhC} {k : Nat × Nat} {Φ : OhP} {Ψ : OhX} (hM : ohShM FR AN) (n : Nat) (x1 : Int32) (x4 : Int32) : ∀ (f : Nat) (x5 : Int32) (x6 : Int32) (b : (Int32)), lpF (fun v => mX4_putNight_b35 n FI FR AI AN x1 x4 v.1 v.2) f (x5, x6) = some b → (oX G 3 iX4_putNight 71 [(0, vR (some (1, 0))), (1, vI x1), (4, vI x4), (5, vI b)] [] (FI, FL, FR, GR, AI, AL, AR, BR, AN, C) k Φ Ψ) → oX G 3 iX4_putNight 35 [(0, vR (some (1, 0))), (1, vI x1), (4, vI x4), (5, vI x5), (6, vI x6)] [] (FI, FL, FR, GR, AI, AL, AR, BR, AN, C) k Φ Ψ := by
  intro f
  induction f with
  | zero =>
    intro x5 x6 b hm
    cases hm
  | succ f ih =>
    intro x5 x6 b hm hx1
    obtain ⟨r, hr, hm⟩ := lp_s hm
    refine x_mX4_putNight_b35 hM n x1 x4 x5 x6 hr (fun v e => ?_) (fun v e => ?_)
    · subst e; exact ih v.1 v.2 _ hm hx1
    · subst e; cases (show v = b from hm); exact hx1
noncomputable def mX4_putNight_j131 (n : Nat) (FI : OhI) (FR : OhQ) (AI : OhI) (AN : OhN) (x1 : Int32) (x4 : Int32) (x5 : Int32) (x6 : Int32) (y1 : Int32) (y2 : Int32) : Option ((Int32 × OhI) ⊕ (OhI)) :=
  gd (vp_in y1 528) <|
  oLet (sA AI 172 0 (uA (AI 172 0) y1.toNatClampNeg y2)) fun AI10 =>
  gd (vp_in (((8 : Int32) * x4) + x6) 528) <|
  oLet (sA AI10 173 0 (uA (AI10 173 0) (((8 : Int32) * x4) + x6).toNatClampNeg (-1 : Int32))) fun AI11 =>
  gd (vp_in (((8 : Int32) * x4) + x6) 528) <|
  oLet (sA AI11 174 0 (uA (AI11 174 0) (((8 : Int32) * x4) + x6).toNatClampNeg (-1 : Int32))) fun AI12 =>
  some (.inl (x6 + (1 : Int32), AI12))
theorem x_mX4_putNight_j131 {G : OhG} {FI AI : OhI} {FL AL : OhL} {FR GR AR BR : OhQ} {AN : OhN} {C : OhC} {k : Nat × Nat} {Φ : OhP} {Ψ : OhX} (hM : ohShM FR AN) (n : Nat) (x1 : Int32) (x4 : Int32) (x5 : Int32) (x6 : Int32) (y1 : Int32) (y2 : Int32) {r : (Int32 × OhI) ⊕ (OhI)} (hm : mX4_putNight_j131 n FI FR AI AN x1 x4 x5 x6 y1 y2 = some r) (hk : ∀ v : Int32 × OhI, r = .inl v → oX G 3 iX4_putNight 74 [(0, vR (some (1, 0))), (1, vI x1), (4, vI x4), (5, vI x5), (6, vI v.1)] [] (FI, FL, FR, GR, v.2, AL, AR, BR, AN, C) k Φ Ψ) (hx1 : ∀ v : OhI, r = .inr v → oX G 3 iX4_putNight 166 [] [] (FI, FL, FR, GR, v, AL, AR, BR, AN, C) k Φ Ψ) : oX G 3 iX4_putNight 131 [(0, vR (some (1, 0))), (1, vI x1), (4, vI x4), (5, vI x5), (6, vI x6)] [vI y2, vI y1, vR (some (172, 0))] (FI, FL, FR, GR, AI, AL, AR, BR, AN, C) k Φ Ψ := by
  unfold mX4_putNight_j131 at hm
  obtain ⟨g10, hm⟩ := gd_s hm
  obtain ⟨AI10, hAI10, hm⟩ := oLs hm
  refine oX_iast oDs172 (oIn (ohN172 hM) g10) dX4_putNight_131 hAI10 ?_
  refine oX_aload_n dX4_putNight_132 rfl rfl ?_
  refine oX_getF fX4_160 rfl oDs1 dX4_putNight_133 (ohF173 hM) ?_
  refine oX_bipush (v := (8 : Int32)) dX4_putNight_136 (by decide) ?_
  refine oX_iload dX4_putNight_138 rfl ?_
  refine oX_imul dX4_putNight_140 ?_
  refine oX_iload dX4_putNight_141 rfl ?_
  refine oX_iadd dX4_putNight_143 ?_
  refine oX_iconst (v := (-1 : Int32)) dX4_putNight_144 (by decide) ?_
  obtain ⟨g11, hm⟩ := gd_s hm
  obtain ⟨AI11, hAI11, hm⟩ := oLs hm
  refine oX_iast oDs173 (oIn (ohN173 hM) g11) dX4_putNight_145 hAI11 ?_
  refine oX_aload_n dX4_putNight_146 rfl rfl ?_
  refine oX_getF fX4_163 rfl oDs1 dX4_putNight_147 (ohF174 hM) ?_
  refine oX_bipush (v := (8 : Int32)) dX4_putNight_150 (by decide) ?_
  refine oX_iload dX4_putNight_152 rfl ?_
  refine oX_imul dX4_putNight_154 ?_
  refine oX_iload dX4_putNight_155 rfl ?_
  refine oX_iadd dX4_putNight_157 ?_
  refine oX_iconst (v := (-1 : Int32)) dX4_putNight_158 (by decide) ?_
  obtain ⟨g12, hm⟩ := gd_s hm
  obtain ⟨AI12, hAI12, hm⟩ := oLs hm
  refine oX_iast oDs174 (oIn (ohN174 hM) g12) dX4_putNight_159 hAI12 ?_
  refine oX_iinc (v := x6 + (1 : Int32)) (ls' := [(6, vI (x6 + (1 : Int32))), (0, vR (some (1, 0))), (1, vI x1), (4, vI x4), (5, vI x5)]) dX4_putNight_160 rfl rfl (by decide) rfl ?_
  refine oX_goto (tgt := 74) dX4_putNight_163 (by decide) ?_
  exact oX_sub [1, 2, 3, 4, 0] rfl (hk (x6 + (1 : Int32), AI12) (Option.some.inj hm).symm)
noncomputable def mX4_putNight_j114 (n : Nat) (FI : OhI) (FR : OhQ) (AI : OhI) (AN : OhN) (x1 : Int32) (x4 : Int32) (x5 : Int32) (x6 : Int32) (y1 : Int32) : Option ((Int32 × OhI) ⊕ (OhI)) :=
  mX4_putNight_j131 n FI FR AI AN x1 x4 x5 x6 y1 (-1 : Int32)
theorem x_mX4_putNight_j114 {G : OhG} {FI AI : OhI} {FL AL : OhL} {FR GR AR BR : OhQ} {AN : OhN} {C : OhC} {k : Nat × Nat} {Φ : OhP} {Ψ : OhX} (hM : ohShM FR AN) (n : Nat) (x1 : Int32) (x4 : Int32) (x5 : Int32) (x6 : Int32) (y1 : Int32) {r : (Int32 × OhI) ⊕ (OhI)} (hm : mX4_putNight_j114 n FI FR AI AN x1 x4 x5 x6 y1 = some r) (hk : ∀ v : Int32 × OhI, r = .inl v → oX G 3 iX4_putNight 74 [(0, vR (some (1, 0))), (1, vI x1), (4, vI x4), (5, vI x5), (6, vI v.1)] [] (FI, FL, FR, GR, v.2, AL, AR, BR, AN, C) k Φ Ψ) (hx1 : ∀ v : OhI, r = .inr v → oX G 3 iX4_putNight 166 [] [] (FI, FL, FR, GR, v, AL, AR, BR, AN, C) k Φ Ψ) : oX G 3 iX4_putNight 114 [(0, vR (some (1, 0))), (1, vI x1), (4, vI x4), (5, vI x5), (6, vI x6)] [vI y1, vR (some (172, 0))] (FI, FL, FR, GR, AI, AL, AR, BR, AN, C) k Φ Ψ := by
  unfold mX4_putNight_j114 at hm
  refine oX_iconst (v := (-1 : Int32)) dX4_putNight_114 (by decide) ?_
  refine oX_goto (tgt := 131) dX4_putNight_115 (by decide) ?_
  exact oX_sub [0, 1, 2, 3, 4] rfl (x_mX4_putNight_j131 hM n x1 x4 x5 x6 y1 (-1 : Int32) hm hk hx1)
noncomputable def mX4_putNight_b74 (n : Nat) (FI : OhI) (FR : OhQ) (AI : OhI) (AN : OhN) (x1 : Int32) (x4 : Int32) (x5 : Int32) (x6 : Int32) : Option ((Int32 × OhI) ⊕ (OhI)) :=
  (if (8 : Int32) ≤ x6 then
  some (.inr AI)
else
  (if x5 < 0 then
    mX4_putNight_j114 n FI FR AI AN x1 x4 x5 x6 (((8 : Int32) * x4) + x6)
  else
    gd (vp_in x1 6) <|
      gd (vp_in (AI 193 0 x1.toNatClampNeg) 9) <|
      (if x6 < (AI 111 0 (AI 193 0 x1.toNatClampNeg).toNatClampNeg) then
      gd (vp_in (((8 : Int32) * x5) + x6) 528) <|
        mX4_putNight_j131 n FI FR AI AN x1 x4 x5 x6 (((8 : Int32) * x4) + x6) (AI 172 0 (((8 : Int32) * x5) + x6).toNatClampNeg)
    else
      mX4_putNight_j114 n FI FR AI AN x1 x4 x5 x6 (((8 : Int32) * x4) + x6))))
theorem x_mX4_putNight_b74 {G : OhG} {FI AI : OhI} {FL AL : OhL} {FR GR AR BR : OhQ} {AN : OhN} {C : OhC} {k : Nat × Nat} {Φ : OhP} {Ψ : OhX} (hM : ohShM FR AN) (n : Nat) (x1 : Int32) (x4 : Int32) (x5 : Int32) (x6 : Int32) {r : (Int32 × OhI) ⊕ (OhI)} (hm : mX4_putNight_b74 n FI FR AI AN x1 x4 x5 x6 = some r) (hk : ∀ v : Int32 × OhI, r = .inl v → oX G 3 iX4_putNight 74 [(0, vR (some (1, 0))), (1, vI x1), (4, vI x4), (5, vI x5), (6, vI v.1)] [] (FI, FL, FR, GR, v.2, AL, AR, BR, AN, C) k Φ Ψ) (hx1 : ∀ v : OhI, r = .inr v → oX G 3 iX4_putNight 166 [] [] (FI, FL, FR, GR, v, AL, AR, BR, AN, C) k Φ Ψ) : oX G 3 iX4_putNight 74 [(0, vR (some (1, 0))), (1, vI x1), (4, vI x4), (5, vI x5), (6, vI x6)] [] (FI, FL, FR, GR, AI, AL, AR, BR, AN, C) k Φ Ψ := by
  unfold mX4_putNight_b74 at hm
  refine oX_iload dX4_putNight_74 rfl ?_
  refine oX_bipush (v := (8 : Int32)) dX4_putNight_76 (by decide) ?_
  refine oX_icmp_ge (tgt := 166) dX4_putNight_78 (by decide) (fun c8 => ?_) (fun c8 => ?_)
  · have hm := ifp c8 hm
    exact oX_sub [] rfl (hx1 AI (Option.some.inj hm).symm)
  · have hm := ifn c8 hm
    refine oX_aload_n dX4_putNight_81 rfl rfl ?_
    refine oX_getF fX4_157 rfl oDs1 dX4_putNight_82 (ohF172 hM) ?_
    refine oX_bipush (v := (8 : Int32)) dX4_putNight_85 (by decide) ?_
    refine oX_iload dX4_putNight_87 rfl ?_
    refine oX_imul dX4_putNight_89 ?_
    refine oX_iload dX4_putNight_90 rfl ?_
    refine oX_iadd dX4_putNight_92 ?_
    refine oX_iload dX4_putNight_93 rfl ?_
    refine oX_if_lt (tgt := 114) dX4_putNight_95 (by decide) (fun c9 => ?_) (fun c9 => ?_)
    · have hm := ifp c9 hm
      exact oX_sub [0, 1, 2, 3, 4] rfl (x_mX4_putNight_j114 hM n x1 x4 x5 x6 (((8 : Int32) * x4) + x6) hm hk hx1)
    · have hm := ifn c9 hm
      refine oX_iload dX4_putNight_98 rfl ?_
      refine oX_aload_n dX4_putNight_100 rfl rfl ?_
      refine oX_getF fX4_26 rfl oDs1 dX4_putNight_101 (ohF111 hM) ?_
      refine oX_aload_n dX4_putNight_104 rfl rfl ?_
      refine oX_getF fX4_211 rfl oDs1 dX4_putNight_105 (ohF193 hM) ?_
      refine oX_iload_n dX4_putNight_108 rfl rfl ?_
      obtain ⟨g13, hm⟩ := gd_s hm
      refine oX_iald oDs193 (oIn (ohN193 hM) g13) dX4_putNight_109 ?_
      obtain ⟨g14, hm⟩ := gd_s hm
      refine oX_iald oDs111 (oIn (ohN111 hM) g14) dX4_putNight_110 ?_
      refine oX_icmp_lt (tgt := 118) dX4_putNight_111 (by decide) (fun c15 => ?_) (fun c15 => ?_)
      · have hm := ifp c15 hm
        refine oX_aload_n dX4_putNight_118 rfl rfl ?_
        refine oX_getF fX4_157 rfl oDs1 dX4_putNight_119 (ohF172 hM) ?_
        refine oX_bipush (v := (8 : Int32)) dX4_putNight_122 (by decide) ?_
        refine oX_iload dX4_putNight_124 rfl ?_
        refine oX_imul dX4_putNight_126 ?_
        refine oX_iload dX4_putNight_127 rfl ?_
        refine oX_iadd dX4_putNight_129 ?_
        obtain ⟨g16, hm⟩ := gd_s hm
        refine oX_iald oDs172 (oIn (ohN172 hM) g16) dX4_putNight_130 ?_
        exact oX_sub [0, 1, 2, 3, 4] rfl (x_mX4_putNight_j131 hM n x1 x4 x5 x6 (((8 : Int32) * x4) + x6) (AI 172 0 (((8 : Int32) * x5) + x6).toNatClampNeg) hm hk hx1)
      · have hm := ifn c15 hm
        exact oX_sub [0, 1, 2, 3, 4] rfl (x_mX4_putNight_j114 hM n x1 x4 x5 x6 (((8 : Int32) * x4) + x6) hm hk hx1)
theorem l_mX4_putNight_b74 {G : OhG} {FI : OhI} {FL : OhL} {FR : OhQ} {GR : OhQ} {AL : OhL} {AR : OhQ} {BR : OhQ} {AN : OhN} {C : OhC} {k : Nat × Nat} {Φ : OhP} {Ψ : OhX} (hM : ohShM FR AN) (n : Nat) (x1 : Int32) (x4 : Int32) (x5 : Int32) : ∀ (f : Nat) (x6 : Int32) (AI : OhI) (b : (OhI)), lpF (fun v => mX4_putNight_b74 n FI FR v.2 AN x1 x4 x5 v.1) f (x6, AI) = some b → (oX G 3 iX4_putNight 166 [] [] (FI, FL, FR, GR, b, AL, AR, BR, AN, C) k Φ Ψ) → oX G 3 iX4_putNight 74 [(0, vR (some (1, 0))), (1, vI x1), (4, vI x4), (5, vI x5), (6, vI x6)] [] (FI, FL, FR, GR, AI, AL, AR, BR, AN, C) k Φ Ψ := by
  intro f
  induction f with
  | zero =>
    intro x6 AI b hm
    cases hm
  | succ f ih =>
    intro x6 AI b hm hx1
    obtain ⟨r, hr, hm⟩ := lp_s hm
    refine x_mX4_putNight_b74 hM n x1 x4 x5 x6 hr (fun v e => ?_) (fun v e => ?_)
    · subst e; exact ih v.1 v.2 _ hm hx1
    · subst e; cases (show v = b from hm); exact hx1
noncomputable def mX4_putNight (n : Nat) (FI : OhI) (FR : OhQ) (AI : OhI) (AN : OhN) (x1 : Int32) (x2 : Int32) (x3 : Int32) : Option (OhI) :=
  gd (vp_in x1 6) <|
  (mX4_place FR AI AN ((FI 1 0 70) + x1) x2 x3 (3 : Int32) (AI 193 0 x1.toNatClampNeg) (3 : Int32)).bind fun r2 =>
  (lpF (fun v => mX4_putNight_b35 n FI FR r2 AN x1 ((FI 1 0 70) + x1) v.1 v.2) n ((-1 : Int32), (FI 1 0 70) - (1 : Int32))).bind fun v7 =>
  (lpF (fun v => mX4_putNight_b74 n FI FR v.2 AN x1 ((FI 1 0 70) + x1) v7 v.1) n ((0 : Int32), r2)).bind fun v17 =>
  some v17
theorem x_mX4_putNight {G : OhG} {FI AI : OhI} {FL AL : OhL} {FR GR AR BR : OhQ} {AN : OhN} {C : OhC} {k : Nat × Nat} {Φ : OhP} {Ψ : OhX} (hM : ohShM FR AN) (n : Nat) (x1 : Int32) (x2 : Int32) (x3 : Int32) {r : OhI} (hm : mX4_putNight n FI FR AI AN x1 x2 x3 = some r) (hK : Φ none (FI, FL, FR, GR, r, AL, AR, BR, AN, C)) : oX G 3 iX4_putNight 0 [(0, vR (some (1, 0))), (1, vI x1), (2, vI x2), (3, vI x3)] [] (FI, FL, FR, GR, AI, AL, AR, BR, AN, C) k Φ Ψ := by
  unfold mX4_putNight at hm
  refine oX_aload_n dX4_putNight_0 rfl rfl ?_
  refine oX_getI fX4_423 rfl oDs1 dX4_putNight_1 ?_
  refine oX_iload_n dX4_putNight_4 rfl rfl ?_
  refine oX_iadd dX4_putNight_5 ?_
  refine oX_istore (ls' := [(4, vI ((FI 1 0 70) + x1)), (0, vR (some (1, 0))), (1, vI x1), (2, vI x2), (3, vI x3)]) dX4_putNight_6 (by decide) rfl ?_
  refine oX_aload_n dX4_putNight_8 rfl rfl ?_
  refine oX_iload dX4_putNight_9 rfl ?_
  refine oX_iload_n dX4_putNight_11 rfl rfl ?_
  refine oX_iload_n dX4_putNight_12 rfl rfl ?_
  refine oX_iconst (v := (3 : Int32)) dX4_putNight_13 (by decide) ?_
  refine oX_aload_n dX4_putNight_14 rfl rfl ?_
  refine oX_getF fX4_211 rfl oDs1 dX4_putNight_15 (ohF193 hM) ?_
  refine oX_iload_n dX4_putNight_18 rfl rfl ?_
  obtain ⟨g1, hm⟩ := gd_s hm
  refine oX_iald oDs193 (oIn (ohN193 hM) g1) dX4_putNight_19 ?_
  refine oX_iconst (v := (3 : Int32)) dX4_putNight_20 (by decide) ?_
  obtain ⟨r2, g2, hm⟩ := bd_s hm
  refine oX_cV_ (as := [vI ((FI 1 0 70) + x1), vI x2, vI x3, vI (3 : Int32), vI (AI 193 0 x1.toNatClampNeg), vI (3 : Int32)]) dX4_putNight_21 rfl oDs1 rfl (by decide) rfl ok_X4_place rfl rfl q2185 q2187 qs82 q136 q2188 (by decide) (Nat.le_of_ble_eq_true rfl) (t_X4_place hM ((FI 1 0 70) + x1) x2 x3 (3 : Int32) (AI 193 0 x1.toNatClampNeg) (3 : Int32) g2) ?_
  refine oX_iconst (v := (-1 : Int32)) dX4_putNight_24 (by decide) ?_
  refine oX_istore (ls' := [(5, vI (-1 : Int32)), (4, vI ((FI 1 0 70) + x1)), (0, vR (some (1, 0))), (1, vI x1), (2, vI x2), (3, vI x3)]) dX4_putNight_25 (by decide) rfl ?_
  refine oX_aload_n dX4_putNight_27 rfl rfl ?_
  refine oX_getI fX4_423 rfl oDs1 dX4_putNight_28 ?_
  refine oX_iconst (v := (1 : Int32)) dX4_putNight_31 (by decide) ?_
  refine oX_isub dX4_putNight_32 ?_
  refine oX_istore (ls' := [(6, vI ((FI 1 0 70) - (1 : Int32))), (5, vI (-1 : Int32)), (4, vI ((FI 1 0 70) + x1)), (0, vR (some (1, 0))), (1, vI x1), (2, vI x2), (3, vI x3)]) dX4_putNight_33 (by decide) rfl ?_
  obtain ⟨v7, g7, hm⟩ := bd_s hm
  refine oX_sub [3, 4, 2, 1, 0] rfl (l_mX4_putNight_b35 hM n x1 ((FI 1 0 70) + x1) n (-1 : Int32) ((FI 1 0 70) - (1 : Int32)) _ g7 ?_)
  refine oX_iconst (v := (0 : Int32)) dX4_putNight_71 (by decide) ?_
  refine oX_istore (ls' := [(6, vI (0 : Int32)), (0, vR (some (1, 0))), (1, vI x1), (4, vI ((FI 1 0 70) + x1)), (5, vI v7)]) dX4_putNight_72 (by decide) rfl ?_
  obtain ⟨v17, g17, hm⟩ := bd_s hm
  refine oX_sub [1, 2, 3, 4, 0] rfl (l_mX4_putNight_b74 hM n x1 ((FI 1 0 70) + x1) v7 n (0 : Int32) r2 _ g17 ?_)
  obtain rfl := Option.some.inj hm
  exact oX_vret dX4_putNight_166 rfl hK
theorem t_X4_putNight {G : OhG} {FI AI : OhI} {FL AL : OhL} {FR GR AR BR : OhQ} {AN : OhN} {C : OhC} (hM : ohShM FR AN) (n : Nat) (x1 : Int32) (x2 : Int32) (x3 : Int32) {o : OhI} (hm : mX4_putNight n FI FR AI AN x1 x2 x3 = some o) : oT G 3 iX4_putNight [vR (some (1, 0)), vI x1, vI x2, vI x3] (FI, FL, FR, GR, AI, AL, AR, BR, AN, C) (0, 0) (fun v h => v = none ∧ h = (FI, FL, FR, GR, o, AL, AR, BR, AN, C)) ohNo :=
  oT_of (by decide) rfl (Nat.le_of_ble_eq_true rfl) (x_mX4_putNight hM n x1 x2 x3 hm ⟨rfl, rfl⟩)
abbrev iX4_goes : OhM := (yX4_goes, cX4_goes, 3, (some .boolean), [])
theorem ok_X4_goes : oOk iX4_goes 1 := ⟨by decide, by decide, by decide +kernel⟩

noncomputable def mX4_goes_b20 (n : Nat) (FI : OhI) (FR : OhQ) (AI : OhI) (AN : OhN) (x2 : Int32) : Option ((Int32) ⊕ ((Unit) ⊕ (Unit))) :=
  (if (FI 1 0 88) ≤ x2 then
  some (.inr (.inl ()))
else
  gd (vp_in x2 5200) <|
    (if (FI 1 0 70) ≤ (AI 185 0 x2.toNatClampNeg) then
    some (.inr (.inr ()))
  else
    gd (vp_in x2 5200) <|
      gd (vp_in x2 5200) <|
      gd (vp_in x2 5200) <|
      (mX4_markOf (AI 184 0 x2.toNatClampNeg) (AI 185 0 x2.toNatClampNeg) (AI 186 0 x2.toNatClampNeg)).bind fun r10 =>
      gd (vp_in r10 9504) <|
      (if (AI 187 0 r10.toNatClampNeg) = 0 then
      some (.inr (.inr ()))
    else
      some (.inl (x2 + (1 : Int32))))))
theorem x_mX4_goes_b20 {G : OhG} {FI AI : OhI} {FL AL : OhL} {FR GR AR BR : OhQ} {AN : OhN} {C : OhC} {k : Nat × Nat} {Φ : OhP} {Ψ : OhX} (hM : ohShM FR AN) (n : Nat) (x2 : Int32) {r : (Int32) ⊕ ((Unit) ⊕ (Unit))} (hm : mX4_goes_b20 n FI FR AI AN x2 = some r) (hk : ∀ v : Int32, r = .inl v → oX G 6 iX4_goes 20 [(0, vR (some (1, 0))), (2, vI v)] [] (FI, FL, FR, GR, AI, AL, AR, BR, AN, C) k Φ Ψ) (hx1 : ∀ v : Unit, r = .inr (.inl v) → oX G 6 iX4_goes 78 [] [] (FI, FL, FR, GR, AI, AL, AR, BR, AN, C) k Φ Ψ) (hx2 : ∀ v : Unit, r = .inr (.inr v) → oX G 6 iX4_goes 70 [] [] (FI, FL, FR, GR, AI, AL, AR, BR, AN, C) k Φ Ψ) : oX G 6 iX4_goes 20 [(0, vR (some (1, 0))), (2, vI x2)] [] (FI, FL, FR, GR, AI, AL, AR, BR, AN, C) k Φ Ψ := by
  unfold mX4_goes_b20 at hm
  refine oX_iload_n dX4_goes_20 rfl rfl ?_
  refine oX_aload_n dX4_goes_21 rfl rfl ?_
  refine oX_getI fX4_551 rfl oDs1 dX4_goes_22 ?_
  refine oX_icmp_ge (tgt := 78) dX4_goes_25 (by decide) (fun c4 => ?_) (fun c4 => ?_)
  · have hm := ifp c4 hm
    exact oX_sub [] rfl (hx1 () (Option.some.inj hm).symm)
  · have hm := ifn c4 hm
    refine oX_aload_n dX4_goes_28 rfl rfl ?_
    refine oX_getF fX4_193 rfl oDs1 dX4_goes_29 (ohF185 hM) ?_
    refine oX_iload_n dX4_goes_32 rfl rfl ?_
    obtain ⟨g5, hm⟩ := gd_s hm
    refine oX_iald oDs185 (oIn (ohN185 hM) g5) dX4_goes_33 ?_
    refine oX_aload_n dX4_goes_34 rfl rfl ?_
    refine oX_getI fX4_423 rfl oDs1 dX4_goes_35 ?_
    refine oX_icmp_ge (tgt := 70) dX4_goes_38 (by decide) (fun c6 => ?_) (fun c6 => ?_)
    · have hm := ifp c6 hm
      exact oX_sub [] rfl (hx2 () (Option.some.inj hm).symm)
    · have hm := ifn c6 hm
      refine oX_aload_n dX4_goes_41 rfl rfl ?_
      refine oX_getF fX4_199 rfl oDs1 dX4_goes_42 (ohF187 hM) ?_
      refine oX_aload_n dX4_goes_45 rfl rfl ?_
      refine oX_getF fX4_190 rfl oDs1 dX4_goes_46 (ohF184 hM) ?_
      refine oX_iload_n dX4_goes_49 rfl rfl ?_
      obtain ⟨g7, hm⟩ := gd_s hm
      refine oX_iald oDs184 (oIn (ohN184 hM) g7) dX4_goes_50 ?_
      refine oX_aload_n dX4_goes_51 rfl rfl ?_
      refine oX_getF fX4_193 rfl oDs1 dX4_goes_52 (ohF185 hM) ?_
      refine oX_iload_n dX4_goes_55 rfl rfl ?_
      obtain ⟨g8, hm⟩ := gd_s hm
      refine oX_iald oDs185 (oIn (ohN185 hM) g8) dX4_goes_56 ?_
      refine oX_aload_n dX4_goes_57 rfl rfl ?_
      refine oX_getF fX4_196 rfl oDs1 dX4_goes_58 (ohF186 hM) ?_
      refine oX_iload_n dX4_goes_61 rfl rfl ?_
      obtain ⟨g9, hm⟩ := gd_s hm
      refine oX_iald oDs186 (oIn (ohN186 hM) g9) dX4_goes_62 ?_
      obtain ⟨r10, g10, hm⟩ := bd_s hm
      refine oX_cS (as := [vI (AI 184 0 x2.toNatClampNeg), vI (AI 185 0 x2.toNatClampNeg), vI (AI 186 0 x2.toNatClampNeg)]) dX4_goes_63 rfl ok_X4_markOf rfl rfl q2410 q2411 q136 q2412 (by decide) (Nat.le_of_ble_eq_true rfl) (t_X4_markOf (AI 184 0 x2.toNatClampNeg) (AI 185 0 x2.toNatClampNeg) (AI 186 0 x2.toNatClampNeg) g10) ?_
      obtain ⟨g11, hm⟩ := gd_s hm
      refine oX_zald oDs187 (oIn (ohN187 hM) g11) dX4_goes_66 ?_
      refine oX_if_ne (tgt := 72) dX4_goes_67 (by decide) (fun c12 => ?_) (fun c12 => ?_)
      · have hm := ifp c12 hm
        exact oX_sub [] rfl (hx2 () (Option.some.inj hm).symm)
      · have hm := ifn c12 hm
        refine oX_iinc (v := x2 + (1 : Int32)) (ls' := [(2, vI (x2 + (1 : Int32))), (0, vR (some (1, 0)))]) dX4_goes_72 rfl rfl (by decide) rfl ?_
        refine oX_goto (tgt := 20) dX4_goes_75 (by decide) ?_
        exact oX_sub [1, 0] rfl (hk (x2 + (1 : Int32)) (Option.some.inj hm).symm)
theorem l_mX4_goes_b20 {G : OhG} {FI : OhI} {FL : OhL} {FR : OhQ} {GR : OhQ} {AI : OhI} {AL : OhL} {AR : OhQ} {BR : OhQ} {AN : OhN} {C : OhC} {k : Nat × Nat} {Φ : OhP} {Ψ : OhX} (hM : ohShM FR AN) (n : Nat) : ∀ (f : Nat) (x2 : Int32) (b : ((Unit) ⊕ (Unit))), lpF (fun v => mX4_goes_b20 n FI FR AI AN v) f x2 = some b → (∀ v : Unit, b = (.inl v) → oX G 6 iX4_goes 78 [] [] (FI, FL, FR, GR, AI, AL, AR, BR, AN, C) k Φ Ψ) → (∀ v : Unit, b = (.inr v) → oX G 6 iX4_goes 70 [] [] (FI, FL, FR, GR, AI, AL, AR, BR, AN, C) k Φ Ψ) → oX G 6 iX4_goes 20 [(0, vR (some (1, 0))), (2, vI x2)] [] (FI, FL, FR, GR, AI, AL, AR, BR, AN, C) k Φ Ψ := by
  intro f
  induction f with
  | zero =>
    intro x2 b hm
    cases hm
  | succ f ih =>
    intro x2 b hm hx1 hx2
    obtain ⟨r, hr, hm⟩ := lp_s hm
    refine x_mX4_goes_b20 hM n x2 hr (fun v e => ?_) (fun v e => ?_) (fun v e => ?_)
    · subst e; exact ih v _ hm hx1 hx2
    · subst e; exact hx1 v hm.symm
    · subst e; exact hx2 v hm.symm
noncomputable def mX4_goes (n : Nat) (FI : OhI) (FR : OhQ) (AI : OhI) (AN : OhN) (x1 : Int32) : Option (Int32 × OhI × OhI) :=
  oLet (sA FI 1 0 (uA (FI 1 0) 71 ((FI 1 0 70) + x1))) fun FI1 =>
  (mX4_sort n FI1 FR AI AN).bind fun r2 =>
  (mX4_judge n FI1 FR r2 AN).bind fun r3 =>
  (lpF (fun v => mX4_goes_b20 n r3.1 FR r3.2 AN v) n (0 : Int32)).bind (Sum.elim (fun v13 => some ((1 : Int32), r3.1, r3.2)) (fun v13 => some ((0 : Int32), r3.1, r3.2)))
theorem x_mX4_goes {G : OhG} {FI AI : OhI} {FL AL : OhL} {FR GR AR BR : OhQ} {AN : OhN} {C : OhC} {k : Nat × Nat} {Φ : OhP} {Ψ : OhX} (hM : ohShM FR AN) (n : Nat) (x1 : Int32) {r : Int32 × OhI × OhI} (hm : mX4_goes n FI FR AI AN x1 = some r) (hK : Φ (some (vI r.1)) (r.2.1, FL, FR, GR, r.2.2, AL, AR, BR, AN, C)) : oX G 6 iX4_goes 0 [(0, vR (some (1, 0))), (1, vI x1)] [] (FI, FL, FR, GR, AI, AL, AR, BR, AN, C) k Φ Ψ := by
  unfold mX4_goes at hm
  refine oX_aload_n dX4_goes_0 rfl rfl ?_
  refine oX_aload_n dX4_goes_1 rfl rfl ?_
  refine oX_getI fX4_423 rfl oDs1 dX4_goes_2 ?_
  refine oX_iload_n dX4_goes_5 rfl rfl ?_
  refine oX_iadd dX4_goes_6 ?_
  obtain ⟨FI1, hFI1, hm⟩ := oLs hm
  refine oX_putI fX4_446 rfl (fun h9 => by cases h9) oDs1 dX4_goes_7 ⟨rfl, rfl⟩ hFI1 ?_
  refine oX_aload_n dX4_goes_10 rfl rfl ?_
  obtain ⟨r2, g2, hm⟩ := bd_s hm
  refine oX_cV_ (as := []) dX4_goes_11 rfl oDs1 rfl (by decide) rfl ok_X4_sort rfl rfl q2213 q2215 qs86 q136 q2216 (by decide) (Nat.le_of_ble_eq_true rfl) (t_X4_sort hM n g2) ?_
  refine oX_aload_n dX4_goes_14 rfl rfl ?_
  obtain ⟨r3, g3, hm⟩ := bd_s hm
  refine oX_cV_ (as := []) dX4_goes_15 rfl oDs1 rfl (by decide) rfl ok_X4_judge rfl rfl q2318 q2320 qs104 q136 q2321 (by decide) (Nat.le_of_ble_eq_true rfl) (t_X4_judge hM n g3) ?_
  refine oX_iconst (v := (0 : Int32)) dX4_goes_18 (by decide) ?_
  refine oX_istore_n (ls' := [(2, vI (0 : Int32)), (0, vR (some (1, 0))), (1, vI x1)]) dX4_goes_19 rfl (by decide) rfl ?_
  obtain ⟨b13, g13, hm⟩ := bd_s hm
  refine oX_sub [1, 0] rfl (l_mX4_goes_b20 hM n n (0 : Int32) _ g13 (fun v13 e13 => ?_) (fun v13 e13 => ?_))
  · subst e13
    have hm := el1 hm
    refine oX_iconst (v := (1 : Int32)) dX4_goes_78 (by decide) ?_
    obtain rfl := Option.some.inj hm
    exact oX_iret dX4_goes_79 rfl (by decide) hK
  · subst e13
    have hm := el2 hm
    refine oX_iconst (v := (0 : Int32)) dX4_goes_70 (by decide) ?_
    obtain rfl := Option.some.inj hm
    exact oX_iret dX4_goes_71 rfl (by decide) hK
theorem t_X4_goes {G : OhG} {FI AI : OhI} {FL AL : OhL} {FR GR AR BR : OhQ} {AN : OhN} {C : OhC} (hM : ohShM FR AN) (n : Nat) (x1 : Int32) {o : Int32 × OhI × OhI} (hm : mX4_goes n FI FR AI AN x1 = some o) : oT G 6 iX4_goes [vR (some (1, 0)), vI x1] (FI, FL, FR, GR, AI, AL, AR, BR, AN, C) (0, 0) (fun v h => v = (some (vI o.1)) ∧ h = (o.2.1, FL, FR, GR, o.2.2, AL, AR, BR, AN, C)) ohNo :=
  oT_of (by decide) rfl (Nat.le_of_ble_eq_true rfl) (x_mX4_goes hM n x1 hm ⟨rfl, rfl⟩)
abbrev iX4_lay : OhM := (yX4_lay, cX4_lay, 8, (some .int), [])
theorem ok_X4_lay : oOk iX4_lay 3 := ⟨by decide, by decide, by decide +kernel⟩

noncomputable def mX4_lay_b84 (n : Nat) (FI : OhI) (FR : OhQ) (AI : OhI) (AN : OhN) (x1 : Int32) (x2 : Int32) (x3 : Int32) (x4 : Int32) (x5 : Int32) : Option ((Int32 × Int32) ⊕ (Int32)) :=
  (if (FI 1 0 3) ≤ x5 then
  some (.inr x4)
else
  (if x4 = 0 then
    some (.inr x4)
  else
    gd (vp_in x5 340) <|
      (mX4_isIn (AI 101 0 x5.toNatClampNeg) (0 : Int32) ((FI 1 0 21) - (1 : Int32))).bind fun r9 =>
      (if r9 = 0 then
      some (.inl ((0 : Int32), x5 + (1 : Int32)))
    else
      gd (vp_in x5 340) <|
        gd (vp_in (AI 101 0 x5.toNatClampNeg) 9) <|
        (if (24 : Int32) < (x3 + (AI 107 0 (AI 101 0 x5.toNatClampNeg).toNatClampNeg)) then
        some (.inl ((0 : Int32), x5 + (1 : Int32)))
      else
        some (.inl ((1 : Int32), x5 + (1 : Int32)))))))
theorem x_mX4_lay_b84 {G : OhG} {FI AI : OhI} {FL AL : OhL} {FR GR AR BR : OhQ} {AN : OhN} {C : OhC} {k : Nat × Nat} {Φ : OhP} {Ψ : OhX} (hM : ohShM FR AN) (n : Nat) (x1 : Int32) (x2 : Int32) (x3 : Int32) (x4 : Int32) (x5 : Int32) {r : (Int32 × Int32) ⊕ (Int32)} (hm : mX4_lay_b84 n FI FR AI AN x1 x2 x3 x4 x5 = some r) (hk : ∀ v : Int32 × Int32, r = .inl v → oX G 7 iX4_lay 84 [(0, vR (some (1, 0))), (1, vI x1), (2, vI x2), (3, vI x3), (4, vI v.1), (5, vI v.2)] [] (FI, FL, FR, GR, AI, AL, AR, BR, AN, C) k Φ Ψ) (hx1 : ∀ v : Int32, r = .inr v → oX G 7 iX4_lay 150 [(0, vR (some (1, 0))), (1, vI x1), (2, vI x2), (3, vI x3), (4, vI v)] [] (FI, FL, FR, GR, AI, AL, AR, BR, AN, C) k Φ Ψ) : oX G 7 iX4_lay 84 [(0, vR (some (1, 0))), (1, vI x1), (2, vI x2), (3, vI x3), (4, vI x4), (5, vI x5)] [] (FI, FL, FR, GR, AI, AL, AR, BR, AN, C) k Φ Ψ := by
  unfold mX4_lay_b84 at hm
  refine oX_iload dX4_lay_84 rfl ?_
  refine oX_aload_n dX4_lay_86 rfl rfl ?_
  refine oX_getI fX4_236 rfl oDs1 dX4_lay_87 ?_
  refine oX_icmp_ge (tgt := 150) dX4_lay_90 (by decide) (fun c6 => ?_) (fun c6 => ?_)
  · have hm := ifp c6 hm
    exact oX_sub [0, 1, 2, 3, 4] rfl (hx1 x4 (Option.some.inj hm).symm)
  · have hm := ifn c6 hm
    refine oX_iload dX4_lay_93 rfl ?_
    refine oX_if_eq (tgt := 150) dX4_lay_95 (by decide) (fun c7 => ?_) (fun c7 => ?_)
    · have hm := ifp c7 hm
      exact oX_sub [0, 1, 2, 3, 4] rfl (hx1 x4 (Option.some.inj hm).symm)
    · have hm := ifn c7 hm
      refine oX_aload_n dX4_lay_98 rfl rfl ?_
      refine oX_getF fX4_7 rfl oDs1 dX4_lay_99 (ohF101 hM) ?_
      refine oX_iload dX4_lay_102 rfl ?_
      obtain ⟨g8, hm⟩ := gd_s hm
      refine oX_bald oDs101 (oIn (ohN101 hM) g8) dX4_lay_104 ?_
      refine oX_iconst (v := (0 : Int32)) dX4_lay_105 (by decide) ?_
      refine oX_aload_n dX4_lay_106 rfl rfl ?_
      refine oX_getI fX4_255 rfl oDs1 dX4_lay_107 ?_
      refine oX_iconst (v := (1 : Int32)) dX4_lay_110 (by decide) ?_
      refine oX_isub dX4_lay_111 ?_
      obtain ⟨r9, g9, hm⟩ := bd_s hm
      refine oX_cS (as := [vI (AI 101 0 x5.toNatClampNeg), vI (0 : Int32), vI ((FI 1 0 21) - (1 : Int32))]) dX4_lay_112 rfl ok_X4_isIn rfl rfl q2032 q2033 q136 q2034 (by decide) (Nat.le_of_ble_eq_true rfl) (t_X4_isIn (AI 101 0 x5.toNatClampNeg) (0 : Int32) ((FI 1 0 21) - (1 : Int32)) g9) ?_
      refine oX_if_eq (tgt := 141) dX4_lay_115 (by decide) (fun c10 => ?_) (fun c10 => ?_)
      · have hm := ifp c10 hm
        refine oX_iconst (v := (0 : Int32)) dX4_lay_141 (by decide) ?_
        refine oX_istore (ls' := [(4, vI (0 : Int32)), (0, vR (some (1, 0))), (1, vI x1), (2, vI x2), (3, vI x3), (5, vI x5)]) dX4_lay_142 (by decide) rfl ?_
        refine oX_iinc (v := x5 + (1 : Int32)) (ls' := [(5, vI (x5 + (1 : Int32))), (4, vI (0 : Int32)), (0, vR (some (1, 0))), (1, vI x1), (2, vI x2), (3, vI x3)]) dX4_lay_144 rfl rfl (by decide) rfl ?_
        refine oX_goto (tgt := 84) dX4_lay_147 (by decide) ?_
        exact oX_sub [2, 3, 4, 5, 1, 0] rfl (hk ((0 : Int32), x5 + (1 : Int32)) (Option.some.inj hm).symm)
      · have hm := ifn c10 hm
        refine oX_iload_n dX4_lay_118 rfl rfl ?_
        refine oX_aload_n dX4_lay_119 rfl rfl ?_
        refine oX_getF fX4_13 rfl oDs1 dX4_lay_120 (ohF107 hM) ?_
        refine oX_aload_n dX4_lay_123 rfl rfl ?_
        refine oX_getF fX4_7 rfl oDs1 dX4_lay_124 (ohF101 hM) ?_
        refine oX_iload dX4_lay_127 rfl ?_
        obtain ⟨g11, hm⟩ := gd_s hm
        refine oX_bald oDs101 (oIn (ohN101 hM) g11) dX4_lay_129 ?_
        obtain ⟨g12, hm⟩ := gd_s hm
        refine oX_iald oDs107 (oIn (ohN107 hM) g12) dX4_lay_130 ?_
        refine oX_iadd dX4_lay_131 ?_
        refine oX_bipush (v := (24 : Int32)) dX4_lay_132 (by decide) ?_
        refine oX_icmp_gt (tgt := 141) dX4_lay_134 (by decide) (fun c13 => ?_) (fun c13 => ?_)
        · have hm := ifp c13 hm
          refine oX_iconst (v := (0 : Int32)) dX4_lay_141 (by decide) ?_
          refine oX_istore (ls' := [(4, vI (0 : Int32)), (0, vR (some (1, 0))), (1, vI x1), (2, vI x2), (3, vI x3), (5, vI x5)]) dX4_lay_142 (by decide) rfl ?_
          refine oX_iinc (v := x5 + (1 : Int32)) (ls' := [(5, vI (x5 + (1 : Int32))), (4, vI (0 : Int32)), (0, vR (some (1, 0))), (1, vI x1), (2, vI x2), (3, vI x3)]) dX4_lay_144 rfl rfl (by decide) rfl ?_
          refine oX_goto (tgt := 84) dX4_lay_147 (by decide) ?_
          exact oX_sub [2, 3, 4, 5, 1, 0] rfl (hk ((0 : Int32), x5 + (1 : Int32)) (Option.some.inj hm).symm)
        · have hm := ifn c13 hm
          refine oX_iconst (v := (1 : Int32)) dX4_lay_137 (by decide) ?_
          refine oX_goto (tgt := 142) dX4_lay_138 (by decide) ?_
          refine oX_istore (ls' := [(4, vI (1 : Int32)), (0, vR (some (1, 0))), (1, vI x1), (2, vI x2), (3, vI x3), (5, vI x5)]) dX4_lay_142 (by decide) rfl ?_
          refine oX_iinc (v := x5 + (1 : Int32)) (ls' := [(5, vI (x5 + (1 : Int32))), (4, vI (1 : Int32)), (0, vR (some (1, 0))), (1, vI x1), (2, vI x2), (3, vI x3)]) dX4_lay_144 rfl rfl (by decide) rfl ?_
          refine oX_goto (tgt := 84) dX4_lay_147 (by decide) ?_
          exact oX_sub [2, 3, 4, 5, 1, 0] rfl (hk ((1 : Int32), x5 + (1 : Int32)) (Option.some.inj hm).symm)
theorem l_mX4_lay_b84 {G : OhG} {FI : OhI} {FL : OhL} {FR : OhQ} {GR : OhQ} {AI : OhI} {AL : OhL} {AR : OhQ} {BR : OhQ} {AN : OhN} {C : OhC} {k : Nat × Nat} {Φ : OhP} {Ψ : OhX} (hM : ohShM FR AN) (n : Nat) (x1 : Int32) (x2 : Int32) (x3 : Int32) : ∀ (f : Nat) (x4 : Int32) (x5 : Int32) (b : (Int32)), lpF (fun v => mX4_lay_b84 n FI FR AI AN x1 x2 x3 v.1 v.2) f (x4, x5) = some b → (oX G 7 iX4_lay 150 [(0, vR (some (1, 0))), (1, vI x1), (2, vI x2), (3, vI x3), (4, vI b)] [] (FI, FL, FR, GR, AI, AL, AR, BR, AN, C) k Φ Ψ) → oX G 7 iX4_lay 84 [(0, vR (some (1, 0))), (1, vI x1), (2, vI x2), (3, vI x3), (4, vI x4), (5, vI x5)] [] (FI, FL, FR, GR, AI, AL, AR, BR, AN, C) k Φ Ψ := by
  intro f
  induction f with
  | zero =>
    intro x4 x5 b hm
    cases hm
  | succ f ih =>
    intro x4 x5 b hm hx1
    obtain ⟨r, hr, hm⟩ := lp_s hm
    refine x_mX4_lay_b84 hM n x1 x2 x3 x4 x5 hr (fun v e => ?_) (fun v e => ?_)
    · subst e; exact ih v.1 v.2 _ hm hx1
    · subst e; cases (show v = b from hm); exact hx1
noncomputable def mX4_lay_b168 (n : Nat) (FI : OhI) (FR : OhQ) (AI : OhI) (AN : OhN) (x1 : Int32) (x2 : Int32) (x3 : Int32) (x5 : Int32) : Option ((Int32 × OhI) ⊕ (OhI)) :=
  (if (FI 1 0 3) ≤ x5 then
  some (.inr AI)
else
  gd (vp_in x5 340) <|
    gd (vp_in x5 6) <|
    oLet (sA AI 193 0 (uA (AI 193 0) x5.toNatClampNeg (AI 101 0 x5.toNatClampNeg))) fun AI19 =>
    some (.inl (x5 + (1 : Int32), AI19)))
theorem x_mX4_lay_b168 {G : OhG} {FI AI : OhI} {FL AL : OhL} {FR GR AR BR : OhQ} {AN : OhN} {C : OhC} {k : Nat × Nat} {Φ : OhP} {Ψ : OhX} (hM : ohShM FR AN) (n : Nat) (x1 : Int32) (x2 : Int32) (x3 : Int32) (x5 : Int32) {r : (Int32 × OhI) ⊕ (OhI)} (hm : mX4_lay_b168 n FI FR AI AN x1 x2 x3 x5 = some r) (hk : ∀ v : Int32 × OhI, r = .inl v → oX G 7 iX4_lay 168 [(0, vR (some (1, 0))), (1, vI x1), (2, vI x2), (3, vI x3), (5, vI v.1)] [] (FI, FL, FR, GR, v.2, AL, AR, BR, AN, C) k Φ Ψ) (hx1 : ∀ v : OhI, r = .inr v → oX G 7 iX4_lay 197 [(0, vR (some (1, 0))), (1, vI x1), (2, vI x2), (3, vI x3)] [] (FI, FL, FR, GR, v, AL, AR, BR, AN, C) k Φ Ψ) : oX G 7 iX4_lay 168 [(0, vR (some (1, 0))), (1, vI x1), (2, vI x2), (3, vI x3), (5, vI x5)] [] (FI, FL, FR, GR, AI, AL, AR, BR, AN, C) k Φ Ψ := by
  unfold mX4_lay_b168 at hm
  refine oX_iload dX4_lay_168 rfl ?_
  refine oX_aload_n dX4_lay_170 rfl rfl ?_
  refine oX_getI fX4_236 rfl oDs1 dX4_lay_171 ?_
  refine oX_icmp_ge (tgt := 197) dX4_lay_174 (by decide) (fun c17 => ?_) (fun c17 => ?_)
  · have hm := ifp c17 hm
    exact oX_sub [0, 1, 2, 3] rfl (hx1 AI (Option.some.inj hm).symm)
  · have hm := ifn c17 hm
    refine oX_aload_n dX4_lay_177 rfl rfl ?_
    refine oX_getF fX4_211 rfl oDs1 dX4_lay_178 (ohF193 hM) ?_
    refine oX_iload dX4_lay_181 rfl ?_
    refine oX_aload_n dX4_lay_183 rfl rfl ?_
    refine oX_getF fX4_7 rfl oDs1 dX4_lay_184 (ohF101 hM) ?_
    refine oX_iload dX4_lay_187 rfl ?_
    obtain ⟨g18, hm⟩ := gd_s hm
    refine oX_bald oDs101 (oIn (ohN101 hM) g18) dX4_lay_189 ?_
    obtain ⟨g19, hm⟩ := gd_s hm
    obtain ⟨AI19, hAI19, hm⟩ := oLs hm
    refine oX_iast oDs193 (oIn (ohN193 hM) g19) dX4_lay_190 hAI19 ?_
    refine oX_iinc (v := x5 + (1 : Int32)) (ls' := [(5, vI (x5 + (1 : Int32))), (0, vR (some (1, 0))), (1, vI x1), (2, vI x2), (3, vI x3)]) dX4_lay_191 rfl rfl (by decide) rfl ?_
    refine oX_goto (tgt := 168) dX4_lay_194 (by decide) ?_
    exact oX_sub [1, 2, 3, 4, 0] rfl (hk (x5 + (1 : Int32), AI19) (Option.some.inj hm).symm)
theorem l_mX4_lay_b168 {G : OhG} {FI : OhI} {FL : OhL} {FR : OhQ} {GR : OhQ} {AL : OhL} {AR : OhQ} {BR : OhQ} {AN : OhN} {C : OhC} {k : Nat × Nat} {Φ : OhP} {Ψ : OhX} (hM : ohShM FR AN) (n : Nat) (x1 : Int32) (x2 : Int32) (x3 : Int32) : ∀ (f : Nat) (x5 : Int32) (AI : OhI) (b : (OhI)), lpF (fun v => mX4_lay_b168 n FI FR v.2 AN x1 x2 x3 v.1) f (x5, AI) = some b → (oX G 7 iX4_lay 197 [(0, vR (some (1, 0))), (1, vI x1), (2, vI x2), (3, vI x3)] [] (FI, FL, FR, GR, b, AL, AR, BR, AN, C) k Φ Ψ) → oX G 7 iX4_lay 168 [(0, vR (some (1, 0))), (1, vI x1), (2, vI x2), (3, vI x3), (5, vI x5)] [] (FI, FL, FR, GR, AI, AL, AR, BR, AN, C) k Φ Ψ := by
  intro f
  induction f with
  | zero =>
    intro x5 AI b hm
    cases hm
  | succ f ih =>
    intro x5 AI b hm hx1
    obtain ⟨r, hr, hm⟩ := lp_s hm
    refine x_mX4_lay_b168 hM n x1 x2 x3 x5 hr (fun v e => ?_) (fun v e => ?_)
    · subst e; exact ih v.1 v.2 _ hm hx1
    · subst e; cases (show v = b from hm); exact hx1
noncomputable def mX4_lay_b216 (n : Nat) (FI : OhI) (FR : OhQ) (AI : OhI) (AN : OhN) (x1 : Int32) (x2 : Int32) (x3 : Int32) (x5 : Int32) : Option ((Int32 × OhI) ⊕ (OhI)) :=
  (if (FI 1 0 88) ≤ x5 then
  some (.inr AI)
else
  gd (vp_in x5 5200) <|
    gd (vp_in x5 5200) <|
    gd (vp_in x5 5200) <|
    (mX4_markOf (AI 184 0 x5.toNatClampNeg) (AI 185 0 x5.toNatClampNeg) (AI 186 0 x5.toNatClampNeg)).bind fun r28 =>
    gd (vp_in r28 9504) <|
    oLet (sA AI 187 0 (uA (AI 187 0) r28.toNatClampNeg (vp_nar .boolean (1 : Int32)))) fun AI29 =>
    some (.inl (x5 + (1 : Int32), AI29)))
theorem x_mX4_lay_b216 {G : OhG} {FI AI : OhI} {FL AL : OhL} {FR GR AR BR : OhQ} {AN : OhN} {C : OhC} {k : Nat × Nat} {Φ : OhP} {Ψ : OhX} (hM : ohShM FR AN) (n : Nat) (x1 : Int32) (x2 : Int32) (x3 : Int32) (x5 : Int32) {r : (Int32 × OhI) ⊕ (OhI)} (hm : mX4_lay_b216 n FI FR AI AN x1 x2 x3 x5 = some r) (hk : ∀ v : Int32 × OhI, r = .inl v → oX G 7 iX4_lay 216 [(0, vR (some (1, 0))), (1, vI x1), (2, vI x2), (3, vI x3), (5, vI v.1)] [] (FI, FL, FR, GR, v.2, AL, AR, BR, AN, C) k Φ Ψ) (hx1 : ∀ v : OhI, r = .inr v → oX G 7 iX4_lay 261 [(0, vR (some (1, 0))), (1, vI x1), (2, vI x2), (3, vI x3)] [] (FI, FL, FR, GR, v, AL, AR, BR, AN, C) k Φ Ψ) : oX G 7 iX4_lay 216 [(0, vR (some (1, 0))), (1, vI x1), (2, vI x2), (3, vI x3), (5, vI x5)] [] (FI, FL, FR, GR, AI, AL, AR, BR, AN, C) k Φ Ψ := by
  unfold mX4_lay_b216 at hm
  refine oX_iload dX4_lay_216 rfl ?_
  refine oX_aload_n dX4_lay_218 rfl rfl ?_
  refine oX_getI fX4_551 rfl oDs1 dX4_lay_219 ?_
  refine oX_icmp_ge (tgt := 261) dX4_lay_222 (by decide) (fun c24 => ?_) (fun c24 => ?_)
  · have hm := ifp c24 hm
    exact oX_sub [0, 1, 2, 3] rfl (hx1 AI (Option.some.inj hm).symm)
  · have hm := ifn c24 hm
    refine oX_aload_n dX4_lay_225 rfl rfl ?_
    refine oX_getF fX4_199 rfl oDs1 dX4_lay_226 (ohF187 hM) ?_
    refine oX_aload_n dX4_lay_229 rfl rfl ?_
    refine oX_getF fX4_190 rfl oDs1 dX4_lay_230 (ohF184 hM) ?_
    refine oX_iload dX4_lay_233 rfl ?_
    obtain ⟨g25, hm⟩ := gd_s hm
    refine oX_iald oDs184 (oIn (ohN184 hM) g25) dX4_lay_235 ?_
    refine oX_aload_n dX4_lay_236 rfl rfl ?_
    refine oX_getF fX4_193 rfl oDs1 dX4_lay_237 (ohF185 hM) ?_
    refine oX_iload dX4_lay_240 rfl ?_
    obtain ⟨g26, hm⟩ := gd_s hm
    refine oX_iald oDs185 (oIn (ohN185 hM) g26) dX4_lay_242 ?_
    refine oX_aload_n dX4_lay_243 rfl rfl ?_
    refine oX_getF fX4_196 rfl oDs1 dX4_lay_244 (ohF186 hM) ?_
    refine oX_iload dX4_lay_247 rfl ?_
    obtain ⟨g27, hm⟩ := gd_s hm
    refine oX_iald oDs186 (oIn (ohN186 hM) g27) dX4_lay_249 ?_
    obtain ⟨r28, g28, hm⟩ := bd_s hm
    refine oX_cS (as := [vI (AI 184 0 x5.toNatClampNeg), vI (AI 185 0 x5.toNatClampNeg), vI (AI 186 0 x5.toNatClampNeg)]) dX4_lay_250 rfl ok_X4_markOf rfl rfl q2410 q2411 q136 q2412 (by decide) (Nat.le_of_ble_eq_true rfl) (t_X4_markOf (AI 184 0 x5.toNatClampNeg) (AI 185 0 x5.toNatClampNeg) (AI 186 0 x5.toNatClampNeg) g28) ?_
    refine oX_iconst (v := (1 : Int32)) dX4_lay_253 (by decide) ?_
    obtain ⟨g29, hm⟩ := gd_s hm
    obtain ⟨AI29, hAI29, hm⟩ := oLs hm
    refine oX_zast oDs187 (oIn (ohN187 hM) g29) dX4_lay_254 hAI29 ?_
    refine oX_iinc (v := x5 + (1 : Int32)) (ls' := [(5, vI (x5 + (1 : Int32))), (0, vR (some (1, 0))), (1, vI x1), (2, vI x2), (3, vI x3)]) dX4_lay_255 rfl rfl (by decide) rfl ?_
    refine oX_goto (tgt := 216) dX4_lay_258 (by decide) ?_
    exact oX_sub [1, 2, 3, 4, 0] rfl (hk (x5 + (1 : Int32), AI29) (Option.some.inj hm).symm)
theorem l_mX4_lay_b216 {G : OhG} {FI : OhI} {FL : OhL} {FR : OhQ} {GR : OhQ} {AL : OhL} {AR : OhQ} {BR : OhQ} {AN : OhN} {C : OhC} {k : Nat × Nat} {Φ : OhP} {Ψ : OhX} (hM : ohShM FR AN) (n : Nat) (x1 : Int32) (x2 : Int32) (x3 : Int32) : ∀ (f : Nat) (x5 : Int32) (AI : OhI) (b : (OhI)), lpF (fun v => mX4_lay_b216 n FI FR v.2 AN x1 x2 x3 v.1) f (x5, AI) = some b → (oX G 7 iX4_lay 261 [(0, vR (some (1, 0))), (1, vI x1), (2, vI x2), (3, vI x3)] [] (FI, FL, FR, GR, b, AL, AR, BR, AN, C) k Φ Ψ) → oX G 7 iX4_lay 216 [(0, vR (some (1, 0))), (1, vI x1), (2, vI x2), (3, vI x3), (5, vI x5)] [] (FI, FL, FR, GR, AI, AL, AR, BR, AN, C) k Φ Ψ := by
  intro f
  induction f with
  | zero =>
    intro x5 AI b hm
    cases hm
  | succ f ih =>
    intro x5 AI b hm hx1
    obtain ⟨r, hr, hm⟩ := lp_s hm
    refine x_mX4_lay_b216 hM n x1 x2 x3 x5 hr (fun v e => ?_) (fun v e => ?_)
    · subst e; exact ih v.1 v.2 _ hm hx1
    · subst e; cases (show v = b from hm); exact hx1
noncomputable def mX4_lay_b276 (n : Nat) (FI : OhI) (FR : OhQ) (AI : OhI) (AN : OhN) (x2 : Int32) (x3 : Int32) (x5 : Int32) (x6 : Int32) : Option ((Int32 × Int32 × OhI × OhI) ⊕ ((OhI × OhI) ⊕ ((OhI × OhI) ⊕ (Int32 × OhI × OhI)))) :=
  (if x6 < 0 then
  some (.inr (.inl (FI, AI)))
else
  gd (vp_in x6 6) <|
    gd (vp_in x6 6) <|
    oLet (sA AI 194 0 (uA (AI 194 0) x6.toNatClampNeg ((AI 194 0 x6.toNatClampNeg) + (1 : Int32)))) fun AI34 =>
    gd (vp_in x6 6) <|
    (if (AI34 194 0 x6.toNatClampNeg) ≤ x2 then
    (if (x5 + (1 : Int32)) ≤ (400 : Int32) then
      gd (vp_in x6 6) <|
        (mX4_putNight n FI FR AI34 AN x6 (AI34 194 0 x6.toNatClampNeg) x3).bind fun r39 =>
        (mX4_goes n FI FR r39 AN (x6 + (1 : Int32))).bind fun r40 =>
        (if r40.1 = 0 then
        some (.inl (x5 + (1 : Int32), x6, r40.2.1, r40.2.2))
      else
        (if (x6 + (1 : Int32)) = (r40.2.1 1 0 97) then
          some (.inr (.inr (.inr (x5 + (1 : Int32), r40.2.1, r40.2.2))))
        else
          gd (vp_in x6 6) <|
            gd (vp_in (x6 + (1 : Int32)) 6) <|
            oLet (sA r40.2.2 194 0 (uA (r40.2.2 194 0) (x6 + (1 : Int32)).toNatClampNeg (r40.2.2 194 0 x6.toNatClampNeg))) fun AI44 =>
            some (.inl (x5 + (1 : Int32), x6 + (1 : Int32), r40.2.1, AI44))))
    else
      some (.inr (.inr (.inl (FI, AI34)))))
  else
    some (.inl (x5, x6 + (-1 : Int32), FI, AI34))))
theorem x_mX4_lay_b276 {G : OhG} {FI AI : OhI} {FL AL : OhL} {FR GR AR BR : OhQ} {AN : OhN} {C : OhC} {k : Nat × Nat} {Φ : OhP} {Ψ : OhX} (hM : ohShM FR AN) (n : Nat) (x2 : Int32) (x3 : Int32) (x5 : Int32) (x6 : Int32) {r : (Int32 × Int32 × OhI × OhI) ⊕ ((OhI × OhI) ⊕ ((OhI × OhI) ⊕ (Int32 × OhI × OhI)))} (hm : mX4_lay_b276 n FI FR AI AN x2 x3 x5 x6 = some r) (hk : ∀ v : Int32 × Int32 × OhI × OhI, r = .inl v → oX G 7 iX4_lay 276 [(0, vR (some (1, 0))), (2, vI x2), (3, vI x3), (5, vI v.1), (6, vI v.2.1)] [] (v.2.2.1, FL, FR, GR, v.2.2.2, AL, AR, BR, AN, C) k Φ Ψ) (hx1 : ∀ v : OhI × OhI, r = .inr (.inl v) → oX G 7 iX4_lay 454 [] [] (v.1, FL, FR, GR, v.2, AL, AR, BR, AN, C) k Φ Ψ) (hx2 : ∀ v : OhI × OhI, r = .inr (.inr (.inl v)) → oX G 7 iX4_lay 320 [] [] (v.1, FL, FR, GR, v.2, AL, AR, BR, AN, C) k Φ Ψ) (hx3 : ∀ v : Int32 × OhI × OhI, r = .inr (.inr (.inr v)) → oX G 7 iX4_lay 362 [(0, vR (some (1, 0))), (3, vI x3), (5, vI v.1)] [] (v.2.1, FL, FR, GR, v.2.2, AL, AR, BR, AN, C) k Φ Ψ) : oX G 7 iX4_lay 276 [(0, vR (some (1, 0))), (2, vI x2), (3, vI x3), (5, vI x5), (6, vI x6)] [] (FI, FL, FR, GR, AI, AL, AR, BR, AN, C) k Φ Ψ := by
  unfold mX4_lay_b276 at hm
  refine oX_iload dX4_lay_276 rfl ?_
  refine oX_if_lt (tgt := 454) dX4_lay_278 (by decide) (fun c32 => ?_) (fun c32 => ?_)
  · have hm := ifp c32 hm
    exact oX_sub [] rfl (hx1 (FI, AI) (Option.some.inj hm).symm)
  · have hm := ifn c32 hm
    refine oX_aload_n dX4_lay_281 rfl rfl ?_
    refine oX_getF fX4_214 rfl oDs1 dX4_lay_282 (ohF194 hM) ?_
    refine oX_iload dX4_lay_285 rfl ?_
    refine oX_dup2 dX4_lay_287 trivial trivial ?_
    obtain ⟨g33, hm⟩ := gd_s hm
    refine oX_iald oDs194 (oIn (ohN194 hM) g33) dX4_lay_288 ?_
    refine oX_iconst (v := (1 : Int32)) dX4_lay_289 (by decide) ?_
    refine oX_iadd dX4_lay_290 ?_
    obtain ⟨g34, hm⟩ := gd_s hm
    obtain ⟨AI34, hAI34, hm⟩ := oLs hm
    refine oX_iast oDs194 (oIn (ohN194 hM) g34) dX4_lay_291 hAI34 ?_
    refine oX_aload_n dX4_lay_292 rfl rfl ?_
    refine oX_getF fX4_214 rfl oDs1 dX4_lay_293 (ohF194 hM) ?_
    refine oX_iload dX4_lay_296 rfl ?_
    obtain ⟨g35, hm⟩ := gd_s hm
    refine oX_iald oDs194 (oIn (ohN194 hM) g35) dX4_lay_298 ?_
    refine oX_iload_n dX4_lay_299 rfl rfl ?_
    refine oX_icmp_le (tgt := 309) dX4_lay_300 (by decide) (fun c36 => ?_) (fun c36 => ?_)
    · have hm := ifp c36 hm
      refine oX_iinc (v := x5 + (1 : Int32)) (ls' := [(5, vI (x5 + (1 : Int32))), (0, vR (some (1, 0))), (2, vI x2), (3, vI x3), (6, vI x6)]) dX4_lay_309 rfl rfl (by decide) rfl ?_
      refine oX_iload dX4_lay_312 rfl ?_
      refine oX_sipush (v := (400 : Int32)) dX4_lay_314 (by decide) ?_
      refine oX_icmp_le (tgt := 323) dX4_lay_317 (by decide) (fun c37 => ?_) (fun c37 => ?_)
      · have hm := ifp c37 hm
        refine oX_aload_n dX4_lay_323 rfl rfl ?_
        refine oX_iload dX4_lay_324 rfl ?_
        refine oX_aload_n dX4_lay_326 rfl rfl ?_
        refine oX_getF fX4_214 rfl oDs1 dX4_lay_327 (ohF194 hM) ?_
        refine oX_iload dX4_lay_330 rfl ?_
        obtain ⟨g38, hm⟩ := gd_s hm
        refine oX_iald oDs194 (oIn (ohN194 hM) g38) dX4_lay_332 ?_
        refine oX_iload_n dX4_lay_333 rfl rfl ?_
        obtain ⟨r39, g39, hm⟩ := bd_s hm
        refine oX_cV_ (as := [vI x6, vI (AI34 194 0 x6.toNatClampNeg), vI x3]) dX4_lay_334 rfl oDs1 rfl (by decide) rfl ok_X4_putNight rfl rfl q2433 q2435 qs126 q136 q2436 (by decide) (Nat.le_of_ble_eq_true rfl) (t_X4_putNight hM n x6 (AI34 194 0 x6.toNatClampNeg) x3 g39) ?_
        refine oX_aload_n dX4_lay_337 rfl rfl ?_
        refine oX_iload dX4_lay_338 rfl ?_
        refine oX_iconst (v := (1 : Int32)) dX4_lay_340 (by decide) ?_
        refine oX_iadd dX4_lay_341 ?_
        obtain ⟨r40, g40, hm⟩ := bd_s hm
        refine oX_cV (as := [vI (x6 + (1 : Int32))]) dX4_lay_342 rfl oDs1 rfl (by decide) rfl ok_X4_goes rfl rfl q2437 q2439 qs127 q136 q2440 (by decide) (Nat.le_of_ble_eq_true rfl) (t_X4_goes hM n (x6 + (1 : Int32)) g40) ?_
        refine oX_if_ne (tgt := 351) dX4_lay_345 (by decide) (fun c41 => ?_) (fun c41 => ?_)
        · have hm := ifp c41 hm
          refine oX_goto (tgt := 276) dX4_lay_348 (by decide) ?_
          exact oX_sub [1, 2, 3, 0, 4] rfl (hk (x5 + (1 : Int32), x6, r40.2.1, r40.2.2) (Option.some.inj hm).symm)
        · have hm := ifn c41 hm
          refine oX_iload dX4_lay_351 rfl ?_
          refine oX_iconst (v := (1 : Int32)) dX4_lay_353 (by decide) ?_
          refine oX_iadd dX4_lay_354 ?_
          refine oX_aload_n dX4_lay_355 rfl rfl ?_
          refine oX_getI fX4_599 rfl oDs1 dX4_lay_356 ?_
          refine oX_icmp_ne (tgt := 432) dX4_lay_359 (by decide) (fun c42 => ?_) (fun c42 => ?_)
          · have hm := ifp c42 hm
            exact oX_sub [1, 3, 0] rfl (hx3 (x5 + (1 : Int32), r40.2.1, r40.2.2) (Option.some.inj hm).symm)
          · have hm := ifn c42 hm
            refine oX_aload_n dX4_lay_432 rfl rfl ?_
            refine oX_getF fX4_214 rfl oDs1 dX4_lay_433 (ohF194 hM) ?_
            refine oX_iload dX4_lay_436 rfl ?_
            refine oX_iconst (v := (1 : Int32)) dX4_lay_438 (by decide) ?_
            refine oX_iadd dX4_lay_439 ?_
            refine oX_aload_n dX4_lay_440 rfl rfl ?_
            refine oX_getF fX4_214 rfl oDs1 dX4_lay_441 (ohF194 hM) ?_
            refine oX_iload dX4_lay_444 rfl ?_
            obtain ⟨g43, hm⟩ := gd_s hm
            refine oX_iald oDs194 (oIn (ohN194 hM) g43) dX4_lay_446 ?_
            obtain ⟨g44, hm⟩ := gd_s hm
            obtain ⟨AI44, hAI44, hm⟩ := oLs hm
            refine oX_iast oDs194 (oIn (ohN194 hM) g44) dX4_lay_447 hAI44 ?_
            refine oX_iinc (v := x6 + (1 : Int32)) (ls' := [(6, vI (x6 + (1 : Int32))), (5, vI (x5 + (1 : Int32))), (0, vR (some (1, 0))), (2, vI x2), (3, vI x3)]) dX4_lay_448 rfl rfl (by decide) rfl ?_
            refine oX_goto (tgt := 276) dX4_lay_451 (by decide) ?_
            exact oX_sub [2, 3, 4, 1, 0] rfl (hk (x5 + (1 : Int32), x6 + (1 : Int32), r40.2.1, AI44) (Option.some.inj hm).symm)
      · have hm := ifn c37 hm
        exact oX_sub [] rfl (hx2 (FI, AI34) (Option.some.inj hm).symm)
    · have hm := ifn c36 hm
      refine oX_iinc (v := x6 + (-1 : Int32)) (ls' := [(6, vI (x6 + (-1 : Int32))), (0, vR (some (1, 0))), (2, vI x2), (3, vI x3), (5, vI x5)]) dX4_lay_303 rfl rfl (by decide) rfl ?_
      refine oX_goto (tgt := 276) dX4_lay_306 (by decide) ?_
      exact oX_sub [1, 2, 3, 4, 0] rfl (hk (x5, x6 + (-1 : Int32), FI, AI34) (Option.some.inj hm).symm)
theorem l_mX4_lay_b276 {G : OhG} {FL : OhL} {FR : OhQ} {GR : OhQ} {AL : OhL} {AR : OhQ} {BR : OhQ} {AN : OhN} {C : OhC} {k : Nat × Nat} {Φ : OhP} {Ψ : OhX} (hM : ohShM FR AN) (n : Nat) (x2 : Int32) (x3 : Int32) : ∀ (f : Nat) (x5 : Int32) (x6 : Int32) (FI : OhI) (AI : OhI) (b : ((OhI × OhI) ⊕ ((OhI × OhI) ⊕ (Int32 × OhI × OhI)))), lpF (fun v => mX4_lay_b276 n v.2.2.1 FR v.2.2.2 AN x2 x3 v.1 v.2.1) f (x5, x6, FI, AI) = some b → (∀ v : OhI × OhI, b = (.inl v) → oX G 7 iX4_lay 454 [] [] (v.1, FL, FR, GR, v.2, AL, AR, BR, AN, C) k Φ Ψ) → (∀ v : OhI × OhI, b = (.inr (.inl v)) → oX G 7 iX4_lay 320 [] [] (v.1, FL, FR, GR, v.2, AL, AR, BR, AN, C) k Φ Ψ) → (∀ v : Int32 × OhI × OhI, b = (.inr (.inr v)) → oX G 7 iX4_lay 362 [(0, vR (some (1, 0))), (3, vI x3), (5, vI v.1)] [] (v.2.1, FL, FR, GR, v.2.2, AL, AR, BR, AN, C) k Φ Ψ) → oX G 7 iX4_lay 276 [(0, vR (some (1, 0))), (2, vI x2), (3, vI x3), (5, vI x5), (6, vI x6)] [] (FI, FL, FR, GR, AI, AL, AR, BR, AN, C) k Φ Ψ := by
  intro f
  induction f with
  | zero =>
    intro x5 x6 FI AI b hm
    cases hm
  | succ f ih =>
    intro x5 x6 FI AI b hm hx1 hx2 hx3
    obtain ⟨r, hr, hm⟩ := lp_s hm
    refine x_mX4_lay_b276 hM n x2 x3 x5 x6 hr (fun v e => ?_) (fun v e => ?_) (fun v e => ?_) (fun v e => ?_)
    · subst e; exact ih v.1 v.2.1 v.2.2.1 v.2.2.2 _ hm hx1 hx2 hx3
    · subst e; exact hx1 v hm.symm
    · subst e; exact hx2 v hm.symm
    · subst e; exact hx3 v hm.symm
noncomputable def mX4_lay_b386 (n : Nat) (FI : OhI) (FR : OhQ) (AI : OhI) (AN : OhN) (x5 : Int32) (x7 : Int32) : Option ((Int32 × OhI) ⊕ (OhI)) :=
  (if (FI 1 0 97) ≤ x7 then
  some (.inr AI)
else
  gd (vp_in x7 6) <|
    gd (vp_in x7 6) <|
    oLet (sA AI 195 0 (uA (AI 195 0) x7.toNatClampNeg (AI 194 0 x7.toNatClampNeg))) fun AI51 =>
    gd (vp_in x7 6) <|
    gd (vp_in x7 6) <|
    oLet (sA AI51 196 0 (uA (AI51 196 0) x7.toNatClampNeg (AI51 193 0 x7.toNatClampNeg))) fun AI53 =>
    some (.inl (x7 + (1 : Int32), AI53)))
theorem x_mX4_lay_b386 {G : OhG} {FI AI : OhI} {FL AL : OhL} {FR GR AR BR : OhQ} {AN : OhN} {C : OhC} {k : Nat × Nat} {Φ : OhP} {Ψ : OhX} (hM : ohShM FR AN) (n : Nat) (x5 : Int32) (x7 : Int32) {r : (Int32 × OhI) ⊕ (OhI)} (hm : mX4_lay_b386 n FI FR AI AN x5 x7 = some r) (hk : ∀ v : Int32 × OhI, r = .inl v → oX G 7 iX4_lay 386 [(0, vR (some (1, 0))), (5, vI x5), (7, vI v.1)] [] (FI, FL, FR, GR, v.2, AL, AR, BR, AN, C) k Φ Ψ) (hx1 : ∀ v : OhI, r = .inr v → oX G 7 iX4_lay 429 [(5, vI x5)] [] (FI, FL, FR, GR, v, AL, AR, BR, AN, C) k Φ Ψ) : oX G 7 iX4_lay 386 [(0, vR (some (1, 0))), (5, vI x5), (7, vI x7)] [] (FI, FL, FR, GR, AI, AL, AR, BR, AN, C) k Φ Ψ := by
  unfold mX4_lay_b386 at hm
  refine oX_iload dX4_lay_386 rfl ?_
  refine oX_aload_n dX4_lay_388 rfl rfl ?_
  refine oX_getI fX4_599 rfl oDs1 dX4_lay_389 ?_
  refine oX_icmp_ge (tgt := 429) dX4_lay_392 (by decide) (fun c49 => ?_) (fun c49 => ?_)
  · have hm := ifp c49 hm
    exact oX_sub [1] rfl (hx1 AI (Option.some.inj hm).symm)
  · have hm := ifn c49 hm
    refine oX_aload_n dX4_lay_395 rfl rfl ?_
    refine oX_getF fX4_217 rfl oDs1 dX4_lay_396 (ohF195 hM) ?_
    refine oX_iload dX4_lay_399 rfl ?_
    refine oX_aload_n dX4_lay_401 rfl rfl ?_
    refine oX_getF fX4_214 rfl oDs1 dX4_lay_402 (ohF194 hM) ?_
    refine oX_iload dX4_lay_405 rfl ?_
    obtain ⟨g50, hm⟩ := gd_s hm
    refine oX_iald oDs194 (oIn (ohN194 hM) g50) dX4_lay_407 ?_
    obtain ⟨g51, hm⟩ := gd_s hm
    obtain ⟨AI51, hAI51, hm⟩ := oLs hm
    refine oX_iast oDs195 (oIn (ohN195 hM) g51) dX4_lay_408 hAI51 ?_
    refine oX_aload_n dX4_lay_409 rfl rfl ?_
    refine oX_getF fX4_220 rfl oDs1 dX4_lay_410 (ohF196 hM) ?_
    refine oX_iload dX4_lay_413 rfl ?_
    refine oX_aload_n dX4_lay_415 rfl rfl ?_
    refine oX_getF fX4_211 rfl oDs1 dX4_lay_416 (ohF193 hM) ?_
    refine oX_iload dX4_lay_419 rfl ?_
    obtain ⟨g52, hm⟩ := gd_s hm
    refine oX_iald oDs193 (oIn (ohN193 hM) g52) dX4_lay_421 ?_
    obtain ⟨g53, hm⟩ := gd_s hm
    obtain ⟨AI53, hAI53, hm⟩ := oLs hm
    refine oX_iast oDs196 (oIn (ohN196 hM) g53) dX4_lay_422 hAI53 ?_
    refine oX_iinc (v := x7 + (1 : Int32)) (ls' := [(7, vI (x7 + (1 : Int32))), (0, vR (some (1, 0))), (5, vI x5)]) dX4_lay_423 rfl rfl (by decide) rfl ?_
    refine oX_goto (tgt := 386) dX4_lay_426 (by decide) ?_
    exact oX_sub [1, 2, 0] rfl (hk (x7 + (1 : Int32), AI53) (Option.some.inj hm).symm)
theorem l_mX4_lay_b386 {G : OhG} {FI : OhI} {FL : OhL} {FR : OhQ} {GR : OhQ} {AL : OhL} {AR : OhQ} {BR : OhQ} {AN : OhN} {C : OhC} {k : Nat × Nat} {Φ : OhP} {Ψ : OhX} (hM : ohShM FR AN) (n : Nat) (x5 : Int32) : ∀ (f : Nat) (x7 : Int32) (AI : OhI) (b : (OhI)), lpF (fun v => mX4_lay_b386 n FI FR v.2 AN x5 v.1) f (x7, AI) = some b → (oX G 7 iX4_lay 429 [(5, vI x5)] [] (FI, FL, FR, GR, b, AL, AR, BR, AN, C) k Φ Ψ) → oX G 7 iX4_lay 386 [(0, vR (some (1, 0))), (5, vI x5), (7, vI x7)] [] (FI, FL, FR, GR, AI, AL, AR, BR, AN, C) k Φ Ψ := by
  intro f
  induction f with
  | zero =>
    intro x7 AI b hm
    cases hm
  | succ f ih =>
    intro x7 AI b hm hx1
    obtain ⟨r, hr, hm⟩ := lp_s hm
    refine x_mX4_lay_b386 hM n x5 x7 hr (fun v e => ?_) (fun v e => ?_)
    · subst e; exact ih v.1 v.2 _ hm hx1
    · subst e; cases (show v = b from hm); exact hx1
noncomputable def mX4_lay_j150 (n : Nat) (FI : OhI) (FR : OhQ) (AI : OhI) (AN : OhN) (x1 : Int32) (x2 : Int32) (x3 : Int32) (x4 : Int32) : Option (Int32 × OhI × OhI) :=
  (if x4 = 0 then
  some ((-1 : Int32), FI, AI)
else
  oLet (sA FI 1 0 (uA (FI 1 0) 97 (FI 1 0 3))) fun FI16 =>
    (lpF (fun v => mX4_lay_b168 n FI16 FR v.2 AN x1 x2 x3 v.1) n ((0 : Int32), AI)).bind fun v20 =>
    (mX4_load n FI16 FR v20 AN (FI16 1 0 5)).bind fun r21 =>
    (mX4_judge n r21.1 FR r21.2 AN).bind fun r22 =>
    (mX4_unmark n FR r22.2 AN).bind fun r23 =>
    (lpF (fun v => mX4_lay_b216 n r22.1 FR v.2 AN x1 x2 x3 v.1) n ((0 : Int32), r23)).bind fun v30 =>
    gd (vp_in (0 : Int32) 6) <|
    oLet (sA v30 194 0 (uA (v30 194 0) (0 : Int32).toNatClampNeg (x1 - (1 : Int32)))) fun AI31 =>
    (lpF (fun v => mX4_lay_b276 n v.2.2.1 FR v.2.2.2 AN x2 x3 v.1 v.2.1) n ((0 : Int32), (0 : Int32), r22.1, AI31)).bind (Sum.elim (fun v45 => some ((0 : Int32), v45.1, v45.2)) (Sum.elim (fun v45 => some ((-2 : Int32), v45.1, v45.2)) (fun v45 => oLet (sA v45.2.1 1 0 (uA (v45.2.1 1 0) 98 (v45.2.1 1 0 97))) fun FI46 =>
    oLet (sA FI46 1 0 (uA (FI46 1 0) 99 x3)) fun FI47 =>
    oLet (sA FI47 1 0 (uA (FI47 1 0) 100 (FI47 1 0 6))) fun FI48 =>
    (lpF (fun v => mX4_lay_b386 n FI48 FR v.2 AN v45.1 v.1) n ((0 : Int32), v45.2.2)).bind fun v54 =>
    some (v45.1, FI48, v54)))))
theorem x_mX4_lay_j150 {G : OhG} {FI AI : OhI} {FL AL : OhL} {FR GR AR BR : OhQ} {AN : OhN} {C : OhC} {k : Nat × Nat} {Φ : OhP} {Ψ : OhX} (hM : ohShM FR AN) (n : Nat) (x1 : Int32) (x2 : Int32) (x3 : Int32) (x4 : Int32) {r : Int32 × OhI × OhI} (hm : mX4_lay_j150 n FI FR AI AN x1 x2 x3 x4 = some r) (hK : Φ (some (vI r.1)) (r.2.1, FL, FR, GR, r.2.2, AL, AR, BR, AN, C)) : oX G 7 iX4_lay 150 [(0, vR (some (1, 0))), (1, vI x1), (2, vI x2), (3, vI x3), (4, vI x4)] [] (FI, FL, FR, GR, AI, AL, AR, BR, AN, C) k Φ Ψ := by
  unfold mX4_lay_j150 at hm
  refine oX_iload dX4_lay_150 rfl ?_
  refine oX_if_ne (tgt := 157) dX4_lay_152 (by decide) (fun c15 => ?_) (fun c15 => ?_)
  · have hm := ifp c15 hm
    refine oX_iconst (v := (-1 : Int32)) dX4_lay_155 (by decide) ?_
    obtain rfl := Option.some.inj hm
    exact oX_iret dX4_lay_156 rfl rfl hK
  · have hm := ifn c15 hm
    refine oX_aload_n dX4_lay_157 rfl rfl ?_
    refine oX_aload_n dX4_lay_158 rfl rfl ?_
    refine oX_getI fX4_236 rfl oDs1 dX4_lay_159 ?_
    obtain ⟨FI16, hFI16, hm⟩ := oLs hm
    refine oX_putI fX4_599 rfl (fun h9 => by cases h9) oDs1 dX4_lay_162 ⟨rfl, rfl⟩ hFI16 ?_
    refine oX_iconst (v := (0 : Int32)) dX4_lay_165 (by decide) ?_
    refine oX_istore (ls' := [(5, vI (0 : Int32)), (0, vR (some (1, 0))), (1, vI x1), (2, vI x2), (3, vI x3), (4, vI x4)]) dX4_lay_166 (by decide) rfl ?_
    obtain ⟨v20, g20, hm⟩ := bd_s hm
    refine oX_sub [1, 2, 3, 4, 0] rfl (l_mX4_lay_b168 hM n x1 x2 x3 n (0 : Int32) AI _ g20 ?_)
    refine oX_aload_n dX4_lay_197 rfl rfl ?_
    refine oX_aload_n dX4_lay_198 rfl rfl ?_
    refine oX_getI fX4_246 rfl oDs1 dX4_lay_199 ?_
    obtain ⟨r21, g21, hm⟩ := bd_s hm
    refine oX_cV_ (as := [vI (FI16 1 0 5)]) dX4_lay_202 rfl oDs1 rfl (by decide) rfl ok_X4_load rfl rfl q2209 q2211 qs85 q136 q2212 (by decide) (Nat.le_of_ble_eq_true rfl) (t_X4_load hM n (FI16 1 0 5) g21) ?_
    refine oX_aload_n dX4_lay_205 rfl rfl ?_
    obtain ⟨r22, g22, hm⟩ := bd_s hm
    refine oX_cV_ (as := []) dX4_lay_206 rfl oDs1 rfl (by decide) rfl ok_X4_judge rfl rfl q2318 q2320 qs104 q136 q2321 (by decide) (Nat.le_of_ble_eq_true rfl) (t_X4_judge hM n g22) ?_
    refine oX_aload_n dX4_lay_209 rfl rfl ?_
    obtain ⟨r23, g23, hm⟩ := bd_s hm
    refine oX_cV_ (as := []) dX4_lay_210 rfl oDs1 rfl (by decide) rfl ok_X4_unmark rfl rfl q2402 q2404 qs122 q136 q2405 (by decide) (Nat.le_of_ble_eq_true rfl) (t_X4_unmark hM n g23) ?_
    refine oX_iconst (v := (0 : Int32)) dX4_lay_213 (by decide) ?_
    refine oX_istore (ls' := [(5, vI (0 : Int32)), (0, vR (some (1, 0))), (1, vI x1), (2, vI x2), (3, vI x3)]) dX4_lay_214 (by decide) rfl ?_
    obtain ⟨v30, g30, hm⟩ := bd_s hm
    refine oX_sub [1, 2, 3, 4, 0] rfl (l_mX4_lay_b216 hM n x1 x2 x3 n (0 : Int32) r23 _ g30 ?_)
    refine oX_iconst (v := (0 : Int32)) dX4_lay_261 (by decide) ?_
    refine oX_istore (ls' := [(5, vI (0 : Int32)), (0, vR (some (1, 0))), (1, vI x1), (2, vI x2), (3, vI x3)]) dX4_lay_262 (by decide) rfl ?_
    refine oX_iconst (v := (0 : Int32)) dX4_lay_264 (by decide) ?_
    refine oX_istore (ls' := [(6, vI (0 : Int32)), (5, vI (0 : Int32)), (0, vR (some (1, 0))), (1, vI x1), (2, vI x2), (3, vI x3)]) dX4_lay_265 (by decide) rfl ?_
    refine oX_aload_n dX4_lay_267 rfl rfl ?_
    refine oX_getF fX4_214 rfl oDs1 dX4_lay_268 (ohF194 hM) ?_
    refine oX_iconst (v := (0 : Int32)) dX4_lay_271 (by decide) ?_
    refine oX_iload_n dX4_lay_272 rfl rfl ?_
    refine oX_iconst (v := (1 : Int32)) dX4_lay_273 (by decide) ?_
    refine oX_isub dX4_lay_274 ?_
    obtain ⟨g31, hm⟩ := gd_s hm
    obtain ⟨AI31, hAI31, hm⟩ := oLs hm
    refine oX_iast oDs194 (oIn (ohN194 hM) g31) dX4_lay_275 hAI31 ?_
    obtain ⟨b45, g45, hm⟩ := bd_s hm
    refine oX_sub [2, 4, 5, 1, 0] rfl (l_mX4_lay_b276 hM n x2 x3 n (0 : Int32) (0 : Int32) r22.1 AI31 _ g45 (fun v45 e45 => ?_) (fun v45 e45 => ?_) (fun v45 e45 => ?_))
    · subst e45
      have hm := el1 hm
      refine oX_iconst (v := (0 : Int32)) dX4_lay_454 (by decide) ?_
      obtain rfl := Option.some.inj hm
      exact oX_iret dX4_lay_455 rfl rfl hK
    · subst e45
      have hm := el2 hm
      have hm := el1 hm
      refine oX_bipush (v := (-2 : Int32)) dX4_lay_320 (by decide) ?_
      obtain rfl := Option.some.inj hm
      exact oX_iret dX4_lay_322 rfl rfl hK
    · subst e45
      have hm := el2 hm
      have hm := el2 hm
      refine oX_aload_n dX4_lay_362 rfl rfl ?_
      refine oX_aload_n dX4_lay_363 rfl rfl ?_
      refine oX_getI fX4_599 rfl oDs1 dX4_lay_364 ?_
      obtain ⟨FI46, hFI46, hm⟩ := oLs hm
      refine oX_putI fX4_596 rfl (fun h9 => by cases h9) oDs1 dX4_lay_367 ⟨rfl, rfl⟩ hFI46 ?_
      refine oX_aload_n dX4_lay_370 rfl rfl ?_
      refine oX_iload_n dX4_lay_371 rfl rfl ?_
      obtain ⟨FI47, hFI47, hm⟩ := oLs hm
      refine oX_putI fX4_608 rfl (fun h9 => by cases h9) oDs1 dX4_lay_372 ⟨rfl, rfl⟩ hFI47 ?_
      refine oX_aload_n dX4_lay_375 rfl rfl ?_
      refine oX_aload_n dX4_lay_376 rfl rfl ?_
      refine oX_getI fX4_249 rfl oDs1 dX4_lay_377 ?_
      obtain ⟨FI48, hFI48, hm⟩ := oLs hm
      refine oX_putI fX4_223 rfl (fun h9 => by cases h9) oDs1 dX4_lay_380 ⟨rfl, rfl⟩ hFI48 ?_
      refine oX_iconst (v := (0 : Int32)) dX4_lay_383 (by decide) ?_
      refine oX_istore (ls' := [(7, vI (0 : Int32)), (0, vR (some (1, 0))), (3, vI x3), (5, vI v45.1)]) dX4_lay_384 (by decide) rfl ?_
      obtain ⟨v54, g54, hm⟩ := bd_s hm
      refine oX_sub [1, 3, 0] rfl (l_mX4_lay_b386 hM n v45.1 n (0 : Int32) v45.2.2 _ g54 ?_)
      refine oX_iload dX4_lay_429 rfl ?_
      obtain rfl := Option.some.inj hm
      exact oX_iret dX4_lay_431 rfl rfl hK
noncomputable def mX4_lay_j79 (n : Nat) (FI : OhI) (FR : OhQ) (AI : OhI) (AN : OhN) (x1 : Int32) (x2 : Int32) (x3 : Int32) (y0 : Int32) : Option (Int32 × OhI × OhI) :=
  (lpF (fun v => mX4_lay_b84 n FI FR AI AN x1 x2 x3 v.1 v.2) n (y0, (0 : Int32))).bind fun v14 =>
  mX4_lay_j150 n FI FR AI AN x1 x2 x3 v14
theorem x_mX4_lay_j79 {G : OhG} {FI AI : OhI} {FL AL : OhL} {FR GR AR BR : OhQ} {AN : OhN} {C : OhC} {k : Nat × Nat} {Φ : OhP} {Ψ : OhX} (hM : ohShM FR AN) (n : Nat) (x1 : Int32) (x2 : Int32) (x3 : Int32) (y0 : Int32) {r : Int32 × OhI × OhI} (hm : mX4_lay_j79 n FI FR AI AN x1 x2 x3 y0 = some r) (hK : Φ (some (vI r.1)) (r.2.1, FL, FR, GR, r.2.2, AL, AR, BR, AN, C)) : oX G 7 iX4_lay 79 [(0, vR (some (1, 0))), (1, vI x1), (2, vI x2), (3, vI x3)] [vI y0] (FI, FL, FR, GR, AI, AL, AR, BR, AN, C) k Φ Ψ := by
  unfold mX4_lay_j79 at hm
  refine oX_istore (ls' := [(4, vI y0), (0, vR (some (1, 0))), (1, vI x1), (2, vI x2), (3, vI x3)]) dX4_lay_79 (by decide) rfl ?_
  refine oX_iconst (v := (0 : Int32)) dX4_lay_81 (by decide) ?_
  refine oX_istore (ls' := [(5, vI (0 : Int32)), (4, vI y0), (0, vR (some (1, 0))), (1, vI x1), (2, vI x2), (3, vI x3)]) dX4_lay_82 (by decide) rfl ?_
  obtain ⟨v14, g14, hm⟩ := bd_s hm
  refine oX_sub [2, 3, 4, 5, 1, 0] rfl (l_mX4_lay_b84 hM n x1 x2 x3 n y0 (0 : Int32) _ g14 ?_)
  exact oX_sub [0, 1, 2, 3, 4] rfl (x_mX4_lay_j150 hM n x1 x2 x3 v14 hm hK)
noncomputable def mX4_lay_j78 (n : Nat) (FI : OhI) (FR : OhQ) (AI : OhI) (AN : OhN) (x1 : Int32) (x2 : Int32) (x3 : Int32) : Option (Int32 × OhI × OhI) :=
  mX4_lay_j79 n FI FR AI AN x1 x2 x3 (0 : Int32)
theorem x_mX4_lay_j78 {G : OhG} {FI AI : OhI} {FL AL : OhL} {FR GR AR BR : OhQ} {AN : OhN} {C : OhC} {k : Nat × Nat} {Φ : OhP} {Ψ : OhX} (hM : ohShM FR AN) (n : Nat) (x1 : Int32) (x2 : Int32) (x3 : Int32) {r : Int32 × OhI × OhI} (hm : mX4_lay_j78 n FI FR AI AN x1 x2 x3 = some r) (hK : Φ (some (vI r.1)) (r.2.1, FL, FR, GR, r.2.2, AL, AR, BR, AN, C)) : oX G 7 iX4_lay 78 [(0, vR (some (1, 0))), (1, vI x1), (2, vI x2), (3, vI x3)] [] (FI, FL, FR, GR, AI, AL, AR, BR, AN, C) k Φ Ψ := by
  unfold mX4_lay_j78 at hm
  refine oX_iconst (v := (0 : Int32)) dX4_lay_78 (by decide) ?_
  exact oX_sub [0, 1, 2, 3] rfl (x_mX4_lay_j79 hM n x1 x2 x3 (0 : Int32) hm hK)
noncomputable def mX4_lay (n : Nat) (FI : OhI) (FR : OhQ) (AI : OhI) (AN : OhN) (x1 : Int32) (x2 : Int32) (x3 : Int32) : Option (Int32 × OhI × OhI) :=
  oLet (sA FI 1 0 (uA (FI 1 0) 0 (0 : Int32))) fun FI1 =>
  (mX4_taken FI1).bind fun r2 =>
  oLet (sA r2 1 0 (uA (r2 1 0) 98 (0 : Int32))) fun FI3 =>
  (mX4_isIn (FI3 1 0 3) (1 : Int32) (6 : Int32)).bind fun r4 =>
  (if r4 = 0 then
  mX4_lay_j78 n FI3 FR AI AN x1 x2 x3
else
  (mX4_isIn x1 (FI3 1 0 5) (29 : Int32)).bind fun r55 =>
    (if r55 = 0 then
    mX4_lay_j78 n FI3 FR AI AN x1 x2 x3
  else
    (mX4_isIn x2 x1 (29 : Int32)).bind fun r57 =>
      (if r57 = 0 then
      mX4_lay_j78 n FI3 FR AI AN x1 x2 x3
    else
      (mX4_isIn x3 (0 : Int32) (23 : Int32)).bind fun r59 =>
        (if r59 = 0 then
        mX4_lay_j78 n FI3 FR AI AN x1 x2 x3
      else
        (if (60 : Int32) < ((FI3 1 0 70) + (FI3 1 0 3)) then
          mX4_lay_j78 n FI3 FR AI AN x1 x2 x3
        else
          mX4_lay_j79 n FI3 FR AI AN x1 x2 x3 (1 : Int32))))))
theorem x_mX4_lay {G : OhG} {FI AI : OhI} {FL AL : OhL} {FR GR AR BR : OhQ} {AN : OhN} {C : OhC} {k : Nat × Nat} {Φ : OhP} {Ψ : OhX} (hM : ohShM FR AN) (n : Nat) (x1 : Int32) (x2 : Int32) (x3 : Int32) {r : Int32 × OhI × OhI} (hm : mX4_lay n FI FR AI AN x1 x2 x3 = some r) (hK : Φ (some (vI r.1)) (r.2.1, FL, FR, GR, r.2.2, AL, AR, BR, AN, C)) : oX G 7 iX4_lay 0 [(0, vR (some (1, 0))), (1, vI x1), (2, vI x2), (3, vI x3)] [] (FI, FL, FR, GR, AI, AL, AR, BR, AN, C) k Φ Ψ := by
  unfold mX4_lay at hm
  refine oX_aload_n dX4_lay_0 rfl rfl ?_
  refine oX_iconst (v := (0 : Int32)) dX4_lay_1 (by decide) ?_
  obtain ⟨FI1, hFI1, hm⟩ := oLs hm
  refine oX_putI fX4_226 rfl (fun h9 => by cases h9) oDs1 dX4_lay_2 ⟨rfl, rfl⟩ hFI1 ?_
  refine oX_aload_n dX4_lay_5 rfl rfl ?_
  obtain ⟨r2, g2, hm⟩ := bd_s hm
  refine oX_cV_ (as := []) dX4_lay_6 rfl oDs1 rfl (by decide) rfl ok_X4_taken rfl rfl q2039 q2041 qs60 q136 q2042 (by decide) (Nat.le_of_ble_eq_true rfl) (t_X4_taken g2) ?_
  refine oX_aload_n dX4_lay_9 rfl rfl ?_
  refine oX_iconst (v := (0 : Int32)) dX4_lay_10 (by decide) ?_
  obtain ⟨FI3, hFI3, hm⟩ := oLs hm
  refine oX_putI fX4_596 rfl (fun h9 => by cases h9) oDs1 dX4_lay_11 ⟨rfl, rfl⟩ hFI3 ?_
  refine oX_aload_n dX4_lay_14 rfl rfl ?_
  refine oX_getI fX4_236 rfl oDs1 dX4_lay_15 ?_
  refine oX_iconst (v := (1 : Int32)) dX4_lay_18 (by decide) ?_
  refine oX_bipush (v := (6 : Int32)) dX4_lay_19 (by decide) ?_
  obtain ⟨r4, g4, hm⟩ := bd_s hm
  refine oX_cS (as := [vI (FI3 1 0 3), vI (1 : Int32), vI (6 : Int32)]) dX4_lay_21 rfl ok_X4_isIn rfl rfl q2032 q2033 q136 q2034 (by decide) (Nat.le_of_ble_eq_true rfl) (t_X4_isIn (FI3 1 0 3) (1 : Int32) (6 : Int32) g4) ?_
  refine oX_if_eq (tgt := 78) dX4_lay_24 (by decide) (fun c5 => ?_) (fun c5 => ?_)
  · have hm := ifp c5 hm
    exact oX_sub [0, 1, 2, 3] rfl (x_mX4_lay_j78 hM n x1 x2 x3 hm hK)
  · have hm := ifn c5 hm
    refine oX_iload_n dX4_lay_27 rfl rfl ?_
    refine oX_aload_n dX4_lay_28 rfl rfl ?_
    refine oX_getI fX4_246 rfl oDs1 dX4_lay_29 ?_
    refine oX_bipush (v := (29 : Int32)) dX4_lay_32 (by decide) ?_
    obtain ⟨r55, g55, hm⟩ := bd_s hm
    refine oX_cS (as := [vI x1, vI (FI3 1 0 5), vI (29 : Int32)]) dX4_lay_34 rfl ok_X4_isIn rfl rfl q2032 q2033 q136 q2034 (by decide) (Nat.le_of_ble_eq_true rfl) (t_X4_isIn x1 (FI3 1 0 5) (29 : Int32) g55) ?_
    refine oX_if_eq (tgt := 78) dX4_lay_37 (by decide) (fun c56 => ?_) (fun c56 => ?_)
    · have hm := ifp c56 hm
      exact oX_sub [0, 1, 2, 3] rfl (x_mX4_lay_j78 hM n x1 x2 x3 hm hK)
    · have hm := ifn c56 hm
      refine oX_iload_n dX4_lay_40 rfl rfl ?_
      refine oX_iload_n dX4_lay_41 rfl rfl ?_
      refine oX_bipush (v := (29 : Int32)) dX4_lay_42 (by decide) ?_
      obtain ⟨r57, g57, hm⟩ := bd_s hm
      refine oX_cS (as := [vI x2, vI x1, vI (29 : Int32)]) dX4_lay_44 rfl ok_X4_isIn rfl rfl q2032 q2033 q136 q2034 (by decide) (Nat.le_of_ble_eq_true rfl) (t_X4_isIn x2 x1 (29 : Int32) g57) ?_
      refine oX_if_eq (tgt := 78) dX4_lay_47 (by decide) (fun c58 => ?_) (fun c58 => ?_)
      · have hm := ifp c58 hm
        exact oX_sub [0, 1, 2, 3] rfl (x_mX4_lay_j78 hM n x1 x2 x3 hm hK)
      · have hm := ifn c58 hm
        refine oX_iload_n dX4_lay_50 rfl rfl ?_
        refine oX_iconst (v := (0 : Int32)) dX4_lay_51 (by decide) ?_
        refine oX_bipush (v := (23 : Int32)) dX4_lay_52 (by decide) ?_
        obtain ⟨r59, g59, hm⟩ := bd_s hm
        refine oX_cS (as := [vI x3, vI (0 : Int32), vI (23 : Int32)]) dX4_lay_54 rfl ok_X4_isIn rfl rfl q2032 q2033 q136 q2034 (by decide) (Nat.le_of_ble_eq_true rfl) (t_X4_isIn x3 (0 : Int32) (23 : Int32) g59) ?_
        refine oX_if_eq (tgt := 78) dX4_lay_57 (by decide) (fun c60 => ?_) (fun c60 => ?_)
        · have hm := ifp c60 hm
          exact oX_sub [0, 1, 2, 3] rfl (x_mX4_lay_j78 hM n x1 x2 x3 hm hK)
        · have hm := ifn c60 hm
          refine oX_aload_n dX4_lay_60 rfl rfl ?_
          refine oX_getI fX4_423 rfl oDs1 dX4_lay_61 ?_
          refine oX_aload_n dX4_lay_64 rfl rfl ?_
          refine oX_getI fX4_236 rfl oDs1 dX4_lay_65 ?_
          refine oX_iadd dX4_lay_68 ?_
          refine oX_bipush (v := (60 : Int32)) dX4_lay_69 (by decide) ?_
          refine oX_icmp_gt (tgt := 78) dX4_lay_71 (by decide) (fun c61 => ?_) (fun c61 => ?_)
          · have hm := ifp c61 hm
            exact oX_sub [0, 1, 2, 3] rfl (x_mX4_lay_j78 hM n x1 x2 x3 hm hK)
          · have hm := ifn c61 hm
            refine oX_iconst (v := (1 : Int32)) dX4_lay_74 (by decide) ?_
            refine oX_goto (tgt := 79) dX4_lay_75 (by decide) ?_
            exact oX_sub [0, 1, 2, 3] rfl (x_mX4_lay_j79 hM n x1 x2 x3 (1 : Int32) hm hK)
theorem t_X4_lay {G : OhG} {FI AI : OhI} {FL AL : OhL} {FR GR AR BR : OhQ} {AN : OhN} {C : OhC} (hM : ohShM FR AN) (n : Nat) (x1 : Int32) (x2 : Int32) (x3 : Int32) {o : Int32 × OhI × OhI} (hm : mX4_lay n FI FR AI AN x1 x2 x3 = some o) : oT G 7 iX4_lay [vR (some (1, 0)), vI x1, vI x2, vI x3] (FI, FL, FR, GR, AI, AL, AR, BR, AN, C) (0, 0) (fun v h => v = (some (vI o.1)) ∧ h = (o.2.1, FL, FR, GR, o.2.2, AL, AR, BR, AN, C)) ohNo :=
  oT_of (by decide) rfl (Nat.le_of_ble_eq_true rfl) (x_mX4_lay hM n x1 x2 x3 hm ⟨rfl, rfl⟩)
abbrev iX4_laid : OhM := (yX4_laid, cX4_laid, 2, (some .int), [])
theorem ok_X4_laid : oOk iX4_laid 1 := ⟨by decide, by decide, by decide +kernel⟩

noncomputable def mX4_laid (FI : OhI) (FR : OhQ) (AI : OhI) (AN : OhN) (x1 : Int32) : Option (Int32 × OhI) :=
  oLet (sA FI 1 0 (uA (FI 1 0) 0 (0 : Int32))) fun FI1 =>
  (if x1 < 0 then
  some ((-1 : Int32), FI1)
else
  (if x1 < (FI1 1 0 98) then
    gd (vp_in x1 6) <|
      some (AI 195 0 x1.toNatClampNeg, FI1)
  else
    some ((-1 : Int32), FI1)))
theorem x_mX4_laid {G : OhG} {FI AI : OhI} {FL AL : OhL} {FR GR AR BR : OhQ} {AN : OhN} {C : OhC} {k : Nat × Nat} {Φ : OhP} {Ψ : OhX} (hM : ohShM FR AN) (x1 : Int32) {r : Int32 × OhI} (hm : mX4_laid FI FR AI AN x1 = some r) (hK : Φ (some (vI r.1)) (r.2, FL, FR, GR, AI, AL, AR, BR, AN, C)) : oX G 1 iX4_laid 0 [(0, vR (some (1, 0))), (1, vI x1)] [] (FI, FL, FR, GR, AI, AL, AR, BR, AN, C) k Φ Ψ := by
  unfold mX4_laid at hm
  refine oX_aload_n dX4_laid_0 rfl rfl ?_
  refine oX_iconst (v := (0 : Int32)) dX4_laid_1 (by decide) ?_
  obtain ⟨FI1, hFI1, hm⟩ := oLs hm
  refine oX_putI fX4_226 rfl (fun h9 => by cases h9) oDs1 dX4_laid_2 ⟨rfl, rfl⟩ hFI1 ?_
  refine oX_iload_n dX4_laid_5 rfl rfl ?_
  refine oX_if_lt (tgt := 17) dX4_laid_6 (by decide) (fun c2 => ?_) (fun c2 => ?_)
  · have hm := ifp c2 hm
    refine oX_iconst (v := (-1 : Int32)) dX4_laid_17 (by decide) ?_
    refine oX_goto (tgt := 27) dX4_laid_18 (by decide) ?_
    obtain rfl := Option.some.inj hm
    exact oX_iret dX4_laid_27 rfl rfl hK
  · have hm := ifn c2 hm
    refine oX_iload_n dX4_laid_9 rfl rfl ?_
    refine oX_aload_n dX4_laid_10 rfl rfl ?_
    refine oX_getI fX4_596 rfl oDs1 dX4_laid_11 ?_
    refine oX_icmp_lt (tgt := 21) dX4_laid_14 (by decide) (fun c3 => ?_) (fun c3 => ?_)
    · have hm := ifp c3 hm
      refine oX_aload_n dX4_laid_21 rfl rfl ?_
      refine oX_getF fX4_217 rfl oDs1 dX4_laid_22 (ohF195 hM) ?_
      refine oX_iload_n dX4_laid_25 rfl rfl ?_
      obtain ⟨g4, hm⟩ := gd_s hm
      refine oX_iald oDs195 (oIn (ohN195 hM) g4) dX4_laid_26 ?_
      obtain rfl := Option.some.inj hm
      exact oX_iret dX4_laid_27 rfl rfl hK
    · have hm := ifn c3 hm
      refine oX_iconst (v := (-1 : Int32)) dX4_laid_17 (by decide) ?_
      refine oX_goto (tgt := 27) dX4_laid_18 (by decide) ?_
      obtain rfl := Option.some.inj hm
      exact oX_iret dX4_laid_27 rfl rfl hK
theorem t_X4_laid {G : OhG} {FI AI : OhI} {FL AL : OhL} {FR GR AR BR : OhQ} {AN : OhN} {C : OhC} (hM : ohShM FR AN) (x1 : Int32) {o : Int32 × OhI} (hm : mX4_laid FI FR AI AN x1 = some o) : oT G 1 iX4_laid [vR (some (1, 0)), vI x1] (FI, FL, FR, GR, AI, AL, AR, BR, AN, C) (0, 0) (fun v h => v = (some (vI o.1)) ∧ h = (o.2, FL, FR, GR, AI, AL, AR, BR, AN, C)) ohNo :=
  oT_of (by decide) rfl (Nat.le_of_ble_eq_true rfl) (x_mX4_laid hM x1 hm ⟨rfl, rfl⟩)
abbrev iX4_keep : OhM := (yX4_keep, cX4_keep, 5, (some .int), [])
theorem ok_X4_keep : oOk iX4_keep 0 := ⟨by decide, by decide, by decide +kernel⟩

noncomputable def mX4_keep_b74 (n : Nat) (FI : OhI) (FR : OhQ) (AI : OhI) (AN : OhN) (x1 : Int32) (x2 : Int32) (x3 : Int32) : Option ((Int32 × Int32) ⊕ (Int32)) :=
  (if (8 : Int32) ≤ x3 then
  some (.inr x1)
else
  gd (vp_in (((8 : Int32) * ((FI 1 0 70) + x2)) + x3) 528) <|
    (if (AI 172 0 (((8 : Int32) * ((FI 1 0 70) + x2)) + x3).toNatClampNeg) < 0 then
    some (.inl (x1 + (0 : Int32), x3 + (1 : Int32)))
  else
    some (.inl (x1 + (1 : Int32), x3 + (1 : Int32)))))
theorem x_mX4_keep_b74 {G : OhG} {FI AI : OhI} {FL AL : OhL} {FR GR AR BR : OhQ} {AN : OhN} {C : OhC} {k : Nat × Nat} {Φ : OhP} {Ψ : OhX} (hM : ohShM FR AN) (n : Nat) (x1 : Int32) (x2 : Int32) (x3 : Int32) {r : (Int32 × Int32) ⊕ (Int32)} (hm : mX4_keep_b74 n FI FR AI AN x1 x2 x3 = some r) (hk : ∀ v : Int32 × Int32, r = .inl v → oX G 4 iX4_keep 74 [(0, vR (some (1, 0))), (1, vI v.1), (2, vI x2), (3, vI v.2)] [] (FI, FL, FR, GR, AI, AL, AR, BR, AN, C) k Φ Ψ) (hx1 : ∀ v : Int32, r = .inr v → oX G 4 iX4_keep 113 [(0, vR (some (1, 0))), (1, vI v), (2, vI x2)] [] (FI, FL, FR, GR, AI, AL, AR, BR, AN, C) k Φ Ψ) : oX G 4 iX4_keep 74 [(0, vR (some (1, 0))), (1, vI x1), (2, vI x2), (3, vI x3)] [] (FI, FL, FR, GR, AI, AL, AR, BR, AN, C) k Φ Ψ := by
  unfold mX4_keep_b74 at hm
  refine oX_iload_n dX4_keep_74 rfl rfl ?_
  refine oX_bipush (v := (8 : Int32)) dX4_keep_75 (by decide) ?_
  refine oX_icmp_ge (tgt := 113) dX4_keep_77 (by decide) (fun c10 => ?_) (fun c10 => ?_)
  · have hm := ifp c10 hm
    exact oX_sub [0, 1, 2] rfl (hx1 x1 (Option.some.inj hm).symm)
  · have hm := ifn c10 hm
    refine oX_iload_n dX4_keep_80 rfl rfl ?_
    refine oX_aload_n dX4_keep_81 rfl rfl ?_
    refine oX_getF fX4_157 rfl oDs1 dX4_keep_82 (ohF172 hM) ?_
    refine oX_bipush (v := (8 : Int32)) dX4_keep_85 (by decide) ?_
    refine oX_aload_n dX4_keep_87 rfl rfl ?_
    refine oX_getI fX4_423 rfl oDs1 dX4_keep_88 ?_
    refine oX_iload_n dX4_keep_91 rfl rfl ?_
    refine oX_iadd dX4_keep_92 ?_
    refine oX_imul dX4_keep_93 ?_
    refine oX_iload_n dX4_keep_94 rfl rfl ?_
    refine oX_iadd dX4_keep_95 ?_
    obtain ⟨g11, hm⟩ := gd_s hm
    refine oX_iald oDs172 (oIn (ohN172 hM) g11) dX4_keep_96 ?_
    refine oX_if_lt (tgt := 104) dX4_keep_97 (by decide) (fun c12 => ?_) (fun c12 => ?_)
    · have hm := ifp c12 hm
      refine oX_iconst (v := (0 : Int32)) dX4_keep_104 (by decide) ?_
      refine oX_iadd dX4_keep_105 ?_
      refine oX_istore_n (ls' := [(1, vI (x1 + (0 : Int32))), (0, vR (some (1, 0))), (2, vI x2), (3, vI x3)]) dX4_keep_106 rfl (by decide) rfl ?_
      refine oX_iinc (v := x3 + (1 : Int32)) (ls' := [(3, vI (x3 + (1 : Int32))), (1, vI (x1 + (0 : Int32))), (0, vR (some (1, 0))), (2, vI x2)]) dX4_keep_107 rfl rfl (by decide) rfl ?_
      refine oX_goto (tgt := 74) dX4_keep_110 (by decide) ?_
      exact oX_sub [2, 1, 3, 0] rfl (hk (x1 + (0 : Int32), x3 + (1 : Int32)) (Option.some.inj hm).symm)
    · have hm := ifn c12 hm
      refine oX_iconst (v := (1 : Int32)) dX4_keep_100 (by decide) ?_
      refine oX_goto (tgt := 105) dX4_keep_101 (by decide) ?_
      refine oX_iadd dX4_keep_105 ?_
      refine oX_istore_n (ls' := [(1, vI (x1 + (1 : Int32))), (0, vR (some (1, 0))), (2, vI x2), (3, vI x3)]) dX4_keep_106 rfl (by decide) rfl ?_
      refine oX_iinc (v := x3 + (1 : Int32)) (ls' := [(3, vI (x3 + (1 : Int32))), (1, vI (x1 + (1 : Int32))), (0, vR (some (1, 0))), (2, vI x2)]) dX4_keep_107 rfl rfl (by decide) rfl ?_
      refine oX_goto (tgt := 74) dX4_keep_110 (by decide) ?_
      exact oX_sub [2, 1, 3, 0] rfl (hk (x1 + (1 : Int32), x3 + (1 : Int32)) (Option.some.inj hm).symm)
theorem l_mX4_keep_b74 {G : OhG} {FI : OhI} {FL : OhL} {FR : OhQ} {GR : OhQ} {AI : OhI} {AL : OhL} {AR : OhQ} {BR : OhQ} {AN : OhN} {C : OhC} {k : Nat × Nat} {Φ : OhP} {Ψ : OhX} (hM : ohShM FR AN) (n : Nat) (x2 : Int32) : ∀ (f : Nat) (x1 : Int32) (x3 : Int32) (b : (Int32)), lpF (fun v => mX4_keep_b74 n FI FR AI AN v.1 x2 v.2) f (x1, x3) = some b → (oX G 4 iX4_keep 113 [(0, vR (some (1, 0))), (1, vI b), (2, vI x2)] [] (FI, FL, FR, GR, AI, AL, AR, BR, AN, C) k Φ Ψ) → oX G 4 iX4_keep 74 [(0, vR (some (1, 0))), (1, vI x1), (2, vI x2), (3, vI x3)] [] (FI, FL, FR, GR, AI, AL, AR, BR, AN, C) k Φ Ψ := by
  intro f
  induction f with
  | zero =>
    intro x1 x3 b hm
    cases hm
  | succ f ih =>
    intro x1 x3 b hm hx1
    obtain ⟨r, hr, hm⟩ := lp_s hm
    refine x_mX4_keep_b74 hM n x1 x2 x3 hr (fun v e => ?_) (fun v e => ?_)
    · subst e; exact ih v.1 v.2 _ hm hx1
    · subst e; cases (show v = b from hm); exact hx1
noncomputable def mX4_keep_b37 (n : Nat) (FI : OhI) (FR : OhQ) (AI : OhI) (AN : OhN) (x1 : Int32) (x2 : Int32) : Option ((Int32 × Int32 × OhI) ⊕ (Int32 × OhI)) :=
  (if (FI 1 0 98) ≤ x2 then
  some (.inr (x1, AI))
else
  gd (vp_in x2 6) <|
    gd (vp_in x2 6) <|
    oLet (sA AI 193 0 (uA (AI 193 0) x2.toNatClampNeg (AI 196 0 x2.toNatClampNeg))) fun AI7 =>
    gd (vp_in x2 6) <|
    (mX4_putNight n FI FR AI7 AN x2 (AI7 195 0 x2.toNatClampNeg) (FI 1 0 99)).bind fun r9 =>
    (lpF (fun v => mX4_keep_b74 n FI FR r9 AN v.1 x2 v.2) n (x1, (0 : Int32))).bind fun v13 =>
    some (.inl (v13, x2 + (1 : Int32), r9)))
theorem x_mX4_keep_b37 {G : OhG} {FI AI : OhI} {FL AL : OhL} {FR GR AR BR : OhQ} {AN : OhN} {C : OhC} {k : Nat × Nat} {Φ : OhP} {Ψ : OhX} (hM : ohShM FR AN) (n : Nat) (x1 : Int32) (x2 : Int32) {r : (Int32 × Int32 × OhI) ⊕ (Int32 × OhI)} (hm : mX4_keep_b37 n FI FR AI AN x1 x2 = some r) (hk : ∀ v : Int32 × Int32 × OhI, r = .inl v → oX G 4 iX4_keep 37 [(0, vR (some (1, 0))), (1, vI v.1), (2, vI v.2.1)] [] (FI, FL, FR, GR, v.2.2, AL, AR, BR, AN, C) k Φ Ψ) (hx1 : ∀ v : Int32 × OhI, r = .inr v → oX G 4 iX4_keep 119 [(0, vR (some (1, 0))), (1, vI v.1)] [] (FI, FL, FR, GR, v.2, AL, AR, BR, AN, C) k Φ Ψ) : oX G 4 iX4_keep 37 [(0, vR (some (1, 0))), (1, vI x1), (2, vI x2)] [] (FI, FL, FR, GR, AI, AL, AR, BR, AN, C) k Φ Ψ := by
  unfold mX4_keep_b37 at hm
  refine oX_iload_n dX4_keep_37 rfl rfl ?_
  refine oX_aload_n dX4_keep_38 rfl rfl ?_
  refine oX_getI fX4_596 rfl oDs1 dX4_keep_39 ?_
  refine oX_icmp_ge (tgt := 119) dX4_keep_42 (by decide) (fun c5 => ?_) (fun c5 => ?_)
  · have hm := ifp c5 hm
    exact oX_sub [0, 1] rfl (hx1 (x1, AI) (Option.some.inj hm).symm)
  · have hm := ifn c5 hm
    refine oX_aload_n dX4_keep_45 rfl rfl ?_
    refine oX_getF fX4_211 rfl oDs1 dX4_keep_46 (ohF193 hM) ?_
    refine oX_iload_n dX4_keep_49 rfl rfl ?_
    refine oX_aload_n dX4_keep_50 rfl rfl ?_
    refine oX_getF fX4_220 rfl oDs1 dX4_keep_51 (ohF196 hM) ?_
    refine oX_iload_n dX4_keep_54 rfl rfl ?_
    obtain ⟨g6, hm⟩ := gd_s hm
    refine oX_iald oDs196 (oIn (ohN196 hM) g6) dX4_keep_55 ?_
    obtain ⟨g7, hm⟩ := gd_s hm
    obtain ⟨AI7, hAI7, hm⟩ := oLs hm
    refine oX_iast oDs193 (oIn (ohN193 hM) g7) dX4_keep_56 hAI7 ?_
    refine oX_aload_n dX4_keep_57 rfl rfl ?_
    refine oX_iload_n dX4_keep_58 rfl rfl ?_
    refine oX_aload_n dX4_keep_59 rfl rfl ?_
    refine oX_getF fX4_217 rfl oDs1 dX4_keep_60 (ohF195 hM) ?_
    refine oX_iload_n dX4_keep_63 rfl rfl ?_
    obtain ⟨g8, hm⟩ := gd_s hm
    refine oX_iald oDs195 (oIn (ohN195 hM) g8) dX4_keep_64 ?_
    refine oX_aload_n dX4_keep_65 rfl rfl ?_
    refine oX_getI fX4_608 rfl oDs1 dX4_keep_66 ?_
    obtain ⟨r9, g9, hm⟩ := bd_s hm
    refine oX_cV_ (as := [vI x2, vI (AI7 195 0 x2.toNatClampNeg), vI (FI 1 0 99)]) dX4_keep_69 rfl oDs1 rfl (by decide) rfl ok_X4_putNight rfl rfl q2433 q2435 qs126 q136 q2436 (by decide) (Nat.le_of_ble_eq_true rfl) (t_X4_putNight hM n x2 (AI7 195 0 x2.toNatClampNeg) (FI 1 0 99) g9) ?_
    refine oX_iconst (v := (0 : Int32)) dX4_keep_72 (by decide) ?_
    refine oX_istore_n (ls' := [(3, vI (0 : Int32)), (0, vR (some (1, 0))), (1, vI x1), (2, vI x2)]) dX4_keep_73 rfl (by decide) rfl ?_
    obtain ⟨v13, g13, hm⟩ := bd_s hm
    refine oX_sub [1, 2, 3, 0] rfl (l_mX4_keep_b74 hM n x2 n x1 (0 : Int32) _ g13 ?_)
    refine oX_iinc (v := x2 + (1 : Int32)) (ls' := [(2, vI (x2 + (1 : Int32))), (0, vR (some (1, 0))), (1, vI v13)]) dX4_keep_113 rfl rfl (by decide) rfl ?_
    refine oX_goto (tgt := 37) dX4_keep_116 (by decide) ?_
    exact oX_sub [1, 2, 0] rfl (hk (v13, x2 + (1 : Int32), r9) (Option.some.inj hm).symm)
theorem l_mX4_keep_b37 {G : OhG} {FI : OhI} {FL : OhL} {FR : OhQ} {GR : OhQ} {AL : OhL} {AR : OhQ} {BR : OhQ} {AN : OhN} {C : OhC} {k : Nat × Nat} {Φ : OhP} {Ψ : OhX} (hM : ohShM FR AN) (n : Nat) : ∀ (f : Nat) (x1 : Int32) (x2 : Int32) (AI : OhI) (b : (Int32 × OhI)), lpF (fun v => mX4_keep_b37 n FI FR v.2.2 AN v.1 v.2.1) f (x1, x2, AI) = some b → (oX G 4 iX4_keep 119 [(0, vR (some (1, 0))), (1, vI b.1)] [] (FI, FL, FR, GR, b.2, AL, AR, BR, AN, C) k Φ Ψ) → oX G 4 iX4_keep 37 [(0, vR (some (1, 0))), (1, vI x1), (2, vI x2)] [] (FI, FL, FR, GR, AI, AL, AR, BR, AN, C) k Φ Ψ := by
  intro f
  induction f with
  | zero =>
    intro x1 x2 AI b hm
    cases hm
  | succ f ih =>
    intro x1 x2 AI b hm hx1
    obtain ⟨r, hr, hm⟩ := lp_s hm
    refine x_mX4_keep_b37 hM n x1 x2 hr (fun v e => ?_) (fun v e => ?_)
    · subst e; exact ih v.1 v.2.1 v.2.2 _ hm hx1
    · subst e; cases (show v = b from hm); exact hx1
noncomputable def mX4_keep_b153 (n : Nat) (FI : OhI) (FR : OhQ) (AI : OhI) (AN : OhN) (x2 : Int32) (x3 : Int32) (x4 : Int32) : Option ((Int32 × OhI × OhI) ⊕ (OhI × OhI)) :=
  (if (8 : Int32) ≤ x4 then
  some (.inr (FI, AI))
else
  gd (vp_in (((8 : Int32) * x3) + x4) 528) <|
    (if (AI 172 0 (((8 : Int32) * x3) + x4).toNatClampNeg) < 0 then
    some (.inl (x4 + (1 : Int32), FI, AI))
  else
    gd (vp_in (((8 : Int32) * x3) + x4) 528) <|
      (mX4_tell FI FR AI AN x3 x4 (AI 172 0 (((8 : Int32) * x3) + x4).toNatClampNeg) (0 : Int32)).bind fun r21 =>
      some (.inl (x4 + (1 : Int32), r21.1, r21.2))))
theorem x_mX4_keep_b153 {G : OhG} {FI AI : OhI} {FL AL : OhL} {FR GR AR BR : OhQ} {AN : OhN} {C : OhC} {k : Nat × Nat} {Φ : OhP} {Ψ : OhX} (hM : ohShM FR AN) (n : Nat) (x2 : Int32) (x3 : Int32) (x4 : Int32) {r : (Int32 × OhI × OhI) ⊕ (OhI × OhI)} (hm : mX4_keep_b153 n FI FR AI AN x2 x3 x4 = some r) (hk : ∀ v : Int32 × OhI × OhI, r = .inl v → oX G 4 iX4_keep 153 [(0, vR (some (1, 0))), (2, vI x2), (3, vI x3), (4, vI v.1)] [] (v.2.1, FL, FR, GR, v.2.2, AL, AR, BR, AN, C) k Φ Ψ) (hx1 : ∀ v : OhI × OhI, r = .inr v → oX G 4 iX4_keep 201 [(0, vR (some (1, 0))), (2, vI x2)] [] (v.1, FL, FR, GR, v.2, AL, AR, BR, AN, C) k Φ Ψ) : oX G 4 iX4_keep 153 [(0, vR (some (1, 0))), (2, vI x2), (3, vI x3), (4, vI x4)] [] (FI, FL, FR, GR, AI, AL, AR, BR, AN, C) k Φ Ψ := by
  unfold mX4_keep_b153 at hm
  refine oX_iload dX4_keep_153 rfl ?_
  refine oX_bipush (v := (8 : Int32)) dX4_keep_155 (by decide) ?_
  refine oX_icmp_ge (tgt := 201) dX4_keep_157 (by decide) (fun c17 => ?_) (fun c17 => ?_)
  · have hm := ifp c17 hm
    exact oX_sub [0, 1] rfl (hx1 (FI, AI) (Option.some.inj hm).symm)
  · have hm := ifn c17 hm
    refine oX_aload_n dX4_keep_160 rfl rfl ?_
    refine oX_getF fX4_157 rfl oDs1 dX4_keep_161 (ohF172 hM) ?_
    refine oX_bipush (v := (8 : Int32)) dX4_keep_164 (by decide) ?_
    refine oX_iload_n dX4_keep_166 rfl rfl ?_
    refine oX_imul dX4_keep_167 ?_
    refine oX_iload dX4_keep_168 rfl ?_
    refine oX_iadd dX4_keep_170 ?_
    obtain ⟨g18, hm⟩ := gd_s hm
    refine oX_iald oDs172 (oIn (ohN172 hM) g18) dX4_keep_171 ?_
    refine oX_if_lt (tgt := 195) dX4_keep_172 (by decide) (fun c19 => ?_) (fun c19 => ?_)
    · have hm := ifp c19 hm
      refine oX_iinc (v := x4 + (1 : Int32)) (ls' := [(4, vI (x4 + (1 : Int32))), (0, vR (some (1, 0))), (2, vI x2), (3, vI x3)]) dX4_keep_195 rfl rfl (by decide) rfl ?_
      refine oX_goto (tgt := 153) dX4_keep_198 (by decide) ?_
      exact oX_sub [1, 2, 3, 0] rfl (hk (x4 + (1 : Int32), FI, AI) (Option.some.inj hm).symm)
    · have hm := ifn c19 hm
      refine oX_aload_n dX4_keep_175 rfl rfl ?_
      refine oX_iload_n dX4_keep_176 rfl rfl ?_
      refine oX_iload dX4_keep_177 rfl ?_
      refine oX_aload_n dX4_keep_179 rfl rfl ?_
      refine oX_getF fX4_157 rfl oDs1 dX4_keep_180 (ohF172 hM) ?_
      refine oX_bipush (v := (8 : Int32)) dX4_keep_183 (by decide) ?_
      refine oX_iload_n dX4_keep_185 rfl rfl ?_
      refine oX_imul dX4_keep_186 ?_
      refine oX_iload dX4_keep_187 rfl ?_
      refine oX_iadd dX4_keep_189 ?_
      obtain ⟨g20, hm⟩ := gd_s hm
      refine oX_iald oDs172 (oIn (ohN172 hM) g20) dX4_keep_190 ?_
      refine oX_iconst (v := (0 : Int32)) dX4_keep_191 (by decide) ?_
      obtain ⟨r21, g21, hm⟩ := bd_s hm
      refine oX_cV_ (as := [vI x3, vI x4, vI (AI 172 0 (((8 : Int32) * x3) + x4).toNatClampNeg), vI (0 : Int32)]) dX4_keep_192 rfl oDs1 rfl (by decide) rfl ok_X4_tell rfl rfl q2197 q2199 qs84 q136 q2200 (by decide) (Nat.le_of_ble_eq_true rfl) (t_X4_tell hM x3 x4 (AI 172 0 (((8 : Int32) * x3) + x4).toNatClampNeg) (0 : Int32) g21) ?_
      refine oX_iinc (v := x4 + (1 : Int32)) (ls' := [(4, vI (x4 + (1 : Int32))), (0, vR (some (1, 0))), (2, vI x2), (3, vI x3)]) dX4_keep_195 rfl rfl (by decide) rfl ?_
      refine oX_goto (tgt := 153) dX4_keep_198 (by decide) ?_
      exact oX_sub [1, 2, 3, 0] rfl (hk (x4 + (1 : Int32), r21.1, r21.2) (Option.some.inj hm).symm)
theorem l_mX4_keep_b153 {G : OhG} {FL : OhL} {FR : OhQ} {GR : OhQ} {AL : OhL} {AR : OhQ} {BR : OhQ} {AN : OhN} {C : OhC} {k : Nat × Nat} {Φ : OhP} {Ψ : OhX} (hM : ohShM FR AN) (n : Nat) (x2 : Int32) (x3 : Int32) : ∀ (f : Nat) (x4 : Int32) (FI : OhI) (AI : OhI) (b : (OhI × OhI)), lpF (fun v => mX4_keep_b153 n v.2.1 FR v.2.2 AN x2 x3 v.1) f (x4, FI, AI) = some b → (oX G 4 iX4_keep 201 [(0, vR (some (1, 0))), (2, vI x2)] [] (b.1, FL, FR, GR, b.2, AL, AR, BR, AN, C) k Φ Ψ) → oX G 4 iX4_keep 153 [(0, vR (some (1, 0))), (2, vI x2), (3, vI x3), (4, vI x4)] [] (FI, FL, FR, GR, AI, AL, AR, BR, AN, C) k Φ Ψ := by
  intro f
  induction f with
  | zero =>
    intro x4 FI AI b hm
    cases hm
  | succ f ih =>
    intro x4 FI AI b hm hx1
    obtain ⟨r, hr, hm⟩ := lp_s hm
    refine x_mX4_keep_b153 hM n x2 x3 x4 hr (fun v e => ?_) (fun v e => ?_)
    · subst e; exact ih v.1 v.2.1 v.2.2 _ hm hx1
    · subst e; cases (show v = b from hm); exact hx1
noncomputable def mX4_keep_b135 (n : Nat) (FI : OhI) (FR : OhQ) (AI : OhI) (AN : OhN) (x2 : Int32) : Option ((Int32 × OhI × OhI) ⊕ (OhI × OhI)) :=
  (if (FI 1 0 98) ≤ x2 then
  some (.inr (FI, AI))
else
  (lpF (fun v => mX4_keep_b153 n v.2.1 FR v.2.2 AN x2 ((FI 1 0 70) + x2) v.1) n ((0 : Int32), FI, AI)).bind fun v22 =>
    some (.inl (x2 + (1 : Int32), v22.1, v22.2)))
theorem x_mX4_keep_b135 {G : OhG} {FI AI : OhI} {FL AL : OhL} {FR GR AR BR : OhQ} {AN : OhN} {C : OhC} {k : Nat × Nat} {Φ : OhP} {Ψ : OhX} (hM : ohShM FR AN) (n : Nat) (x2 : Int32) {r : (Int32 × OhI × OhI) ⊕ (OhI × OhI)} (hm : mX4_keep_b135 n FI FR AI AN x2 = some r) (hk : ∀ v : Int32 × OhI × OhI, r = .inl v → oX G 4 iX4_keep 135 [(0, vR (some (1, 0))), (2, vI v.1)] [] (v.2.1, FL, FR, GR, v.2.2, AL, AR, BR, AN, C) k Φ Ψ) (hx1 : ∀ v : OhI × OhI, r = .inr v → oX G 4 iX4_keep 207 [(0, vR (some (1, 0)))] [] (v.1, FL, FR, GR, v.2, AL, AR, BR, AN, C) k Φ Ψ) : oX G 4 iX4_keep 135 [(0, vR (some (1, 0))), (2, vI x2)] [] (FI, FL, FR, GR, AI, AL, AR, BR, AN, C) k Φ Ψ := by
  unfold mX4_keep_b135 at hm
  refine oX_iload_n dX4_keep_135 rfl rfl ?_
  refine oX_aload_n dX4_keep_136 rfl rfl ?_
  refine oX_getI fX4_596 rfl oDs1 dX4_keep_137 ?_
  refine oX_icmp_ge (tgt := 207) dX4_keep_140 (by decide) (fun c16 => ?_) (fun c16 => ?_)
  · have hm := ifp c16 hm
    exact oX_sub [0] rfl (hx1 (FI, AI) (Option.some.inj hm).symm)
  · have hm := ifn c16 hm
    refine oX_aload_n dX4_keep_143 rfl rfl ?_
    refine oX_getI fX4_423 rfl oDs1 dX4_keep_144 ?_
    refine oX_iload_n dX4_keep_147 rfl rfl ?_
    refine oX_iadd dX4_keep_148 ?_
    refine oX_istore_n (ls' := [(3, vI ((FI 1 0 70) + x2)), (0, vR (some (1, 0))), (2, vI x2)]) dX4_keep_149 rfl (by decide) rfl ?_
    refine oX_iconst (v := (0 : Int32)) dX4_keep_150 (by decide) ?_
    refine oX_istore (ls' := [(4, vI (0 : Int32)), (3, vI ((FI 1 0 70) + x2)), (0, vR (some (1, 0))), (2, vI x2)]) dX4_keep_151 (by decide) rfl ?_
    obtain ⟨v22, g22, hm⟩ := bd_s hm
    refine oX_sub [2, 3, 1, 0] rfl (l_mX4_keep_b153 hM n x2 ((FI 1 0 70) + x2) n (0 : Int32) FI AI _ g22 ?_)
    refine oX_iinc (v := x2 + (1 : Int32)) (ls' := [(2, vI (x2 + (1 : Int32))), (0, vR (some (1, 0)))]) dX4_keep_201 rfl rfl (by decide) rfl ?_
    refine oX_goto (tgt := 135) dX4_keep_204 (by decide) ?_
    exact oX_sub [1, 0] rfl (hk (x2 + (1 : Int32), v22.1, v22.2) (Option.some.inj hm).symm)
theorem l_mX4_keep_b135 {G : OhG} {FL : OhL} {FR : OhQ} {GR : OhQ} {AL : OhL} {AR : OhQ} {BR : OhQ} {AN : OhN} {C : OhC} {k : Nat × Nat} {Φ : OhP} {Ψ : OhX} (hM : ohShM FR AN) (n : Nat) : ∀ (f : Nat) (x2 : Int32) (FI : OhI) (AI : OhI) (b : (OhI × OhI)), lpF (fun v => mX4_keep_b135 n v.2.1 FR v.2.2 AN v.1) f (x2, FI, AI) = some b → (oX G 4 iX4_keep 207 [(0, vR (some (1, 0)))] [] (b.1, FL, FR, GR, b.2, AL, AR, BR, AN, C) k Φ Ψ) → oX G 4 iX4_keep 135 [(0, vR (some (1, 0))), (2, vI x2)] [] (FI, FL, FR, GR, AI, AL, AR, BR, AN, C) k Φ Ψ := by
  intro f
  induction f with
  | zero =>
    intro x2 FI AI b hm
    cases hm
  | succ f ih =>
    intro x2 FI AI b hm hx1
    obtain ⟨r, hr, hm⟩ := lp_s hm
    refine x_mX4_keep_b135 hM n x2 hr (fun v e => ?_) (fun v e => ?_)
    · subst e; exact ih v.1 v.2.1 v.2.2 _ hm hx1
    · subst e; cases (show v = b from hm); exact hx1
noncomputable def mX4_keep (n : Nat) (FI : OhI) (FR : OhQ) (AI : OhI) (AN : OhN) : Option (Int32 × OhI × OhI) :=
  oLet (sA FI 1 0 (uA (FI 1 0) 0 (0 : Int32))) fun FI1 =>
  (if (FI1 1 0 98) = 0 then
  some ((-1 : Int32), FI1, AI)
else
  (if (FI1 1 0 100) = (FI1 1 0 6) then
    (mX4_load n FI1 FR AI AN (FI1 1 0 5)).bind fun r4 =>
      (lpF (fun v => mX4_keep_b37 n r4.1 FR v.2.2 AN v.1 v.2.1) n ((0 : Int32), (0 : Int32), r4.2)).bind fun v14 =>
      (if ((r4.1 1 0 69) + v14.1) ≤ (400 : Int32) then
      (lpF (fun v => mX4_keep_b135 n v.2.1 FR v.2.2 AN v.1) n ((0 : Int32), r4.1, v14.2)).bind fun v23 =>
        oLet (sA v23.1 1 0 (uA (v23.1 1 0) 70 ((v23.1 1 0 70) + (v23.1 1 0 98)))) fun FI24 =>
        oLet (sA FI24 1 0 (uA (FI24 1 0) 6 ((FI24 1 0 6) + (1 : Int32)))) fun FI25 =>
        some (FI25 1 0 70, FI25, v23.2)
    else
      some ((-1 : Int32), r4.1, v14.2))
  else
    some ((-1 : Int32), FI1, AI)))
theorem x_mX4_keep {G : OhG} {FI AI : OhI} {FL AL : OhL} {FR GR AR BR : OhQ} {AN : OhN} {C : OhC} {k : Nat × Nat} {Φ : OhP} {Ψ : OhX} (hM : ohShM FR AN) (n : Nat) {r : Int32 × OhI × OhI} (hm : mX4_keep n FI FR AI AN = some r) (hK : Φ (some (vI r.1)) (r.2.1, FL, FR, GR, r.2.2, AL, AR, BR, AN, C)) : oX G 4 iX4_keep 0 [(0, vR (some (1, 0)))] [] (FI, FL, FR, GR, AI, AL, AR, BR, AN, C) k Φ Ψ := by
  unfold mX4_keep at hm
  refine oX_aload_n dX4_keep_0 rfl rfl ?_
  refine oX_iconst (v := (0 : Int32)) dX4_keep_1 (by decide) ?_
  obtain ⟨FI1, hFI1, hm⟩ := oLs hm
  refine oX_putI fX4_226 rfl (fun h9 => by cases h9) oDs1 dX4_keep_2 ⟨rfl, rfl⟩ hFI1 ?_
  refine oX_aload_n dX4_keep_5 rfl rfl ?_
  refine oX_getI fX4_596 rfl oDs1 dX4_keep_6 ?_
  refine oX_if_eq (tgt := 23) dX4_keep_9 (by decide) (fun c2 => ?_) (fun c2 => ?_)
  · have hm := ifp c2 hm
    refine oX_iconst (v := (-1 : Int32)) dX4_keep_23 (by decide) ?_
    obtain rfl := Option.some.inj hm
    exact oX_iret dX4_keep_24 rfl rfl hK
  · have hm := ifn c2 hm
    refine oX_aload_n dX4_keep_12 rfl rfl ?_
    refine oX_getI fX4_223 rfl oDs1 dX4_keep_13 ?_
    refine oX_aload_n dX4_keep_16 rfl rfl ?_
    refine oX_getI fX4_249 rfl oDs1 dX4_keep_17 ?_
    refine oX_icmp_eq (tgt := 25) dX4_keep_20 (by decide) (fun c3 => ?_) (fun c3 => ?_)
    · have hm := ifp c3 hm
      refine oX_aload_n dX4_keep_25 rfl rfl ?_
      refine oX_aload_n dX4_keep_26 rfl rfl ?_
      refine oX_getI fX4_246 rfl oDs1 dX4_keep_27 ?_
      obtain ⟨r4, g4, hm⟩ := bd_s hm
      refine oX_cV_ (as := [vI (FI1 1 0 5)]) dX4_keep_30 rfl oDs1 rfl (by decide) rfl ok_X4_load rfl rfl q2209 q2211 qs85 q136 q2212 (by decide) (Nat.le_of_ble_eq_true rfl) (t_X4_load hM n (FI1 1 0 5) g4) ?_
      refine oX_iconst (v := (0 : Int32)) dX4_keep_33 (by decide) ?_
      refine oX_istore_n (ls' := [(1, vI (0 : Int32)), (0, vR (some (1, 0)))]) dX4_keep_34 rfl (by decide) rfl ?_
      refine oX_iconst (v := (0 : Int32)) dX4_keep_35 (by decide) ?_
      refine oX_istore_n (ls' := [(2, vI (0 : Int32)), (1, vI (0 : Int32)), (0, vR (some (1, 0)))]) dX4_keep_36 rfl (by decide) rfl ?_
      obtain ⟨v14, g14, hm⟩ := bd_s hm
      refine oX_sub [2, 1, 0] rfl (l_mX4_keep_b37 hM n n (0 : Int32) (0 : Int32) r4.2 _ g14 ?_)
      refine oX_aload_n dX4_keep_119 rfl rfl ?_
      refine oX_getI fX4_430 rfl oDs1 dX4_keep_120 ?_
      refine oX_iload_n dX4_keep_123 rfl rfl ?_
      refine oX_iadd dX4_keep_124 ?_
      refine oX_sipush (v := (400 : Int32)) dX4_keep_125 (by decide) ?_
      refine oX_icmp_le (tgt := 133) dX4_keep_128 (by decide) (fun c15 => ?_) (fun c15 => ?_)
      · have hm := ifp c15 hm
        refine oX_iconst (v := (0 : Int32)) dX4_keep_133 (by decide) ?_
        refine oX_istore_n (ls' := [(2, vI (0 : Int32)), (0, vR (some (1, 0))), (1, vI v14.1)]) dX4_keep_134 rfl (by decide) rfl ?_
        obtain ⟨v23, g23, hm⟩ := bd_s hm
        refine oX_sub [1, 0] rfl (l_mX4_keep_b135 hM n n (0 : Int32) r4.1 v14.2 _ g23 ?_)
        refine oX_aload_n dX4_keep_207 rfl rfl ?_
        refine oX_dup dX4_keep_208 trivial ?_
        refine oX_getI fX4_423 rfl oDs1 dX4_keep_209 ?_
        refine oX_aload_n dX4_keep_212 rfl rfl ?_
        refine oX_getI fX4_596 rfl oDs1 dX4_keep_213 ?_
        refine oX_iadd dX4_keep_216 ?_
        obtain ⟨FI24, hFI24, hm⟩ := oLs hm
        refine oX_putI fX4_423 rfl (fun h9 => by cases h9) oDs1 dX4_keep_217 ⟨rfl, rfl⟩ hFI24 ?_
        refine oX_aload_n dX4_keep_220 rfl rfl ?_
        refine oX_dup dX4_keep_221 trivial ?_
        refine oX_getI fX4_249 rfl oDs1 dX4_keep_222 ?_
        refine oX_iconst (v := (1 : Int32)) dX4_keep_225 (by decide) ?_
        refine oX_iadd dX4_keep_226 ?_
        obtain ⟨FI25, hFI25, hm⟩ := oLs hm
        refine oX_putI fX4_249 rfl (fun h9 => by cases h9) oDs1 dX4_keep_227 ⟨rfl, rfl⟩ hFI25 ?_
        refine oX_aload_n dX4_keep_230 rfl rfl ?_
        refine oX_getI fX4_423 rfl oDs1 dX4_keep_231 ?_
        obtain rfl := Option.some.inj hm
        exact oX_iret dX4_keep_234 rfl rfl hK
      · have hm := ifn c15 hm
        refine oX_iconst (v := (-1 : Int32)) dX4_keep_131 (by decide) ?_
        obtain rfl := Option.some.inj hm
        exact oX_iret dX4_keep_132 rfl rfl hK
    · have hm := ifn c3 hm
      refine oX_iconst (v := (-1 : Int32)) dX4_keep_23 (by decide) ?_
      obtain rfl := Option.some.inj hm
      exact oX_iret dX4_keep_24 rfl rfl hK
theorem t_X4_keep {G : OhG} {FI AI : OhI} {FL AL : OhL} {FR GR AR BR : OhQ} {AN : OhN} {C : OhC} (hM : ohShM FR AN) (n : Nat) {o : Int32 × OhI × OhI} (hm : mX4_keep n FI FR AI AN = some o) : oT G 4 iX4_keep [vR (some (1, 0))] (FI, FL, FR, GR, AI, AL, AR, BR, AN, C) (0, 0) (fun v h => v = (some (vI o.1)) ∧ h = (o.2.1, FL, FR, GR, o.2.2, AL, AR, BR, AN, C)) ohNo :=
  oT_of (by decide) rfl (Nat.le_of_ble_eq_true rfl) (x_mX4_keep hM n hm ⟨rfl, rfl⟩)
abbrev iX4_count : OhM := (yX4_count, cX4_count, 2, (some .int), [])
theorem ok_X4_count : oOk iX4_count 1 := ⟨by decide, by decide, by decide +kernel⟩

noncomputable def mX4_count (FI : OhI) (x1 : Int32) : Option (Int32 × OhI) :=
  oLet (sA FI 1 0 (uA (FI 1 0) 0 (0 : Int32))) fun FI1 =>
  (if x1 = (0 : Int32) then
  some (FI1 1 0 5, FI1)
else
if x1 = (1 : Int32) then
  some (FI1 1 0 21, FI1)
else
if x1 = (2 : Int32) then
  some (FI1 1 0 22, FI1)
else
if x1 = (3 : Int32) then
  some (FI1 1 0 70, FI1)
else
if x1 = (4 : Int32) then
  some (FI1 1 0 69, FI1)
else
if x1 = (5 : Int32) then
  some (FI1 1 0 68, FI1)
else
if x1 = (6 : Int32) then
  some (FI1 1 0 2, FI1)
else
  some ((-1 : Int32), FI1))
theorem x_mX4_count {G : OhG} {FI AI : OhI} {FL AL : OhL} {FR GR AR BR : OhQ} {AN : OhN} {C : OhC} {k : Nat × Nat} {Φ : OhP} {Ψ : OhX} (x1 : Int32) {r : Int32 × OhI} (hm : mX4_count FI x1 = some r) (hK : Φ (some (vI r.1)) (r.2, FL, FR, GR, AI, AL, AR, BR, AN, C)) : oX G 1 iX4_count 0 [(0, vR (some (1, 0))), (1, vI x1)] [] (FI, FL, FR, GR, AI, AL, AR, BR, AN, C) k Φ Ψ := by
  unfold mX4_count at hm
  refine oX_aload_n dX4_count_0 rfl rfl ?_
  refine oX_iconst (v := (0 : Int32)) dX4_count_1 (by decide) ?_
  obtain ⟨FI1, hFI1, hm⟩ := oLs hm
  refine oX_putI fX4_226 rfl (fun h9 => by cases h9) oDs1 dX4_count_2 ⟨rfl, rfl⟩ hFI1 ?_
  refine oX_iload_n dX4_count_5 rfl rfl ?_
  by_cases c2 : x1 = (0 : Int32)
  · have hm := ifp c2 hm
    refine oX_tin (tgt := 48) dX4_count_6 c2 (by decide) (by decide) rfl (by decide) ?_
    refine oX_aload_n dX4_count_48 rfl rfl ?_
    refine oX_getI fX4_246 rfl oDs1 dX4_count_49 ?_
    obtain rfl := Option.some.inj hm
    exact oX_iret dX4_count_52 rfl rfl hK
  have hm := ifn c2 hm
  by_cases c3 : x1 = (1 : Int32)
  · have hm := ifp c3 hm
    refine oX_tin (tgt := 53) dX4_count_6 c3 (by decide) (by decide) rfl (by decide) ?_
    refine oX_aload_n dX4_count_53 rfl rfl ?_
    refine oX_getI fX4_255 rfl oDs1 dX4_count_54 ?_
    obtain rfl := Option.some.inj hm
    exact oX_iret dX4_count_57 rfl rfl hK
  have hm := ifn c3 hm
  by_cases c4 : x1 = (2 : Int32)
  · have hm := ifp c4 hm
    refine oX_tin (tgt := 58) dX4_count_6 c4 (by decide) (by decide) rfl (by decide) ?_
    refine oX_aload_n dX4_count_58 rfl rfl ?_
    refine oX_getI fX4_258 rfl oDs1 dX4_count_59 ?_
    obtain rfl := Option.some.inj hm
    exact oX_iret dX4_count_62 rfl rfl hK
  have hm := ifn c4 hm
  by_cases c5 : x1 = (3 : Int32)
  · have hm := ifp c5 hm
    refine oX_tin (tgt := 63) dX4_count_6 c5 (by decide) (by decide) rfl (by decide) ?_
    refine oX_aload_n dX4_count_63 rfl rfl ?_
    refine oX_getI fX4_423 rfl oDs1 dX4_count_64 ?_
    obtain rfl := Option.some.inj hm
    exact oX_iret dX4_count_67 rfl rfl hK
  have hm := ifn c5 hm
  by_cases c6 : x1 = (4 : Int32)
  · have hm := ifp c6 hm
    refine oX_tin (tgt := 68) dX4_count_6 c6 (by decide) (by decide) rfl (by decide) ?_
    refine oX_aload_n dX4_count_68 rfl rfl ?_
    refine oX_getI fX4_430 rfl oDs1 dX4_count_69 ?_
    obtain rfl := Option.some.inj hm
    exact oX_iret dX4_count_72 rfl rfl hK
  have hm := ifn c6 hm
  by_cases c7 : x1 = (5 : Int32)
  · have hm := ifp c7 hm
    refine oX_tin (tgt := 73) dX4_count_6 c7 (by decide) (by decide) rfl (by decide) ?_
    refine oX_aload_n dX4_count_73 rfl rfl ?_
    refine oX_getI fX4_440 rfl oDs1 dX4_count_74 ?_
    obtain rfl := Option.some.inj hm
    exact oX_iret dX4_count_77 rfl rfl hK
  have hm := ifn c7 hm
  by_cases c8 : x1 = (6 : Int32)
  · have hm := ifp c8 hm
    refine oX_tin (tgt := 78) dX4_count_6 c8 (by decide) (by decide) rfl (by decide) ?_
    refine oX_aload_n dX4_count_78 rfl rfl ?_
    refine oX_getI fX4_229 rfl oDs1 dX4_count_79 ?_
    obtain rfl := Option.some.inj hm
    exact oX_iret dX4_count_82 rfl rfl hK
  have hm := ifn c8 hm
  refine oX_tout (tgt := 83) 7 (l := [(0 : Int32), (1 : Int32), (2 : Int32), (3 : Int32), (4 : Int32), (5 : Int32), (6 : Int32)]) dX4_count_6 (by decide) (fun c hc => by simp only [List.mem_cons, List.not_mem_nil, or_false] at hc; rcases hc with rfl | rfl | rfl | rfl | rfl | rfl | rfl <;> assumption) (by decide) (by decide) ?_
  refine oX_iconst (v := (-1 : Int32)) dX4_count_83 (by decide) ?_
  obtain rfl := Option.some.inj hm
  exact oX_iret dX4_count_84 rfl rfl hK
theorem t_X4_count {G : OhG} {FI AI : OhI} {FL AL : OhL} {FR GR AR BR : OhQ} {AN : OhN} {C : OhC} (x1 : Int32) {o : Int32 × OhI} (hm : mX4_count FI x1 = some o) : oT G 1 iX4_count [vR (some (1, 0)), vI x1] (FI, FL, FR, GR, AI, AL, AR, BR, AN, C) (0, 0) (fun v h => v = (some (vI o.1)) ∧ h = (o.2, FL, FR, GR, AI, AL, AR, BR, AN, C)) ohNo :=
  oT_of (by decide) rfl (Nat.le_of_ble_eq_true rfl) (x_mX4_count x1 hm ⟨rfl, rfl⟩)
