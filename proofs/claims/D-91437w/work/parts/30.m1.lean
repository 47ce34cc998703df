/-! MIRRORS of OperaHouseModel, 0 to 22: printed by gen/mk_model.py -/
abbrev iX4_thrown : OhM := (yX4_thrown, cX4_thrown, 1, (some .int), [])
theorem ok_X4_thrown : oOk iX4_thrown 0 := ⟨by decide, by decide, by decide +kernel⟩

noncomputable def mX4_thrown (FI : OhI) : Option (Int32) :=
  some (FI 1 0 0)
theorem x_mX4_thrown {G : OhG} {FI AI : OhI} {FL AL : OhL} {FR GR AR BR : OhQ} {AN : OhN} {C : OhC} {k : Nat × Nat} {Φ : OhP} {Ψ : OhX} {r : Int32} (hm : mX4_thrown FI = some r) (hK : Φ (some (vI r)) (FI, FL, FR, GR, AI, AL, AR, BR, AN, C)) : oX G 1 iX4_thrown 0 [(0, vR (some (1, 0)))] [] (FI, FL, FR, GR, AI, AL, AR, BR, AN, C) k Φ Ψ := by
  unfold mX4_thrown at hm
  refine oX_aload_n dX4_thrown_0 rfl rfl ?_
  refine oX_getI fX4_226 rfl oDs1 dX4_thrown_1 ?_
  obtain rfl := Option.some.inj hm
  exact oX_iret dX4_thrown_4 rfl rfl hK
theorem t_X4_thrown {G : OhG} {FI AI : OhI} {FL AL : OhL} {FR GR AR BR : OhQ} {AN : OhN} {C : OhC} {o : Int32} (hm : mX4_thrown FI = some o) : oT G 1 iX4_thrown [vR (some (1, 0))] (FI, FL, FR, GR, AI, AL, AR, BR, AN, C) (0, 0) (fun v h => v = (some (vI o)) ∧ h = (FI, FL, FR, GR, AI, AL, AR, BR, AN, C)) ohNo :=
  oT_of (by decide) rfl (Nat.le_of_ble_eq_true rfl) (x_mX4_thrown hm ⟨rfl, rfl⟩)
abbrev iX4_four : OhM := (yX4_four, cX4_four, 3, none, [])
theorem ok_X4_four : oOk iX4_four 1 := ⟨by decide, by decide, by decide +kernel⟩

noncomputable def mX4_four_b3 (n : Nat) (FI : OhI) (FR : OhQ) (AI : OhI) (AN : OhN) (x1 : Int32) (x2 : Int32) : Option ((Int32 × OhI × OhI) ⊕ (OhI × OhI)) :=
  (if x2 < 0 then
  some (.inr (FI, AI))
else
  gd (vp_in (FI 1 0 2) 340) <|
    oLet (sA AI 101 0 (uA (AI 101 0) (FI 1 0 2).toNatClampNeg (vp_nar .byte ((x1 >>> (x2 &&& 31)).toInt8.toInt32)))) fun AI2 =>
    oLet (sA FI 1 0 (uA (FI 1 0) 2 ((FI 1 0 2) + (1 : Int32)))) fun FI3 =>
    some (.inl (x2 + (-8 : Int32), FI3, AI2)))
theorem x_mX4_four_b3 {G : OhG} {FI AI : OhI} {FL AL : OhL} {FR GR AR BR : OhQ} {AN : OhN} {C : OhC} {k : Nat × Nat} {Φ : OhP} {Ψ : OhX} (hM : ohShM FR AN) (n : Nat) (x1 : Int32) (x2 : Int32) {r : (Int32 × OhI × OhI) ⊕ (OhI × OhI)} (hm : mX4_four_b3 n FI FR AI AN x1 x2 = some r) (hk : ∀ v : Int32 × OhI × OhI, r = .inl v → oX G 1 iX4_four 3 [(0, vR (some (1, 0))), (1, vI x1), (2, vI v.1)] [] (v.2.1, FL, FR, GR, v.2.2, AL, AR, BR, AN, C) k Φ Ψ) (hx1 : ∀ v : OhI × OhI, r = .inr v → oX G 1 iX4_four 36 [] [] (v.1, FL, FR, GR, v.2, AL, AR, BR, AN, C) k Φ Ψ) : oX G 1 iX4_four 3 [(0, vR (some (1, 0))), (1, vI x1), (2, vI x2)] [] (FI, FL, FR, GR, AI, AL, AR, BR, AN, C) k Φ Ψ := by
  unfold mX4_four_b3 at hm
  refine oX_iload_n dX4_four_3 rfl rfl ?_
  refine oX_if_lt (tgt := 36) dX4_four_4 (by decide) (fun c1 => ?_) (fun c1 => ?_)
  · have hm := ifp c1 hm
    exact oX_sub [] rfl (hx1 (FI, AI) (Option.some.inj hm).symm)
  · have hm := ifn c1 hm
    refine oX_aload_n dX4_four_7 rfl rfl ?_
    refine oX_getF fX4_7 rfl oDs1 dX4_four_8 (ohF101 hM) ?_
    refine oX_aload_n dX4_four_11 rfl rfl ?_
    refine oX_getI fX4_229 rfl oDs1 dX4_four_12 ?_
    refine oX_iload_n dX4_four_15 rfl rfl ?_
    refine oX_iload_n dX4_four_16 rfl rfl ?_
    refine oX_ishr dX4_four_17 ?_
    refine oX_i2b dX4_four_18 ?_
    obtain ⟨g2, hm⟩ := gd_s hm
    obtain ⟨AI2, hAI2, hm⟩ := oLs hm
    refine oX_bast oDs101 (oIn (ohN101 hM) g2) dX4_four_19 hAI2 ?_
    refine oX_aload_n dX4_four_20 rfl rfl ?_
    refine oX_dup dX4_four_21 trivial ?_
    refine oX_getI fX4_229 rfl oDs1 dX4_four_22 ?_
    refine oX_iconst (v := (1 : Int32)) dX4_four_25 (by decide) ?_
    refine oX_iadd dX4_four_26 ?_
    obtain ⟨FI3, hFI3, hm⟩ := oLs hm
    refine oX_putI fX4_229 rfl (fun h9 => by cases h9) oDs1 dX4_four_27 ⟨rfl, rfl⟩ hFI3 ?_
    refine oX_iinc (v := x2 + (-8 : Int32)) (ls' := [(2, vI (x2 + (-8 : Int32))), (0, vR (some (1, 0))), (1, vI x1)]) dX4_four_30 rfl rfl (by decide) rfl ?_
    refine oX_goto (tgt := 3) dX4_four_33 (by decide) ?_
    exact oX_sub [1, 2, 0] rfl (hk (x2 + (-8 : Int32), FI3, AI2) (Option.some.inj hm).symm)
theorem l_mX4_four_b3 {G : OhG} {FL : OhL} {FR : OhQ} {GR : OhQ} {AL : OhL} {AR : OhQ} {BR : OhQ} {AN : OhN} {C : OhC} {k : Nat × Nat} {Φ : OhP} {Ψ : OhX} (hM : ohShM FR AN) (n : Nat) (x1 : Int32) : ∀ (f : Nat) (x2 : Int32) (FI : OhI) (AI : OhI) (b : (OhI × OhI)), lpF (fun v => mX4_four_b3 n v.2.1 FR v.2.2 AN x1 v.1) f (x2, FI, AI) = some b → (oX G 1 iX4_four 36 [] [] (b.1, FL, FR, GR, b.2, AL, AR, BR, AN, C) k Φ Ψ) → oX G 1 iX4_four 3 [(0, vR (some (1, 0))), (1, vI x1), (2, vI x2)] [] (FI, FL, FR, GR, AI, AL, AR, BR, AN, C) k Φ Ψ := by
  intro f
  induction f with
  | zero =>
    intro x2 FI AI b hm
    cases hm
  | succ f ih =>
    intro x2 FI AI b hm hx1
    obtain ⟨r, hr, hm⟩ := lp_s hm
    refine x_mX4_four_b3 hM n x1 x2 hr (fun v e => ?_) (fun v e => ?_)
    · subst e; exact ih v.1 v.2.1 v.2.2 _ hm hx1
    · subst e; cases (show v = b from hm); exact hx1
noncomputable def mX4_four (n : Nat) (FI : OhI) (FR : OhQ) (AI : OhI) (AN : OhN) (x1 : Int32) : Option (OhI × OhI) :=
  (lpF (fun v => mX4_four_b3 n v.2.1 FR v.2.2 AN x1 v.1) n ((24 : Int32), FI, AI)).bind fun v4 =>
  some (v4.1, v4.2)
theorem x_mX4_four {G : OhG} {FI AI : OhI} {FL AL : OhL} {FR GR AR BR : OhQ} {AN : OhN} {C : OhC} {k : Nat × Nat} {Φ : OhP} {Ψ : OhX} (hM : ohShM FR AN) (n : Nat) (x1 : Int32) {r : OhI × OhI} (hm : mX4_four n FI FR AI AN x1 = some r) (hK : Φ none (r.1, FL, FR, GR, r.2, AL, AR, BR, AN, C)) : oX G 1 iX4_four 0 [(0, vR (some (1, 0))), (1, vI x1)] [] (FI, FL, FR, GR, AI, AL, AR, BR, AN, C) k Φ Ψ := by
  unfold mX4_four at hm
  refine oX_bipush (v := (24 : Int32)) dX4_four_0 (by decide) ?_
  refine oX_istore_n (ls' := [(2, vI (24 : Int32)), (0, vR (some (1, 0))), (1, vI x1)]) dX4_four_2 rfl (by decide) rfl ?_
  obtain ⟨v4, g4, hm⟩ := bd_s hm
  refine oX_sub [1, 2, 0] rfl (l_mX4_four_b3 hM n x1 n (24 : Int32) FI AI _ g4 ?_)
  obtain rfl := Option.some.inj hm
  exact oX_vret dX4_four_36 rfl hK
theorem t_X4_four {G : OhG} {FI AI : OhI} {FL AL : OhL} {FR GR AR BR : OhQ} {AN : OhN} {C : OhC} (hM : ohShM FR AN) (n : Nat) (x1 : Int32) {o : OhI × OhI} (hm : mX4_four n FI FR AI AN x1 = some o) : oT G 1 iX4_four [vR (some (1, 0)), vI x1] (FI, FL, FR, GR, AI, AL, AR, BR, AN, C) (0, 0) (fun v h => v = none ∧ h = (o.1, FL, FR, GR, o.2, AL, AR, BR, AN, C)) ohNo :=
  oT_of (by decide) rfl (Nat.le_of_ble_eq_true rfl) (x_mX4_four hM n x1 hm ⟨rfl, rfl⟩)
abbrev iX4_feed : OhM := (yX4_feed, cX4_feed, 6, (some .int), [])
theorem ok_X4_feed : oOk iX4_feed 5 := ⟨by decide, by decide, by decide +kernel⟩

noncomputable def mX4_feed (n : Nat) (FI : OhI) (FR : OhQ) (AI : OhI) (AN : OhN) (x1 : Int32) (x2 : Int32) (x3 : Int32) (x4 : Int32) (x5 : Int32) : Option (Int32 × OhI × OhI) :=
  oLet (sA FI 1 0 (uA (FI 1 0) 0 (0 : Int32))) fun FI1 =>
  (if ((FI1 1 0 2) + (20 : Int32)) ≤ (340 : Int32) then
  (mX4_four n FI1 FR AI AN x1).bind fun r3 =>
    (mX4_four n r3.1 FR r3.2 AN x2).bind fun r4 =>
    (mX4_four n r4.1 FR r4.2 AN x3).bind fun r5 =>
    (mX4_four n r5.1 FR r5.2 AN x4).bind fun r6 =>
    (mX4_four n r6.1 FR r6.2 AN x5).bind fun r7 =>
    some (r7.1 1 0 2, r7.1, r7.2)
else
  some ((-1 : Int32), FI1, AI))
theorem x_mX4_feed {G : OhG} {FI AI : OhI} {FL AL : OhL} {FR GR AR BR : OhQ} {AN : OhN} {C : OhC} {k : Nat × Nat} {Φ : OhP} {Ψ : OhX} (hM : ohShM FR AN) (n : Nat) (x1 : Int32) (x2 : Int32) (x3 : Int32) (x4 : Int32) (x5 : Int32) {r : Int32 × OhI × OhI} (hm : mX4_feed n FI FR AI AN x1 x2 x3 x4 x5 = some r) (hK : Φ (some (vI r.1)) (r.2.1, FL, FR, GR, r.2.2, AL, AR, BR, AN, C)) : oX G 2 iX4_feed 0 [(0, vR (some (1, 0))), (1, vI x1), (2, vI x2), (3, vI x3), (4, vI x4), (5, vI x5)] [] (FI, FL, FR, GR, AI, AL, AR, BR, AN, C) k Φ Ψ := by
  unfold mX4_feed at hm
  refine oX_aload_n dX4_feed_0 rfl rfl ?_
  refine oX_iconst (v := (0 : Int32)) dX4_feed_1 (by decide) ?_
  obtain ⟨FI1, hFI1, hm⟩ := oLs hm
  refine oX_putI fX4_226 rfl (fun h9 => by cases h9) oDs1 dX4_feed_2 ⟨rfl, rfl⟩ hFI1 ?_
  refine oX_aload_n dX4_feed_5 rfl rfl ?_
  refine oX_getI fX4_229 rfl oDs1 dX4_feed_6 ?_
  refine oX_bipush (v := (20 : Int32)) dX4_feed_9 (by decide) ?_
  refine oX_iadd dX4_feed_11 ?_
  refine oX_sipush (v := (340 : Int32)) dX4_feed_12 (by decide) ?_
  refine oX_icmp_le (tgt := 20) dX4_feed_15 (by decide) (fun c2 => ?_) (fun c2 => ?_)
  · have hm := ifp c2 hm
    refine oX_aload_n dX4_feed_20 rfl rfl ?_
    refine oX_iload_n dX4_feed_21 rfl rfl ?_
    obtain ⟨r3, g3, hm⟩ := bd_s hm
    refine oX_cV_ (as := [vI x1]) dX4_feed_22 rfl oDs1 rfl (by decide) rfl ok_X4_four rfl rfl q2020 q2022 qs59 q136 q2023 (by decide) (Nat.le_of_ble_eq_true rfl) (t_X4_four hM n x1 g3) ?_
    refine oX_aload_n dX4_feed_25 rfl rfl ?_
    refine oX_iload_n dX4_feed_26 rfl rfl ?_
    obtain ⟨r4, g4, hm⟩ := bd_s hm
    refine oX_cV_ (as := [vI x2]) dX4_feed_27 rfl oDs1 rfl (by decide) rfl ok_X4_four rfl rfl q2020 q2022 qs59 q136 q2023 (by decide) (Nat.le_of_ble_eq_true rfl) (t_X4_four hM n x2 g4) ?_
    refine oX_aload_n dX4_feed_30 rfl rfl ?_
    refine oX_iload_n dX4_feed_31 rfl rfl ?_
    obtain ⟨r5, g5, hm⟩ := bd_s hm
    refine oX_cV_ (as := [vI x3]) dX4_feed_32 rfl oDs1 rfl (by decide) rfl ok_X4_four rfl rfl q2020 q2022 qs59 q136 q2023 (by decide) (Nat.le_of_ble_eq_true rfl) (t_X4_four hM n x3 g5) ?_
    refine oX_aload_n dX4_feed_35 rfl rfl ?_
    refine oX_iload dX4_feed_36 rfl ?_
    obtain ⟨r6, g6, hm⟩ := bd_s hm
    refine oX_cV_ (as := [vI x4]) dX4_feed_38 rfl oDs1 rfl (by decide) rfl ok_X4_four rfl rfl q2020 q2022 qs59 q136 q2023 (by decide) (Nat.le_of_ble_eq_true rfl) (t_X4_four hM n x4 g6) ?_
    refine oX_aload_n dX4_feed_41 rfl rfl ?_
    refine oX_iload dX4_feed_42 rfl ?_
    obtain ⟨r7, g7, hm⟩ := bd_s hm
    refine oX_cV_ (as := [vI x5]) dX4_feed_44 rfl oDs1 rfl (by decide) rfl ok_X4_four rfl rfl q2020 q2022 qs59 q136 q2023 (by decide) (Nat.le_of_ble_eq_true rfl) (t_X4_four hM n x5 g7) ?_
    refine oX_aload_n dX4_feed_47 rfl rfl ?_
    refine oX_getI fX4_229 rfl oDs1 dX4_feed_48 ?_
    obtain rfl := Option.some.inj hm
    exact oX_iret dX4_feed_51 rfl rfl hK
  · have hm := ifn c2 hm
    refine oX_iconst (v := (-1 : Int32)) dX4_feed_18 (by decide) ?_
    obtain rfl := Option.some.inj hm
    exact oX_iret dX4_feed_19 rfl rfl hK
theorem t_X4_feed {G : OhG} {FI AI : OhI} {FL AL : OhL} {FR GR AR BR : OhQ} {AN : OhN} {C : OhC} (hM : ohShM FR AN) (n : Nat) (x1 : Int32) (x2 : Int32) (x3 : Int32) (x4 : Int32) (x5 : Int32) {o : Int32 × OhI × OhI} (hm : mX4_feed n FI FR AI AN x1 x2 x3 x4 x5 = some o) : oT G 2 iX4_feed [vR (some (1, 0)), vI x1, vI x2, vI x3, vI x4, vI x5] (FI, FL, FR, GR, AI, AL, AR, BR, AN, C) (0, 0) (fun v h => v = (some (vI o.1)) ∧ h = (o.2.1, FL, FR, GR, o.2.2, AL, AR, BR, AN, C)) ohNo :=
  oT_of (by decide) rfl (Nat.le_of_ble_eq_true rfl) (x_mX4_feed hM n x1 x2 x3 x4 x5 hm ⟨rfl, rfl⟩)
abbrev iX4_end : OhM := (yX4_end, cX4_end, 2, (some .boolean), [])
theorem ok_X4_end : oOk iX4_end 1 := ⟨by decide, by decide, by decide +kernel⟩

noncomputable def mX4_end (FI : OhI) (x1 : Int32) : Option (Int32 × OhI) :=
  oLet (sA FI 1 0 (uA (FI 1 0) 0 (0 : Int32))) fun FI1 =>
  (if x1 < 0 then
  some ((0 : Int32), FI1)
else
  (if x1 ≤ (FI1 1 0 2) then
    oLet (sA FI1 1 0 (uA (FI1 1 0) 2 x1)) fun FI4 =>
      some ((1 : Int32), FI4)
  else
    some ((0 : Int32), FI1)))
theorem x_mX4_end {G : OhG} {FI AI : OhI} {FL AL : OhL} {FR GR AR BR : OhQ} {AN : OhN} {C : OhC} {k : Nat × Nat} {Φ : OhP} {Ψ : OhX} (x1 : Int32) {r : Int32 × OhI} (hm : mX4_end FI x1 = some r) (hK : Φ (some (vI r.1)) (r.2, FL, FR, GR, AI, AL, AR, BR, AN, C)) : oX G 1 iX4_end 0 [(0, vR (some (1, 0))), (1, vI x1)] [] (FI, FL, FR, GR, AI, AL, AR, BR, AN, C) k Φ Ψ := by
  unfold mX4_end at hm
  refine oX_aload_n dX4_end_0 rfl rfl ?_
  refine oX_iconst (v := (0 : Int32)) dX4_end_1 (by decide) ?_
  obtain ⟨FI1, hFI1, hm⟩ := oLs hm
  refine oX_putI fX4_226 rfl (fun h9 => by cases h9) oDs1 dX4_end_2 ⟨rfl, rfl⟩ hFI1 ?_
  refine oX_iload_n dX4_end_5 rfl rfl ?_
  refine oX_if_lt (tgt := 17) dX4_end_6 (by decide) (fun c2 => ?_) (fun c2 => ?_)
  · have hm := ifp c2 hm
    refine oX_iconst (v := (0 : Int32)) dX4_end_17 (by decide) ?_
    obtain rfl := Option.some.inj hm
    exact oX_iret dX4_end_18 rfl (by decide) hK
  · have hm := ifn c2 hm
    refine oX_iload_n dX4_end_9 rfl rfl ?_
    refine oX_aload_n dX4_end_10 rfl rfl ?_
    refine oX_getI fX4_229 rfl oDs1 dX4_end_11 ?_
    refine oX_icmp_le (tgt := 19) dX4_end_14 (by decide) (fun c3 => ?_) (fun c3 => ?_)
    · have hm := ifp c3 hm
      refine oX_aload_n dX4_end_19 rfl rfl ?_
      refine oX_iload_n dX4_end_20 rfl rfl ?_
      obtain ⟨FI4, hFI4, hm⟩ := oLs hm
      refine oX_putI fX4_229 rfl (fun h9 => by cases h9) oDs1 dX4_end_21 ⟨rfl, rfl⟩ hFI4 ?_
      refine oX_iconst (v := (1 : Int32)) dX4_end_24 (by decide) ?_
      obtain rfl := Option.some.inj hm
      exact oX_iret dX4_end_25 rfl (by decide) hK
    · have hm := ifn c3 hm
      refine oX_iconst (v := (0 : Int32)) dX4_end_17 (by decide) ?_
      obtain rfl := Option.some.inj hm
      exact oX_iret dX4_end_18 rfl (by decide) hK
theorem t_X4_end {G : OhG} {FI AI : OhI} {FL AL : OhL} {FR GR AR BR : OhQ} {AN : OhN} {C : OhC} (x1 : Int32) {o : Int32 × OhI} (hm : mX4_end FI x1 = some o) : oT G 1 iX4_end [vR (some (1, 0)), vI x1] (FI, FL, FR, GR, AI, AL, AR, BR, AN, C) (0, 0) (fun v h => v = (some (vI o.1)) ∧ h = (o.2, FL, FR, GR, AI, AL, AR, BR, AN, C)) ohNo :=
  oT_of (by decide) rfl (Nat.le_of_ble_eq_true rfl) (x_mX4_end x1 hm ⟨rfl, rfl⟩)
abbrev iX4_isIn : OhM := (yX4_isIn, cX4_isIn, 3, (some .boolean), [])
theorem ok_X4_isIn : oOk iX4_isIn 3 := ⟨by decide, by decide, by decide +kernel⟩

noncomputable def mX4_isIn (x0 : Int32) (x1 : Int32) (x2 : Int32) : Option (Int32) :=
  (if x0 < x1 then
  some (0 : Int32)
else
  (if x2 < x0 then
    some (0 : Int32)
  else
    some (1 : Int32)))
theorem x_mX4_isIn {G : OhG} {FI AI : OhI} {FL AL : OhL} {FR GR AR BR : OhQ} {AN : OhN} {C : OhC} {k : Nat × Nat} {Φ : OhP} {Ψ : OhX} (x0 : Int32) (x1 : Int32) (x2 : Int32) {r : Int32} (hm : mX4_isIn x0 x1 x2 = some r) (hK : Φ (some (vI r)) (FI, FL, FR, GR, AI, AL, AR, BR, AN, C)) : oX G 1 iX4_isIn 0 [(0, vI x0), (1, vI x1), (2, vI x2)] [] (FI, FL, FR, GR, AI, AL, AR, BR, AN, C) k Φ Ψ := by
  unfold mX4_isIn at hm
  refine oX_iload_n dX4_isIn_0 rfl rfl ?_
  refine oX_iload_n dX4_isIn_1 rfl rfl ?_
  refine oX_icmp_lt (tgt := 14) dX4_isIn_2 (by decide) (fun c1 => ?_) (fun c1 => ?_)
  · have hm := ifp c1 hm
    refine oX_iconst (v := (0 : Int32)) dX4_isIn_14 (by decide) ?_
    obtain rfl := Option.some.inj hm
    exact oX_iret dX4_isIn_15 rfl (by decide) hK
  · have hm := ifn c1 hm
    refine oX_iload_n dX4_isIn_5 rfl rfl ?_
    refine oX_iload_n dX4_isIn_6 rfl rfl ?_
    refine oX_icmp_gt (tgt := 14) dX4_isIn_7 (by decide) (fun c2 => ?_) (fun c2 => ?_)
    · have hm := ifp c2 hm
      refine oX_iconst (v := (0 : Int32)) dX4_isIn_14 (by decide) ?_
      obtain rfl := Option.some.inj hm
      exact oX_iret dX4_isIn_15 rfl (by decide) hK
    · have hm := ifn c2 hm
      refine oX_iconst (v := (1 : Int32)) dX4_isIn_10 (by decide) ?_
      refine oX_goto (tgt := 15) dX4_isIn_11 (by decide) ?_
      obtain rfl := Option.some.inj hm
      exact oX_iret dX4_isIn_15 rfl (by decide) hK
theorem t_X4_isIn {G : OhG} {FI AI : OhI} {FL AL : OhL} {FR GR AR BR : OhQ} {AN : OhN} {C : OhC} (x0 : Int32) (x1 : Int32) (x2 : Int32) {o : Int32} (hm : mX4_isIn x0 x1 x2 = some o) : oT G 1 iX4_isIn [vI x0, vI x1, vI x2] (FI, FL, FR, GR, AI, AL, AR, BR, AN, C) (0, 0) (fun v h => v = (some (vI o)) ∧ h = (FI, FL, FR, GR, AI, AL, AR, BR, AN, C)) ohNo :=
  oT_of (by decide) rfl (Nat.le_of_ble_eq_true rfl) (x_mX4_isIn x0 x1 x2 hm ⟨rfl, rfl⟩)
abbrev iX4_next : OhM := (yX4_next, cX4_next, 2, (some .int), [])
theorem ok_X4_next : oOk iX4_next 1 := ⟨by decide, by decide, by decide +kernel⟩

noncomputable def mX4_next (FI : OhI) (x1 : Int32) : Option (Int32 × OhI) :=
  oLet (sA FI 1 0 (uA (FI 1 0) 0 (0 : Int32))) fun FI1 =>
  (mX4_isIn x1 (0 : Int32) (29 : Int32)).bind fun r2 =>
  (if r2 = 0 then
  some ((-1 : Int32), FI1)
else
  (if ((FI1 1 0 5) + x1) ≤ (29 : Int32) then
    oLet (sA FI1 1 0 (uA (FI1 1 0) 5 ((FI1 1 0 5) + x1))) fun FI5 =>
      oLet (sA FI5 1 0 (uA (FI5 1 0) 6 ((FI5 1 0 6) + (1 : Int32)))) fun FI6 =>
      some (FI6 1 0 5, FI6)
  else
    some ((-1 : Int32), FI1)))
theorem x_mX4_next {G : OhG} {FI AI : OhI} {FL AL : OhL} {FR GR AR BR : OhQ} {AN : OhN} {C : OhC} {k : Nat × Nat} {Φ : OhP} {Ψ : OhX} (x1 : Int32) {r : Int32 × OhI} (hm : mX4_next FI x1 = some r) (hK : Φ (some (vI r.1)) (r.2, FL, FR, GR, AI, AL, AR, BR, AN, C)) : oX G 2 iX4_next 0 [(0, vR (some (1, 0))), (1, vI x1)] [] (FI, FL, FR, GR, AI, AL, AR, BR, AN, C) k Φ Ψ := by
  unfold mX4_next at hm
  refine oX_aload_n dX4_next_0 rfl rfl ?_
  refine oX_iconst (v := (0 : Int32)) dX4_next_1 (by decide) ?_
  obtain ⟨FI1, hFI1, hm⟩ := oLs hm
  refine oX_putI fX4_226 rfl (fun h9 => by cases h9) oDs1 dX4_next_2 ⟨rfl, rfl⟩ hFI1 ?_
  refine oX_iload_n dX4_next_5 rfl rfl ?_
  refine oX_iconst (v := (0 : Int32)) dX4_next_6 (by decide) ?_
  refine oX_bipush (v := (29 : Int32)) dX4_next_7 (by decide) ?_
  obtain ⟨r2, g2, hm⟩ := bd_s hm
  refine oX_cS (as := [vI x1, vI (0 : Int32), vI (29 : Int32)]) dX4_next_9 rfl ok_X4_isIn rfl rfl q2032 q2033 q136 q2034 (by decide) (Nat.le_of_ble_eq_true rfl) (t_X4_isIn x1 (0 : Int32) (29 : Int32) g2) ?_
  refine oX_if_eq (tgt := 26) dX4_next_12 (by decide) (fun c3 => ?_) (fun c3 => ?_)
  · have hm := ifp c3 hm
    refine oX_iconst (v := (-1 : Int32)) dX4_next_26 (by decide) ?_
    obtain rfl := Option.some.inj hm
    exact oX_iret dX4_next_27 rfl rfl hK
  · have hm := ifn c3 hm
    refine oX_aload_n dX4_next_15 rfl rfl ?_
    refine oX_getI fX4_246 rfl oDs1 dX4_next_16 ?_
    refine oX_iload_n dX4_next_19 rfl rfl ?_
    refine oX_iadd dX4_next_20 ?_
    refine oX_bipush (v := (29 : Int32)) dX4_next_21 (by decide) ?_
    refine oX_icmp_le (tgt := 28) dX4_next_23 (by decide) (fun c4 => ?_) (fun c4 => ?_)
    · have hm := ifp c4 hm
      refine oX_aload_n dX4_next_28 rfl rfl ?_
      refine oX_dup dX4_next_29 trivial ?_
      refine oX_getI fX4_246 rfl oDs1 dX4_next_30 ?_
      refine oX_iload_n dX4_next_33 rfl rfl ?_
      refine oX_iadd dX4_next_34 ?_
      obtain ⟨FI5, hFI5, hm⟩ := oLs hm
      refine oX_putI fX4_246 rfl (fun h9 => by cases h9) oDs1 dX4_next_35 ⟨rfl, rfl⟩ hFI5 ?_
      refine oX_aload_n dX4_next_38 rfl rfl ?_
      refine oX_dup dX4_next_39 trivial ?_
      refine oX_getI fX4_249 rfl oDs1 dX4_next_40 ?_
      refine oX_iconst (v := (1 : Int32)) dX4_next_43 (by decide) ?_
      refine oX_iadd dX4_next_44 ?_
      obtain ⟨FI6, hFI6, hm⟩ := oLs hm
      refine oX_putI fX4_249 rfl (fun h9 => by cases h9) oDs1 dX4_next_45 ⟨rfl, rfl⟩ hFI6 ?_
      refine oX_aload_n dX4_next_48 rfl rfl ?_
      refine oX_getI fX4_246 rfl oDs1 dX4_next_49 ?_
      obtain rfl := Option.some.inj hm
      exact oX_iret dX4_next_52 rfl rfl hK
    · have hm := ifn c4 hm
      refine oX_iconst (v := (-1 : Int32)) dX4_next_26 (by decide) ?_
      obtain rfl := Option.some.inj hm
      exact oX_iret dX4_next_27 rfl rfl hK
theorem t_X4_next {G : OhG} {FI AI : OhI} {FL AL : OhL} {FR GR AR BR : OhQ} {AN : OhN} {C : OhC} (x1 : Int32) {o : Int32 × OhI} (hm : mX4_next FI x1 = some o) : oT G 2 iX4_next [vR (some (1, 0)), vI x1] (FI, FL, FR, GR, AI, AL, AR, BR, AN, C) (0, 0) (fun v h => v = (some (vI o.1)) ∧ h = (o.2, FL, FR, GR, AI, AL, AR, BR, AN, C)) ohNo :=
  oT_of (by decide) rfl (Nat.le_of_ble_eq_true rfl) (x_mX4_next x1 hm ⟨rfl, rfl⟩)
abbrev iX4_taken : OhM := (yX4_taken, cX4_taken, 1, none, [])
theorem ok_X4_taken : oOk iX4_taken 0 := ⟨by decide, by decide, by decide +kernel⟩

noncomputable def mX4_taken (FI : OhI) : Option (OhI) :=
  oLet (sA FI 1 0 (uA (FI 1 0) 3 (FI 1 0 2))) fun FI1 =>
  oLet (sA FI1 1 0 (uA (FI1 1 0) 2 (0 : Int32))) fun FI2 =>
  oLet (sA FI2 1 0 (uA (FI2 1 0) 4 (0 : Int32))) fun FI3 =>
  some FI3
theorem x_mX4_taken {G : OhG} {FI AI : OhI} {FL AL : OhL} {FR GR AR BR : OhQ} {AN : OhN} {C : OhC} {k : Nat × Nat} {Φ : OhP} {Ψ : OhX} {r : OhI} (hm : mX4_taken FI = some r) (hK : Φ none (r, FL, FR, GR, AI, AL, AR, BR, AN, C)) : oX G 1 iX4_taken 0 [(0, vR (some (1, 0)))] [] (FI, FL, FR, GR, AI, AL, AR, BR, AN, C) k Φ Ψ := by
  unfold mX4_taken at hm
  refine oX_aload_n dX4_taken_0 rfl rfl ?_
  refine oX_aload_n dX4_taken_1 rfl rfl ?_
  refine oX_getI fX4_229 rfl oDs1 dX4_taken_2 ?_
  obtain ⟨FI1, hFI1, hm⟩ := oLs hm
  refine oX_putI fX4_236 rfl (fun h9 => by cases h9) oDs1 dX4_taken_5 ⟨rfl, rfl⟩ hFI1 ?_
  refine oX_aload_n dX4_taken_8 rfl rfl ?_
  refine oX_iconst (v := (0 : Int32)) dX4_taken_9 (by decide) ?_
  obtain ⟨FI2, hFI2, hm⟩ := oLs hm
  refine oX_putI fX4_229 rfl (fun h9 => by cases h9) oDs1 dX4_taken_10 ⟨rfl, rfl⟩ hFI2 ?_
  refine oX_aload_n dX4_taken_13 rfl rfl ?_
  refine oX_iconst (v := (0 : Int32)) dX4_taken_14 (by decide) ?_
  obtain ⟨FI3, hFI3, hm⟩ := oLs hm
  refine oX_putI fX4_239 rfl (fun h9 => by cases h9) oDs1 dX4_taken_15 ⟨rfl, rfl⟩ hFI3 ?_
  obtain rfl := Option.some.inj hm
  exact oX_vret dX4_taken_18 rfl hK
theorem t_X4_taken {G : OhG} {FI AI : OhI} {FL AL : OhL} {FR GR AR BR : OhQ} {AN : OhN} {C : OhC} {o : OhI} (hm : mX4_taken FI = some o) : oT G 1 iX4_taken [vR (some (1, 0))] (FI, FL, FR, GR, AI, AL, AR, BR, AN, C) (0, 0) (fun v h => v = none ∧ h = (o, FL, FR, GR, AI, AL, AR, BR, AN, C)) ohNo :=
  oT_of (by decide) rfl (Nat.le_of_ble_eq_true rfl) (x_mX4_taken hm ⟨rfl, rfl⟩)
abbrev iX4_opera : OhM := (yX4_opera, cX4_opera, 8, (some .int), [])
theorem ok_X4_opera : oOk iX4_opera 4 := ⟨by decide, by decide, by decide +kernel⟩

noncomputable def mX4_opera_j174 (n : Nat) (FI : OhI) (FR : OhQ) (AI : OhI) (AN : OhN) (x1 : Int32) (x2 : Int32) (x3 : Int32) (x4 : Int32) (x5 : Int32) (y0 : Int32) : Option ((Int32) ⊕ ((Unit) ⊕ (Unit))) :=
  (if y0 = 0 then
  some (.inr (.inr ()))
else
  some (.inl (x5 + (1 : Int32))))
theorem x_mX4_opera_j174 {G : OhG} {FI AI : OhI} {FL AL : OhL} {FR GR AR BR : OhQ} {AN : OhN} {C : OhC} {k : Nat × Nat} {Φ : OhP} {Ψ : OhX} (hM : ohShM FR AN) (n : Nat) (x1 : Int32) (x2 : Int32) (x3 : Int32) (x4 : Int32) (x5 : Int32) (y0 : Int32) {r : (Int32) ⊕ ((Unit) ⊕ (Unit))} (hm : mX4_opera_j174 n FI FR AI AN x1 x2 x3 x4 x5 y0 = some r) (hk : ∀ v : Int32, r = .inl v → oX G 2 iX4_opera 76 [(0, vR (some (1, 0))), (1, vI x1), (2, vI x2), (3, vI x3), (4, vI x4), (5, vI v)] [] (FI, FL, FR, GR, AI, AL, AR, BR, AN, C) k Φ Ψ) (hx1 : ∀ v : Unit, r = .inr (.inl v) → oX G 2 iX4_opera 189 [(0, vR (some (1, 0))), (1, vI x1), (2, vI x2), (3, vI x3), (4, vI x4)] [] (FI, FL, FR, GR, AI, AL, AR, BR, AN, C) k Φ Ψ) (hx2 : ∀ v : Unit, r = .inr (.inr v) → oX G 2 iX4_opera 181 [] [] (FI, FL, FR, GR, AI, AL, AR, BR, AN, C) k Φ Ψ) : oX G 2 iX4_opera 174 [(0, vR (some (1, 0))), (1, vI x1), (2, vI x2), (3, vI x3), (4, vI x4), (5, vI x5)] [vI y0] (FI, FL, FR, GR, AI, AL, AR, BR, AN, C) k Φ Ψ := by
  unfold mX4_opera_j174 at hm
  refine oX_istore (ls' := [(7, vI y0), (0, vR (some (1, 0))), (1, vI x1), (2, vI x2), (3, vI x3), (4, vI x4), (5, vI x5)]) dX4_opera_174 (by decide) rfl ?_
  refine oX_iload dX4_opera_176 rfl ?_
  refine oX_if_ne (tgt := 183) dX4_opera_178 (by decide) (fun c18 => ?_) (fun c18 => ?_)
  · have hm := ifp c18 hm
    exact oX_sub [] rfl (hx2 () (Option.some.inj hm).symm)
  · have hm := ifn c18 hm
    refine oX_iinc (v := x5 + (1 : Int32)) (ls' := [(5, vI (x5 + (1 : Int32))), (7, vI y0), (0, vR (some (1, 0))), (1, vI x1), (2, vI x2), (3, vI x3), (4, vI x4)]) dX4_opera_183 rfl rfl (by decide) rfl ?_
    refine oX_goto (tgt := 76) dX4_opera_186 (by decide) ?_
    exact oX_sub [2, 3, 4, 5, 6, 0] rfl (hk (x5 + (1 : Int32)) (Option.some.inj hm).symm)
noncomputable def mX4_opera_j124 (n : Nat) (FI : OhI) (FR : OhQ) (AI : OhI) (AN : OhN) (x1 : Int32) (x2 : Int32) (x3 : Int32) (x4 : Int32) (x5 : Int32) : Option ((Int32) ⊕ ((Unit) ⊕ (Unit))) :=
  gd (vp_in x5 340) <|
  (mX4_isIn (AI 101 0 x5.toNatClampNeg) (0 : Int32) (5 : Int32)).bind fun r17 =>
  mX4_opera_j174 n FI FR AI AN x1 x2 x3 x4 x5 r17
theorem x_mX4_opera_j124 {G : OhG} {FI AI : OhI} {FL AL : OhL} {FR GR AR BR : OhQ} {AN : OhN} {C : OhC} {k : Nat × Nat} {Φ : OhP} {Ψ : OhX} (hM : ohShM FR AN) (n : Nat) (x1 : Int32) (x2 : Int32) (x3 : Int32) (x4 : Int32) (x5 : Int32) {r : (Int32) ⊕ ((Unit) ⊕ (Unit))} (hm : mX4_opera_j124 n FI FR AI AN x1 x2 x3 x4 x5 = some r) (hk : ∀ v : Int32, r = .inl v → oX G 2 iX4_opera 76 [(0, vR (some (1, 0))), (1, vI x1), (2, vI x2), (3, vI x3), (4, vI x4), (5, vI v)] [] (FI, FL, FR, GR, AI, AL, AR, BR, AN, C) k Φ Ψ) (hx1 : ∀ v : Unit, r = .inr (.inl v) → oX G 2 iX4_opera 189 [(0, vR (some (1, 0))), (1, vI x1), (2, vI x2), (3, vI x3), (4, vI x4)] [] (FI, FL, FR, GR, AI, AL, AR, BR, AN, C) k Φ Ψ) (hx2 : ∀ v : Unit, r = .inr (.inr v) → oX G 2 iX4_opera 181 [] [] (FI, FL, FR, GR, AI, AL, AR, BR, AN, C) k Φ Ψ) : oX G 2 iX4_opera 124 [(0, vR (some (1, 0))), (1, vI x1), (2, vI x2), (3, vI x3), (4, vI x4), (5, vI x5)] [] (FI, FL, FR, GR, AI, AL, AR, BR, AN, C) k Φ Ψ := by
  unfold mX4_opera_j124 at hm
  refine oX_aload_n dX4_opera_124 rfl rfl ?_
  refine oX_getF fX4_7 rfl oDs1 dX4_opera_125 (ohF101 hM) ?_
  refine oX_iload dX4_opera_128 rfl ?_
  obtain ⟨g16, hm⟩ := gd_s hm
  refine oX_bald oDs101 (oIn (ohN101 hM) g16) dX4_opera_130 ?_
  refine oX_iconst (v := (0 : Int32)) dX4_opera_131 (by decide) ?_
  refine oX_iconst (v := (5 : Int32)) dX4_opera_132 (by decide) ?_
  obtain ⟨r17, g17, hm⟩ := bd_s hm
  refine oX_cS (as := [vI (AI 101 0 x5.toNatClampNeg), vI (0 : Int32), vI (5 : Int32)]) dX4_opera_133 rfl ok_X4_isIn rfl rfl q2032 q2033 q136 q2034 (by decide) (Nat.le_of_ble_eq_true rfl) (t_X4_isIn (AI 101 0 x5.toNatClampNeg) (0 : Int32) (5 : Int32) g17) ?_
  refine oX_goto (tgt := 174) dX4_opera_136 (by decide) ?_
  exact oX_sub [0, 1, 2, 3, 4, 5] rfl (x_mX4_opera_j174 hM n x1 x2 x3 x4 x5 r17 hm hk hx1 hx2)
noncomputable def mX4_opera_b76 (n : Nat) (FI : OhI) (FR : OhQ) (AI : OhI) (AN : OhN) (x1 : Int32) (x2 : Int32) (x3 : Int32) (x4 : Int32) (x5 : Int32) : Option ((Int32) ⊕ ((Unit) ⊕ (Unit))) :=
  (if (FI 1 0 3) ≤ x5 then
  some (.inr (.inl ()))
else
  (if (4 : Int32) ≤ x5 then
    (if (x5 - x5 / (4 : Int32) * (4 : Int32)) = 0 then
      mX4_opera_j124 n FI FR AI AN x1 x2 x3 x4 x5
    else
      (if (x5 - x5 / (4 : Int32) * (4 : Int32)) = (2 : Int32) then
        mX4_opera_j124 n FI FR AI AN x1 x2 x3 x4 x5
      else
        (if (x5 - x5 / (4 : Int32) * (4 : Int32)) = (1 : Int32) then
          gd (vp_in x5 340) <|
            (mX4_isIn (AI 101 0 x5.toNatClampNeg) (1 : Int32) (30 : Int32)).bind fun r22 =>
            mX4_opera_j174 n FI FR AI AN x1 x2 x3 x4 x5 r22
        else
          gd (vp_in x5 340) <|
            (mX4_isIn (AI 101 0 x5.toNatClampNeg) (0 : Int32) (9 : Int32)).bind fun r24 =>
            mX4_opera_j174 n FI FR AI AN x1 x2 x3 x4 x5 r24)))
  else
    gd (vp_in x5 340) <|
      (mX4_isIn (AI 101 0 x5.toNatClampNeg) (0 : Int32) (40 : Int32)).bind fun r26 =>
      mX4_opera_j174 n FI FR AI AN x1 x2 x3 x4 x5 r26))
theorem x_mX4_opera_b76 {G : OhG} {FI AI : OhI} {FL AL : OhL} {FR GR AR BR : OhQ} {AN : OhN} {C : OhC} {k : Nat × Nat} {Φ : OhP} {Ψ : OhX} (hM : ohShM FR AN) (n : Nat) (x1 : Int32) (x2 : Int32) (x3 : Int32) (x4 : Int32) (x5 : Int32) {r : (Int32) ⊕ ((Unit) ⊕ (Unit))} (hm : mX4_opera_b76 n FI FR AI AN x1 x2 x3 x4 x5 = some r) (hk : ∀ v : Int32, r = .inl v → oX G 2 iX4_opera 76 [(0, vR (some (1, 0))), (1, vI x1), (2, vI x2), (3, vI x3), (4, vI x4), (5, vI v)] [] (FI, FL, FR, GR, AI, AL, AR, BR, AN, C) k Φ Ψ) (hx1 : ∀ v : Unit, r = .inr (.inl v) → oX G 2 iX4_opera 189 [(0, vR (some (1, 0))), (1, vI x1), (2, vI x2), (3, vI x3), (4, vI x4)] [] (FI, FL, FR, GR, AI, AL, AR, BR, AN, C) k Φ Ψ) (hx2 : ∀ v : Unit, r = .inr (.inr v) → oX G 2 iX4_opera 181 [] [] (FI, FL, FR, GR, AI, AL, AR, BR, AN, C) k Φ Ψ) : oX G 2 iX4_opera 76 [(0, vR (some (1, 0))), (1, vI x1), (2, vI x2), (3, vI x3), (4, vI x4), (5, vI x5)] [] (FI, FL, FR, GR, AI, AL, AR, BR, AN, C) k Φ Ψ := by
  unfold mX4_opera_b76 at hm
  refine oX_iload dX4_opera_76 rfl ?_
  refine oX_aload_n dX4_opera_78 rfl rfl ?_
  refine oX_getI fX4_236 rfl oDs1 dX4_opera_79 ?_
  refine oX_icmp_ge (tgt := 189) dX4_opera_82 (by decide) (fun c13 => ?_) (fun c13 => ?_)
  · have hm := ifp c13 hm
    exact oX_sub [0, 1, 2, 3, 4] rfl (hx1 () (Option.some.inj hm).symm)
  · have hm := ifn c13 hm
    refine oX_iload dX4_opera_85 rfl ?_
    refine oX_iconst (v := (4 : Int32)) dX4_opera_87 (by decide) ?_
    refine oX_irem dX4_opera_88 (by decide) ?_
    refine oX_istore (ls' := [(6, vI (x5 - x5 / (4 : Int32) * (4 : Int32))), (0, vR (some (1, 0))), (1, vI x1), (2, vI x2), (3, vI x3), (4, vI x4), (5, vI x5)]) dX4_opera_89 (by decide) rfl ?_
    refine oX_iload dX4_opera_91 rfl ?_
    refine oX_iconst (v := (4 : Int32)) dX4_opera_93 (by decide) ?_
    refine oX_icmp_ge (tgt := 113) dX4_opera_94 (by decide) (fun c14 => ?_) (fun c14 => ?_)
    · have hm := ifp c14 hm
      refine oX_iload dX4_opera_113 rfl ?_
      refine oX_if_eq (tgt := 124) dX4_opera_115 (by decide) (fun c15 => ?_) (fun c15 => ?_)
      · have hm := ifp c15 hm
        exact oX_sub [1, 2, 3, 4, 5, 6] rfl (x_mX4_opera_j124 hM n x1 x2 x3 x4 x5 hm hk hx1 hx2)
      · have hm := ifn c15 hm
        refine oX_iload dX4_opera_118 rfl ?_
        refine oX_iconst (v := (2 : Int32)) dX4_opera_120 (by decide) ?_
        refine oX_icmp_ne (tgt := 139) dX4_opera_121 (by decide) (fun c19 => ?_) (fun c19 => ?_)
        · have hm := ifp c19 hm
          exact oX_sub [1, 2, 3, 4, 5, 6] rfl (x_mX4_opera_j124 hM n x1 x2 x3 x4 x5 hm hk hx1 hx2)
        · have hm := ifn c19 hm
          refine oX_iload dX4_opera_139 rfl ?_
          refine oX_iconst (v := (1 : Int32)) dX4_opera_141 (by decide) ?_
          refine oX_icmp_ne (tgt := 161) dX4_opera_142 (by decide) (fun c20 => ?_) (fun c20 => ?_)
          · have hm := ifp c20 hm
            refine oX_aload_n dX4_opera_145 rfl rfl ?_
            refine oX_getF fX4_7 rfl oDs1 dX4_opera_146 (ohF101 hM) ?_
            refine oX_iload dX4_opera_149 rfl ?_
            obtain ⟨g21, hm⟩ := gd_s hm
            refine oX_bald oDs101 (oIn (ohN101 hM) g21) dX4_opera_151 ?_
            refine oX_iconst (v := (1 : Int32)) dX4_opera_152 (by decide) ?_
            refine oX_bipush (v := (30 : Int32)) dX4_opera_153 (by decide) ?_
            obtain ⟨r22, g22, hm⟩ := bd_s hm
            refine oX_cS (as := [vI (AI 101 0 x5.toNatClampNeg), vI (1 : Int32), vI (30 : Int32)]) dX4_opera_155 rfl ok_X4_isIn rfl rfl q2032 q2033 q136 q2034 (by decide) (Nat.le_of_ble_eq_true rfl) (t_X4_isIn (AI 101 0 x5.toNatClampNeg) (1 : Int32) (30 : Int32) g22) ?_
            refine oX_goto (tgt := 174) dX4_opera_158 (by decide) ?_
            exact oX_sub [1, 2, 3, 4, 5, 6] rfl (x_mX4_opera_j174 hM n x1 x2 x3 x4 x5 r22 hm hk hx1 hx2)
          · have hm := ifn c20 hm
            refine oX_aload_n dX4_opera_161 rfl rfl ?_
            refine oX_getF fX4_7 rfl oDs1 dX4_opera_162 (ohF101 hM) ?_
            refine oX_iload dX4_opera_165 rfl ?_
            obtain ⟨g23, hm⟩ := gd_s hm
            refine oX_bald oDs101 (oIn (ohN101 hM) g23) dX4_opera_167 ?_
            refine oX_iconst (v := (0 : Int32)) dX4_opera_168 (by decide) ?_
            refine oX_bipush (v := (9 : Int32)) dX4_opera_169 (by decide) ?_
            obtain ⟨r24, g24, hm⟩ := bd_s hm
            refine oX_cS (as := [vI (AI 101 0 x5.toNatClampNeg), vI (0 : Int32), vI (9 : Int32)]) dX4_opera_171 rfl ok_X4_isIn rfl rfl q2032 q2033 q136 q2034 (by decide) (Nat.le_of_ble_eq_true rfl) (t_X4_isIn (AI 101 0 x5.toNatClampNeg) (0 : Int32) (9 : Int32) g24) ?_
            exact oX_sub [1, 2, 3, 4, 5, 6] rfl (x_mX4_opera_j174 hM n x1 x2 x3 x4 x5 r24 hm hk hx1 hx2)
    · have hm := ifn c14 hm
      refine oX_aload_n dX4_opera_97 rfl rfl ?_
      refine oX_getF fX4_7 rfl oDs1 dX4_opera_98 (ohF101 hM) ?_
      refine oX_iload dX4_opera_101 rfl ?_
      obtain ⟨g25, hm⟩ := gd_s hm
      refine oX_bald oDs101 (oIn (ohN101 hM) g25) dX4_opera_103 ?_
      refine oX_iconst (v := (0 : Int32)) dX4_opera_104 (by decide) ?_
      refine oX_bipush (v := (40 : Int32)) dX4_opera_105 (by decide) ?_
      obtain ⟨r26, g26, hm⟩ := bd_s hm
      refine oX_cS (as := [vI (AI 101 0 x5.toNatClampNeg), vI (0 : Int32), vI (40 : Int32)]) dX4_opera_107 rfl ok_X4_isIn rfl rfl q2032 q2033 q136 q2034 (by decide) (Nat.le_of_ble_eq_true rfl) (t_X4_isIn (AI 101 0 x5.toNatClampNeg) (0 : Int32) (40 : Int32) g26) ?_
      refine oX_goto (tgt := 174) dX4_opera_110 (by decide) ?_
      exact oX_sub [1, 2, 3, 4, 5, 6] rfl (x_mX4_opera_j174 hM n x1 x2 x3 x4 x5 r26 hm hk hx1 hx2)
theorem l_mX4_opera_b76 {G : OhG} {FI : OhI} {FL : OhL} {FR : OhQ} {GR : OhQ} {AI : OhI} {AL : OhL} {AR : OhQ} {BR : OhQ} {AN : OhN} {C : OhC} {k : Nat × Nat} {Φ : OhP} {Ψ : OhX} (hM : ohShM FR AN) (n : Nat) (x1 : Int32) (x2 : Int32) (x3 : Int32) (x4 : Int32) : ∀ (f : Nat) (x5 : Int32) (b : ((Unit) ⊕ (Unit))), lpF (fun v => mX4_opera_b76 n FI FR AI AN x1 x2 x3 x4 v) f x5 = some b → (∀ v : Unit, b = (.inl v) → oX G 2 iX4_opera 189 [(0, vR (some (1, 0))), (1, vI x1), (2, vI x2), (3, vI x3), (4, vI x4)] [] (FI, FL, FR, GR, AI, AL, AR, BR, AN, C) k Φ Ψ) → (∀ v : Unit, b = (.inr v) → oX G 2 iX4_opera 181 [] [] (FI, FL, FR, GR, AI, AL, AR, BR, AN, C) k Φ Ψ) → oX G 2 iX4_opera 76 [(0, vR (some (1, 0))), (1, vI x1), (2, vI x2), (3, vI x3), (4, vI x4), (5, vI x5)] [] (FI, FL, FR, GR, AI, AL, AR, BR, AN, C) k Φ Ψ := by
  intro f
  induction f with
  | zero =>
    intro x5 b hm
    cases hm
  | succ f ih =>
    intro x5 b hm hx1 hx2
    obtain ⟨r, hr, hm⟩ := lp_s hm
    refine x_mX4_opera_b76 hM n x1 x2 x3 x4 x5 hr (fun v e => ?_) (fun v e => ?_) (fun v e => ?_)
    · subst e; exact ih v _ hm hx1 hx2
    · subst e; exact hx1 v hm.symm
    · subst e; exact hx2 v hm.symm
noncomputable def mX4_opera_b246 (n : Nat) (FI : OhI) (FR : OhQ) (AI : OhI) (AN : OhN) (x5 : Int32) (x6 : Int32) : Option ((Int32 × OhI) ⊕ (OhI)) :=
  (if (4 : Int32) ≤ x6 then
  some (.inr AI)
else
  gd (vp_in x6 340) <|
    gd (vp_in (((4 : Int32) * x5) + x6) 36) <|
    oLet (sA AI 110 0 (uA (AI 110 0) (((4 : Int32) * x5) + x6).toNatClampNeg (AI 101 0 x6.toNatClampNeg))) fun AI35 =>
    some (.inl (x6 + (1 : Int32), AI35)))
theorem x_mX4_opera_b246 {G : OhG} {FI AI : OhI} {FL AL : OhL} {FR GR AR BR : OhQ} {AN : OhN} {C : OhC} {k : Nat × Nat} {Φ : OhP} {Ψ : OhX} (hM : ohShM FR AN) (n : Nat) (x5 : Int32) (x6 : Int32) {r : (Int32 × OhI) ⊕ (OhI)} (hm : mX4_opera_b246 n FI FR AI AN x5 x6 = some r) (hk : ∀ v : Int32 × OhI, r = .inl v → oX G 2 iX4_opera 246 [(0, vR (some (1, 0))), (5, vI x5), (6, vI v.1)] [] (FI, FL, FR, GR, v.2, AL, AR, BR, AN, C) k Φ Ψ) (hx1 : ∀ v : OhI, r = .inr v → oX G 2 iX4_opera 277 [(0, vR (some (1, 0))), (5, vI x5)] [] (FI, FL, FR, GR, v, AL, AR, BR, AN, C) k Φ Ψ) : oX G 2 iX4_opera 246 [(0, vR (some (1, 0))), (5, vI x5), (6, vI x6)] [] (FI, FL, FR, GR, AI, AL, AR, BR, AN, C) k Φ Ψ := by
  unfold mX4_opera_b246 at hm
  refine oX_iload dX4_opera_246 rfl ?_
  refine oX_iconst (v := (4 : Int32)) dX4_opera_248 (by decide) ?_
  refine oX_icmp_ge (tgt := 277) dX4_opera_249 (by decide) (fun c33 => ?_) (fun c33 => ?_)
  · have hm := ifp c33 hm
    exact oX_sub [0, 1] rfl (hx1 AI (Option.some.inj hm).symm)
  · have hm := ifn c33 hm
    refine oX_aload_n dX4_opera_252 rfl rfl ?_
    refine oX_getF fX4_23 rfl oDs1 dX4_opera_253 (ohF110 hM) ?_
    refine oX_iconst (v := (4 : Int32)) dX4_opera_256 (by decide) ?_
    refine oX_iload dX4_opera_257 rfl ?_
    refine oX_imul dX4_opera_259 ?_
    refine oX_iload dX4_opera_260 rfl ?_
    refine oX_iadd dX4_opera_262 ?_
    refine oX_aload_n dX4_opera_263 rfl rfl ?_
    refine oX_getF fX4_7 rfl oDs1 dX4_opera_264 (ohF101 hM) ?_
    refine oX_iload dX4_opera_267 rfl ?_
    obtain ⟨g34, hm⟩ := gd_s hm
    refine oX_bald oDs101 (oIn (ohN101 hM) g34) dX4_opera_269 ?_
    obtain ⟨g35, hm⟩ := gd_s hm
    obtain ⟨AI35, hAI35, hm⟩ := oLs hm
    refine oX_iast oDs110 (oIn (ohN110 hM) g35) dX4_opera_270 hAI35 ?_
    refine oX_iinc (v := x6 + (1 : Int32)) (ls' := [(6, vI (x6 + (1 : Int32))), (0, vR (some (1, 0))), (5, vI x5)]) dX4_opera_271 rfl rfl (by decide) rfl ?_
    refine oX_goto (tgt := 246) dX4_opera_274 (by decide) ?_
    exact oX_sub [1, 2, 0] rfl (hk (x6 + (1 : Int32), AI35) (Option.some.inj hm).symm)
theorem l_mX4_opera_b246 {G : OhG} {FI : OhI} {FL : OhL} {FR : OhQ} {GR : OhQ} {AL : OhL} {AR : OhQ} {BR : OhQ} {AN : OhN} {C : OhC} {k : Nat × Nat} {Φ : OhP} {Ψ : OhX} (hM : ohShM FR AN) (n : Nat) (x5 : Int32) : ∀ (f : Nat) (x6 : Int32) (AI : OhI) (b : (OhI)), lpF (fun v => mX4_opera_b246 n FI FR v.2 AN x5 v.1) f (x6, AI) = some b → (oX G 2 iX4_opera 277 [(0, vR (some (1, 0))), (5, vI x5)] [] (FI, FL, FR, GR, b, AL, AR, BR, AN, C) k Φ Ψ) → oX G 2 iX4_opera 246 [(0, vR (some (1, 0))), (5, vI x5), (6, vI x6)] [] (FI, FL, FR, GR, AI, AL, AR, BR, AN, C) k Φ Ψ := by
  intro f
  induction f with
  | zero =>
    intro x6 AI b hm
    cases hm
  | succ f ih =>
    intro x6 AI b hm hx1
    obtain ⟨r, hr, hm⟩ := lp_s hm
    refine x_mX4_opera_b246 hM n x5 x6 hr (fun v e => ?_) (fun v e => ?_)
    · subst e; exact ih v.1 v.2 _ hm hx1
    · subst e; cases (show v = b from hm); exact hx1
noncomputable def mX4_opera_b280 (n : Nat) (FI : OhI) (FR : OhQ) (AI : OhI) (AN : OhN) (x5 : Int32) (x6 : Int32) : Option ((Int32 × OhI) ⊕ (OhI)) :=
  gd (vp_in x5 9) <|
  (if (AI 111 0 x5.toNatClampNeg) ≤ x6 then
  some (.inr AI)
else
  gd (vp_in (((4 : Int32) * x6) + (4 : Int32)) 340) <|
    gd (vp_in (((8 : Int32) * x5) + x6) 72) <|
    oLet (sA AI 112 0 (uA (AI 112 0) (((8 : Int32) * x5) + x6).toNatClampNeg (AI 101 0 (((4 : Int32) * x6) + (4 : Int32)).toNatClampNeg))) fun AI40 =>
    gd (vp_in (((4 : Int32) * x6) + (5 : Int32)) 340) <|
    gd (vp_in (((8 : Int32) * x5) + x6) 72) <|
    oLet (sA AI40 113 0 (uA (AI40 113 0) (((8 : Int32) * x5) + x6).toNatClampNeg (AI40 101 0 (((4 : Int32) * x6) + (5 : Int32)).toNatClampNeg))) fun AI42 =>
    gd (vp_in (((4 : Int32) * x6) + (6 : Int32)) 340) <|
    gd (vp_in (((8 : Int32) * x5) + x6) 72) <|
    oLet (sA AI42 114 0 (uA (AI42 114 0) (((8 : Int32) * x5) + x6).toNatClampNeg (AI42 101 0 (((4 : Int32) * x6) + (6 : Int32)).toNatClampNeg))) fun AI44 =>
    gd (vp_in (((4 : Int32) * x6) + (7 : Int32)) 340) <|
    gd (vp_in (((8 : Int32) * x5) + x6) 72) <|
    oLet (sA AI44 115 0 (uA (AI44 115 0) (((8 : Int32) * x5) + x6).toNatClampNeg (AI44 101 0 (((4 : Int32) * x6) + (7 : Int32)).toNatClampNeg))) fun AI46 =>
    some (.inl (x6 + (1 : Int32), AI46)))
theorem x_mX4_opera_b280 {G : OhG} {FI AI : OhI} {FL AL : OhL} {FR GR AR BR : OhQ} {AN : OhN} {C : OhC} {k : Nat × Nat} {Φ : OhP} {Ψ : OhX} (hM : ohShM FR AN) (n : Nat) (x5 : Int32) (x6 : Int32) {r : (Int32 × OhI) ⊕ (OhI)} (hm : mX4_opera_b280 n FI FR AI AN x5 x6 = some r) (hk : ∀ v : Int32 × OhI, r = .inl v → oX G 2 iX4_opera 280 [(0, vR (some (1, 0))), (5, vI x5), (6, vI v.1)] [] (FI, FL, FR, GR, v.2, AL, AR, BR, AN, C) k Φ Ψ) (hx1 : ∀ v : OhI, r = .inr v → oX G 2 iX4_opera 396 [(0, vR (some (1, 0))), (5, vI x5)] [] (FI, FL, FR, GR, v, AL, AR, BR, AN, C) k Φ Ψ) : oX G 2 iX4_opera 280 [(0, vR (some (1, 0))), (5, vI x5), (6, vI x6)] [] (FI, FL, FR, GR, AI, AL, AR, BR, AN, C) k Φ Ψ := by
  unfold mX4_opera_b280 at hm
  refine oX_iload dX4_opera_280 rfl ?_
  refine oX_aload_n dX4_opera_282 rfl rfl ?_
  refine oX_getF fX4_26 rfl oDs1 dX4_opera_283 (ohF111 hM) ?_
  refine oX_iload dX4_opera_286 rfl ?_
  obtain ⟨g37, hm⟩ := gd_s hm
  refine oX_iald oDs111 (oIn (ohN111 hM) g37) dX4_opera_288 ?_
  refine oX_icmp_ge (tgt := 396) dX4_opera_289 (by decide) (fun c38 => ?_) (fun c38 => ?_)
  · have hm := ifp c38 hm
    exact oX_sub [0, 1] rfl (hx1 AI (Option.some.inj hm).symm)
  · have hm := ifn c38 hm
    refine oX_aload_n dX4_opera_292 rfl rfl ?_
    refine oX_getF fX4_29 rfl oDs1 dX4_opera_293 (ohF112 hM) ?_
    refine oX_bipush (v := (8 : Int32)) dX4_opera_296 (by decide) ?_
    refine oX_iload dX4_opera_298 rfl ?_
    refine oX_imul dX4_opera_300 ?_
    refine oX_iload dX4_opera_301 rfl ?_
    refine oX_iadd dX4_opera_303 ?_
    refine oX_aload_n dX4_opera_304 rfl rfl ?_
    refine oX_getF fX4_7 rfl oDs1 dX4_opera_305 (ohF101 hM) ?_
    refine oX_iconst (v := (4 : Int32)) dX4_opera_308 (by decide) ?_
    refine oX_iload dX4_opera_309 rfl ?_
    refine oX_imul dX4_opera_311 ?_
    refine oX_iconst (v := (4 : Int32)) dX4_opera_312 (by decide) ?_
    refine oX_iadd dX4_opera_313 ?_
    obtain ⟨g39, hm⟩ := gd_s hm
    refine oX_bald oDs101 (oIn (ohN101 hM) g39) dX4_opera_314 ?_
    obtain ⟨g40, hm⟩ := gd_s hm
    obtain ⟨AI40, hAI40, hm⟩ := oLs hm
    refine oX_iast oDs112 (oIn (ohN112 hM) g40) dX4_opera_315 hAI40 ?_
    refine oX_aload_n dX4_opera_316 rfl rfl ?_
    refine oX_getF fX4_32 rfl oDs1 dX4_opera_317 (ohF113 hM) ?_
    refine oX_bipush (v := (8 : Int32)) dX4_opera_320 (by decide) ?_
    refine oX_iload dX4_opera_322 rfl ?_
    refine oX_imul dX4_opera_324 ?_
    refine oX_iload dX4_opera_325 rfl ?_
    refine oX_iadd dX4_opera_327 ?_
    refine oX_aload_n dX4_opera_328 rfl rfl ?_
    refine oX_getF fX4_7 rfl oDs1 dX4_opera_329 (ohF101 hM) ?_
    refine oX_iconst (v := (4 : Int32)) dX4_opera_332 (by decide) ?_
    refine oX_iload dX4_opera_333 rfl ?_
    refine oX_imul dX4_opera_335 ?_
    refine oX_iconst (v := (5 : Int32)) dX4_opera_336 (by decide) ?_
    refine oX_iadd dX4_opera_337 ?_
    obtain ⟨g41, hm⟩ := gd_s hm
    refine oX_bald oDs101 (oIn (ohN101 hM) g41) dX4_opera_338 ?_
    obtain ⟨g42, hm⟩ := gd_s hm
    obtain ⟨AI42, hAI42, hm⟩ := oLs hm
    refine oX_iast oDs113 (oIn (ohN113 hM) g42) dX4_opera_339 hAI42 ?_
    refine oX_aload_n dX4_opera_340 rfl rfl ?_
    refine oX_getF fX4_35 rfl oDs1 dX4_opera_341 (ohF114 hM) ?_
    refine oX_bipush (v := (8 : Int32)) dX4_opera_344 (by decide) ?_
    refine oX_iload dX4_opera_346 rfl ?_
    refine oX_imul dX4_opera_348 ?_
    refine oX_iload dX4_opera_349 rfl ?_
    refine oX_iadd dX4_opera_351 ?_
    refine oX_aload_n dX4_opera_352 rfl rfl ?_
    refine oX_getF fX4_7 rfl oDs1 dX4_opera_353 (ohF101 hM) ?_
    refine oX_iconst (v := (4 : Int32)) dX4_opera_356 (by decide) ?_
    refine oX_iload dX4_opera_357 rfl ?_
    refine oX_imul dX4_opera_359 ?_
    refine oX_bipush (v := (6 : Int32)) dX4_opera_360 (by decide) ?_
    refine oX_iadd dX4_opera_362 ?_
    obtain ⟨g43, hm⟩ := gd_s hm
    refine oX_bald oDs101 (oIn (ohN101 hM) g43) dX4_opera_363 ?_
    obtain ⟨g44, hm⟩ := gd_s hm
    obtain ⟨AI44, hAI44, hm⟩ := oLs hm
    refine oX_iast oDs114 (oIn (ohN114 hM) g44) dX4_opera_364 hAI44 ?_
    refine oX_aload_n dX4_opera_365 rfl rfl ?_
    refine oX_getF fX4_38 rfl oDs1 dX4_opera_366 (ohF115 hM) ?_
    refine oX_bipush (v := (8 : Int32)) dX4_opera_369 (by decide) ?_
    refine oX_iload dX4_opera_371 rfl ?_
    refine oX_imul dX4_opera_373 ?_
    refine oX_iload dX4_opera_374 rfl ?_
    refine oX_iadd dX4_opera_376 ?_
    refine oX_aload_n dX4_opera_377 rfl rfl ?_
    refine oX_getF fX4_7 rfl oDs1 dX4_opera_378 (ohF101 hM) ?_
    refine oX_iconst (v := (4 : Int32)) dX4_opera_381 (by decide) ?_
    refine oX_iload dX4_opera_382 rfl ?_
    refine oX_imul dX4_opera_384 ?_
    refine oX_bipush (v := (7 : Int32)) dX4_opera_385 (by decide) ?_
    refine oX_iadd dX4_opera_387 ?_
    obtain ⟨g45, hm⟩ := gd_s hm
    refine oX_bald oDs101 (oIn (ohN101 hM) g45) dX4_opera_388 ?_
    obtain ⟨g46, hm⟩ := gd_s hm
    obtain ⟨AI46, hAI46, hm⟩ := oLs hm
    refine oX_iast oDs115 (oIn (ohN115 hM) g46) dX4_opera_389 hAI46 ?_
    refine oX_iinc (v := x6 + (1 : Int32)) (ls' := [(6, vI (x6 + (1 : Int32))), (0, vR (some (1, 0))), (5, vI x5)]) dX4_opera_390 rfl rfl (by decide) rfl ?_
    refine oX_goto (tgt := 280) dX4_opera_393 (by decide) ?_
    exact oX_sub [1, 2, 0] rfl (hk (x6 + (1 : Int32), AI46) (Option.some.inj hm).symm)
theorem l_mX4_opera_b280 {G : OhG} {FI : OhI} {FL : OhL} {FR : OhQ} {GR : OhQ} {AL : OhL} {AR : OhQ} {BR : OhQ} {AN : OhN} {C : OhC} {k : Nat × Nat} {Φ : OhP} {Ψ : OhX} (hM : ohShM FR AN) (n : Nat) (x5 : Int32) : ∀ (f : Nat) (x6 : Int32) (AI : OhI) (b : (OhI)), lpF (fun v => mX4_opera_b280 n FI FR v.2 AN x5 v.1) f (x6, AI) = some b → (oX G 2 iX4_opera 396 [(0, vR (some (1, 0))), (5, vI x5)] [] (FI, FL, FR, GR, b, AL, AR, BR, AN, C) k Φ Ψ) → oX G 2 iX4_opera 280 [(0, vR (some (1, 0))), (5, vI x5), (6, vI x6)] [] (FI, FL, FR, GR, AI, AL, AR, BR, AN, C) k Φ Ψ := by
  intro f
  induction f with
  | zero =>
    intro x6 AI b hm
    cases hm
  | succ f ih =>
    intro x6 AI b hm hx1
    obtain ⟨r, hr, hm⟩ := lp_s hm
    refine x_mX4_opera_b280 hM n x5 x6 hr (fun v e => ?_) (fun v e => ?_)
    · subst e; exact ih v.1 v.2 _ hm hx1
    · subst e; cases (show v = b from hm); exact hx1
noncomputable def mX4_opera (n : Nat) (FI : OhI) (FR : OhQ) (AI : OhI) (AN : OhN) (x1 : Int32) (x2 : Int32) (x3 : Int32) (x4 : Int32) : Option (Int32 × OhI × OhI) :=
  oLet (sA FI 1 0 (uA (FI 1 0) 0 (0 : Int32))) fun FI1 =>
  (mX4_taken FI1).bind fun r2 =>
  (if (r2 1 0 21) = (9 : Int32) then
  some ((-1 : Int32), r2, AI)
else
  (mX4_isIn x1 (2 : Int32) (6 : Int32)).bind fun r4 =>
    (if r4 = 0 then
    some ((-1 : Int32), r2, AI)
  else
    (mX4_isIn x2 (0 : Int32) (3 : Int32)).bind fun r6 =>
      (if r6 = 0 then
      some ((-1 : Int32), r2, AI)
    else
      (mX4_isIn x4 (1 : Int32) (60 : Int32)).bind fun r8 =>
        (if r8 = 0 then
        some ((-1 : Int32), r2, AI)
      else
        (if ((r2 1 0 3) - (r2 1 0 3) / (4 : Int32) * (4 : Int32)) = 0 then
          (mX4_isIn (r2 1 0 3) (8 : Int32) (36 : Int32)).bind fun r11 =>
            (if r11 = 0 then
            some ((-1 : Int32), r2, AI)
          else
            (lpF (fun v => mX4_opera_b76 n r2 FR AI AN x1 x2 x3 x4 v) n (0 : Int32)).bind (Sum.elim (fun v27 => gd (vp_in (r2 1 0 21) 9) <|
              oLet (sA AI 107 0 (uA (AI 107 0) (r2 1 0 21).toNatClampNeg x1)) fun AI28 =>
              gd (vp_in (r2 1 0 21) 9) <|
              oLet (sA AI28 108 0 (uA (AI28 108 0) (r2 1 0 21).toNatClampNeg x2)) fun AI29 =>
              gd (vp_in (r2 1 0 21) 9) <|
              oLet (sA AI29 116 0 (uA (AI29 116 0) (r2 1 0 21).toNatClampNeg (vp_nar .boolean x3))) fun AI30 =>
              gd (vp_in (r2 1 0 21) 9) <|
              oLet (sA AI30 109 0 (uA (AI30 109 0) (r2 1 0 21).toNatClampNeg x4)) fun AI31 =>
              gd (vp_in (r2 1 0 21) 9) <|
              oLet (sA AI31 111 0 (uA (AI31 111 0) (r2 1 0 21).toNatClampNeg (((r2 1 0 3) / (4 : Int32)) - (1 : Int32)))) fun AI32 =>
              (lpF (fun v => mX4_opera_b246 n r2 FR v.2 AN (r2 1 0 21) v.1) n ((0 : Int32), AI32)).bind fun v36 =>
              (lpF (fun v => mX4_opera_b280 n r2 FR v.2 AN (r2 1 0 21) v.1) n ((0 : Int32), v36)).bind fun v47 =>
              oLet (sA r2 1 0 (uA (r2 1 0) 21 ((r2 1 0 21) + (1 : Int32)))) fun FI48 =>
              oLet (sA FI48 1 0 (uA (FI48 1 0) 6 ((FI48 1 0 6) + (1 : Int32)))) fun FI49 =>
              some (r2 1 0 21, FI49, v47)) (fun v27 => some ((-1 : Int32), r2, AI))))
        else
          some ((-1 : Int32), r2, AI))))))
theorem x_mX4_opera {G : OhG} {FI AI : OhI} {FL AL : OhL} {FR GR AR BR : OhQ} {AN : OhN} {C : OhC} {k : Nat × Nat} {Φ : OhP} {Ψ : OhX} (hM : ohShM FR AN) (n : Nat) (x1 : Int32) (x2 : Int32) (x3 : Int32) (x4 : Int32) {r : Int32 × OhI × OhI} (hm : mX4_opera n FI FR AI AN x1 x2 x3 x4 = some r) (hK : Φ (some (vI r.1)) (r.2.1, FL, FR, GR, r.2.2, AL, AR, BR, AN, C)) : oX G 2 iX4_opera 0 [(0, vR (some (1, 0))), (1, vI x1), (2, vI x2), (3, vI x3), (4, vI x4)] [] (FI, FL, FR, GR, AI, AL, AR, BR, AN, C) k Φ Ψ := by
  unfold mX4_opera at hm
  refine oX_aload_n dX4_opera_0 rfl rfl ?_
  refine oX_iconst (v := (0 : Int32)) dX4_opera_1 (by decide) ?_
  obtain ⟨FI1, hFI1, hm⟩ := oLs hm
  refine oX_putI fX4_226 rfl (fun h9 => by cases h9) oDs1 dX4_opera_2 ⟨rfl, rfl⟩ hFI1 ?_
  refine oX_aload_n dX4_opera_5 rfl rfl ?_
  obtain ⟨r2, g2, hm⟩ := bd_s hm
  refine oX_cV_ (as := []) dX4_opera_6 rfl oDs1 rfl (by decide) rfl ok_X4_taken rfl rfl q2039 q2041 qs60 q136 q2042 (by decide) (Nat.le_of_ble_eq_true rfl) (t_X4_taken g2) ?_
  refine oX_aload_n dX4_opera_9 rfl rfl ?_
  refine oX_getI fX4_255 rfl oDs1 dX4_opera_10 ?_
  refine oX_bipush (v := (9 : Int32)) dX4_opera_13 (by decide) ?_
  refine oX_icmp_eq (tgt := 71) dX4_opera_15 (by decide) (fun c3 => ?_) (fun c3 => ?_)
  · have hm := ifp c3 hm
    refine oX_iconst (v := (-1 : Int32)) dX4_opera_71 (by decide) ?_
    obtain rfl := Option.some.inj hm
    exact oX_iret dX4_opera_72 rfl rfl hK
  · have hm := ifn c3 hm
    refine oX_iload_n dX4_opera_18 rfl rfl ?_
    refine oX_iconst (v := (2 : Int32)) dX4_opera_19 (by decide) ?_
    refine oX_bipush (v := (6 : Int32)) dX4_opera_20 (by decide) ?_
    obtain ⟨r4, g4, hm⟩ := bd_s hm
    refine oX_cS (as := [vI x1, vI (2 : Int32), vI (6 : Int32)]) dX4_opera_22 rfl ok_X4_isIn rfl rfl q2032 q2033 q136 q2034 (by decide) (Nat.le_of_ble_eq_true rfl) (t_X4_isIn x1 (2 : Int32) (6 : Int32) g4) ?_
    refine oX_if_eq (tgt := 71) dX4_opera_25 (by decide) (fun c5 => ?_) (fun c5 => ?_)
    · have hm := ifp c5 hm
      refine oX_iconst (v := (-1 : Int32)) dX4_opera_71 (by decide) ?_
      obtain rfl := Option.some.inj hm
      exact oX_iret dX4_opera_72 rfl rfl hK
    · have hm := ifn c5 hm
      refine oX_iload_n dX4_opera_28 rfl rfl ?_
      refine oX_iconst (v := (0 : Int32)) dX4_opera_29 (by decide) ?_
      refine oX_iconst (v := (3 : Int32)) dX4_opera_30 (by decide) ?_
      obtain ⟨r6, g6, hm⟩ := bd_s hm
      refine oX_cS (as := [vI x2, vI (0 : Int32), vI (3 : Int32)]) dX4_opera_31 rfl ok_X4_isIn rfl rfl q2032 q2033 q136 q2034 (by decide) (Nat.le_of_ble_eq_true rfl) (t_X4_isIn x2 (0 : Int32) (3 : Int32) g6) ?_
      refine oX_if_eq (tgt := 71) dX4_opera_34 (by decide) (fun c7 => ?_) (fun c7 => ?_)
      · have hm := ifp c7 hm
        refine oX_iconst (v := (-1 : Int32)) dX4_opera_71 (by decide) ?_
        obtain rfl := Option.some.inj hm
        exact oX_iret dX4_opera_72 rfl rfl hK
      · have hm := ifn c7 hm
        refine oX_iload dX4_opera_37 rfl ?_
        refine oX_iconst (v := (1 : Int32)) dX4_opera_39 (by decide) ?_
        refine oX_bipush (v := (60 : Int32)) dX4_opera_40 (by decide) ?_
        obtain ⟨r8, g8, hm⟩ := bd_s hm
        refine oX_cS (as := [vI x4, vI (1 : Int32), vI (60 : Int32)]) dX4_opera_42 rfl ok_X4_isIn rfl rfl q2032 q2033 q136 q2034 (by decide) (Nat.le_of_ble_eq_true rfl) (t_X4_isIn x4 (1 : Int32) (60 : Int32) g8) ?_
        refine oX_if_eq (tgt := 71) dX4_opera_45 (by decide) (fun c9 => ?_) (fun c9 => ?_)
        · have hm := ifp c9 hm
          refine oX_iconst (v := (-1 : Int32)) dX4_opera_71 (by decide) ?_
          obtain rfl := Option.some.inj hm
          exact oX_iret dX4_opera_72 rfl rfl hK
        · have hm := ifn c9 hm
          refine oX_aload_n dX4_opera_48 rfl rfl ?_
          refine oX_getI fX4_236 rfl oDs1 dX4_opera_49 ?_
          refine oX_iconst (v := (4 : Int32)) dX4_opera_52 (by decide) ?_
          refine oX_irem dX4_opera_53 (by decide) ?_
          refine oX_if_ne (tgt := 71) dX4_opera_54 (by decide) (fun c10 => ?_) (fun c10 => ?_)
          · have hm := ifp c10 hm
            refine oX_aload_n dX4_opera_57 rfl rfl ?_
            refine oX_getI fX4_236 rfl oDs1 dX4_opera_58 ?_
            refine oX_bipush (v := (8 : Int32)) dX4_opera_61 (by decide) ?_
            refine oX_bipush (v := (36 : Int32)) dX4_opera_63 (by decide) ?_
            obtain ⟨r11, g11, hm⟩ := bd_s hm
            refine oX_cS (as := [vI (r2 1 0 3), vI (8 : Int32), vI (36 : Int32)]) dX4_opera_65 rfl ok_X4_isIn rfl rfl q2032 q2033 q136 q2034 (by decide) (Nat.le_of_ble_eq_true rfl) (t_X4_isIn (r2 1 0 3) (8 : Int32) (36 : Int32) g11) ?_
            refine oX_if_ne (tgt := 73) dX4_opera_68 (by decide) (fun c12 => ?_) (fun c12 => ?_)
            · have hm := ifp c12 hm
              refine oX_iconst (v := (-1 : Int32)) dX4_opera_71 (by decide) ?_
              obtain rfl := Option.some.inj hm
              exact oX_iret dX4_opera_72 rfl rfl hK
            · have hm := ifn c12 hm
              refine oX_iconst (v := (0 : Int32)) dX4_opera_73 (by decide) ?_
              refine oX_istore (ls' := [(5, vI (0 : Int32)), (0, vR (some (1, 0))), (1, vI x1), (2, vI x2), (3, vI x3), (4, vI x4)]) dX4_opera_74 (by decide) rfl ?_
              obtain ⟨b27, g27, hm⟩ := bd_s hm
              refine oX_sub [1, 2, 3, 4, 5, 0] rfl (l_mX4_opera_b76 hM n x1 x2 x3 x4 n (0 : Int32) _ g27 (fun v27 e27 => ?_) (fun v27 e27 => ?_))
              · subst e27
                have hm := el1 hm
                refine oX_aload_n dX4_opera_189 rfl rfl ?_
                refine oX_getI fX4_255 rfl oDs1 dX4_opera_190 ?_
                refine oX_istore (ls' := [(5, vI (r2 1 0 21)), (0, vR (some (1, 0))), (1, vI x1), (2, vI x2), (3, vI x3), (4, vI x4)]) dX4_opera_193 (by decide) rfl ?_
                refine oX_aload_n dX4_opera_195 rfl rfl ?_
                refine oX_getF fX4_13 rfl oDs1 dX4_opera_196 (ohF107 hM) ?_
                refine oX_iload dX4_opera_199 rfl ?_
                refine oX_iload_n dX4_opera_201 rfl rfl ?_
                obtain ⟨g28, hm⟩ := gd_s hm
                obtain ⟨AI28, hAI28, hm⟩ := oLs hm
                refine oX_iast oDs107 (oIn (ohN107 hM) g28) dX4_opera_202 hAI28 ?_
                refine oX_aload_n dX4_opera_203 rfl rfl ?_
                refine oX_getF fX4_17 rfl oDs1 dX4_opera_204 (ohF108 hM) ?_
                refine oX_iload dX4_opera_207 rfl ?_
                refine oX_iload_n dX4_opera_209 rfl rfl ?_
                obtain ⟨g29, hm⟩ := gd_s hm
                obtain ⟨AI29, hAI29, hm⟩ := oLs hm
                refine oX_iast oDs108 (oIn (ohN108 hM) g29) dX4_opera_210 hAI29 ?_
                refine oX_aload_n dX4_opera_211 rfl rfl ?_
                refine oX_getF fX4_41 rfl oDs1 dX4_opera_212 (ohF116 hM) ?_
                refine oX_iload dX4_opera_215 rfl ?_
                refine oX_iload_n dX4_opera_217 rfl rfl ?_
                obtain ⟨g30, hm⟩ := gd_s hm
                obtain ⟨AI30, hAI30, hm⟩ := oLs hm
                refine oX_zast oDs116 (oIn (ohN116 hM) g30) dX4_opera_218 hAI30 ?_
                refine oX_aload_n dX4_opera_219 rfl rfl ?_
                refine oX_getF fX4_20 rfl oDs1 dX4_opera_220 (ohF109 hM) ?_
                refine oX_iload dX4_opera_223 rfl ?_
                refine oX_iload dX4_opera_225 rfl ?_
                obtain ⟨g31, hm⟩ := gd_s hm
                obtain ⟨AI31, hAI31, hm⟩ := oLs hm
                refine oX_iast oDs109 (oIn (ohN109 hM) g31) dX4_opera_227 hAI31 ?_
                refine oX_aload_n dX4_opera_228 rfl rfl ?_
                refine oX_getF fX4_26 rfl oDs1 dX4_opera_229 (ohF111 hM) ?_
                refine oX_iload dX4_opera_232 rfl ?_
                refine oX_aload_n dX4_opera_234 rfl rfl ?_
                refine oX_getI fX4_236 rfl oDs1 dX4_opera_235 ?_
                refine oX_iconst (v := (4 : Int32)) dX4_opera_238 (by decide) ?_
                refine oX_idiv dX4_opera_239 (by decide) ?_
                refine oX_iconst (v := (1 : Int32)) dX4_opera_240 (by decide) ?_
                refine oX_isub dX4_opera_241 ?_
                obtain ⟨g32, hm⟩ := gd_s hm
                obtain ⟨AI32, hAI32, hm⟩ := oLs hm
                refine oX_iast oDs111 (oIn (ohN111 hM) g32) dX4_opera_242 hAI32 ?_
                refine oX_iconst (v := (0 : Int32)) dX4_opera_243 (by decide) ?_
                refine oX_istore (ls' := [(6, vI (0 : Int32)), (5, vI (r2 1 0 21)), (0, vR (some (1, 0))), (1, vI x1), (2, vI x2), (3, vI x3), (4, vI x4)]) dX4_opera_244 (by decide) rfl ?_
                obtain ⟨v36, g36, hm⟩ := bd_s hm
                refine oX_sub [2, 1, 0] rfl (l_mX4_opera_b246 hM n (r2 1 0 21) n (0 : Int32) AI32 _ g36 ?_)
                refine oX_iconst (v := (0 : Int32)) dX4_opera_277 (by decide) ?_
                refine oX_istore (ls' := [(6, vI (0 : Int32)), (0, vR (some (1, 0))), (5, vI (r2 1 0 21))]) dX4_opera_278 (by decide) rfl ?_
                obtain ⟨v47, g47, hm⟩ := bd_s hm
                refine oX_sub [1, 2, 0] rfl (l_mX4_opera_b280 hM n (r2 1 0 21) n (0 : Int32) v36 _ g47 ?_)
                refine oX_aload_n dX4_opera_396 rfl rfl ?_
                refine oX_dup dX4_opera_397 trivial ?_
                refine oX_getI fX4_255 rfl oDs1 dX4_opera_398 ?_
                refine oX_iconst (v := (1 : Int32)) dX4_opera_401 (by decide) ?_
                refine oX_iadd dX4_opera_402 ?_
                obtain ⟨FI48, hFI48, hm⟩ := oLs hm
                refine oX_putI fX4_255 rfl (fun h9 => by cases h9) oDs1 dX4_opera_403 ⟨rfl, rfl⟩ hFI48 ?_
                refine oX_aload_n dX4_opera_406 rfl rfl ?_
                refine oX_dup dX4_opera_407 trivial ?_
                refine oX_getI fX4_249 rfl oDs1 dX4_opera_408 ?_
                refine oX_iconst (v := (1 : Int32)) dX4_opera_411 (by decide) ?_
                refine oX_iadd dX4_opera_412 ?_
                obtain ⟨FI49, hFI49, hm⟩ := oLs hm
                refine oX_putI fX4_249 rfl (fun h9 => by cases h9) oDs1 dX4_opera_413 ⟨rfl, rfl⟩ hFI49 ?_
                refine oX_iload dX4_opera_416 rfl ?_
                obtain rfl := Option.some.inj hm
                exact oX_iret dX4_opera_418 rfl rfl hK
              · subst e27
                have hm := el2 hm
                refine oX_iconst (v := (-1 : Int32)) dX4_opera_181 (by decide) ?_
                obtain rfl := Option.some.inj hm
                exact oX_iret dX4_opera_182 rfl rfl hK
          · have hm := ifn c10 hm
            refine oX_iconst (v := (-1 : Int32)) dX4_opera_71 (by decide) ?_
            obtain rfl := Option.some.inj hm
            exact oX_iret dX4_opera_72 rfl rfl hK
theorem t_X4_opera {G : OhG} {FI AI : OhI} {FL AL : OhL} {FR GR AR BR : OhQ} {AN : OhN} {C : OhC} (hM : ohShM FR AN) (n : Nat) (x1 : Int32) (x2 : Int32) (x3 : Int32) (x4 : Int32) {o : Int32 × OhI × OhI} (hm : mX4_opera n FI FR AI AN x1 x2 x3 x4 = some o) : oT G 2 iX4_opera [vR (some (1, 0)), vI x1, vI x2, vI x3, vI x4] (FI, FL, FR, GR, AI, AL, AR, BR, AN, C) (0, 0) (fun v h => v = (some (vI o.1)) ∧ h = (o.2.1, FL, FR, GR, o.2.2, AL, AR, BR, AN, C)) ohNo :=
  oT_of (by decide) rfl (Nat.le_of_ble_eq_true rfl) (x_mX4_opera hM n x1 x2 x3 x4 hm ⟨rfl, rfl⟩)
abbrev iX4_plain : OhM := (yX4_plain, cX4_plain, 2, none, [])
theorem ok_X4_plain : oOk iX4_plain 1 := ⟨by decide, by decide, by decide +kernel⟩

noncomputable def mX4_plain (FR : OhQ) (AI : OhI) (AN : OhN) (x1 : Int32) : Option (OhI) :=
  gd (vp_in ((4 : Int32) * x1) 84) <|
  oLet (sA AI 125 0 (uA (AI 125 0) ((4 : Int32) * x1).toNatClampNeg (12 : Int32))) fun AI1 =>
  gd (vp_in (((4 : Int32) * x1) + (1 : Int32)) 84) <|
  oLet (sA AI1 125 0 (uA (AI1 125 0) (((4 : Int32) * x1) + (1 : Int32)).toNatClampNeg (8 : Int32))) fun AI2 =>
  gd (vp_in (((4 : Int32) * x1) + (2 : Int32)) 84) <|
  oLet (sA AI2 125 0 (uA (AI2 125 0) (((4 : Int32) * x1) + (2 : Int32)).toNatClampNeg (4 : Int32))) fun AI3 =>
  gd (vp_in (((4 : Int32) * x1) + (3 : Int32)) 84) <|
  oLet (sA AI3 125 0 (uA (AI3 125 0) (((4 : Int32) * x1) + (3 : Int32)).toNatClampNeg (100 : Int32))) fun AI4 =>
  gd (vp_in x1 21) <|
  oLet (sA AI4 126 0 (uA (AI4 126 0) x1.toNatClampNeg (0 : Int32))) fun AI5 =>
  gd (vp_in x1 21) <|
  oLet (sA AI5 129 0 (uA (AI5 129 0) x1.toNatClampNeg (0 : Int32))) fun AI6 =>
  some AI6
theorem x_mX4_plain {G : OhG} {FI AI : OhI} {FL AL : OhL} {FR GR AR BR : OhQ} {AN : OhN} {C : OhC} {k : Nat × Nat} {Φ : OhP} {Ψ : OhX} (hM : ohShM FR AN) (x1 : Int32) {r : OhI} (hm : mX4_plain FR AI AN x1 = some r) (hK : Φ none (FI, FL, FR, GR, r, AL, AR, BR, AN, C)) : oX G 1 iX4_plain 0 [(0, vR (some (1, 0))), (1, vI x1)] [] (FI, FL, FR, GR, AI, AL, AR, BR, AN, C) k Φ Ψ := by
  unfold mX4_plain at hm
  refine oX_aload_n dX4_plain_0 rfl rfl ?_
  refine oX_getF fX4_64 rfl oDs1 dX4_plain_1 (ohF125 hM) ?_
  refine oX_iconst (v := (4 : Int32)) dX4_plain_4 (by decide) ?_
  refine oX_iload_n dX4_plain_5 rfl rfl ?_
  refine oX_imul dX4_plain_6 ?_
  refine oX_bipush (v := (12 : Int32)) dX4_plain_7 (by decide) ?_
  obtain ⟨g1, hm⟩ := gd_s hm
  obtain ⟨AI1, hAI1, hm⟩ := oLs hm
  refine oX_iast oDs125 (oIn (ohN125 hM) g1) dX4_plain_9 hAI1 ?_
  refine oX_aload_n dX4_plain_10 rfl rfl ?_
  refine oX_getF fX4_64 rfl oDs1 dX4_plain_11 (ohF125 hM) ?_
  refine oX_iconst (v := (4 : Int32)) dX4_plain_14 (by decide) ?_
  refine oX_iload_n dX4_plain_15 rfl rfl ?_
  refine oX_imul dX4_plain_16 ?_
  refine oX_iconst (v := (1 : Int32)) dX4_plain_17 (by decide) ?_
  refine oX_iadd dX4_plain_18 ?_
  refine oX_bipush (v := (8 : Int32)) dX4_plain_19 (by decide) ?_
  obtain ⟨g2, hm⟩ := gd_s hm
  obtain ⟨AI2, hAI2, hm⟩ := oLs hm
  refine oX_iast oDs125 (oIn (ohN125 hM) g2) dX4_plain_21 hAI2 ?_
  refine oX_aload_n dX4_plain_22 rfl rfl ?_
  refine oX_getF fX4_64 rfl oDs1 dX4_plain_23 (ohF125 hM) ?_
  refine oX_iconst (v := (4 : Int32)) dX4_plain_26 (by decide) ?_
  refine oX_iload_n dX4_plain_27 rfl rfl ?_
  refine oX_imul dX4_plain_28 ?_
  refine oX_iconst (v := (2 : Int32)) dX4_plain_29 (by decide) ?_
  refine oX_iadd dX4_plain_30 ?_
  refine oX_iconst (v := (4 : Int32)) dX4_plain_31 (by decide) ?_
  obtain ⟨g3, hm⟩ := gd_s hm
  obtain ⟨AI3, hAI3, hm⟩ := oLs hm
  refine oX_iast oDs125 (oIn (ohN125 hM) g3) dX4_plain_32 hAI3 ?_
  refine oX_aload_n dX4_plain_33 rfl rfl ?_
  refine oX_getF fX4_64 rfl oDs1 dX4_plain_34 (ohF125 hM) ?_
  refine oX_iconst (v := (4 : Int32)) dX4_plain_37 (by decide) ?_
  refine oX_iload_n dX4_plain_38 rfl rfl ?_
  refine oX_imul dX4_plain_39 ?_
  refine oX_iconst (v := (3 : Int32)) dX4_plain_40 (by decide) ?_
  refine oX_iadd dX4_plain_41 ?_
  refine oX_bipush (v := (100 : Int32)) dX4_plain_42 (by decide) ?_
  obtain ⟨g4, hm⟩ := gd_s hm
  obtain ⟨AI4, hAI4, hm⟩ := oLs hm
  refine oX_iast oDs125 (oIn (ohN125 hM) g4) dX4_plain_44 hAI4 ?_
  refine oX_aload_n dX4_plain_45 rfl rfl ?_
  refine oX_getF fX4_67 rfl oDs1 dX4_plain_46 (ohF126 hM) ?_
  refine oX_iload_n dX4_plain_49 rfl rfl ?_
  refine oX_iconst (v := (0 : Int32)) dX4_plain_50 (by decide) ?_
  obtain ⟨g5, hm⟩ := gd_s hm
  obtain ⟨AI5, hAI5, hm⟩ := oLs hm
  refine oX_iast oDs126 (oIn (ohN126 hM) g5) dX4_plain_51 hAI5 ?_
  refine oX_aload_n dX4_plain_52 rfl rfl ?_
  refine oX_getF fX4_76 rfl oDs1 dX4_plain_53 (ohF129 hM) ?_
  refine oX_iload_n dX4_plain_56 rfl rfl ?_
  refine oX_iconst (v := (0 : Int32)) dX4_plain_57 (by decide) ?_
  obtain ⟨g6, hm⟩ := gd_s hm
  obtain ⟨AI6, hAI6, hm⟩ := oLs hm
  refine oX_iast oDs129 (oIn (ohN129 hM) g6) dX4_plain_58 hAI6 ?_
  obtain rfl := Option.some.inj hm
  exact oX_vret dX4_plain_59 rfl hK
theorem t_X4_plain {G : OhG} {FI AI : OhI} {FL AL : OhL} {FR GR AR BR : OhQ} {AN : OhN} {C : OhC} (hM : ohShM FR AN) (x1 : Int32) {o : OhI} (hm : mX4_plain FR AI AN x1 = some o) : oT G 1 iX4_plain [vR (some (1, 0)), vI x1] (FI, FL, FR, GR, AI, AL, AR, BR, AN, C) (0, 0) (fun v h => v = none ∧ h = (FI, FL, FR, GR, o, AL, AR, BR, AN, C)) ohNo :=
  oT_of (by decide) rfl (Nat.le_of_ble_eq_true rfl) (x_mX4_plain hM x1 hm ⟨rfl, rfl⟩)
abbrev iX4_singer : OhM := (yX4_singer, cX4_singer, 4, (some .int), [])
theorem ok_X4_singer : oOk iX4_singer 3 := ⟨by decide, by decide, by decide +kernel⟩

noncomputable def mX4_singer (FI : OhI) (FR : OhQ) (AI : OhI) (AN : OhN) (x1 : Int32) (x2 : Int32) (x3 : Int32) : Option (Int32 × OhI × OhI) :=
  oLet (sA FI 1 0 (uA (FI 1 0) 0 (0 : Int32))) fun FI1 =>
  (if (FI1 1 0 22) = (20 : Int32) then
  some ((-1 : Int32), FI1, AI)
else
  (mX4_isIn x1 (0 : Int32) (63 : Int32)).bind fun r3 =>
    (if r3 = 0 then
    some ((-1 : Int32), FI1, AI)
  else
    (mX4_isIn x2 (0 : Int32) (63 : Int32)).bind fun r5 =>
      (if r5 = 0 then
      some ((-1 : Int32), FI1, AI)
    else
      (mX4_isIn x3 (0 : Int32) (9 : Int32)).bind fun r7 =>
        (if r7 = 0 then
        some ((-1 : Int32), FI1, AI)
      else
        gd (vp_in (FI1 1 0 22) 20) <|
          oLet (sA AI 117 0 (uA (AI 117 0) (FI1 1 0 22).toNatClampNeg x1)) fun AI9 =>
          gd (vp_in (FI1 1 0 22) 20) <|
          oLet (sA AI9 118 0 (uA (AI9 118 0) (FI1 1 0 22).toNatClampNeg x2)) fun AI10 =>
          gd (vp_in (FI1 1 0 22) 20) <|
          oLet (sA AI10 119 0 (uA (AI10 119 0) (FI1 1 0 22).toNatClampNeg x3)) fun AI11 =>
          (mX4_plain FR AI11 AN (FI1 1 0 22)).bind fun r12 =>
          oLet (sA FI1 1 0 (uA (FI1 1 0) 22 ((FI1 1 0 22) + (1 : Int32)))) fun FI13 =>
          oLet (sA FI13 1 0 (uA (FI13 1 0) 6 ((FI13 1 0 6) + (1 : Int32)))) fun FI14 =>
          some ((FI14 1 0 22) - (1 : Int32), FI14, r12)))))
theorem x_mX4_singer {G : OhG} {FI AI : OhI} {FL AL : OhL} {FR GR AR BR : OhQ} {AN : OhN} {C : OhC} {k : Nat × Nat} {Φ : OhP} {Ψ : OhX} (hM : ohShM FR AN) (x1 : Int32) (x2 : Int32) (x3 : Int32) {r : Int32 × OhI × OhI} (hm : mX4_singer FI FR AI AN x1 x2 x3 = some r) (hK : Φ (some (vI r.1)) (r.2.1, FL, FR, GR, r.2.2, AL, AR, BR, AN, C)) : oX G 2 iX4_singer 0 [(0, vR (some (1, 0))), (1, vI x1), (2, vI x2), (3, vI x3)] [] (FI, FL, FR, GR, AI, AL, AR, BR, AN, C) k Φ Ψ := by
  unfold mX4_singer at hm
  refine oX_aload_n dX4_singer_0 rfl rfl ?_
  refine oX_iconst (v := (0 : Int32)) dX4_singer_1 (by decide) ?_
  obtain ⟨FI1, hFI1, hm⟩ := oLs hm
  refine oX_putI fX4_226 rfl (fun h9 => by cases h9) oDs1 dX4_singer_2 ⟨rfl, rfl⟩ hFI1 ?_
  refine oX_aload_n dX4_singer_5 rfl rfl ?_
  refine oX_getI fX4_258 rfl oDs1 dX4_singer_6 ?_
  refine oX_bipush (v := (20 : Int32)) dX4_singer_9 (by decide) ?_
  refine oX_icmp_eq (tgt := 44) dX4_singer_11 (by decide) (fun c2 => ?_) (fun c2 => ?_)
  · have hm := ifp c2 hm
    refine oX_iconst (v := (-1 : Int32)) dX4_singer_44 (by decide) ?_
    obtain rfl := Option.some.inj hm
    exact oX_iret dX4_singer_45 rfl rfl hK
  · have hm := ifn c2 hm
    refine oX_iload_n dX4_singer_14 rfl rfl ?_
    refine oX_iconst (v := (0 : Int32)) dX4_singer_15 (by decide) ?_
    refine oX_bipush (v := (63 : Int32)) dX4_singer_16 (by decide) ?_
    obtain ⟨r3, g3, hm⟩ := bd_s hm
    refine oX_cS (as := [vI x1, vI (0 : Int32), vI (63 : Int32)]) dX4_singer_18 rfl ok_X4_isIn rfl rfl q2032 q2033 q136 q2034 (by decide) (Nat.le_of_ble_eq_true rfl) (t_X4_isIn x1 (0 : Int32) (63 : Int32) g3) ?_
    refine oX_if_eq (tgt := 44) dX4_singer_21 (by decide) (fun c4 => ?_) (fun c4 => ?_)
    · have hm := ifp c4 hm
      refine oX_iconst (v := (-1 : Int32)) dX4_singer_44 (by decide) ?_
      obtain rfl := Option.some.inj hm
      exact oX_iret dX4_singer_45 rfl rfl hK
    · have hm := ifn c4 hm
      refine oX_iload_n dX4_singer_24 rfl rfl ?_
      refine oX_iconst (v := (0 : Int32)) dX4_singer_25 (by decide) ?_
      refine oX_bipush (v := (63 : Int32)) dX4_singer_26 (by decide) ?_
      obtain ⟨r5, g5, hm⟩ := bd_s hm
      refine oX_cS (as := [vI x2, vI (0 : Int32), vI (63 : Int32)]) dX4_singer_28 rfl ok_X4_isIn rfl rfl q2032 q2033 q136 q2034 (by decide) (Nat.le_of_ble_eq_true rfl) (t_X4_isIn x2 (0 : Int32) (63 : Int32) g5) ?_
      refine oX_if_eq (tgt := 44) dX4_singer_31 (by decide) (fun c6 => ?_) (fun c6 => ?_)
      · have hm := ifp c6 hm
        refine oX_iconst (v := (-1 : Int32)) dX4_singer_44 (by decide) ?_
        obtain rfl := Option.some.inj hm
        exact oX_iret dX4_singer_45 rfl rfl hK
      · have hm := ifn c6 hm
        refine oX_iload_n dX4_singer_34 rfl rfl ?_
        refine oX_iconst (v := (0 : Int32)) dX4_singer_35 (by decide) ?_
        refine oX_bipush (v := (9 : Int32)) dX4_singer_36 (by decide) ?_
        obtain ⟨r7, g7, hm⟩ := bd_s hm
        refine oX_cS (as := [vI x3, vI (0 : Int32), vI (9 : Int32)]) dX4_singer_38 rfl ok_X4_isIn rfl rfl q2032 q2033 q136 q2034 (by decide) (Nat.le_of_ble_eq_true rfl) (t_X4_isIn x3 (0 : Int32) (9 : Int32) g7) ?_
        refine oX_if_ne (tgt := 46) dX4_singer_41 (by decide) (fun c8 => ?_) (fun c8 => ?_)
        · have hm := ifp c8 hm
          refine oX_iconst (v := (-1 : Int32)) dX4_singer_44 (by decide) ?_
          obtain rfl := Option.some.inj hm
          exact oX_iret dX4_singer_45 rfl rfl hK
        · have hm := ifn c8 hm
          refine oX_aload_n dX4_singer_46 rfl rfl ?_
          refine oX_getF fX4_45 rfl oDs1 dX4_singer_47 (ohF117 hM) ?_
          refine oX_aload_n dX4_singer_50 rfl rfl ?_
          refine oX_getI fX4_258 rfl oDs1 dX4_singer_51 ?_
          refine oX_iload_n dX4_singer_54 rfl rfl ?_
          obtain ⟨g9, hm⟩ := gd_s hm
          obtain ⟨AI9, hAI9, hm⟩ := oLs hm
          refine oX_iast oDs117 (oIn (ohN117 hM) g9) dX4_singer_55 hAI9 ?_
          refine oX_aload_n dX4_singer_56 rfl rfl ?_
          refine oX_getF fX4_48 rfl oDs1 dX4_singer_57 (ohF118 hM) ?_
          refine oX_aload_n dX4_singer_60 rfl rfl ?_
          refine oX_getI fX4_258 rfl oDs1 dX4_singer_61 ?_
          refine oX_iload_n dX4_singer_64 rfl rfl ?_
          obtain ⟨g10, hm⟩ := gd_s hm
          obtain ⟨AI10, hAI10, hm⟩ := oLs hm
          refine oX_iast oDs118 (oIn (ohN118 hM) g10) dX4_singer_65 hAI10 ?_
          refine oX_aload_n dX4_singer_66 rfl rfl ?_
          refine oX_getF fX4_51 rfl oDs1 dX4_singer_67 (ohF119 hM) ?_
          refine oX_aload_n dX4_singer_70 rfl rfl ?_
          refine oX_getI fX4_258 rfl oDs1 dX4_singer_71 ?_
          refine oX_iload_n dX4_singer_74 rfl rfl ?_
          obtain ⟨g11, hm⟩ := gd_s hm
          obtain ⟨AI11, hAI11, hm⟩ := oLs hm
          refine oX_iast oDs119 (oIn (ohN119 hM) g11) dX4_singer_75 hAI11 ?_
          refine oX_aload_n dX4_singer_76 rfl rfl ?_
          refine oX_aload_n dX4_singer_77 rfl rfl ?_
          refine oX_getI fX4_258 rfl oDs1 dX4_singer_78 ?_
          obtain ⟨r12, g12, hm⟩ := bd_s hm
          refine oX_cV_ (as := [vI (FI1 1 0 22)]) dX4_singer_81 rfl oDs1 rfl (by decide) rfl ok_X4_plain rfl rfl q2047 q2049 qs61 q136 q2050 (by decide) (Nat.le_of_ble_eq_true rfl) (t_X4_plain hM (FI1 1 0 22) g12) ?_
          refine oX_aload_n dX4_singer_84 rfl rfl ?_
          refine oX_dup dX4_singer_85 trivial ?_
          refine oX_getI fX4_258 rfl oDs1 dX4_singer_86 ?_
          refine oX_iconst (v := (1 : Int32)) dX4_singer_89 (by decide) ?_
          refine oX_iadd dX4_singer_90 ?_
          obtain ⟨FI13, hFI13, hm⟩ := oLs hm
          refine oX_putI fX4_258 rfl (fun h9 => by cases h9) oDs1 dX4_singer_91 ⟨rfl, rfl⟩ hFI13 ?_
          refine oX_aload_n dX4_singer_94 rfl rfl ?_
          refine oX_dup dX4_singer_95 trivial ?_
          refine oX_getI fX4_249 rfl oDs1 dX4_singer_96 ?_
          refine oX_iconst (v := (1 : Int32)) dX4_singer_99 (by decide) ?_
          refine oX_iadd dX4_singer_100 ?_
          obtain ⟨FI14, hFI14, hm⟩ := oLs hm
          refine oX_putI fX4_249 rfl (fun h9 => by cases h9) oDs1 dX4_singer_101 ⟨rfl, rfl⟩ hFI14 ?_
          refine oX_aload_n dX4_singer_104 rfl rfl ?_
          refine oX_getI fX4_258 rfl oDs1 dX4_singer_105 ?_
          refine oX_iconst (v := (1 : Int32)) dX4_singer_108 (by decide) ?_
          refine oX_isub dX4_singer_109 ?_
          obtain rfl := Option.some.inj hm
          exact oX_iret dX4_singer_110 rfl rfl hK
theorem t_X4_singer {G : OhG} {FI AI : OhI} {FL AL : OhL} {FR GR AR BR : OhQ} {AN : OhN} {C : OhC} (hM : ohShM FR AN) (x1 : Int32) (x2 : Int32) (x3 : Int32) {o : Int32 × OhI × OhI} (hm : mX4_singer FI FR AI AN x1 x2 x3 = some o) : oT G 2 iX4_singer [vR (some (1, 0)), vI x1, vI x2, vI x3] (FI, FL, FR, GR, AI, AL, AR, BR, AN, C) (0, 0) (fun v h => v = (some (vI o.1)) ∧ h = (o.2.1, FL, FR, GR, o.2.2, AL, AR, BR, AN, C)) ohNo :=
  oT_of (by decide) rfl (Nat.le_of_ble_eq_true rfl) (x_mX4_singer hM x1 x2 x3 hm ⟨rfl, rfl⟩)
abbrev iX4_players : OhM := (yX4_players, cX4_players, 4, (some .boolean), [])
theorem ok_X4_players : oOk iX4_players 3 := ⟨by decide, by decide, by decide +kernel⟩

noncomputable def mX4_players (FI : OhI) (FR : OhQ) (AI : OhI) (AN : OhN) (x1 : Int32) (x2 : Int32) (x3 : Int32) : Option (Int32 × OhI × OhI) :=
  oLet (sA FI 1 0 (uA (FI 1 0) 0 (0 : Int32))) fun FI1 =>
  (mX4_isIn x1 (0 : Int32) (3 : Int32)).bind fun r2 =>
  (if r2 = 0 then
  some ((0 : Int32), FI1, AI)
else
  (mX4_isIn x2 (0 : Int32) (60 : Int32)).bind fun r4 =>
    (if r4 = 0 then
    some ((0 : Int32), FI1, AI)
  else
    (mX4_isIn x3 (0 : Int32) (60 : Int32)).bind fun r6 =>
      (if r6 = 0 then
      some ((0 : Int32), FI1, AI)
    else
      gd (vp_in x1 8) <|
        oLet (sA AI 120 0 (uA (AI 120 0) x1.toNatClampNeg x2)) fun AI8 =>
        gd (vp_in ((4 : Int32) + x1) 8) <|
        oLet (sA AI8 120 0 (uA (AI8 120 0) ((4 : Int32) + x1).toNatClampNeg x3)) fun AI9 =>
        oLet (sA FI1 1 0 (uA (FI1 1 0) 6 ((FI1 1 0 6) + (1 : Int32)))) fun FI10 =>
        some ((1 : Int32), FI10, AI9))))
theorem x_mX4_players {G : OhG} {FI AI : OhI} {FL AL : OhL} {FR GR AR BR : OhQ} {AN : OhN} {C : OhC} {k : Nat × Nat} {Φ : OhP} {Ψ : OhX} (hM : ohShM FR AN) (x1 : Int32) (x2 : Int32) (x3 : Int32) {r : Int32 × OhI × OhI} (hm : mX4_players FI FR AI AN x1 x2 x3 = some r) (hK : Φ (some (vI r.1)) (r.2.1, FL, FR, GR, r.2.2, AL, AR, BR, AN, C)) : oX G 2 iX4_players 0 [(0, vR (some (1, 0))), (1, vI x1), (2, vI x2), (3, vI x3)] [] (FI, FL, FR, GR, AI, AL, AR, BR, AN, C) k Φ Ψ := by
  unfold mX4_players at hm
  refine oX_aload_n dX4_players_0 rfl rfl ?_
  refine oX_iconst (v := (0 : Int32)) dX4_players_1 (by decide) ?_
  obtain ⟨FI1, hFI1, hm⟩ := oLs hm
  refine oX_putI fX4_226 rfl (fun h9 => by cases h9) oDs1 dX4_players_2 ⟨rfl, rfl⟩ hFI1 ?_
  refine oX_iload_n dX4_players_5 rfl rfl ?_
  refine oX_iconst (v := (0 : Int32)) dX4_players_6 (by decide) ?_
  refine oX_iconst (v := (3 : Int32)) dX4_players_7 (by decide) ?_
  obtain ⟨r2, g2, hm⟩ := bd_s hm
  refine oX_cS (as := [vI x1, vI (0 : Int32), vI (3 : Int32)]) dX4_players_8 rfl ok_X4_isIn rfl rfl q2032 q2033 q136 q2034 (by decide) (Nat.le_of_ble_eq_true rfl) (t_X4_isIn x1 (0 : Int32) (3 : Int32) g2) ?_
  refine oX_if_eq (tgt := 34) dX4_players_11 (by decide) (fun c3 => ?_) (fun c3 => ?_)
  · have hm := ifp c3 hm
    refine oX_iconst (v := (0 : Int32)) dX4_players_34 (by decide) ?_
    obtain rfl := Option.some.inj hm
    exact oX_iret dX4_players_35 rfl (by decide) hK
  · have hm := ifn c3 hm
    refine oX_iload_n dX4_players_14 rfl rfl ?_
    refine oX_iconst (v := (0 : Int32)) dX4_players_15 (by decide) ?_
    refine oX_bipush (v := (60 : Int32)) dX4_players_16 (by decide) ?_
    obtain ⟨r4, g4, hm⟩ := bd_s hm
    refine oX_cS (as := [vI x2, vI (0 : Int32), vI (60 : Int32)]) dX4_players_18 rfl ok_X4_isIn rfl rfl q2032 q2033 q136 q2034 (by decide) (Nat.le_of_ble_eq_true rfl) (t_X4_isIn x2 (0 : Int32) (60 : Int32) g4) ?_
    refine oX_if_eq (tgt := 34) dX4_players_21 (by decide) (fun c5 => ?_) (fun c5 => ?_)
    · have hm := ifp c5 hm
      refine oX_iconst (v := (0 : Int32)) dX4_players_34 (by decide) ?_
      obtain rfl := Option.some.inj hm
      exact oX_iret dX4_players_35 rfl (by decide) hK
    · have hm := ifn c5 hm
      refine oX_iload_n dX4_players_24 rfl rfl ?_
      refine oX_iconst (v := (0 : Int32)) dX4_players_25 (by decide) ?_
      refine oX_bipush (v := (60 : Int32)) dX4_players_26 (by decide) ?_
      obtain ⟨r6, g6, hm⟩ := bd_s hm
      refine oX_cS (as := [vI x3, vI (0 : Int32), vI (60 : Int32)]) dX4_players_28 rfl ok_X4_isIn rfl rfl q2032 q2033 q136 q2034 (by decide) (Nat.le_of_ble_eq_true rfl) (t_X4_isIn x3 (0 : Int32) (60 : Int32) g6) ?_
      refine oX_if_ne (tgt := 36) dX4_players_31 (by decide) (fun c7 => ?_) (fun c7 => ?_)
      · have hm := ifp c7 hm
        refine oX_iconst (v := (0 : Int32)) dX4_players_34 (by decide) ?_
        obtain rfl := Option.some.inj hm
        exact oX_iret dX4_players_35 rfl (by decide) hK
      · have hm := ifn c7 hm
        refine oX_aload_n dX4_players_36 rfl rfl ?_
        refine oX_getF fX4_54 rfl oDs1 dX4_players_37 (ohF120 hM) ?_
        refine oX_iload_n dX4_players_40 rfl rfl ?_
        refine oX_iload_n dX4_players_41 rfl rfl ?_
        obtain ⟨g8, hm⟩ := gd_s hm
        obtain ⟨AI8, hAI8, hm⟩ := oLs hm
        refine oX_iast oDs120 (oIn (ohN120 hM) g8) dX4_players_42 hAI8 ?_
        refine oX_aload_n dX4_players_43 rfl rfl ?_
        refine oX_getF fX4_54 rfl oDs1 dX4_players_44 (ohF120 hM) ?_
        refine oX_iconst (v := (4 : Int32)) dX4_players_47 (by decide) ?_
        refine oX_iload_n dX4_players_48 rfl rfl ?_
        refine oX_iadd dX4_players_49 ?_
        refine oX_iload_n dX4_players_50 rfl rfl ?_
        obtain ⟨g9, hm⟩ := gd_s hm
        obtain ⟨AI9, hAI9, hm⟩ := oLs hm
        refine oX_iast oDs120 (oIn (ohN120 hM) g9) dX4_players_51 hAI9 ?_
        refine oX_aload_n dX4_players_52 rfl rfl ?_
        refine oX_dup dX4_players_53 trivial ?_
        refine oX_getI fX4_249 rfl oDs1 dX4_players_54 ?_
        refine oX_iconst (v := (1 : Int32)) dX4_players_57 (by decide) ?_
        refine oX_iadd dX4_players_58 ?_
        obtain ⟨FI10, hFI10, hm⟩ := oLs hm
        refine oX_putI fX4_249 rfl (fun h9 => by cases h9) oDs1 dX4_players_59 ⟨rfl, rfl⟩ hFI10 ?_
        refine oX_iconst (v := (1 : Int32)) dX4_players_62 (by decide) ?_
        obtain rfl := Option.some.inj hm
        exact oX_iret dX4_players_63 rfl (by decide) hK
theorem t_X4_players {G : OhG} {FI AI : OhI} {FL AL : OhL} {FR GR AR BR : OhQ} {AN : OhN} {C : OhC} (hM : ohShM FR AN) (x1 : Int32) (x2 : Int32) (x3 : Int32) {o : Int32 × OhI × OhI} (hm : mX4_players FI FR AI AN x1 x2 x3 = some o) : oT G 2 iX4_players [vR (some (1, 0)), vI x1, vI x2, vI x3] (FI, FL, FR, GR, AI, AL, AR, BR, AN, C) (0, 0) (fun v h => v = (some (vI o.1)) ∧ h = (o.2.1, FL, FR, GR, o.2.2, AL, AR, BR, AN, C)) ohNo :=
  oT_of (by decide) rfl (Nat.le_of_ble_eq_true rfl) (x_mX4_players hM x1 x2 x3 hm ⟨rfl, rfl⟩)
abbrev iX4_chorus : OhM := (yX4_chorus, cX4_chorus, 3, (some .boolean), [])
theorem ok_X4_chorus : oOk iX4_chorus 2 := ⟨by decide, by decide, by decide +kernel⟩

noncomputable def mX4_chorus (FI : OhI) (x1 : Int32) (x2 : Int32) : Option (Int32 × OhI) :=
  oLet (sA FI 1 0 (uA (FI 1 0) 0 (0 : Int32))) fun FI1 =>
  (mX4_isIn x1 (0 : Int32) (24 : Int32)).bind fun r2 =>
  (if r2 = 0 then
  some ((0 : Int32), FI1)
else
  (mX4_isIn x2 (0 : Int32) (168 : Int32)).bind fun r4 =>
    (if r4 = 0 then
    some ((0 : Int32), FI1)
  else
    oLet (sA FI1 1 0 (uA (FI1 1 0) 23 x1)) fun FI6 =>
      oLet (sA FI6 1 0 (uA (FI6 1 0) 24 x2)) fun FI7 =>
      oLet (sA FI7 1 0 (uA (FI7 1 0) 6 ((FI7 1 0 6) + (1 : Int32)))) fun FI8 =>
      some ((1 : Int32), FI8)))
theorem x_mX4_chorus {G : OhG} {FI AI : OhI} {FL AL : OhL} {FR GR AR BR : OhQ} {AN : OhN} {C : OhC} {k : Nat × Nat} {Φ : OhP} {Ψ : OhX} (x1 : Int32) (x2 : Int32) {r : Int32 × OhI} (hm : mX4_chorus FI x1 x2 = some r) (hK : Φ (some (vI r.1)) (r.2, FL, FR, GR, AI, AL, AR, BR, AN, C)) : oX G 2 iX4_chorus 0 [(0, vR (some (1, 0))), (1, vI x1), (2, vI x2)] [] (FI, FL, FR, GR, AI, AL, AR, BR, AN, C) k Φ Ψ := by
  unfold mX4_chorus at hm
  refine oX_aload_n dX4_chorus_0 rfl rfl ?_
  refine oX_iconst (v := (0 : Int32)) dX4_chorus_1 (by decide) ?_
  obtain ⟨FI1, hFI1, hm⟩ := oLs hm
  refine oX_putI fX4_226 rfl (fun h9 => by cases h9) oDs1 dX4_chorus_2 ⟨rfl, rfl⟩ hFI1 ?_
  refine oX_iload_n dX4_chorus_5 rfl rfl ?_
  refine oX_iconst (v := (0 : Int32)) dX4_chorus_6 (by decide) ?_
  refine oX_bipush (v := (24 : Int32)) dX4_chorus_7 (by decide) ?_
  obtain ⟨r2, g2, hm⟩ := bd_s hm
  refine oX_cS (as := [vI x1, vI (0 : Int32), vI (24 : Int32)]) dX4_chorus_9 rfl ok_X4_isIn rfl rfl q2032 q2033 q136 q2034 (by decide) (Nat.le_of_ble_eq_true rfl) (t_X4_isIn x1 (0 : Int32) (24 : Int32) g2) ?_
  refine oX_if_eq (tgt := 26) dX4_chorus_12 (by decide) (fun c3 => ?_) (fun c3 => ?_)
  · have hm := ifp c3 hm
    refine oX_iconst (v := (0 : Int32)) dX4_chorus_26 (by decide) ?_
    obtain rfl := Option.some.inj hm
    exact oX_iret dX4_chorus_27 rfl (by decide) hK
  · have hm := ifn c3 hm
    refine oX_iload_n dX4_chorus_15 rfl rfl ?_
    refine oX_iconst (v := (0 : Int32)) dX4_chorus_16 (by decide) ?_
    refine oX_sipush (v := (168 : Int32)) dX4_chorus_17 (by decide) ?_
    obtain ⟨r4, g4, hm⟩ := bd_s hm
    refine oX_cS (as := [vI x2, vI (0 : Int32), vI (168 : Int32)]) dX4_chorus_20 rfl ok_X4_isIn rfl rfl q2032 q2033 q136 q2034 (by decide) (Nat.le_of_ble_eq_true rfl) (t_X4_isIn x2 (0 : Int32) (168 : Int32) g4) ?_
    refine oX_if_ne (tgt := 28) dX4_chorus_23 (by decide) (fun c5 => ?_) (fun c5 => ?_)
    · have hm := ifp c5 hm
      refine oX_iconst (v := (0 : Int32)) dX4_chorus_26 (by decide) ?_
      obtain rfl := Option.some.inj hm
      exact oX_iret dX4_chorus_27 rfl (by decide) hK
    · have hm := ifn c5 hm
      refine oX_aload_n dX4_chorus_28 rfl rfl ?_
      refine oX_iload_n dX4_chorus_29 rfl rfl ?_
      obtain ⟨FI6, hFI6, hm⟩ := oLs hm
      refine oX_putI fX4_57 rfl (fun h9 => by cases h9) oDs1 dX4_chorus_30 ⟨rfl, rfl⟩ hFI6 ?_
      refine oX_aload_n dX4_chorus_33 rfl rfl ?_
      refine oX_iload_n dX4_chorus_34 rfl rfl ?_
      obtain ⟨FI7, hFI7, hm⟩ := oLs hm
      refine oX_putI fX4_61 rfl (fun h9 => by cases h9) oDs1 dX4_chorus_35 ⟨rfl, rfl⟩ hFI7 ?_
      refine oX_aload_n dX4_chorus_38 rfl rfl ?_
      refine oX_dup dX4_chorus_39 trivial ?_
      refine oX_getI fX4_249 rfl oDs1 dX4_chorus_40 ?_
      refine oX_iconst (v := (1 : Int32)) dX4_chorus_43 (by decide) ?_
      refine oX_iadd dX4_chorus_44 ?_
      obtain ⟨FI8, hFI8, hm⟩ := oLs hm
      refine oX_putI fX4_249 rfl (fun h9 => by cases h9) oDs1 dX4_chorus_45 ⟨rfl, rfl⟩ hFI8 ?_
      refine oX_iconst (v := (1 : Int32)) dX4_chorus_48 (by decide) ?_
      obtain rfl := Option.some.inj hm
      exact oX_iret dX4_chorus_49 rfl (by decide) hK
theorem t_X4_chorus {G : OhG} {FI AI : OhI} {FL AL : OhL} {FR GR AR BR : OhQ} {AN : OhN} {C : OhC} (x1 : Int32) (x2 : Int32) {o : Int32 × OhI} (hm : mX4_chorus FI x1 x2 = some o) : oT G 2 iX4_chorus [vR (some (1, 0)), vI x1, vI x2] (FI, FL, FR, GR, AI, AL, AR, BR, AN, C) (0, 0) (fun v h => v = (some (vI o.1)) ∧ h = (o.2, FL, FR, GR, AI, AL, AR, BR, AN, C)) ohNo :=
  oT_of (by decide) rfl (Nat.le_of_ble_eq_true rfl) (x_mX4_chorus x1 x2 hm ⟨rfl, rfl⟩)
abbrev iX4_isSinger : OhM := (yX4_isSinger, cX4_isSinger, 2, (some .boolean), [])
theorem ok_X4_isSinger : oOk iX4_isSinger 1 := ⟨by decide, by decide, by decide +kernel⟩

noncomputable def mX4_isSinger (FI : OhI) (x1 : Int32) : Option (Int32) :=
  (mX4_isIn x1 (0 : Int32) ((FI 1 0 22) - (1 : Int32))).bind fun r1 =>
  gd (r1 = 0 ∨ r1 = 1) <|
  some r1
theorem x_mX4_isSinger {G : OhG} {FI AI : OhI} {FL AL : OhL} {FR GR AR BR : OhQ} {AN : OhN} {C : OhC} {k : Nat × Nat} {Φ : OhP} {Ψ : OhX} (x1 : Int32) {r : Int32} (hm : mX4_isSinger FI x1 = some r) (hK : Φ (some (vI r)) (FI, FL, FR, GR, AI, AL, AR, BR, AN, C)) : oX G 2 iX4_isSinger 0 [(0, vR (some (1, 0))), (1, vI x1)] [] (FI, FL, FR, GR, AI, AL, AR, BR, AN, C) k Φ Ψ := by
  unfold mX4_isSinger at hm
  refine oX_iload_n dX4_isSinger_0 rfl rfl ?_
  refine oX_iconst (v := (0 : Int32)) dX4_isSinger_1 (by decide) ?_
  refine oX_aload_n dX4_isSinger_2 rfl rfl ?_
  refine oX_getI fX4_258 rfl oDs1 dX4_isSinger_3 ?_
  refine oX_iconst (v := (1 : Int32)) dX4_isSinger_6 (by decide) ?_
  refine oX_isub dX4_isSinger_7 ?_
  obtain ⟨r1, g1, hm⟩ := bd_s hm
  refine oX_cS (as := [vI x1, vI (0 : Int32), vI ((FI 1 0 22) - (1 : Int32))]) dX4_isSinger_8 rfl ok_X4_isIn rfl rfl q2032 q2033 q136 q2034 (by decide) (Nat.le_of_ble_eq_true rfl) (t_X4_isIn x1 (0 : Int32) ((FI 1 0 22) - (1 : Int32)) g1) ?_
  obtain ⟨g2, hm⟩ := gd_s hm
  obtain rfl := Option.some.inj hm
  exact oX_iret dX4_isSinger_11 rfl (oNz g2) hK
theorem t_X4_isSinger {G : OhG} {FI AI : OhI} {FL AL : OhL} {FR GR AR BR : OhQ} {AN : OhN} {C : OhC} (x1 : Int32) {o : Int32} (hm : mX4_isSinger FI x1 = some o) : oT G 2 iX4_isSinger [vR (some (1, 0)), vI x1] (FI, FL, FR, GR, AI, AL, AR, BR, AN, C) (0, 0) (fun v h => v = (some (vI o)) ∧ h = (FI, FL, FR, GR, AI, AL, AR, BR, AN, C)) ohNo :=
  oT_of (by decide) rfl (Nat.le_of_ble_eq_true rfl) (x_mX4_isSinger x1 hm ⟨rfl, rfl⟩)
abbrev iX4_peek : OhM := (yX4_peek, cX4_peek, 1, (some .int), [])
theorem ok_X4_peek : oOk iX4_peek 0 := ⟨by decide, by decide, by decide +kernel⟩

noncomputable def mX4_peek (FI : OhI) (FR : OhQ) (AI : OhI) (AN : OhN) : Option (Int32) :=
  (if (FI 1 0 3) ≤ (FI 1 0 4) then
  some (-1 : Int32)
else
  gd (vp_in (FI 1 0 4) 340) <|
    some ((AI 101 0 (FI 1 0 4).toNatClampNeg) &&& (255 : Int32)))
theorem x_mX4_peek {G : OhG} {FI AI : OhI} {FL AL : OhL} {FR GR AR BR : OhQ} {AN : OhN} {C : OhC} {k : Nat × Nat} {Φ : OhP} {Ψ : OhX} (hM : ohShM FR AN) {r : Int32} (hm : mX4_peek FI FR AI AN = some r) (hK : Φ (some (vI r)) (FI, FL, FR, GR, AI, AL, AR, BR, AN, C)) : oX G 1 iX4_peek 0 [(0, vR (some (1, 0)))] [] (FI, FL, FR, GR, AI, AL, AR, BR, AN, C) k Φ Ψ := by
  unfold mX4_peek at hm
  refine oX_aload_n dX4_peek_0 rfl rfl ?_
  refine oX_getI fX4_239 rfl oDs1 dX4_peek_1 ?_
  refine oX_aload_n dX4_peek_4 rfl rfl ?_
  refine oX_getI fX4_236 rfl oDs1 dX4_peek_5 ?_
  refine oX_icmp_ge (tgt := 27) dX4_peek_8 (by decide) (fun c1 => ?_) (fun c1 => ?_)
  · have hm := ifp c1 hm
    refine oX_iconst (v := (-1 : Int32)) dX4_peek_27 (by decide) ?_
    obtain rfl := Option.some.inj hm
    exact oX_iret dX4_peek_28 rfl rfl hK
  · have hm := ifn c1 hm
    refine oX_aload_n dX4_peek_11 rfl rfl ?_
    refine oX_getF fX4_7 rfl oDs1 dX4_peek_12 (ohF101 hM) ?_
    refine oX_aload_n dX4_peek_15 rfl rfl ?_
    refine oX_getI fX4_239 rfl oDs1 dX4_peek_16 ?_
    obtain ⟨g2, hm⟩ := gd_s hm
    refine oX_bald oDs101 (oIn (ohN101 hM) g2) dX4_peek_19 ?_
    refine oX_sipush (v := (255 : Int32)) dX4_peek_20 (by decide) ?_
    refine oX_iand dX4_peek_23 ?_
    refine oX_goto (tgt := 28) dX4_peek_24 (by decide) ?_
    obtain rfl := Option.some.inj hm
    exact oX_iret dX4_peek_28 rfl rfl hK
theorem t_X4_peek {G : OhG} {FI AI : OhI} {FL AL : OhL} {FR GR AR BR : OhQ} {AN : OhN} {C : OhC} (hM : ohShM FR AN) {o : Int32} (hm : mX4_peek FI FR AI AN = some o) : oT G 1 iX4_peek [vR (some (1, 0))] (FI, FL, FR, GR, AI, AL, AR, BR, AN, C) (0, 0) (fun v h => v = (some (vI o)) ∧ h = (FI, FL, FR, GR, AI, AL, AR, BR, AN, C)) ohNo :=
  oT_of (by decide) rfl (Nat.le_of_ble_eq_true rfl) (x_mX4_peek hM hm ⟨rfl, rfl⟩)
abbrev iX4_isSmall : OhM := (yX4_isSmall, cX4_isSmall, 1, (some .boolean), [])
theorem ok_X4_isSmall : oOk iX4_isSmall 1 := ⟨by decide, by decide, by decide +kernel⟩

noncomputable def mX4_isSmall (x0 : Int32) : Option (Int32) :=
  (if x0 < (97 : Int32) then
  some (0 : Int32)
else
  (if (122 : Int32) < x0 then
    some (0 : Int32)
  else
    some (1 : Int32)))
theorem x_mX4_isSmall {G : OhG} {FI AI : OhI} {FL AL : OhL} {FR GR AR BR : OhQ} {AN : OhN} {C : OhC} {k : Nat × Nat} {Φ : OhP} {Ψ : OhX} (x0 : Int32) {r : Int32} (hm : mX4_isSmall x0 = some r) (hK : Φ (some (vI r)) (FI, FL, FR, GR, AI, AL, AR, BR, AN, C)) : oX G 1 iX4_isSmall 0 [(0, vI x0)] [] (FI, FL, FR, GR, AI, AL, AR, BR, AN, C) k Φ Ψ := by
  unfold mX4_isSmall at hm
  refine oX_iload_n dX4_isSmall_0 rfl rfl ?_
  refine oX_bipush (v := (97 : Int32)) dX4_isSmall_1 (by decide) ?_
  refine oX_icmp_lt (tgt := 16) dX4_isSmall_3 (by decide) (fun c1 => ?_) (fun c1 => ?_)
  · have hm := ifp c1 hm
    refine oX_iconst (v := (0 : Int32)) dX4_isSmall_16 (by decide) ?_
    obtain rfl := Option.some.inj hm
    exact oX_iret dX4_isSmall_17 rfl (by decide) hK
  · have hm := ifn c1 hm
    refine oX_iload_n dX4_isSmall_6 rfl rfl ?_
    refine oX_bipush (v := (122 : Int32)) dX4_isSmall_7 (by decide) ?_
    refine oX_icmp_gt (tgt := 16) dX4_isSmall_9 (by decide) (fun c2 => ?_) (fun c2 => ?_)
    · have hm := ifp c2 hm
      refine oX_iconst (v := (0 : Int32)) dX4_isSmall_16 (by decide) ?_
      obtain rfl := Option.some.inj hm
      exact oX_iret dX4_isSmall_17 rfl (by decide) hK
    · have hm := ifn c2 hm
      refine oX_iconst (v := (1 : Int32)) dX4_isSmall_12 (by decide) ?_
      refine oX_goto (tgt := 17) dX4_isSmall_13 (by decide) ?_
      obtain rfl := Option.some.inj hm
      exact oX_iret dX4_isSmall_17 rfl (by decide) hK
theorem t_X4_isSmall {G : OhG} {FI AI : OhI} {FL AL : OhL} {FR GR AR BR : OhQ} {AN : OhN} {C : OhC} (x0 : Int32) {o : Int32} (hm : mX4_isSmall x0 = some o) : oT G 1 iX4_isSmall [vI x0] (FI, FL, FR, GR, AI, AL, AR, BR, AN, C) (0, 0) (fun v h => v = (some (vI o)) ∧ h = (FI, FL, FR, GR, AI, AL, AR, BR, AN, C)) ohNo :=
  oT_of (by decide) rfl (Nat.le_of_ble_eq_true rfl) (x_mX4_isSmall x0 hm ⟨rfl, rfl⟩)
abbrev iX4_isDigit : OhM := (yX4_isDigit, cX4_isDigit, 1, (some .boolean), [])
theorem ok_X4_isDigit : oOk iX4_isDigit 1 := ⟨by decide, by decide, by decide +kernel⟩

noncomputable def mX4_isDigit (x0 : Int32) : Option (Int32) :=
  (if x0 < (48 : Int32) then
  some (0 : Int32)
else
  (if (57 : Int32) < x0 then
    some (0 : Int32)
  else
    some (1 : Int32)))
theorem x_mX4_isDigit {G : OhG} {FI AI : OhI} {FL AL : OhL} {FR GR AR BR : OhQ} {AN : OhN} {C : OhC} {k : Nat × Nat} {Φ : OhP} {Ψ : OhX} (x0 : Int32) {r : Int32} (hm : mX4_isDigit x0 = some r) (hK : Φ (some (vI r)) (FI, FL, FR, GR, AI, AL, AR, BR, AN, C)) : oX G 1 iX4_isDigit 0 [(0, vI x0)] [] (FI, FL, FR, GR, AI, AL, AR, BR, AN, C) k Φ Ψ := by
  unfold mX4_isDigit at hm
  refine oX_iload_n dX4_isDigit_0 rfl rfl ?_
  refine oX_bipush (v := (48 : Int32)) dX4_isDigit_1 (by decide) ?_
  refine oX_icmp_lt (tgt := 16) dX4_isDigit_3 (by decide) (fun c1 => ?_) (fun c1 => ?_)
  · have hm := ifp c1 hm
    refine oX_iconst (v := (0 : Int32)) dX4_isDigit_16 (by decide) ?_
    obtain rfl := Option.some.inj hm
    exact oX_iret dX4_isDigit_17 rfl (by decide) hK
  · have hm := ifn c1 hm
    refine oX_iload_n dX4_isDigit_6 rfl rfl ?_
    refine oX_bipush (v := (57 : Int32)) dX4_isDigit_7 (by decide) ?_
    refine oX_icmp_gt (tgt := 16) dX4_isDigit_9 (by decide) (fun c2 => ?_) (fun c2 => ?_)
    · have hm := ifp c2 hm
      refine oX_iconst (v := (0 : Int32)) dX4_isDigit_16 (by decide) ?_
      obtain rfl := Option.some.inj hm
      exact oX_iret dX4_isDigit_17 rfl (by decide) hK
    · have hm := ifn c2 hm
      refine oX_iconst (v := (1 : Int32)) dX4_isDigit_12 (by decide) ?_
      refine oX_goto (tgt := 17) dX4_isDigit_13 (by decide) ?_
      obtain rfl := Option.some.inj hm
      exact oX_iret dX4_isDigit_17 rfl (by decide) hK
theorem t_X4_isDigit {G : OhG} {FI AI : OhI} {FL AL : OhL} {FR GR AR BR : OhQ} {AN : OhN} {C : OhC} (x0 : Int32) {o : Int32} (hm : mX4_isDigit x0 = some o) : oT G 1 iX4_isDigit [vI x0] (FI, FL, FR, GR, AI, AL, AR, BR, AN, C) (0, 0) (fun v h => v = (some (vI o)) ∧ h = (FI, FL, FR, GR, AI, AL, AR, BR, AN, C)) ohNo :=
  oT_of (by decide) rfl (Nat.le_of_ble_eq_true rfl) (x_mX4_isDigit x0 hm ⟨rfl, rfl⟩)
abbrev iX4_next_2 : OhM := (yX4_next_2, cX4_next_2, 4, none, [])
theorem ok_X4_next_2 : oOk iX4_next_2 0 := ⟨by decide, by decide, by decide +kernel⟩

noncomputable def mX4_next_2_j18 (n : Nat) (FI : OhI) (FL : OhL) (FR : OhQ) (AI : OhI) (AN : OhN) : Option ((OhI) ⊕ (OhI)) :=
  oLet (sA FI 1 0 (uA (FI 1 0) 4 ((FI 1 0 4) + (1 : Int32)))) fun FI3 =>
  some (.inl FI3)
theorem x_mX4_next_2_j18 {G : OhG} {FI AI : OhI} {FL AL : OhL} {FR GR AR BR : OhQ} {AN : OhN} {C : OhC} {k : Nat × Nat} {Φ : OhP} {Ψ : OhX} (hM : ohShM FR AN) (n : Nat) {r : (OhI) ⊕ (OhI)} (hm : mX4_next_2_j18 n FI FL FR AI AN = some r) (hk : ∀ v : OhI, r = .inl v → oX G 2 iX4_next_2 0 [(0, vR (some (1, 0)))] [] (v, FL, FR, GR, AI, AL, AR, BR, AN, C) k Φ Ψ) (hx1 : ∀ v : OhI, r = .inr v → oX G 2 iX4_next_2 31 [(0, vR (some (1, 0)))] [] (v, FL, FR, GR, AI, AL, AR, BR, AN, C) k Φ Ψ) : oX G 2 iX4_next_2 18 [(0, vR (some (1, 0)))] [] (FI, FL, FR, GR, AI, AL, AR, BR, AN, C) k Φ Ψ := by
  unfold mX4_next_2_j18 at hm
  refine oX_aload_n dX4_next_2_18 rfl rfl ?_
  refine oX_dup dX4_next_2_19 trivial ?_
  refine oX_getI fX4_239 rfl oDs1 dX4_next_2_20 ?_
  refine oX_iconst (v := (1 : Int32)) dX4_next_2_23 (by decide) ?_
  refine oX_iadd dX4_next_2_24 ?_
  obtain ⟨FI3, hFI3, hm⟩ := oLs hm
  refine oX_putI fX4_239 rfl (fun h9 => by cases h9) oDs1 dX4_next_2_25 ⟨rfl, rfl⟩ hFI3 ?_
  refine oX_goto (tgt := 0) dX4_next_2_28 (by decide) ?_
  exact oX_sub [0] rfl (hk FI3 (Option.some.inj hm).symm)
noncomputable def mX4_next_2_b0 (n : Nat) (FI : OhI) (FL : OhL) (FR : OhQ) (AI : OhI) (AN : OhN) : Option ((OhI) ⊕ (OhI)) :=
  (mX4_peek FI FR AI AN).bind fun r1 =>
  (if r1 = (32 : Int32) then
  mX4_next_2_j18 n FI FL FR AI AN
else
  (mX4_peek FI FR AI AN).bind fun r4 =>
    (if r4 = (10 : Int32) then
    mX4_next_2_j18 n FI FL FR AI AN
  else
    some (.inr FI)))
theorem x_mX4_next_2_b0 {G : OhG} {FI AI : OhI} {FL AL : OhL} {FR GR AR BR : OhQ} {AN : OhN} {C : OhC} {k : Nat × Nat} {Φ : OhP} {Ψ : OhX} (hM : ohShM FR AN) (n : Nat) {r : (OhI) ⊕ (OhI)} (hm : mX4_next_2_b0 n FI FL FR AI AN = some r) (hk : ∀ v : OhI, r = .inl v → oX G 2 iX4_next_2 0 [(0, vR (some (1, 0)))] [] (v, FL, FR, GR, AI, AL, AR, BR, AN, C) k Φ Ψ) (hx1 : ∀ v : OhI, r = .inr v → oX G 2 iX4_next_2 31 [(0, vR (some (1, 0)))] [] (v, FL, FR, GR, AI, AL, AR, BR, AN, C) k Φ Ψ) : oX G 2 iX4_next_2 0 [(0, vR (some (1, 0)))] [] (FI, FL, FR, GR, AI, AL, AR, BR, AN, C) k Φ Ψ := by
  unfold mX4_next_2_b0 at hm
  refine oX_aload_n dX4_next_2_0 rfl rfl ?_
  obtain ⟨r1, g1, hm⟩ := bd_s hm
  refine oX_cV (as := []) dX4_next_2_1 rfl oDs1 rfl (by decide) rfl ok_X4_peek rfl rfl q2071 q2073 qs64 q136 q2074 (by decide) (Nat.le_of_ble_eq_true rfl) (t_X4_peek hM g1) ?_
  refine oX_bipush (v := (32 : Int32)) dX4_next_2_4 (by decide) ?_
  refine oX_icmp_eq (tgt := 18) dX4_next_2_6 (by decide) (fun c2 => ?_) (fun c2 => ?_)
  · have hm := ifp c2 hm
    exact oX_sub [0] rfl (x_mX4_next_2_j18 hM n hm hk hx1)
  · have hm := ifn c2 hm
    refine oX_aload_n dX4_next_2_9 rfl rfl ?_
    obtain ⟨r4, g4, hm⟩ := bd_s hm
    refine oX_cV (as := []) dX4_next_2_10 rfl oDs1 rfl (by decide) rfl ok_X4_peek rfl rfl q2071 q2073 qs64 q136 q2074 (by decide) (Nat.le_of_ble_eq_true rfl) (t_X4_peek hM g4) ?_
    refine oX_bipush (v := (10 : Int32)) dX4_next_2_13 (by decide) ?_
    refine oX_icmp_ne (tgt := 31) dX4_next_2_15 (by decide) (fun c5 => ?_) (fun c5 => ?_)
    · have hm := ifp c5 hm
      exact oX_sub [0] rfl (x_mX4_next_2_j18 hM n hm hk hx1)
    · have hm := ifn c5 hm
      exact oX_sub [0] rfl (hx1 FI (Option.some.inj hm).symm)
theorem l_mX4_next_2_b0 {G : OhG} {FL : OhL} {FR : OhQ} {GR : OhQ} {AI : OhI} {AL : OhL} {AR : OhQ} {BR : OhQ} {AN : OhN} {C : OhC} {k : Nat × Nat} {Φ : OhP} {Ψ : OhX} (hM : ohShM FR AN) (n : Nat) : ∀ (f : Nat) (FI : OhI) (b : (OhI)), lpF (fun v => mX4_next_2_b0 n v FL FR AI AN) f FI = some b → (oX G 2 iX4_next_2 31 [(0, vR (some (1, 0)))] [] (b, FL, FR, GR, AI, AL, AR, BR, AN, C) k Φ Ψ) → oX G 2 iX4_next_2 0 [(0, vR (some (1, 0)))] [] (FI, FL, FR, GR, AI, AL, AR, BR, AN, C) k Φ Ψ := by
  intro f
  induction f with
  | zero =>
    intro FI b hm
    cases hm
  | succ f ih =>
    intro FI b hm hx1
    obtain ⟨r, hr, hm⟩ := lp_s hm
    refine x_mX4_next_2_b0 hM n hr (fun v e => ?_) (fun v e => ?_)
    · subst e; exact ih v _ hm hx1
    · subst e; cases (show v = b from hm); exact hx1
noncomputable def mX4_next_2_j142 (n : Nat) (FI : OhI) (FL : OhL) (FR : OhQ) (AI : OhI) (AN : OhN) (x1 : Int32) (y1 : Int32) : Option (OhI × OhL) :=
  oLet (sA FI 1 0 (uA (FI 1 0) 40 y1)) fun FI17 =>
  oLet (sA FI17 1 0 (uA (FI17 1 0) 43 x1)) fun FI18 =>
  oLet (sA FI18 1 0 (uA (FI18 1 0) 4 ((FI18 1 0 4) + (1 : Int32)))) fun FI19 =>
  some (FI19, FL)
theorem x_mX4_next_2_j142 {G : OhG} {FI AI : OhI} {FL AL : OhL} {FR GR AR BR : OhQ} {AN : OhN} {C : OhC} {k : Nat × Nat} {Φ : OhP} {Ψ : OhX} (hM : ohShM FR AN) (n : Nat) (x1 : Int32) (y1 : Int32) {r : OhI × OhL} (hm : mX4_next_2_j142 n FI FL FR AI AN x1 y1 = some r) (hK : Φ none (r.1, r.2, FR, GR, AI, AL, AR, BR, AN, C)) : oX G 2 iX4_next_2 142 [(0, vR (some (1, 0))), (1, vI x1)] [vI y1, vR (some (1, 0))] (FI, FL, FR, GR, AI, AL, AR, BR, AN, C) k Φ Ψ := by
  unfold mX4_next_2_j142 at hm
  obtain ⟨FI17, hFI17, hm⟩ := oLs hm
  refine oX_putI fX4_278 rfl (fun h9 => by cases h9) oDs1 dX4_next_2_142 ⟨rfl, rfl⟩ hFI17 ?_
  refine oX_aload_n dX4_next_2_145 rfl rfl ?_
  refine oX_iload_n dX4_next_2_146 rfl rfl ?_
  obtain ⟨FI18, hFI18, hm⟩ := oLs hm
  refine oX_putI fX4_288 rfl (fun h9 => by cases h9) oDs1 dX4_next_2_147 ⟨rfl, rfl⟩ hFI18 ?_
  refine oX_aload_n dX4_next_2_150 rfl rfl ?_
  refine oX_dup dX4_next_2_151 trivial ?_
  refine oX_getI fX4_239 rfl oDs1 dX4_next_2_152 ?_
  refine oX_iconst (v := (1 : Int32)) dX4_next_2_155 (by decide) ?_
  refine oX_iadd dX4_next_2_156 ?_
  obtain ⟨FI19, hFI19, hm⟩ := oLs hm
  refine oX_putI fX4_239 rfl (fun h9 => by cases h9) oDs1 dX4_next_2_157 ⟨rfl, rfl⟩ hFI19 ?_
  obtain rfl := Option.some.inj hm
  exact oX_vret dX4_next_2_160 rfl hK
noncomputable def mX4_next_2_j137 (n : Nat) (FI : OhI) (FL : OhL) (FR : OhQ) (AI : OhI) (AN : OhN) (x1 : Int32) : Option (OhI × OhL) :=
  mX4_next_2_j142 n FI FL FR AI AN x1 (3 : Int32)
theorem x_mX4_next_2_j137 {G : OhG} {FI AI : OhI} {FL AL : OhL} {FR GR AR BR : OhQ} {AN : OhN} {C : OhC} {k : Nat × Nat} {Φ : OhP} {Ψ : OhX} (hM : ohShM FR AN) (n : Nat) (x1 : Int32) {r : OhI × OhL} (hm : mX4_next_2_j137 n FI FL FR AI AN x1 = some r) (hK : Φ none (r.1, r.2, FR, GR, AI, AL, AR, BR, AN, C)) : oX G 2 iX4_next_2 137 [(0, vR (some (1, 0))), (1, vI x1)] [vR (some (1, 0))] (FI, FL, FR, GR, AI, AL, AR, BR, AN, C) k Φ Ψ := by
  unfold mX4_next_2_j137 at hm
  refine oX_iconst (v := (3 : Int32)) dX4_next_2_137 (by decide) ?_
  refine oX_goto (tgt := 142) dX4_next_2_138 (by decide) ?_
  exact oX_sub [0, 1] rfl (x_mX4_next_2_j142 hM n x1 (3 : Int32) hm hK)
noncomputable def mX4_next_2_j141 (n : Nat) (FI : OhI) (FL : OhL) (FR : OhQ) (AI : OhI) (AN : OhN) (x1 : Int32) : Option (OhI × OhL) :=
  mX4_next_2_j142 n FI FL FR AI AN x1 (4 : Int32)
theorem x_mX4_next_2_j141 {G : OhG} {FI AI : OhI} {FL AL : OhL} {FR GR AR BR : OhQ} {AN : OhN} {C : OhC} {k : Nat × Nat} {Φ : OhP} {Ψ : OhX} (hM : ohShM FR AN) (n : Nat) (x1 : Int32) {r : OhI × OhL} (hm : mX4_next_2_j141 n FI FL FR AI AN x1 = some r) (hK : Φ none (r.1, r.2, FR, GR, AI, AL, AR, BR, AN, C)) : oX G 2 iX4_next_2 141 [(0, vR (some (1, 0))), (1, vI x1)] [vR (some (1, 0))] (FI, FL, FR, GR, AI, AL, AR, BR, AN, C) k Φ Ψ := by
  unfold mX4_next_2_j141 at hm
  refine oX_iconst (v := (4 : Int32)) dX4_next_2_141 (by decide) ?_
  exact oX_sub [0, 1] rfl (x_mX4_next_2_j142 hM n x1 (4 : Int32) hm hK)
noncomputable def mX4_next_2_j272 (n : Nat) (FI : OhI) (FL : OhL) (FR : OhQ) (AI : OhI) (AN : OhN) (x2 : Int32) (x3 : Int32) : Option ((Int32 × OhI × OhL) ⊕ (Int32 × OhI × OhL)) :=
  oLet (sA FI 1 0 (uA (FI 1 0) 42 ((FI 1 0 42) + (1 : Int32)))) fun FI36 =>
  oLet (sA FI36 1 0 (uA (FI36 1 0) 4 ((FI36 1 0 4) + (1 : Int32)))) fun FI37 =>
  some (.inl (x3, FI37, FL))
theorem x_mX4_next_2_j272 {G : OhG} {FI AI : OhI} {FL AL : OhL} {FR GR AR BR : OhQ} {AN : OhN} {C : OhC} {k : Nat × Nat} {Φ : OhP} {Ψ : OhX} (hM : ohShM FR AN) (n : Nat) (x2 : Int32) (x3 : Int32) {r : (Int32 × OhI × OhL) ⊕ (Int32 × OhI × OhL)} (hm : mX4_next_2_j272 n FI FL FR AI AN x2 x3 = some r) (hk : ∀ v : Int32 × OhI × OhL, r = .inl v → oX G 2 iX4_next_2 178 [(0, vR (some (1, 0))), (2, vI x2), (3, vI v.1)] [] (v.2.1, v.2.2, FR, GR, AI, AL, AR, BR, AN, C) k Φ Ψ) (hx1 : ∀ v : Int32 × OhI × OhL, r = .inr v → oX G 2 iX4_next_2 295 [(0, vR (some (1, 0))), (2, vI x2), (3, vI v.1)] [] (v.2.1, v.2.2, FR, GR, AI, AL, AR, BR, AN, C) k Φ Ψ) : oX G 2 iX4_next_2 272 [(0, vR (some (1, 0))), (2, vI x2), (3, vI x3)] [] (FI, FL, FR, GR, AI, AL, AR, BR, AN, C) k Φ Ψ := by
  unfold mX4_next_2_j272 at hm
  refine oX_aload_n dX4_next_2_272 rfl rfl ?_
  refine oX_dup dX4_next_2_273 trivial ?_
  refine oX_getI fX4_275 rfl oDs1 dX4_next_2_274 ?_
  refine oX_iconst (v := (1 : Int32)) dX4_next_2_277 (by decide) ?_
  refine oX_iadd dX4_next_2_278 ?_
  obtain ⟨FI36, hFI36, hm⟩ := oLs hm
  refine oX_putI fX4_275 rfl (fun h9 => by cases h9) oDs1 dX4_next_2_279 ⟨rfl, rfl⟩ hFI36 ?_
  refine oX_aload_n dX4_next_2_282 rfl rfl ?_
  refine oX_dup dX4_next_2_283 trivial ?_
  refine oX_getI fX4_239 rfl oDs1 dX4_next_2_284 ?_
  refine oX_iconst (v := (1 : Int32)) dX4_next_2_287 (by decide) ?_
  refine oX_iadd dX4_next_2_288 ?_
  obtain ⟨FI37, hFI37, hm⟩ := oLs hm
  refine oX_putI fX4_239 rfl (fun h9 => by cases h9) oDs1 dX4_next_2_289 ⟨rfl, rfl⟩ hFI37 ?_
  refine oX_goto (tgt := 178) dX4_next_2_292 (by decide) ?_
  exact oX_sub [0, 1, 2] rfl (hk (x3, FI37, FL) (Option.some.inj hm).symm)
noncomputable def mX4_next_2_j245 (n : Nat) (FI : OhI) (FL : OhL) (FR : OhQ) (AI : OhI) (AN : OhN) (x2 : Int32) (x3 : Int32) : Option ((Int32 × OhI × OhL) ⊕ (Int32 × OhI × OhL)) :=
  (if (5 : Int32) ≤ (FI 1 0 42) then
  mX4_next_2_j272 n FI FL FR AI AN x2 x3
else
  (mX4_peek FI FR AI AN).bind fun r38 =>
    oLet (sA FI 1 0 (uA (FI 1 0) 43 ((((10 : Int32) * (FI 1 0 43)) + r38) - (48 : Int32)))) fun FI39 =>
    mX4_next_2_j272 n FI39 FL FR AI AN x2 x3)
theorem x_mX4_next_2_j245 {G : OhG} {FI AI : OhI} {FL AL : OhL} {FR GR AR BR : OhQ} {AN : OhN} {C : OhC} {k : Nat × Nat} {Φ : OhP} {Ψ : OhX} (hM : ohShM FR AN) (n : Nat) (x2 : Int32) (x3 : Int32) {r : (Int32 × OhI × OhL) ⊕ (Int32 × OhI × OhL)} (hm : mX4_next_2_j245 n FI FL FR AI AN x2 x3 = some r) (hk : ∀ v : Int32 × OhI × OhL, r = .inl v → oX G 2 iX4_next_2 178 [(0, vR (some (1, 0))), (2, vI x2), (3, vI v.1)] [] (v.2.1, v.2.2, FR, GR, AI, AL, AR, BR, AN, C) k Φ Ψ) (hx1 : ∀ v : Int32 × OhI × OhL, r = .inr v → oX G 2 iX4_next_2 295 [(0, vR (some (1, 0))), (2, vI x2), (3, vI v.1)] [] (v.2.1, v.2.2, FR, GR, AI, AL, AR, BR, AN, C) k Φ Ψ) : oX G 2 iX4_next_2 245 [(0, vR (some (1, 0))), (2, vI x2), (3, vI x3)] [] (FI, FL, FR, GR, AI, AL, AR, BR, AN, C) k Φ Ψ := by
  unfold mX4_next_2_j245 at hm
  refine oX_aload_n dX4_next_2_245 rfl rfl ?_
  refine oX_getI fX4_275 rfl oDs1 dX4_next_2_246 ?_
  refine oX_iconst (v := (5 : Int32)) dX4_next_2_249 (by decide) ?_
  refine oX_icmp_ge (tgt := 272) dX4_next_2_250 (by decide) (fun c35 => ?_) (fun c35 => ?_)
  · have hm := ifp c35 hm
    exact oX_sub [0, 1, 2] rfl (x_mX4_next_2_j272 hM n x2 x3 hm hk hx1)
  · have hm := ifn c35 hm
    refine oX_aload_n dX4_next_2_253 rfl rfl ?_
    refine oX_bipush (v := (10 : Int32)) dX4_next_2_254 (by decide) ?_
    refine oX_aload_n dX4_next_2_256 rfl rfl ?_
    refine oX_getI fX4_288 rfl oDs1 dX4_next_2_257 ?_
    refine oX_imul dX4_next_2_260 ?_
    refine oX_aload_n dX4_next_2_261 rfl rfl ?_
    obtain ⟨r38, g38, hm⟩ := bd_s hm
    refine oX_cV (as := []) dX4_next_2_262 rfl oDs1 rfl (by decide) rfl ok_X4_peek rfl rfl q2071 q2073 qs64 q136 q2074 (by decide) (Nat.le_of_ble_eq_true rfl) (t_X4_peek hM g38) ?_
    refine oX_iadd dX4_next_2_265 ?_
    refine oX_bipush (v := (48 : Int32)) dX4_next_2_266 (by decide) ?_
    refine oX_isub dX4_next_2_268 ?_
    obtain ⟨FI39, hFI39, hm⟩ := oLs hm
    refine oX_putI fX4_288 rfl (fun h9 => by cases h9) oDs1 dX4_next_2_269 ⟨rfl, rfl⟩ hFI39 ?_
    exact oX_sub [0, 1, 2] rfl (x_mX4_next_2_j272 hM n x2 x3 hm hk hx1)
noncomputable def mX4_next_2_j218 (n : Nat) (FI : OhI) (FL : OhL) (FR : OhQ) (AI : OhI) (AN : OhN) (x2 : Int32) (y0 : Int32) : Option ((Int32 × OhI × OhL) ⊕ (Int32 × OhI × OhL)) :=
  (if (8 : Int32) ≤ (FI 1 0 42) then
  mX4_next_2_j245 n FI FL FR AI AN x2 y0
else
  (mX4_peek FI FR AI AN).bind fun r40 =>
    oLet (sA FL 1 0 (uA (FL 1 0) 47 (((FL 1 0 47) <<< ((8 : Int32).toInt64 &&& 63)) ||| r40.toInt64))) fun FL41 =>
    mX4_next_2_j245 n FI FL41 FR AI AN x2 y0)
theorem x_mX4_next_2_j218 {G : OhG} {FI AI : OhI} {FL AL : OhL} {FR GR AR BR : OhQ} {AN : OhN} {C : OhC} {k : Nat × Nat} {Φ : OhP} {Ψ : OhX} (hM : ohShM FR AN) (n : Nat) (x2 : Int32) (y0 : Int32) {r : (Int32 × OhI × OhL) ⊕ (Int32 × OhI × OhL)} (hm : mX4_next_2_j218 n FI FL FR AI AN x2 y0 = some r) (hk : ∀ v : Int32 × OhI × OhL, r = .inl v → oX G 2 iX4_next_2 178 [(0, vR (some (1, 0))), (2, vI x2), (3, vI v.1)] [] (v.2.1, v.2.2, FR, GR, AI, AL, AR, BR, AN, C) k Φ Ψ) (hx1 : ∀ v : Int32 × OhI × OhL, r = .inr v → oX G 2 iX4_next_2 295 [(0, vR (some (1, 0))), (2, vI x2), (3, vI v.1)] [] (v.2.1, v.2.2, FR, GR, AI, AL, AR, BR, AN, C) k Φ Ψ) : oX G 2 iX4_next_2 218 [(0, vR (some (1, 0))), (2, vI x2)] [vI y0] (FI, FL, FR, GR, AI, AL, AR, BR, AN, C) k Φ Ψ := by
  unfold mX4_next_2_j218 at hm
  refine oX_istore_n (ls' := [(3, vI y0), (0, vR (some (1, 0))), (2, vI x2)]) dX4_next_2_218 rfl (by decide) rfl ?_
  refine oX_aload_n dX4_next_2_219 rfl rfl ?_
  refine oX_getI fX4_275 rfl oDs1 dX4_next_2_220 ?_
  refine oX_bipush (v := (8 : Int32)) dX4_next_2_223 (by decide) ?_
  refine oX_icmp_ge (tgt := 245) dX4_next_2_225 (by decide) (fun c34 => ?_) (fun c34 => ?_)
  · have hm := ifp c34 hm
    exact oX_sub [1, 2, 0] rfl (x_mX4_next_2_j245 hM n x2 y0 hm hk hx1)
  · have hm := ifn c34 hm
    refine oX_aload_n dX4_next_2_228 rfl rfl ?_
    refine oX_aload_n dX4_next_2_229 rfl rfl ?_
    refine oX_getL fX4_291 rfl oDs1 dX4_next_2_230 ?_
    refine oX_bipush (v := (8 : Int32)) dX4_next_2_233 (by decide) ?_
    refine oX_lshl dX4_next_2_235 ?_
    refine oX_aload_n dX4_next_2_236 rfl rfl ?_
    obtain ⟨r40, g40, hm⟩ := bd_s hm
    refine oX_cV (as := []) dX4_next_2_237 rfl oDs1 rfl (by decide) rfl ok_X4_peek rfl rfl q2071 q2073 qs64 q136 q2074 (by decide) (Nat.le_of_ble_eq_true rfl) (t_X4_peek hM g40) ?_
    refine oX_i2l dX4_next_2_240 ?_
    refine oX_lor dX4_next_2_241 ?_
    obtain ⟨FL41, hFL41, hm⟩ := oLs hm
    refine oX_putL fX4_291 rfl (fun h9 => by cases h9) oDs1 dX4_next_2_242 rfl hFL41 ?_
    exact oX_sub [1, 2, 0] rfl (x_mX4_next_2_j245 hM n x2 y0 hm hk hx1)
noncomputable def mX4_next_2_j217 (n : Nat) (FI : OhI) (FL : OhL) (FR : OhQ) (AI : OhI) (AN : OhN) (x2 : Int32) : Option ((Int32 × OhI × OhL) ⊕ (Int32 × OhI × OhL)) :=
  mX4_next_2_j218 n FI FL FR AI AN x2 (0 : Int32)
theorem x_mX4_next_2_j217 {G : OhG} {FI AI : OhI} {FL AL : OhL} {FR GR AR BR : OhQ} {AN : OhN} {C : OhC} {k : Nat × Nat} {Φ : OhP} {Ψ : OhX} (hM : ohShM FR AN) (n : Nat) (x2 : Int32) {r : (Int32 × OhI × OhL) ⊕ (Int32 × OhI × OhL)} (hm : mX4_next_2_j217 n FI FL FR AI AN x2 = some r) (hk : ∀ v : Int32 × OhI × OhL, r = .inl v → oX G 2 iX4_next_2 178 [(0, vR (some (1, 0))), (2, vI x2), (3, vI v.1)] [] (v.2.1, v.2.2, FR, GR, AI, AL, AR, BR, AN, C) k Φ Ψ) (hx1 : ∀ v : Int32 × OhI × OhL, r = .inr v → oX G 2 iX4_next_2 295 [(0, vR (some (1, 0))), (2, vI x2), (3, vI v.1)] [] (v.2.1, v.2.2, FR, GR, AI, AL, AR, BR, AN, C) k Φ Ψ) : oX G 2 iX4_next_2 217 [(0, vR (some (1, 0))), (2, vI x2)] [] (FI, FL, FR, GR, AI, AL, AR, BR, AN, C) k Φ Ψ := by
  unfold mX4_next_2_j217 at hm
  refine oX_iconst (v := (0 : Int32)) dX4_next_2_217 (by decide) ?_
  exact oX_sub [0, 1] rfl (x_mX4_next_2_j218 hM n x2 (0 : Int32) hm hk hx1)
noncomputable def mX4_next_2_j198 (n : Nat) (FI : OhI) (FL : OhL) (FR : OhQ) (AI : OhI) (AN : OhN) (x2 : Int32) (x3 : Int32) : Option ((Int32 × OhI × OhL) ⊕ (Int32 × OhI × OhL)) :=
  (if x3 = 0 then
  mX4_next_2_j217 n FI FL FR AI AN x2
else
  (mX4_peek FI FR AI AN).bind fun r42 =>
    (mX4_isSmall r42).bind fun r43 =>
    (if r43 = x2 then
    mX4_next_2_j218 n FI FL FR AI AN x2 (1 : Int32)
  else
    mX4_next_2_j217 n FI FL FR AI AN x2))
theorem x_mX4_next_2_j198 {G : OhG} {FI AI : OhI} {FL AL : OhL} {FR GR AR BR : OhQ} {AN : OhN} {C : OhC} {k : Nat × Nat} {Φ : OhP} {Ψ : OhX} (hM : ohShM FR AN) (n : Nat) (x2 : Int32) (x3 : Int32) {r : (Int32 × OhI × OhL) ⊕ (Int32 × OhI × OhL)} (hm : mX4_next_2_j198 n FI FL FR AI AN x2 x3 = some r) (hk : ∀ v : Int32 × OhI × OhL, r = .inl v → oX G 2 iX4_next_2 178 [(0, vR (some (1, 0))), (2, vI x2), (3, vI v.1)] [] (v.2.1, v.2.2, FR, GR, AI, AL, AR, BR, AN, C) k Φ Ψ) (hx1 : ∀ v : Int32 × OhI × OhL, r = .inr v → oX G 2 iX4_next_2 295 [(0, vR (some (1, 0))), (2, vI x2), (3, vI v.1)] [] (v.2.1, v.2.2, FR, GR, AI, AL, AR, BR, AN, C) k Φ Ψ) : oX G 2 iX4_next_2 198 [(0, vR (some (1, 0))), (2, vI x2), (3, vI x3)] [] (FI, FL, FR, GR, AI, AL, AR, BR, AN, C) k Φ Ψ := by
  unfold mX4_next_2_j198 at hm
  refine oX_iload_n dX4_next_2_198 rfl rfl ?_
  refine oX_if_eq (tgt := 217) dX4_next_2_199 (by decide) (fun c33 => ?_) (fun c33 => ?_)
  · have hm := ifp c33 hm
    exact oX_sub [0, 1] rfl (x_mX4_next_2_j217 hM n x2 hm hk hx1)
  · have hm := ifn c33 hm
    refine oX_aload_n dX4_next_2_202 rfl rfl ?_
    obtain ⟨r42, g42, hm⟩ := bd_s hm
    refine oX_cV (as := []) dX4_next_2_203 rfl oDs1 rfl (by decide) rfl ok_X4_peek rfl rfl q2071 q2073 qs64 q136 q2074 (by decide) (Nat.le_of_ble_eq_true rfl) (t_X4_peek hM g42) ?_
    obtain ⟨r43, g43, hm⟩ := bd_s hm
    refine oX_cS (as := [vI r42]) dX4_next_2_206 rfl ok_X4_isSmall rfl rfl q2075 q2076 q136 q2077 (by decide) (Nat.le_of_ble_eq_true rfl) (t_X4_isSmall r42 g43) ?_
    refine oX_iload_n dX4_next_2_209 rfl rfl ?_
    refine oX_icmp_ne (tgt := 217) dX4_next_2_210 (by decide) (fun c44 => ?_) (fun c44 => ?_)
    · have hm := ifp c44 hm
      refine oX_iconst (v := (1 : Int32)) dX4_next_2_213 (by decide) ?_
      refine oX_goto (tgt := 218) dX4_next_2_214 (by decide) ?_
      exact oX_sub [0, 1] rfl (x_mX4_next_2_j218 hM n x2 (1 : Int32) hm hk hx1)
    · have hm := ifn c44 hm
      exact oX_sub [0, 1] rfl (x_mX4_next_2_j217 hM n x2 hm hk hx1)
noncomputable def mX4_next_2_b178 (n : Nat) (FI : OhI) (FL : OhL) (FR : OhQ) (AI : OhI) (AN : OhN) (x2 : Int32) (x3 : Int32) : Option ((Int32 × OhI × OhL) ⊕ (Int32 × OhI × OhL)) :=
  (mX4_peek FI FR AI AN).bind fun r27 =>
  (mX4_isSmall r27).bind fun r28 =>
  (if r28 = 0 then
  (mX4_peek FI FR AI AN).bind fun r30 =>
    (mX4_isDigit r30).bind fun r31 =>
    (if r31 = 0 then
    some (.inr (x3, FI, FL))
  else
    mX4_next_2_j198 n FI FL FR AI AN x2 x3)
else
  mX4_next_2_j198 n FI FL FR AI AN x2 x3)
theorem x_mX4_next_2_b178 {G : OhG} {FI AI : OhI} {FL AL : OhL} {FR GR AR BR : OhQ} {AN : OhN} {C : OhC} {k : Nat × Nat} {Φ : OhP} {Ψ : OhX} (hM : ohShM FR AN) (n : Nat) (x2 : Int32) (x3 : Int32) {r : (Int32 × OhI × OhL) ⊕ (Int32 × OhI × OhL)} (hm : mX4_next_2_b178 n FI FL FR AI AN x2 x3 = some r) (hk : ∀ v : Int32 × OhI × OhL, r = .inl v → oX G 2 iX4_next_2 178 [(0, vR (some (1, 0))), (2, vI x2), (3, vI v.1)] [] (v.2.1, v.2.2, FR, GR, AI, AL, AR, BR, AN, C) k Φ Ψ) (hx1 : ∀ v : Int32 × OhI × OhL, r = .inr v → oX G 2 iX4_next_2 295 [(0, vR (some (1, 0))), (2, vI x2), (3, vI v.1)] [] (v.2.1, v.2.2, FR, GR, AI, AL, AR, BR, AN, C) k Φ Ψ) : oX G 2 iX4_next_2 178 [(0, vR (some (1, 0))), (2, vI x2), (3, vI x3)] [] (FI, FL, FR, GR, AI, AL, AR, BR, AN, C) k Φ Ψ := by
  unfold mX4_next_2_b178 at hm
  refine oX_aload_n dX4_next_2_178 rfl rfl ?_
  obtain ⟨r27, g27, hm⟩ := bd_s hm
  refine oX_cV (as := []) dX4_next_2_179 rfl oDs1 rfl (by decide) rfl ok_X4_peek rfl rfl q2071 q2073 qs64 q136 q2074 (by decide) (Nat.le_of_ble_eq_true rfl) (t_X4_peek hM g27) ?_
  obtain ⟨r28, g28, hm⟩ := bd_s hm
  refine oX_cS (as := [vI r27]) dX4_next_2_182 rfl ok_X4_isSmall rfl rfl q2075 q2076 q136 q2077 (by decide) (Nat.le_of_ble_eq_true rfl) (t_X4_isSmall r27 g28) ?_
  refine oX_if_ne (tgt := 198) dX4_next_2_185 (by decide) (fun c29 => ?_) (fun c29 => ?_)
  · have hm := ifp c29 hm
    refine oX_aload_n dX4_next_2_188 rfl rfl ?_
    obtain ⟨r30, g30, hm⟩ := bd_s hm
    refine oX_cV (as := []) dX4_next_2_189 rfl oDs1 rfl (by decide) rfl ok_X4_peek rfl rfl q2071 q2073 qs64 q136 q2074 (by decide) (Nat.le_of_ble_eq_true rfl) (t_X4_peek hM g30) ?_
    obtain ⟨r31, g31, hm⟩ := bd_s hm
    refine oX_cS (as := [vI r30]) dX4_next_2_192 rfl ok_X4_isDigit rfl rfl q2078 q2079 q136 q2080 (by decide) (Nat.le_of_ble_eq_true rfl) (t_X4_isDigit r30 g31) ?_
    refine oX_if_eq (tgt := 295) dX4_next_2_195 (by decide) (fun c32 => ?_) (fun c32 => ?_)
    · have hm := ifp c32 hm
      exact oX_sub [0, 1, 2] rfl (hx1 (x3, FI, FL) (Option.some.inj hm).symm)
    · have hm := ifn c32 hm
      exact oX_sub [0, 1, 2] rfl (x_mX4_next_2_j198 hM n x2 x3 hm hk hx1)
  · have hm := ifn c29 hm
    exact oX_sub [0, 1, 2] rfl (x_mX4_next_2_j198 hM n x2 x3 hm hk hx1)
theorem l_mX4_next_2_b178 {G : OhG} {FR : OhQ} {GR : OhQ} {AI : OhI} {AL : OhL} {AR : OhQ} {BR : OhQ} {AN : OhN} {C : OhC} {k : Nat × Nat} {Φ : OhP} {Ψ : OhX} (hM : ohShM FR AN) (n : Nat) (x2 : Int32) : ∀ (f : Nat) (x3 : Int32) (FI : OhI) (FL : OhL) (b : (Int32 × OhI × OhL)), lpF (fun v => mX4_next_2_b178 n v.2.1 v.2.2 FR AI AN x2 v.1) f (x3, FI, FL) = some b → (oX G 2 iX4_next_2 295 [(0, vR (some (1, 0))), (2, vI x2), (3, vI b.1)] [] (b.2.1, b.2.2, FR, GR, AI, AL, AR, BR, AN, C) k Φ Ψ) → oX G 2 iX4_next_2 178 [(0, vR (some (1, 0))), (2, vI x2), (3, vI x3)] [] (FI, FL, FR, GR, AI, AL, AR, BR, AN, C) k Φ Ψ := by
  intro f
  induction f with
  | zero =>
    intro x3 FI FL b hm
    cases hm
  | succ f ih =>
    intro x3 FI FL b hm hx1
    obtain ⟨r, hr, hm⟩ := lp_s hm
    refine x_mX4_next_2_b178 hM n x2 x3 hr (fun v e => ?_) (fun v e => ?_)
    · subst e; exact ih v.1 v.2.1 v.2.2 _ hm hx1
    · subst e; cases (show v = b from hm); exact hx1
noncomputable def mX4_next_2_j330 (n : Nat) (FI : OhI) (FL : OhL) (FR : OhQ) (AI : OhI) (AN : OhN) (y1 : Int32) : Option (OhI × OhL) :=
  oLet (sA FI 1 0 (uA (FI 1 0) 40 y1)) fun FI47 =>
  some (FI47, FL)
theorem x_mX4_next_2_j330 {G : OhG} {FI AI : OhI} {FL AL : OhL} {FR GR AR BR : OhQ} {AN : OhN} {C : OhC} {k : Nat × Nat} {Φ : OhP} {Ψ : OhX} (hM : ohShM FR AN) (n : Nat) (y1 : Int32) {r : OhI × OhL} (hm : mX4_next_2_j330 n FI FL FR AI AN y1 = some r) (hK : Φ none (r.1, r.2, FR, GR, AI, AL, AR, BR, AN, C)) : oX G 2 iX4_next_2 330 [] [vI y1, vR (some (1, 0))] (FI, FL, FR, GR, AI, AL, AR, BR, AN, C) k Φ Ψ := by
  unfold mX4_next_2_j330 at hm
  obtain ⟨FI47, hFI47, hm⟩ := oLs hm
  refine oX_putI fX4_278 rfl (fun h9 => by cases h9) oDs1 dX4_next_2_330 ⟨rfl, rfl⟩ hFI47 ?_
  obtain rfl := Option.some.inj hm
  exact oX_vret dX4_next_2_333 rfl hK
noncomputable def mX4_next_2_j317 (n : Nat) (FI : OhI) (FL : OhL) (FR : OhQ) (AI : OhI) (AN : OhN) : Option (OhI × OhL) :=
  mX4_next_2_j330 n FI FL FR AI AN (4 : Int32)
theorem x_mX4_next_2_j317 {G : OhG} {FI AI : OhI} {FL AL : OhL} {FR GR AR BR : OhQ} {AN : OhN} {C : OhC} {k : Nat × Nat} {Φ : OhP} {Ψ : OhX} (hM : ohShM FR AN) (n : Nat) {r : OhI × OhL} (hm : mX4_next_2_j317 n FI FL FR AI AN = some r) (hK : Φ none (r.1, r.2, FR, GR, AI, AL, AR, BR, AN, C)) : oX G 2 iX4_next_2 317 [] [vR (some (1, 0))] (FI, FL, FR, GR, AI, AL, AR, BR, AN, C) k Φ Ψ := by
  unfold mX4_next_2_j317 at hm
  refine oX_iconst (v := (4 : Int32)) dX4_next_2_317 (by decide) ?_
  refine oX_goto (tgt := 330) dX4_next_2_318 (by decide) ?_
  exact oX_sub [] rfl (x_mX4_next_2_j330 hM n (4 : Int32) hm hK)
noncomputable def mX4_next_2_j314 (n : Nat) (FI : OhI) (FL : OhL) (FR : OhQ) (AI : OhI) (AN : OhN) (x2 : Int32) (y1 : Int32) (y2 : Int32) : Option (OhI × OhL) :=
  (if y1 ≤ y2 then
  (if x2 = 0 then
    mX4_next_2_j330 n FI FL FR AI AN (2 : Int32)
  else
    mX4_next_2_j330 n FI FL FR AI AN (1 : Int32))
else
  mX4_next_2_j317 n FI FL FR AI AN)
theorem x_mX4_next_2_j314 {G : OhG} {FI AI : OhI} {FL AL : OhL} {FR GR AR BR : OhQ} {AN : OhN} {C : OhC} {k : Nat × Nat} {Φ : OhP} {Ψ : OhX} (hM : ohShM FR AN) (n : Nat) (x2 : Int32) (y1 : Int32) (y2 : Int32) {r : OhI × OhL} (hm : mX4_next_2_j314 n FI FL FR AI AN x2 y1 y2 = some r) (hK : Φ none (r.1, r.2, FR, GR, AI, AL, AR, BR, AN, C)) : oX G 2 iX4_next_2 314 [(2, vI x2)] [vI y2, vI y1, vR (some (1, 0))] (FI, FL, FR, GR, AI, AL, AR, BR, AN, C) k Φ Ψ := by
  unfold mX4_next_2_j314 at hm
  refine oX_icmp_le (tgt := 321) dX4_next_2_314 (by decide) (fun c49 => ?_) (fun c49 => ?_)
  · have hm := ifp c49 hm
    refine oX_iload_n dX4_next_2_321 rfl rfl ?_
    refine oX_if_eq (tgt := 329) dX4_next_2_322 (by decide) (fun c50 => ?_) (fun c50 => ?_)
    · have hm := ifp c50 hm
      refine oX_iconst (v := (2 : Int32)) dX4_next_2_329 (by decide) ?_
      exact oX_sub [] rfl (x_mX4_next_2_j330 hM n (2 : Int32) hm hK)
    · have hm := ifn c50 hm
      refine oX_iconst (v := (1 : Int32)) dX4_next_2_325 (by decide) ?_
      refine oX_goto (tgt := 330) dX4_next_2_326 (by decide) ?_
      exact oX_sub [] rfl (x_mX4_next_2_j330 hM n (1 : Int32) hm hK)
  · have hm := ifn c49 hm
    exact oX_sub [] rfl (x_mX4_next_2_j317 hM n hm hK)
noncomputable def mX4_next_2_j161 (n : Nat) (FI : OhI) (FL : OhL) (FR : OhQ) (AI : OhI) (AN : OhN) (x1 : Int32) : Option (OhI × OhL) :=
  (mX4_isSmall x1).bind fun r24 =>
  oLet (sA FL 1 0 (uA (FL 1 0) 47 (0 : Int64))) fun FL25 =>
  oLet (sA FI 1 0 (uA (FI 1 0) 43 (0 : Int32))) fun FI26 =>
  (lpF (fun v => mX4_next_2_b178 n v.2.1 v.2.2 FR AI AN r24 v.1) n ((1 : Int32), FI26, FL25)).bind fun v45 =>
  (if v45.1 = 0 then
  mX4_next_2_j317 n v45.2.1 v45.2.2 FR AI AN
else
  (if r24 = 0 then
    mX4_next_2_j314 n v45.2.1 v45.2.2 FR AI AN r24 (v45.2.1 1 0 42) (5 : Int32)
  else
    mX4_next_2_j314 n v45.2.1 v45.2.2 FR AI AN r24 (v45.2.1 1 0 42) (8 : Int32)))
theorem x_mX4_next_2_j161 {G : OhG} {FI AI : OhI} {FL AL : OhL} {FR GR AR BR : OhQ} {AN : OhN} {C : OhC} {k : Nat × Nat} {Φ : OhP} {Ψ : OhX} (hM : ohShM FR AN) (n : Nat) (x1 : Int32) {r : OhI × OhL} (hm : mX4_next_2_j161 n FI FL FR AI AN x1 = some r) (hK : Φ none (r.1, r.2, FR, GR, AI, AL, AR, BR, AN, C)) : oX G 2 iX4_next_2 161 [(0, vR (some (1, 0))), (1, vI x1)] [] (FI, FL, FR, GR, AI, AL, AR, BR, AN, C) k Φ Ψ := by
  unfold mX4_next_2_j161 at hm
  refine oX_iload_n dX4_next_2_161 rfl rfl ?_
  obtain ⟨r24, g24, hm⟩ := bd_s hm
  refine oX_cS (as := [vI x1]) dX4_next_2_162 rfl ok_X4_isSmall rfl rfl q2075 q2076 q136 q2077 (by decide) (Nat.le_of_ble_eq_true rfl) (t_X4_isSmall x1 g24) ?_
  refine oX_istore_n (ls' := [(2, vI r24), (0, vR (some (1, 0))), (1, vI x1)]) dX4_next_2_165 rfl (by decide) rfl ?_
  refine oX_iconst (v := (1 : Int32)) dX4_next_2_166 (by decide) ?_
  refine oX_istore_n (ls' := [(3, vI (1 : Int32)), (2, vI r24), (0, vR (some (1, 0))), (1, vI x1)]) dX4_next_2_167 rfl (by decide) rfl ?_
  refine oX_aload_n dX4_next_2_168 rfl rfl ?_
  refine oX_lconst (v := (0 : Int64)) dX4_next_2_169 (by decide) ?_
  obtain ⟨FL25, hFL25, hm⟩ := oLs hm
  refine oX_putL fX4_291 rfl (fun h9 => by cases h9) oDs1 dX4_next_2_170 rfl hFL25 ?_
  refine oX_aload_n dX4_next_2_173 rfl rfl ?_
  refine oX_iconst (v := (0 : Int32)) dX4_next_2_174 (by decide) ?_
  obtain ⟨FI26, hFI26, hm⟩ := oLs hm
  refine oX_putI fX4_288 rfl (fun h9 => by cases h9) oDs1 dX4_next_2_175 ⟨rfl, rfl⟩ hFI26 ?_
  obtain ⟨v45, g45, hm⟩ := bd_s hm
  refine oX_sub [2, 1, 0] rfl (l_mX4_next_2_b178 hM n r24 n (1 : Int32) FI26 FL25 _ g45 ?_)
  refine oX_aload_n dX4_next_2_295 rfl rfl ?_
  refine oX_iload_n dX4_next_2_296 rfl rfl ?_
  refine oX_if_eq (tgt := 317) dX4_next_2_297 (by decide) (fun c46 => ?_) (fun c46 => ?_)
  · have hm := ifp c46 hm
    exact oX_sub [] rfl (x_mX4_next_2_j317 hM n hm hK)
  · have hm := ifn c46 hm
    refine oX_aload_n dX4_next_2_300 rfl rfl ?_
    refine oX_getI fX4_275 rfl oDs1 dX4_next_2_301 ?_
    refine oX_iload_n dX4_next_2_304 rfl rfl ?_
    refine oX_if_eq (tgt := 313) dX4_next_2_305 (by decide) (fun c48 => ?_) (fun c48 => ?_)
    · have hm := ifp c48 hm
      refine oX_iconst (v := (5 : Int32)) dX4_next_2_313 (by decide) ?_
      exact oX_sub [1] rfl (x_mX4_next_2_j314 hM n r24 (v45.2.1 1 0 42) (5 : Int32) hm hK)
    · have hm := ifn c48 hm
      refine oX_bipush (v := (8 : Int32)) dX4_next_2_308 (by decide) ?_
      refine oX_goto (tgt := 314) dX4_next_2_310 (by decide) ?_
      exact oX_sub [1] rfl (x_mX4_next_2_j314 hM n r24 (v45.2.1 1 0 42) (8 : Int32) hm hK)
noncomputable def mX4_next_2_j77 (n : Nat) (FI : OhI) (FL : OhL) (FR : OhQ) (AI : OhI) (AN : OhN) : Option (OhI × OhL) :=
  (mX4_peek FI FR AI AN).bind fun r10 =>
  (if 0 ≤ r10 then
  (mX4_isSmall r10).bind fun r12 =>
    (if r12 = 0 then
    (mX4_isDigit r10).bind fun r14 =>
      (if r14 = 0 then
      (if r10 = (59 : Int32) then
        mX4_next_2_j137 n FI FL FR AI AN r10
      else
        (if r10 = (40 : Int32) then
          mX4_next_2_j137 n FI FL FR AI AN r10
        else
          (if r10 = (41 : Int32) then
            mX4_next_2_j137 n FI FL FR AI AN r10
          else
            (if r10 < (60 : Int32) then
              mX4_next_2_j141 n FI FL FR AI AN r10
            else
              (if (62 : Int32) < r10 then
                mX4_next_2_j141 n FI FL FR AI AN r10
              else
                mX4_next_2_j137 n FI FL FR AI AN r10)))))
    else
      mX4_next_2_j161 n FI FL FR AI AN r10)
  else
    mX4_next_2_j161 n FI FL FR AI AN r10)
else
  oLet (sA FI 1 0 (uA (FI 1 0) 40 (0 : Int32))) fun FI51 =>
    some (FI51, FL))
theorem x_mX4_next_2_j77 {G : OhG} {FI AI : OhI} {FL AL : OhL} {FR GR AR BR : OhQ} {AN : OhN} {C : OhC} {k : Nat × Nat} {Φ : OhP} {Ψ : OhX} (hM : ohShM FR AN) (n : Nat) {r : OhI × OhL} (hm : mX4_next_2_j77 n FI FL FR AI AN = some r) (hK : Φ none (r.1, r.2, FR, GR, AI, AL, AR, BR, AN, C)) : oX G 2 iX4_next_2 77 [(0, vR (some (1, 0)))] [] (FI, FL, FR, GR, AI, AL, AR, BR, AN, C) k Φ Ψ := by
  unfold mX4_next_2_j77 at hm
  refine oX_aload_n dX4_next_2_77 rfl rfl ?_
  obtain ⟨r10, g10, hm⟩ := bd_s hm
  refine oX_cV (as := []) dX4_next_2_78 rfl oDs1 rfl (by decide) rfl ok_X4_peek rfl rfl q2071 q2073 qs64 q136 q2074 (by decide) (Nat.le_of_ble_eq_true rfl) (t_X4_peek hM g10) ?_
  refine oX_istore_n (ls' := [(1, vI r10), (0, vR (some (1, 0)))]) dX4_next_2_81 rfl (by decide) rfl ?_
  refine oX_iload_n dX4_next_2_82 rfl rfl ?_
  refine oX_if_ge (tgt := 92) dX4_next_2_83 (by decide) (fun c11 => ?_) (fun c11 => ?_)
  · have hm := ifp c11 hm
    refine oX_iload_n dX4_next_2_92 rfl rfl ?_
    obtain ⟨r12, g12, hm⟩ := bd_s hm
    refine oX_cS (as := [vI r10]) dX4_next_2_93 rfl ok_X4_isSmall rfl rfl q2075 q2076 q136 q2077 (by decide) (Nat.le_of_ble_eq_true rfl) (t_X4_isSmall r10 g12) ?_
    refine oX_if_ne (tgt := 161) dX4_next_2_96 (by decide) (fun c13 => ?_) (fun c13 => ?_)
    · have hm := ifp c13 hm
      refine oX_iload_n dX4_next_2_99 rfl rfl ?_
      obtain ⟨r14, g14, hm⟩ := bd_s hm
      refine oX_cS (as := [vI r10]) dX4_next_2_100 rfl ok_X4_isDigit rfl rfl q2078 q2079 q136 q2080 (by decide) (Nat.le_of_ble_eq_true rfl) (t_X4_isDigit r10 g14) ?_
      refine oX_if_ne (tgt := 161) dX4_next_2_103 (by decide) (fun c15 => ?_) (fun c15 => ?_)
      · have hm := ifp c15 hm
        refine oX_aload_n dX4_next_2_106 rfl rfl ?_
        refine oX_iload_n dX4_next_2_107 rfl rfl ?_
        refine oX_bipush (v := (59 : Int32)) dX4_next_2_108 (by decide) ?_
        refine oX_icmp_eq (tgt := 137) dX4_next_2_110 (by decide) (fun c16 => ?_) (fun c16 => ?_)
        · have hm := ifp c16 hm
          exact oX_sub [1, 0] rfl (x_mX4_next_2_j137 hM n r10 hm hK)
        · have hm := ifn c16 hm
          refine oX_iload_n dX4_next_2_113 rfl rfl ?_
          refine oX_bipush (v := (40 : Int32)) dX4_next_2_114 (by decide) ?_
          refine oX_icmp_eq (tgt := 137) dX4_next_2_116 (by decide) (fun c20 => ?_) (fun c20 => ?_)
          · have hm := ifp c20 hm
            exact oX_sub [1, 0] rfl (x_mX4_next_2_j137 hM n r10 hm hK)
          · have hm := ifn c20 hm
            refine oX_iload_n dX4_next_2_119 rfl rfl ?_
            refine oX_bipush (v := (41 : Int32)) dX4_next_2_120 (by decide) ?_
            refine oX_icmp_eq (tgt := 137) dX4_next_2_122 (by decide) (fun c21 => ?_) (fun c21 => ?_)
            · have hm := ifp c21 hm
              exact oX_sub [1, 0] rfl (x_mX4_next_2_j137 hM n r10 hm hK)
            · have hm := ifn c21 hm
              refine oX_iload_n dX4_next_2_125 rfl rfl ?_
              refine oX_bipush (v := (60 : Int32)) dX4_next_2_126 (by decide) ?_
              refine oX_icmp_lt (tgt := 141) dX4_next_2_128 (by decide) (fun c22 => ?_) (fun c22 => ?_)
              · have hm := ifp c22 hm
                exact oX_sub [1, 0] rfl (x_mX4_next_2_j141 hM n r10 hm hK)
              · have hm := ifn c22 hm
                refine oX_iload_n dX4_next_2_131 rfl rfl ?_
                refine oX_bipush (v := (62 : Int32)) dX4_next_2_132 (by decide) ?_
                refine oX_icmp_gt (tgt := 141) dX4_next_2_134 (by decide) (fun c23 => ?_) (fun c23 => ?_)
                · have hm := ifp c23 hm
                  exact oX_sub [1, 0] rfl (x_mX4_next_2_j141 hM n r10 hm hK)
                · have hm := ifn c23 hm
                  exact oX_sub [1, 0] rfl (x_mX4_next_2_j137 hM n r10 hm hK)
      · have hm := ifn c15 hm
        exact oX_sub [1, 0] rfl (x_mX4_next_2_j161 hM n r10 hm hK)
    · have hm := ifn c13 hm
      exact oX_sub [1, 0] rfl (x_mX4_next_2_j161 hM n r10 hm hK)
  · have hm := ifn c11 hm
    refine oX_aload_n dX4_next_2_86 rfl rfl ?_
    refine oX_iconst (v := (0 : Int32)) dX4_next_2_87 (by decide) ?_
    obtain ⟨FI51, hFI51, hm⟩ := oLs hm
    refine oX_putI fX4_278 rfl (fun h9 => by cases h9) oDs1 dX4_next_2_88 ⟨rfl, rfl⟩ hFI51 ?_
    obtain rfl := Option.some.inj hm
    exact oX_vret dX4_next_2_91 rfl hK
noncomputable def mX4_next_2 (n : Nat) (FI : OhI) (FL : OhL) (FR : OhQ) (AI : OhI) (AN : OhN) : Option (OhI × OhL) :=
  (lpF (fun v => mX4_next_2_b0 n v FL FR AI AN) n FI).bind fun v6 =>
  oLet (sA v6 1 0 (uA (v6 1 0) 41 (v6 1 0 4))) fun FI7 =>
  oLet (sA FI7 1 0 (uA (FI7 1 0) 42 (0 : Int32))) fun FI8 =>
  (if (FI8 1 0 3) ≤ (300 : Int32) then
  mX4_next_2_j77 n FI8 FL FR AI AN
else
  (if (FI8 1 0 4) < (300 : Int32) then
    mX4_next_2_j77 n FI8 FL FR AI AN
  else
    oLet (sA FI8 1 0 (uA (FI8 1 0) 41 (300 : Int32))) fun FI53 =>
      oLet (sA FI53 1 0 (uA (FI53 1 0) 40 (4 : Int32))) fun FI54 =>
      some (FI54, FL)))
theorem x_mX4_next_2 {G : OhG} {FI AI : OhI} {FL AL : OhL} {FR GR AR BR : OhQ} {AN : OhN} {C : OhC} {k : Nat × Nat} {Φ : OhP} {Ψ : OhX} (hM : ohShM FR AN) (n : Nat) {r : OhI × OhL} (hm : mX4_next_2 n FI FL FR AI AN = some r) (hK : Φ none (r.1, r.2, FR, GR, AI, AL, AR, BR, AN, C)) : oX G 2 iX4_next_2 0 [(0, vR (some (1, 0)))] [] (FI, FL, FR, GR, AI, AL, AR, BR, AN, C) k Φ Ψ := by
  unfold mX4_next_2 at hm
  obtain ⟨v6, g6, hm⟩ := bd_s hm
  refine oX_sub [0] rfl (l_mX4_next_2_b0 hM n n FI _ g6 ?_)
  refine oX_aload_n dX4_next_2_31 rfl rfl ?_
  refine oX_aload_n dX4_next_2_32 rfl rfl ?_
  refine oX_getI fX4_239 rfl oDs1 dX4_next_2_33 ?_
  obtain ⟨FI7, hFI7, hm⟩ := oLs hm
  refine oX_putI fX4_272 rfl (fun h9 => by cases h9) oDs1 dX4_next_2_36 ⟨rfl, rfl⟩ hFI7 ?_
  refine oX_aload_n dX4_next_2_39 rfl rfl ?_
  refine oX_iconst (v := (0 : Int32)) dX4_next_2_40 (by decide) ?_
  obtain ⟨FI8, hFI8, hm⟩ := oLs hm
  refine oX_putI fX4_275 rfl (fun h9 => by cases h9) oDs1 dX4_next_2_41 ⟨rfl, rfl⟩ hFI8 ?_
  refine oX_aload_n dX4_next_2_44 rfl rfl ?_
  refine oX_getI fX4_236 rfl oDs1 dX4_next_2_45 ?_
  refine oX_sipush (v := (300 : Int32)) dX4_next_2_48 (by decide) ?_
  refine oX_icmp_le (tgt := 77) dX4_next_2_51 (by decide) (fun c9 => ?_) (fun c9 => ?_)
  · have hm := ifp c9 hm
    exact oX_sub [0] rfl (x_mX4_next_2_j77 hM n hm hK)
  · have hm := ifn c9 hm
    refine oX_aload_n dX4_next_2_54 rfl rfl ?_
    refine oX_getI fX4_239 rfl oDs1 dX4_next_2_55 ?_
    refine oX_sipush (v := (300 : Int32)) dX4_next_2_58 (by decide) ?_
    refine oX_icmp_lt (tgt := 77) dX4_next_2_61 (by decide) (fun c52 => ?_) (fun c52 => ?_)
    · have hm := ifp c52 hm
      exact oX_sub [0] rfl (x_mX4_next_2_j77 hM n hm hK)
    · have hm := ifn c52 hm
      refine oX_aload_n dX4_next_2_64 rfl rfl ?_
      refine oX_sipush (v := (300 : Int32)) dX4_next_2_65 (by decide) ?_
      obtain ⟨FI53, hFI53, hm⟩ := oLs hm
      refine oX_putI fX4_272 rfl (fun h9 => by cases h9) oDs1 dX4_next_2_68 ⟨rfl, rfl⟩ hFI53 ?_
      refine oX_aload_n dX4_next_2_71 rfl rfl ?_
      refine oX_iconst (v := (4 : Int32)) dX4_next_2_72 (by decide) ?_
      obtain ⟨FI54, hFI54, hm⟩ := oLs hm
      refine oX_putI fX4_278 rfl (fun h9 => by cases h9) oDs1 dX4_next_2_73 ⟨rfl, rfl⟩ hFI54 ?_
      obtain rfl := Option.some.inj hm
      exact oX_vret dX4_next_2_76 rfl hK
theorem t_X4_next_2 {G : OhG} {FI AI : OhI} {FL AL : OhL} {FR GR AR BR : OhQ} {AN : OhN} {C : OhC} (hM : ohShM FR AN) (n : Nat) {o : OhI × OhL} (hm : mX4_next_2 n FI FL FR AI AN = some o) : oT G 2 iX4_next_2 [vR (some (1, 0))] (FI, FL, FR, GR, AI, AL, AR, BR, AN, C) (0, 0) (fun v h => v = none ∧ h = (o.1, o.2, FR, GR, AI, AL, AR, BR, AN, C)) ohNo :=
  oT_of (by decide) rfl (Nat.le_of_ble_eq_true rfl) (x_mX4_next_2 hM n hm ⟨rfl, rfl⟩)
abbrev iX4_isWord : OhM := (yX4_isWord, cX4_isWord, 3, (some .boolean), [])
theorem ok_X4_isWord : oOk iX4_isWord 1 := ⟨by decide, by decide, by decide +kernel⟩

noncomputable def mX4_isWord (FI : OhI) (FL : OhL) (x1 : Int64) : Option (Int32) :=
  (if (FI 1 0 40) = (1 : Int32) then
  (if (lg_cmp (FL 1 0 47) x1) = 0 then
    some (1 : Int32)
  else
    some (0 : Int32))
else
  some (0 : Int32))
theorem x_mX4_isWord {G : OhG} {FI AI : OhI} {FL AL : OhL} {FR GR AR BR : OhQ} {AN : OhN} {C : OhC} {k : Nat × Nat} {Φ : OhP} {Ψ : OhX} (x1 : Int64) {r : Int32} (hm : mX4_isWord FI FL x1 = some r) (hK : Φ (some (vI r)) (FI, FL, FR, GR, AI, AL, AR, BR, AN, C)) : oX G 1 iX4_isWord 0 [(0, vR (some (1, 0))), (1, vL x1)] [] (FI, FL, FR, GR, AI, AL, AR, BR, AN, C) k Φ Ψ := by
  unfold mX4_isWord at hm
  refine oX_aload_n dX4_isWord_0 rfl rfl ?_
  refine oX_getI fX4_278 rfl oDs1 dX4_isWord_1 ?_
  refine oX_iconst (v := (1 : Int32)) dX4_isWord_4 (by decide) ?_
  refine oX_icmp_ne (tgt := 21) dX4_isWord_5 (by decide) (fun c1 => ?_) (fun c1 => ?_)
  · have hm := ifp c1 hm
    refine oX_aload_n dX4_isWord_8 rfl rfl ?_
    refine oX_getL fX4_291 rfl oDs1 dX4_isWord_9 ?_
    refine oX_lload_n dX4_isWord_12 rfl rfl ?_
    refine oX_lcmp dX4_isWord_13 ?_
    refine oX_if_ne (tgt := 21) dX4_isWord_14 (by decide) (fun c2 => ?_) (fun c2 => ?_)
    · have hm := ifp c2 hm
      refine oX_iconst (v := (1 : Int32)) dX4_isWord_17 (by decide) ?_
      refine oX_goto (tgt := 22) dX4_isWord_18 (by decide) ?_
      obtain rfl := Option.some.inj hm
      exact oX_iret dX4_isWord_22 rfl (by decide) hK
    · have hm := ifn c2 hm
      refine oX_iconst (v := (0 : Int32)) dX4_isWord_21 (by decide) ?_
      obtain rfl := Option.some.inj hm
      exact oX_iret dX4_isWord_22 rfl (by decide) hK
  · have hm := ifn c1 hm
    refine oX_iconst (v := (0 : Int32)) dX4_isWord_21 (by decide) ?_
    obtain rfl := Option.some.inj hm
    exact oX_iret dX4_isWord_22 rfl (by decide) hK
theorem t_X4_isWord {G : OhG} {FI AI : OhI} {FL AL : OhL} {FR GR AR BR : OhQ} {AN : OhN} {C : OhC} (x1 : Int64) {o : Int32} (hm : mX4_isWord FI FL x1 = some o) : oT G 1 iX4_isWord [vR (some (1, 0)), vL x1] (FI, FL, FR, GR, AI, AL, AR, BR, AN, C) (0, 0) (fun v h => v = (some (vI o)) ∧ h = (FI, FL, FR, GR, AI, AL, AR, BR, AN, C)) ohNo :=
  oT_of (by decide) rfl (Nat.le_of_ble_eq_true rfl) (x_mX4_isWord x1 hm ⟨rfl, rfl⟩)
abbrev iX4_bad : OhM := (yX4_bad, cX4_bad, 2, (some .boolean), [])
theorem ok_X4_bad : oOk iX4_bad 1 := ⟨by decide, by decide, by decide +kernel⟩

noncomputable def mX4_bad (FI : OhI) (x1 : Int32) : Option (Int32 × OhI) :=
  oLet (sA FI 1 0 (uA (FI 1 0) 44 x1)) fun FI1 =>
  oLet (sA FI1 1 0 (uA (FI1 1 0) 45 (FI1 1 0 41))) fun FI2 =>
  some ((0 : Int32), FI2)
theorem x_mX4_bad {G : OhG} {FI AI : OhI} {FL AL : OhL} {FR GR AR BR : OhQ} {AN : OhN} {C : OhC} {k : Nat × Nat} {Φ : OhP} {Ψ : OhX} (x1 : Int32) {r : Int32 × OhI} (hm : mX4_bad FI x1 = some r) (hK : Φ (some (vI r.1)) (r.2, FL, FR, GR, AI, AL, AR, BR, AN, C)) : oX G 1 iX4_bad 0 [(0, vR (some (1, 0))), (1, vI x1)] [] (FI, FL, FR, GR, AI, AL, AR, BR, AN, C) k Φ Ψ := by
  unfold mX4_bad at hm
  refine oX_aload_n dX4_bad_0 rfl rfl ?_
  refine oX_iload_n dX4_bad_1 rfl rfl ?_
  obtain ⟨FI1, hFI1, hm⟩ := oLs hm
  refine oX_putI fX4_295 rfl (fun h9 => by cases h9) oDs1 dX4_bad_2 ⟨rfl, rfl⟩ hFI1 ?_
  refine oX_aload_n dX4_bad_5 rfl rfl ?_
  refine oX_aload_n dX4_bad_6 rfl rfl ?_
  refine oX_getI fX4_272 rfl oDs1 dX4_bad_7 ?_
  obtain ⟨FI2, hFI2, hm⟩ := oLs hm
  refine oX_putI fX4_298 rfl (fun h9 => by cases h9) oDs1 dX4_bad_10 ⟨rfl, rfl⟩ hFI2 ?_
  refine oX_iconst (v := (0 : Int32)) dX4_bad_13 (by decide) ?_
  obtain rfl := Option.some.inj hm
  exact oX_iret dX4_bad_14 rfl (by decide) hK
theorem t_X4_bad {G : OhG} {FI AI : OhI} {FL AL : OhL} {FR GR AR BR : OhQ} {AN : OhN} {C : OhC} (x1 : Int32) {o : Int32 × OhI} (hm : mX4_bad FI x1 = some o) : oT G 1 iX4_bad [vR (some (1, 0)), vI x1] (FI, FL, FR, GR, AI, AL, AR, BR, AN, C) (0, 0) (fun v h => v = (some (vI o.1)) ∧ h = (o.2, FL, FR, GR, AI, AL, AR, BR, AN, C)) ohNo :=
  oT_of (by decide) rfl (Nat.le_of_ble_eq_true rfl) (x_mX4_bad x1 hm ⟨rfl, rfl⟩)
abbrev iX4_once : OhM := (yX4_once, cX4_once, 4, (some .boolean), [])
theorem ok_X4_once : oOk iX4_once 3 := ⟨by decide, by decide, by decide +kernel⟩

noncomputable def mX4_once (n : Nat) (FI : OhI) (FL : OhL) (FR : OhQ) (AI : OhI) (AN : OhN) (x1 : Int32) (x2 : Int32) (x3 : Int32) : Option (Int32 × OhI × OhL × OhI) :=
  (if (((FI 1 0 46) >>> (x1 &&& 31)) &&& (1 : Int32)) = (1 : Int32) then
  (mX4_bad FI (3 : Int32)).bind fun r2 =>
    gd (r2.1 = 0 ∨ r2.1 = 1) <|
    some (r2.1, r2.2, FL, AI)
else
  oLet (sA FI 1 0 (uA (FI 1 0) 46 ((FI 1 0 46) ||| ((1 : Int32) <<< (x1 &&& 31))))) fun FI4 =>
    (mX4_next_2 n FI4 FL FR AI AN).bind fun r5 =>
    (if (r5.1 1 0 40) = (2 : Int32) then
    (mX4_isIn (r5.1 1 0 43) x2 x3).bind fun r7 =>
      (if r7 = 0 then
      (mX4_bad r5.1 (2 : Int32)).bind fun r9 =>
        gd (r9.1 = 0 ∨ r9.1 = 1) <|
        some (r9.1, r9.2, r5.2, AI)
    else
      gd (vp_in ((80 : Int32) + x1) 84) <|
        oLet (sA AI 125 0 (uA (AI 125 0) ((80 : Int32) + x1).toNatClampNeg (r5.1 1 0 43))) fun AI11 =>
        (mX4_next_2 n r5.1 r5.2 FR AI11 AN).bind fun r12 =>
        some ((1 : Int32), r12.1, r12.2, AI11))
  else
    (mX4_bad r5.1 (1 : Int32)).bind fun r13 =>
      gd (r13.1 = 0 ∨ r13.1 = 1) <|
      some (r13.1, r13.2, r5.2, AI)))
theorem x_mX4_once {G : OhG} {FI AI : OhI} {FL AL : OhL} {FR GR AR BR : OhQ} {AN : OhN} {C : OhC} {k : Nat × Nat} {Φ : OhP} {Ψ : OhX} (hM : ohShM FR AN) (n : Nat) (x1 : Int32) (x2 : Int32) (x3 : Int32) {r : Int32 × OhI × OhL × OhI} (hm : mX4_once n FI FL FR AI AN x1 x2 x3 = some r) (hK : Φ (some (vI r.1)) (r.2.1, r.2.2.1, FR, GR, r.2.2.2, AL, AR, BR, AN, C)) : oX G 3 iX4_once 0 [(0, vR (some (1, 0))), (1, vI x1), (2, vI x2), (3, vI x3)] [] (FI, FL, FR, GR, AI, AL, AR, BR, AN, C) k Φ Ψ := by
  unfold mX4_once at hm
  refine oX_aload_n dX4_once_0 rfl rfl ?_
  refine oX_getI fX4_313 rfl oDs1 dX4_once_1 ?_
  refine oX_iload_n dX4_once_4 rfl rfl ?_
  refine oX_ishr dX4_once_5 ?_
  refine oX_iconst (v := (1 : Int32)) dX4_once_6 (by decide) ?_
  refine oX_iand dX4_once_7 ?_
  refine oX_iconst (v := (1 : Int32)) dX4_once_8 (by decide) ?_
  refine oX_icmp_ne (tgt := 18) dX4_once_9 (by decide) (fun c1 => ?_) (fun c1 => ?_)
  · have hm := ifp c1 hm
    refine oX_aload_n dX4_once_12 rfl rfl ?_
    refine oX_iconst (v := (3 : Int32)) dX4_once_13 (by decide) ?_
    obtain ⟨r2, g2, hm⟩ := bd_s hm
    refine oX_cV (as := [vI (3 : Int32)]) dX4_once_14 rfl oDs1 rfl (by decide) rfl ok_X4_bad rfl rfl q2094 q2096 qs68 q136 q2097 (by decide) (Nat.le_of_ble_eq_true rfl) (t_X4_bad (3 : Int32) g2) ?_
    obtain ⟨g3, hm⟩ := gd_s hm
    obtain rfl := Option.some.inj hm
    exact oX_iret dX4_once_17 rfl (oNz g3) hK
  · have hm := ifn c1 hm
    refine oX_aload_n dX4_once_18 rfl rfl ?_
    refine oX_aload_n dX4_once_19 rfl rfl ?_
    refine oX_getI fX4_313 rfl oDs1 dX4_once_20 ?_
    refine oX_iconst (v := (1 : Int32)) dX4_once_23 (by decide) ?_
    refine oX_iload_n dX4_once_24 rfl rfl ?_
    refine oX_ishl dX4_once_25 ?_
    refine oX_ior dX4_once_26 ?_
    obtain ⟨FI4, hFI4, hm⟩ := oLs hm
    refine oX_putI fX4_313 rfl (fun h9 => by cases h9) oDs1 dX4_once_27 ⟨rfl, rfl⟩ hFI4 ?_
    refine oX_aload_n dX4_once_30 rfl rfl ?_
    obtain ⟨r5, g5, hm⟩ := bd_s hm
    refine oX_cV_ (as := []) dX4_once_31 rfl oDs1 rfl (by decide) rfl ok_X4_next_2 rfl rfl q2067 q2069 qs63 q136 q2070 (by decide) (Nat.le_of_ble_eq_true rfl) (t_X4_next_2 hM n g5) ?_
    refine oX_aload_n dX4_once_34 rfl rfl ?_
    refine oX_getI fX4_278 rfl oDs1 dX4_once_35 ?_
    refine oX_iconst (v := (2 : Int32)) dX4_once_38 (by decide) ?_
    refine oX_icmp_eq (tgt := 48) dX4_once_39 (by decide) (fun c6 => ?_) (fun c6 => ?_)
    · have hm := ifp c6 hm
      refine oX_aload_n dX4_once_48 rfl rfl ?_
      refine oX_getI fX4_288 rfl oDs1 dX4_once_49 ?_
      refine oX_iload_n dX4_once_52 rfl rfl ?_
      refine oX_iload_n dX4_once_53 rfl rfl ?_
      obtain ⟨r7, g7, hm⟩ := bd_s hm
      refine oX_cS (as := [vI (r5.1 1 0 43), vI x2, vI x3]) dX4_once_54 rfl ok_X4_isIn rfl rfl q2032 q2033 q136 q2034 (by decide) (Nat.le_of_ble_eq_true rfl) (t_X4_isIn (r5.1 1 0 43) x2 x3 g7) ?_
      refine oX_if_ne (tgt := 66) dX4_once_57 (by decide) (fun c8 => ?_) (fun c8 => ?_)
      · have hm := ifp c8 hm
        refine oX_aload_n dX4_once_60 rfl rfl ?_
        refine oX_iconst (v := (2 : Int32)) dX4_once_61 (by decide) ?_
        obtain ⟨r9, g9, hm⟩ := bd_s hm
        refine oX_cV (as := [vI (2 : Int32)]) dX4_once_62 rfl oDs1 rfl (by decide) rfl ok_X4_bad rfl rfl q2094 q2096 qs68 q136 q2097 (by decide) (Nat.le_of_ble_eq_true rfl) (t_X4_bad (2 : Int32) g9) ?_
        obtain ⟨g10, hm⟩ := gd_s hm
        obtain rfl := Option.some.inj hm
        exact oX_iret dX4_once_65 rfl (oNz g10) hK
      · have hm := ifn c8 hm
        refine oX_aload_n dX4_once_66 rfl rfl ?_
        refine oX_getF fX4_64 rfl oDs1 dX4_once_67 (ohF125 hM) ?_
        refine oX_bipush (v := (80 : Int32)) dX4_once_70 (by decide) ?_
        refine oX_iload_n dX4_once_72 rfl rfl ?_
        refine oX_iadd dX4_once_73 ?_
        refine oX_aload_n dX4_once_74 rfl rfl ?_
        refine oX_getI fX4_288 rfl oDs1 dX4_once_75 ?_
        obtain ⟨g11, hm⟩ := gd_s hm
        obtain ⟨AI11, hAI11, hm⟩ := oLs hm
        refine oX_iast oDs125 (oIn (ohN125 hM) g11) dX4_once_78 hAI11 ?_
        refine oX_aload_n dX4_once_79 rfl rfl ?_
        obtain ⟨r12, g12, hm⟩ := bd_s hm
        refine oX_cV_ (as := []) dX4_once_80 rfl oDs1 rfl (by decide) rfl ok_X4_next_2 rfl rfl q2067 q2069 qs63 q136 q2070 (by decide) (Nat.le_of_ble_eq_true rfl) (t_X4_next_2 hM n g12) ?_
        refine oX_iconst (v := (1 : Int32)) dX4_once_83 (by decide) ?_
        obtain rfl := Option.some.inj hm
        exact oX_iret dX4_once_84 rfl (by decide) hK
    · have hm := ifn c6 hm
      refine oX_aload_n dX4_once_42 rfl rfl ?_
      refine oX_iconst (v := (1 : Int32)) dX4_once_43 (by decide) ?_
      obtain ⟨r13, g13, hm⟩ := bd_s hm
      refine oX_cV (as := [vI (1 : Int32)]) dX4_once_44 rfl oDs1 rfl (by decide) rfl ok_X4_bad rfl rfl q2094 q2096 qs68 q136 q2097 (by decide) (Nat.le_of_ble_eq_true rfl) (t_X4_bad (1 : Int32) g13) ?_
      obtain ⟨g14, hm⟩ := gd_s hm
      obtain rfl := Option.some.inj hm
      exact oX_iret dX4_once_47 rfl (oNz g14) hK
theorem t_X4_once {G : OhG} {FI AI : OhI} {FL AL : OhL} {FR GR AR BR : OhQ} {AN : OhN} {C : OhC} (hM : ohShM FR AN) (n : Nat) (x1 : Int32) (x2 : Int32) (x3 : Int32) {o : Int32 × OhI × OhL × OhI} (hm : mX4_once n FI FL FR AI AN x1 x2 x3 = some o) : oT G 3 iX4_once [vR (some (1, 0)), vI x1, vI x2, vI x3] (FI, FL, FR, GR, AI, AL, AR, BR, AN, C) (0, 0) (fun v h => v = (some (vI o.1)) ∧ h = (o.2.1, o.2.2.1, FR, GR, o.2.2.2, AL, AR, BR, AN, C)) ohNo :=
  oT_of (by decide) rfl (Nat.le_of_ble_eq_true rfl) (x_mX4_once hM n x1 x2 x3 hm ⟨rfl, rfl⟩)
abbrev iX4_leave : OhM := (yX4_leave, cX4_leave, 2, (some .boolean), [])
theorem ok_X4_leave : oOk iX4_leave 0 := ⟨by decide, by decide, by decide +kernel⟩

noncomputable def mX4_leave_j111 (n : Nat) (FI : OhI) (FL : OhL) (FR : OhQ) (AI : OhI) (AN : OhN) : Option (Int32 × OhI × OhL × OhI) :=
  (mX4_bad FI (2 : Int32)).bind fun r16 =>
  gd (r16.1 = 0 ∨ r16.1 = 1) <|
  some (r16.1, r16.2, FL, AI)
theorem x_mX4_leave_j111 {G : OhG} {FI AI : OhI} {FL AL : OhL} {FR GR AR BR : OhQ} {AN : OhN} {C : OhC} {k : Nat × Nat} {Φ : OhP} {Ψ : OhX} (hM : ohShM FR AN) (n : Nat) {r : Int32 × OhI × OhL × OhI} (hm : mX4_leave_j111 n FI FL FR AI AN = some r) (hK : Φ (some (vI r.1)) (r.2.1, r.2.2.1, FR, GR, r.2.2.2, AL, AR, BR, AN, C)) : oX G 3 iX4_leave 111 [(0, vR (some (1, 0)))] [] (FI, FL, FR, GR, AI, AL, AR, BR, AN, C) k Φ Ψ := by
  unfold mX4_leave_j111 at hm
  refine oX_aload_n dX4_leave_111 rfl rfl ?_
  refine oX_iconst (v := (2 : Int32)) dX4_leave_112 (by decide) ?_
  obtain ⟨r16, g16, hm⟩ := bd_s hm
  refine oX_cV (as := [vI (2 : Int32)]) dX4_leave_113 rfl oDs1 rfl (by decide) rfl ok_X4_bad rfl rfl q2094 q2096 qs68 q136 q2097 (by decide) (Nat.le_of_ble_eq_true rfl) (t_X4_bad (2 : Int32) g16) ?_
  obtain ⟨g17, hm⟩ := gd_s hm
  obtain rfl := Option.some.inj hm
  exact oX_iret dX4_leave_116 rfl (oNz g17) hK
noncomputable def mX4_leave (n : Nat) (FI : OhI) (FL : OhL) (FR : OhQ) (AI : OhI) (AN : OhN) : Option (Int32 × OhI × OhL × OhI) :=
  gd (vp_in (20 : Int32) 21) <|
  (if (AI 126 0 (20 : Int32).toNatClampNeg) = (6 : Int32) then
  (mX4_bad FI (3 : Int32)).bind fun r3 =>
    gd (r3.1 = 0 ∨ r3.1 = 1) <|
    some (r3.1, r3.2, FL, AI)
else
  (mX4_next_2 n FI FL FR AI AN).bind fun r5 =>
    (if (r5.1 1 0 40) = (2 : Int32) then
    (if (r5.1 1 0 43) ≤ (29 : Int32) then
      (mX4_next_2 n r5.1 r5.2 FR AI AN).bind fun r8 =>
        (mX4_isWord r8.1 r8.2 (29807 : Int64)).bind fun r9 =>
        (if r9 = 0 then
        (mX4_bad r8.1 (1 : Int32)).bind fun r11 =>
          gd (r11.1 = 0 ∨ r11.1 = 1) <|
          some (r11.1, r11.2, r8.2, AI)
      else
        (mX4_next_2 n r8.1 r8.2 FR AI AN).bind fun r13 =>
          (if (r13.1 1 0 40) = (2 : Int32) then
          (if (r13.1 1 0 43) < (r5.1 1 0 43) then
            mX4_leave_j111 n r13.1 r13.2 FR AI AN
          else
            (if (r13.1 1 0 43) ≤ (29 : Int32) then
              gd (vp_in (20 : Int32) 21) <|
                gd (vp_in ((120 : Int32) + (AI 126 0 (20 : Int32).toNatClampNeg)) 126) <|
                oLet (sA AI 127 0 (uA (AI 127 0) ((120 : Int32) + (AI 126 0 (20 : Int32).toNatClampNeg)).toNatClampNeg (r5.1 1 0 43))) fun AI20 =>
                gd (vp_in (20 : Int32) 21) <|
                gd (vp_in ((120 : Int32) + (AI20 126 0 (20 : Int32).toNatClampNeg)) 126) <|
                oLet (sA AI20 128 0 (uA (AI20 128 0) ((120 : Int32) + (AI20 126 0 (20 : Int32).toNatClampNeg)).toNatClampNeg (r13.1 1 0 43))) fun AI22 =>
                gd (vp_in (20 : Int32) 21) <|
                gd (vp_in (20 : Int32) 21) <|
                oLet (sA AI22 126 0 (uA (AI22 126 0) (20 : Int32).toNatClampNeg ((AI22 126 0 (20 : Int32).toNatClampNeg) + (1 : Int32)))) fun AI24 =>
                (mX4_next_2 n r13.1 r13.2 FR AI24 AN).bind fun r25 =>
                some ((1 : Int32), r25.1, r25.2, AI24)
            else
              mX4_leave_j111 n r13.1 r13.2 FR AI AN))
        else
          (mX4_bad r13.1 (1 : Int32)).bind fun r26 =>
            gd (r26.1 = 0 ∨ r26.1 = 1) <|
            some (r26.1, r26.2, r13.2, AI)))
    else
      (mX4_bad r5.1 (2 : Int32)).bind fun r28 =>
        gd (r28.1 = 0 ∨ r28.1 = 1) <|
        some (r28.1, r28.2, r5.2, AI))
  else
    (mX4_bad r5.1 (1 : Int32)).bind fun r30 =>
      gd (r30.1 = 0 ∨ r30.1 = 1) <|
      some (r30.1, r30.2, r5.2, AI)))
theorem x_mX4_leave {G : OhG} {FI AI : OhI} {FL AL : OhL} {FR GR AR BR : OhQ} {AN : OhN} {C : OhC} {k : Nat × Nat} {Φ : OhP} {Ψ : OhX} (hM : ohShM FR AN) (n : Nat) {r : Int32 × OhI × OhL × OhI} (hm : mX4_leave n FI FL FR AI AN = some r) (hK : Φ (some (vI r.1)) (r.2.1, r.2.2.1, FR, GR, r.2.2.2, AL, AR, BR, AN, C)) : oX G 3 iX4_leave 0 [(0, vR (some (1, 0)))] [] (FI, FL, FR, GR, AI, AL, AR, BR, AN, C) k Φ Ψ := by
  unfold mX4_leave at hm
  refine oX_aload_n dX4_leave_0 rfl rfl ?_
  refine oX_getF fX4_67 rfl oDs1 dX4_leave_1 (ohF126 hM) ?_
  refine oX_bipush (v := (20 : Int32)) dX4_leave_4 (by decide) ?_
  obtain ⟨g1, hm⟩ := gd_s hm
  refine oX_iald oDs126 (oIn (ohN126 hM) g1) dX4_leave_6 ?_
  refine oX_bipush (v := (6 : Int32)) dX4_leave_7 (by decide) ?_
  refine oX_icmp_ne (tgt := 18) dX4_leave_9 (by decide) (fun c2 => ?_) (fun c2 => ?_)
  · have hm := ifp c2 hm
    refine oX_aload_n dX4_leave_12 rfl rfl ?_
    refine oX_iconst (v := (3 : Int32)) dX4_leave_13 (by decide) ?_
    obtain ⟨r3, g3, hm⟩ := bd_s hm
    refine oX_cV (as := [vI (3 : Int32)]) dX4_leave_14 rfl oDs1 rfl (by decide) rfl ok_X4_bad rfl rfl q2094 q2096 qs68 q136 q2097 (by decide) (Nat.le_of_ble_eq_true rfl) (t_X4_bad (3 : Int32) g3) ?_
    obtain ⟨g4, hm⟩ := gd_s hm
    obtain rfl := Option.some.inj hm
    exact oX_iret dX4_leave_17 rfl (oNz g4) hK
  · have hm := ifn c2 hm
    refine oX_aload_n dX4_leave_18 rfl rfl ?_
    obtain ⟨r5, g5, hm⟩ := bd_s hm
    refine oX_cV_ (as := []) dX4_leave_19 rfl oDs1 rfl (by decide) rfl ok_X4_next_2 rfl rfl q2067 q2069 qs63 q136 q2070 (by decide) (Nat.le_of_ble_eq_true rfl) (t_X4_next_2 hM n g5) ?_
    refine oX_aload_n dX4_leave_22 rfl rfl ?_
    refine oX_getI fX4_278 rfl oDs1 dX4_leave_23 ?_
    refine oX_iconst (v := (2 : Int32)) dX4_leave_26 (by decide) ?_
    refine oX_icmp_eq (tgt := 36) dX4_leave_27 (by decide) (fun c6 => ?_) (fun c6 => ?_)
    · have hm := ifp c6 hm
      refine oX_aload_n dX4_leave_36 rfl rfl ?_
      refine oX_getI fX4_288 rfl oDs1 dX4_leave_37 ?_
      refine oX_bipush (v := (29 : Int32)) dX4_leave_40 (by decide) ?_
      refine oX_icmp_le (tgt := 51) dX4_leave_42 (by decide) (fun c7 => ?_) (fun c7 => ?_)
      · have hm := ifp c7 hm
        refine oX_aload_n dX4_leave_51 rfl rfl ?_
        refine oX_getI fX4_288 rfl oDs1 dX4_leave_52 ?_
        refine oX_istore_n (ls' := [(1, vI (r5.1 1 0 43)), (0, vR (some (1, 0)))]) dX4_leave_55 rfl (by decide) rfl ?_
        refine oX_aload_n dX4_leave_56 rfl rfl ?_
        obtain ⟨r8, g8, hm⟩ := bd_s hm
        refine oX_cV_ (as := []) dX4_leave_57 rfl oDs1 rfl (by decide) rfl ok_X4_next_2 rfl rfl q2067 q2069 qs63 q136 q2070 (by decide) (Nat.le_of_ble_eq_true rfl) (t_X4_next_2 hM n g8) ?_
        refine oX_aload_n dX4_leave_60 rfl rfl ?_
        refine oX_ldc2 q2106 dX4_leave_61 ?_
        obtain ⟨r9, g9, hm⟩ := bd_s hm
        refine oX_cV (as := [vL (29807 : Int64)]) dX4_leave_64 rfl oDs1 rfl (by decide) rfl ok_X4_isWord rfl rfl q2086 q2088 qs66 q136 q2089 (by decide) (Nat.le_of_ble_eq_true rfl) (t_X4_isWord (29807 : Int64) g9) ?_
        refine oX_if_ne (tgt := 76) dX4_leave_67 (by decide) (fun c10 => ?_) (fun c10 => ?_)
        · have hm := ifp c10 hm
          refine oX_aload_n dX4_leave_70 rfl rfl ?_
          refine oX_iconst (v := (1 : Int32)) dX4_leave_71 (by decide) ?_
          obtain ⟨r11, g11, hm⟩ := bd_s hm
          refine oX_cV (as := [vI (1 : Int32)]) dX4_leave_72 rfl oDs1 rfl (by decide) rfl ok_X4_bad rfl rfl q2094 q2096 qs68 q136 q2097 (by decide) (Nat.le_of_ble_eq_true rfl) (t_X4_bad (1 : Int32) g11) ?_
          obtain ⟨g12, hm⟩ := gd_s hm
          obtain rfl := Option.some.inj hm
          exact oX_iret dX4_leave_75 rfl (oNz g12) hK
        · have hm := ifn c10 hm
          refine oX_aload_n dX4_leave_76 rfl rfl ?_
          obtain ⟨r13, g13, hm⟩ := bd_s hm
          refine oX_cV_ (as := []) dX4_leave_77 rfl oDs1 rfl (by decide) rfl ok_X4_next_2 rfl rfl q2067 q2069 qs63 q136 q2070 (by decide) (Nat.le_of_ble_eq_true rfl) (t_X4_next_2 hM n g13) ?_
          refine oX_aload_n dX4_leave_80 rfl rfl ?_
          refine oX_getI fX4_278 rfl oDs1 dX4_leave_81 ?_
          refine oX_iconst (v := (2 : Int32)) dX4_leave_84 (by decide) ?_
          refine oX_icmp_eq (tgt := 94) dX4_leave_85 (by decide) (fun c14 => ?_) (fun c14 => ?_)
          · have hm := ifp c14 hm
            refine oX_aload_n dX4_leave_94 rfl rfl ?_
            refine oX_getI fX4_288 rfl oDs1 dX4_leave_95 ?_
            refine oX_iload_n dX4_leave_98 rfl rfl ?_
            refine oX_icmp_lt (tgt := 111) dX4_leave_99 (by decide) (fun c15 => ?_) (fun c15 => ?_)
            · have hm := ifp c15 hm
              exact oX_sub [1] rfl (x_mX4_leave_j111 hM n hm hK)
            · have hm := ifn c15 hm
              refine oX_aload_n dX4_leave_102 rfl rfl ?_
              refine oX_getI fX4_288 rfl oDs1 dX4_leave_103 ?_
              refine oX_bipush (v := (29 : Int32)) dX4_leave_106 (by decide) ?_
              refine oX_icmp_le (tgt := 117) dX4_leave_108 (by decide) (fun c18 => ?_) (fun c18 => ?_)
              · have hm := ifp c18 hm
                refine oX_aload_n dX4_leave_117 rfl rfl ?_
                refine oX_getF fX4_70 rfl oDs1 dX4_leave_118 (ohF127 hM) ?_
                refine oX_bipush (v := (120 : Int32)) dX4_leave_121 (by decide) ?_
                refine oX_aload_n dX4_leave_123 rfl rfl ?_
                refine oX_getF fX4_67 rfl oDs1 dX4_leave_124 (ohF126 hM) ?_
                refine oX_bipush (v := (20 : Int32)) dX4_leave_127 (by decide) ?_
                obtain ⟨g19, hm⟩ := gd_s hm
                refine oX_iald oDs126 (oIn (ohN126 hM) g19) dX4_leave_129 ?_
                refine oX_iadd dX4_leave_130 ?_
                refine oX_iload_n dX4_leave_131 rfl rfl ?_
                obtain ⟨g20, hm⟩ := gd_s hm
                obtain ⟨AI20, hAI20, hm⟩ := oLs hm
                refine oX_iast oDs127 (oIn (ohN127 hM) g20) dX4_leave_132 hAI20 ?_
                refine oX_aload_n dX4_leave_133 rfl rfl ?_
                refine oX_getF fX4_73 rfl oDs1 dX4_leave_134 (ohF128 hM) ?_
                refine oX_bipush (v := (120 : Int32)) dX4_leave_137 (by decide) ?_
                refine oX_aload_n dX4_leave_139 rfl rfl ?_
                refine oX_getF fX4_67 rfl oDs1 dX4_leave_140 (ohF126 hM) ?_
                refine oX_bipush (v := (20 : Int32)) dX4_leave_143 (by decide) ?_
                obtain ⟨g21, hm⟩ := gd_s hm
                refine oX_iald oDs126 (oIn (ohN126 hM) g21) dX4_leave_145 ?_
                refine oX_iadd dX4_leave_146 ?_
                refine oX_aload_n dX4_leave_147 rfl rfl ?_
                refine oX_getI fX4_288 rfl oDs1 dX4_leave_148 ?_
                obtain ⟨g22, hm⟩ := gd_s hm
                obtain ⟨AI22, hAI22, hm⟩ := oLs hm
                refine oX_iast oDs128 (oIn (ohN128 hM) g22) dX4_leave_151 hAI22 ?_
                refine oX_aload_n dX4_leave_152 rfl rfl ?_
                refine oX_getF fX4_67 rfl oDs1 dX4_leave_153 (ohF126 hM) ?_
                refine oX_bipush (v := (20 : Int32)) dX4_leave_156 (by decide) ?_
                refine oX_dup2 dX4_leave_158 trivial trivial ?_
                obtain ⟨g23, hm⟩ := gd_s hm
                refine oX_iald oDs126 (oIn (ohN126 hM) g23) dX4_leave_159 ?_
                refine oX_iconst (v := (1 : Int32)) dX4_leave_160 (by decide) ?_
                refine oX_iadd dX4_leave_161 ?_
                obtain ⟨g24, hm⟩ := gd_s hm
                obtain ⟨AI24, hAI24, hm⟩ := oLs hm
                refine oX_iast oDs126 (oIn (ohN126 hM) g24) dX4_leave_162 hAI24 ?_
                refine oX_aload_n dX4_leave_163 rfl rfl ?_
                obtain ⟨r25, g25, hm⟩ := bd_s hm
                refine oX_cV_ (as := []) dX4_leave_164 rfl oDs1 rfl (by decide) rfl ok_X4_next_2 rfl rfl q2067 q2069 qs63 q136 q2070 (by decide) (Nat.le_of_ble_eq_true rfl) (t_X4_next_2 hM n g25) ?_
                refine oX_iconst (v := (1 : Int32)) dX4_leave_167 (by decide) ?_
                obtain rfl := Option.some.inj hm
                exact oX_iret dX4_leave_168 rfl (by decide) hK
              · have hm := ifn c18 hm
                exact oX_sub [1] rfl (x_mX4_leave_j111 hM n hm hK)
          · have hm := ifn c14 hm
            refine oX_aload_n dX4_leave_88 rfl rfl ?_
            refine oX_iconst (v := (1 : Int32)) dX4_leave_89 (by decide) ?_
            obtain ⟨r26, g26, hm⟩ := bd_s hm
            refine oX_cV (as := [vI (1 : Int32)]) dX4_leave_90 rfl oDs1 rfl (by decide) rfl ok_X4_bad rfl rfl q2094 q2096 qs68 q136 q2097 (by decide) (Nat.le_of_ble_eq_true rfl) (t_X4_bad (1 : Int32) g26) ?_
            obtain ⟨g27, hm⟩ := gd_s hm
            obtain rfl := Option.some.inj hm
            exact oX_iret dX4_leave_93 rfl (oNz g27) hK
      · have hm := ifn c7 hm
        refine oX_aload_n dX4_leave_45 rfl rfl ?_
        refine oX_iconst (v := (2 : Int32)) dX4_leave_46 (by decide) ?_
        obtain ⟨r28, g28, hm⟩ := bd_s hm
        refine oX_cV (as := [vI (2 : Int32)]) dX4_leave_47 rfl oDs1 rfl (by decide) rfl ok_X4_bad rfl rfl q2094 q2096 qs68 q136 q2097 (by decide) (Nat.le_of_ble_eq_true rfl) (t_X4_bad (2 : Int32) g28) ?_
        obtain ⟨g29, hm⟩ := gd_s hm
        obtain rfl := Option.some.inj hm
        exact oX_iret dX4_leave_50 rfl (oNz g29) hK
    · have hm := ifn c6 hm
      refine oX_aload_n dX4_leave_30 rfl rfl ?_
      refine oX_iconst (v := (1 : Int32)) dX4_leave_31 (by decide) ?_
      obtain ⟨r30, g30, hm⟩ := bd_s hm
      refine oX_cV (as := [vI (1 : Int32)]) dX4_leave_32 rfl oDs1 rfl (by decide) rfl ok_X4_bad rfl rfl q2094 q2096 qs68 q136 q2097 (by decide) (Nat.le_of_ble_eq_true rfl) (t_X4_bad (1 : Int32) g30) ?_
      obtain ⟨g31, hm⟩ := gd_s hm
      obtain rfl := Option.some.inj hm
      exact oX_iret dX4_leave_35 rfl (oNz g31) hK
theorem t_X4_leave {G : OhG} {FI AI : OhI} {FL AL : OhL} {FR GR AR BR : OhQ} {AN : OhN} {C : OhC} (hM : ohShM FR AN) (n : Nat) {o : Int32 × OhI × OhL × OhI} (hm : mX4_leave n FI FL FR AI AN = some o) : oT G 3 iX4_leave [vR (some (1, 0))] (FI, FL, FR, GR, AI, AL, AR, BR, AN, C) (0, 0) (fun v h => v = (some (vI o.1)) ∧ h = (o.2.1, o.2.2.1, FR, GR, o.2.2.2, AL, AR, BR, AN, C)) ohNo :=
  oT_of (by decide) rfl (Nat.le_of_ble_eq_true rfl) (x_mX4_leave hM n hm ⟨rfl, rfl⟩)
abbrev iX4_atom : OhM := (yX4_atom, cX4_atom, 1, (some .int), [])
theorem ok_X4_atom : oOk iX4_atom 0 := ⟨by decide, by decide, by decide +kernel⟩

noncomputable def mX4_atom (FI : OhI) (FL : OhL) : Option (Int32) :=
  (mX4_isWord FI FL (1919905645 : Int64)).bind fun r1 =>
  (if r1 = 0 then
  (mX4_isWord FI FL (469786323827 : Int64)).bind fun r3 =>
    (if r3 = 0 then
    (mX4_isWord FI FL (1718971500 : Int64)).bind fun r5 =>
      (if r5 = 0 then
      (mX4_isWord FI FL (474214787188 : Int64)).bind fun r7 =>
        (if r7 = 0 then
        (mX4_isWord FI FL (1818326117 : Int64)).bind fun r9 =>
          (if r9 = 0 then
          (mX4_isWord FI FL (427071792498 : Int64)).bind fun r11 =>
            (if r11 = 0 then
            (mX4_isWord FI FL (29676314707714404 : Int64)).bind fun r13 =>
              (if r13 = 0 then
              (mX4_isWord FI FL (448546566771 : Int64)).bind fun r15 =>
                (if r15 = 0 then
                (mX4_isWord FI FL (7238760 : Int64)).bind fun r17 =>
                  (if r17 = 0 then
                  (mX4_isWord FI FL (1870030194 : Int64)).bind fun r19 =>
                    (if r19 = 0 then
                    some (-1 : Int32)
                  else
                    some (9 : Int32))
                else
                  some (8 : Int32))
              else
                some (7 : Int32))
            else
              some (6 : Int32))
          else
            some (5 : Int32))
        else
          some (4 : Int32))
      else
        some (3 : Int32))
    else
      some (2 : Int32))
  else
    some (1 : Int32))
else
  some (0 : Int32))
theorem x_mX4_atom {G : OhG} {FI AI : OhI} {FL AL : OhL} {FR GR AR BR : OhQ} {AN : OhN} {C : OhC} {k : Nat × Nat} {Φ : OhP} {Ψ : OhX} {r : Int32} (hm : mX4_atom FI FL = some r) (hK : Φ (some (vI r)) (FI, FL, FR, GR, AI, AL, AR, BR, AN, C)) : oX G 2 iX4_atom 0 [(0, vR (some (1, 0)))] [] (FI, FL, FR, GR, AI, AL, AR, BR, AN, C) k Φ Ψ := by
  unfold mX4_atom at hm
  refine oX_aload_n dX4_atom_0 rfl rfl ?_
  refine oX_ldc2 q2126 dX4_atom_1 ?_
  obtain ⟨r1, g1, hm⟩ := bd_s hm
  refine oX_cV (as := [vL (1919905645 : Int64)]) dX4_atom_4 rfl oDs1 rfl (by decide) rfl ok_X4_isWord rfl rfl q2086 q2088 qs66 q136 q2089 (by decide) (Nat.le_of_ble_eq_true rfl) (t_X4_isWord (1919905645 : Int64) g1) ?_
  refine oX_if_eq (tgt := 12) dX4_atom_7 (by decide) (fun c2 => ?_) (fun c2 => ?_)
  · have hm := ifp c2 hm
    refine oX_aload_n dX4_atom_12 rfl rfl ?_
    refine oX_ldc2 q2127 dX4_atom_13 ?_
    obtain ⟨r3, g3, hm⟩ := bd_s hm
    refine oX_cV (as := [vL (469786323827 : Int64)]) dX4_atom_16 rfl oDs1 rfl (by decide) rfl ok_X4_isWord rfl rfl q2086 q2088 qs66 q136 q2089 (by decide) (Nat.le_of_ble_eq_true rfl) (t_X4_isWord (469786323827 : Int64) g3) ?_
    refine oX_if_eq (tgt := 24) dX4_atom_19 (by decide) (fun c4 => ?_) (fun c4 => ?_)
    · have hm := ifp c4 hm
      refine oX_aload_n dX4_atom_24 rfl rfl ?_
      refine oX_ldc2 q2128 dX4_atom_25 ?_
      obtain ⟨r5, g5, hm⟩ := bd_s hm
      refine oX_cV (as := [vL (1718971500 : Int64)]) dX4_atom_28 rfl oDs1 rfl (by decide) rfl ok_X4_isWord rfl rfl q2086 q2088 qs66 q136 q2089 (by decide) (Nat.le_of_ble_eq_true rfl) (t_X4_isWord (1718971500 : Int64) g5) ?_
      refine oX_if_eq (tgt := 36) dX4_atom_31 (by decide) (fun c6 => ?_) (fun c6 => ?_)
      · have hm := ifp c6 hm
        refine oX_aload_n dX4_atom_36 rfl rfl ?_
        refine oX_ldc2 q2129 dX4_atom_37 ?_
        obtain ⟨r7, g7, hm⟩ := bd_s hm
        refine oX_cV (as := [vL (474214787188 : Int64)]) dX4_atom_40 rfl oDs1 rfl (by decide) rfl ok_X4_isWord rfl rfl q2086 q2088 qs66 q136 q2089 (by decide) (Nat.le_of_ble_eq_true rfl) (t_X4_isWord (474214787188 : Int64) g7) ?_
        refine oX_if_eq (tgt := 48) dX4_atom_43 (by decide) (fun c8 => ?_) (fun c8 => ?_)
        · have hm := ifp c8 hm
          refine oX_aload_n dX4_atom_48 rfl rfl ?_
          refine oX_ldc2 q2130 dX4_atom_49 ?_
          obtain ⟨r9, g9, hm⟩ := bd_s hm
          refine oX_cV (as := [vL (1818326117 : Int64)]) dX4_atom_52 rfl oDs1 rfl (by decide) rfl ok_X4_isWord rfl rfl q2086 q2088 qs66 q136 q2089 (by decide) (Nat.le_of_ble_eq_true rfl) (t_X4_isWord (1818326117 : Int64) g9) ?_
          refine oX_if_eq (tgt := 60) dX4_atom_55 (by decide) (fun c10 => ?_) (fun c10 => ?_)
          · have hm := ifp c10 hm
            refine oX_aload_n dX4_atom_60 rfl rfl ?_
            refine oX_ldc2 q2131 dX4_atom_61 ?_
            obtain ⟨r11, g11, hm⟩ := bd_s hm
            refine oX_cV (as := [vL (427071792498 : Int64)]) dX4_atom_64 rfl oDs1 rfl (by decide) rfl ok_X4_isWord rfl rfl q2086 q2088 qs66 q136 q2089 (by decide) (Nat.le_of_ble_eq_true rfl) (t_X4_isWord (427071792498 : Int64) g11) ?_
            refine oX_if_eq (tgt := 72) dX4_atom_67 (by decide) (fun c12 => ?_) (fun c12 => ?_)
            · have hm := ifp c12 hm
              refine oX_aload_n dX4_atom_72 rfl rfl ?_
              refine oX_ldc2 q2132 dX4_atom_73 ?_
              obtain ⟨r13, g13, hm⟩ := bd_s hm
              refine oX_cV (as := [vL (29676314707714404 : Int64)]) dX4_atom_76 rfl oDs1 rfl (by decide) rfl ok_X4_isWord rfl rfl q2086 q2088 qs66 q136 q2089 (by decide) (Nat.le_of_ble_eq_true rfl) (t_X4_isWord (29676314707714404 : Int64) g13) ?_
              refine oX_if_eq (tgt := 85) dX4_atom_79 (by decide) (fun c14 => ?_) (fun c14 => ?_)
              · have hm := ifp c14 hm
                refine oX_aload_n dX4_atom_85 rfl rfl ?_
                refine oX_ldc2 q2133 dX4_atom_86 ?_
                obtain ⟨r15, g15, hm⟩ := bd_s hm
                refine oX_cV (as := [vL (448546566771 : Int64)]) dX4_atom_89 rfl oDs1 rfl (by decide) rfl ok_X4_isWord rfl rfl q2086 q2088 qs66 q136 q2089 (by decide) (Nat.le_of_ble_eq_true rfl) (t_X4_isWord (448546566771 : Int64) g15) ?_
                refine oX_if_eq (tgt := 98) dX4_atom_92 (by decide) (fun c16 => ?_) (fun c16 => ?_)
                · have hm := ifp c16 hm
                  refine oX_aload_n dX4_atom_98 rfl rfl ?_
                  refine oX_ldc2 q2134 dX4_atom_99 ?_
                  obtain ⟨r17, g17, hm⟩ := bd_s hm
                  refine oX_cV (as := [vL (7238760 : Int64)]) dX4_atom_102 rfl oDs1 rfl (by decide) rfl ok_X4_isWord rfl rfl q2086 q2088 qs66 q136 q2089 (by decide) (Nat.le_of_ble_eq_true rfl) (t_X4_isWord (7238760 : Int64) g17) ?_
                  refine oX_if_eq (tgt := 111) dX4_atom_105 (by decide) (fun c18 => ?_) (fun c18 => ?_)
                  · have hm := ifp c18 hm
                    refine oX_aload_n dX4_atom_111 rfl rfl ?_
                    refine oX_ldc2 q2135 dX4_atom_112 ?_
                    obtain ⟨r19, g19, hm⟩ := bd_s hm
                    refine oX_cV (as := [vL (1870030194 : Int64)]) dX4_atom_115 rfl oDs1 rfl (by decide) rfl ok_X4_isWord rfl rfl q2086 q2088 qs66 q136 q2089 (by decide) (Nat.le_of_ble_eq_true rfl) (t_X4_isWord (1870030194 : Int64) g19) ?_
                    refine oX_if_eq (tgt := 126) dX4_atom_118 (by decide) (fun c20 => ?_) (fun c20 => ?_)
                    · have hm := ifp c20 hm
                      refine oX_iconst (v := (-1 : Int32)) dX4_atom_126 (by decide) ?_
                      obtain rfl := Option.some.inj hm
                      exact oX_iret dX4_atom_127 rfl rfl hK
                    · have hm := ifn c20 hm
                      refine oX_bipush (v := (9 : Int32)) dX4_atom_121 (by decide) ?_
                      refine oX_goto (tgt := 127) dX4_atom_123 (by decide) ?_
                      obtain rfl := Option.some.inj hm
                      exact oX_iret dX4_atom_127 rfl rfl hK
                  · have hm := ifn c18 hm
                    refine oX_bipush (v := (8 : Int32)) dX4_atom_108 (by decide) ?_
                    obtain rfl := Option.some.inj hm
                    exact oX_iret dX4_atom_110 rfl rfl hK
                · have hm := ifn c16 hm
                  refine oX_bipush (v := (7 : Int32)) dX4_atom_95 (by decide) ?_
                  obtain rfl := Option.some.inj hm
                  exact oX_iret dX4_atom_97 rfl rfl hK
              · have hm := ifn c14 hm
                refine oX_bipush (v := (6 : Int32)) dX4_atom_82 (by decide) ?_
                obtain rfl := Option.some.inj hm
                exact oX_iret dX4_atom_84 rfl rfl hK
            · have hm := ifn c12 hm
              refine oX_iconst (v := (5 : Int32)) dX4_atom_70 (by decide) ?_
              obtain rfl := Option.some.inj hm
              exact oX_iret dX4_atom_71 rfl rfl hK
          · have hm := ifn c10 hm
            refine oX_iconst (v := (4 : Int32)) dX4_atom_58 (by decide) ?_
            obtain rfl := Option.some.inj hm
            exact oX_iret dX4_atom_59 rfl rfl hK
        · have hm := ifn c8 hm
          refine oX_iconst (v := (3 : Int32)) dX4_atom_46 (by decide) ?_
          obtain rfl := Option.some.inj hm
          exact oX_iret dX4_atom_47 rfl rfl hK
      · have hm := ifn c6 hm
        refine oX_iconst (v := (2 : Int32)) dX4_atom_34 (by decide) ?_
        obtain rfl := Option.some.inj hm
        exact oX_iret dX4_atom_35 rfl rfl hK
    · have hm := ifn c4 hm
      refine oX_iconst (v := (1 : Int32)) dX4_atom_22 (by decide) ?_
      obtain rfl := Option.some.inj hm
      exact oX_iret dX4_atom_23 rfl rfl hK
  · have hm := ifn c2 hm
    refine oX_iconst (v := (0 : Int32)) dX4_atom_10 (by decide) ?_
    obtain rfl := Option.some.inj hm
    exact oX_iret dX4_atom_11 rfl rfl hK
theorem t_X4_atom {G : OhG} {FI AI : OhI} {FL AL : OhL} {FR GR AR BR : OhQ} {AN : OhN} {C : OhC} {o : Int32} (hm : mX4_atom FI FL = some o) : oT G 2 iX4_atom [vR (some (1, 0))] (FI, FL, FR, GR, AI, AL, AR, BR, AN, C) (0, 0) (fun v h => v = (some (vI o)) ∧ h = (FI, FL, FR, GR, AI, AL, AR, BR, AN, C)) ohNo :=
  oT_of (by decide) rfl (Nat.le_of_ble_eq_true rfl) (x_mX4_atom hm ⟨rfl, rfl⟩)
