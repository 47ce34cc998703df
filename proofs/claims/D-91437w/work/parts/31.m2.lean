/-! MIRRORS of OperaHouseModel, 22 to 60: printed by gen/mk_model.py -/
abbrev iX4_isSign : OhM := (yX4_isSign, cX4_isSign, 2, (some .boolean), [])
theorem ok_X4_isSign : oOk iX4_isSign 1 := ⟨by decide, by decide, by decide +kernel⟩

noncomputable def mX4_isSign (FI : OhI) (x1 : Int32) : Option (Int32) :=
  (if (FI 1 0 40) = (3 : Int32) then
  (if (FI 1 0 43) = x1 then
    some (1 : Int32)
  else
    some (0 : Int32))
else
  some (0 : Int32))
theorem x_mX4_isSign {G : OhG} {FI AI : OhI} {FL AL : OhL} {FR GR AR BR : OhQ} {AN : OhN} {C : OhC} {k : Nat × Nat} {Φ : OhP} {Ψ : OhX} (x1 : Int32) {r : Int32} (hm : mX4_isSign FI x1 = some r) (hK : Φ (some (vI r)) (FI, FL, FR, GR, AI, AL, AR, BR, AN, C)) : oX G 1 iX4_isSign 0 [(0, vR (some (1, 0))), (1, vI x1)] [] (FI, FL, FR, GR, AI, AL, AR, BR, AN, C) k Φ Ψ := by
  unfold mX4_isSign at hm
  refine oX_aload_n dX4_isSign_0 rfl rfl ?_
  refine oX_getI fX4_278 rfl oDs1 dX4_isSign_1 ?_
  refine oX_iconst (v := (3 : Int32)) dX4_isSign_4 (by decide) ?_
  refine oX_icmp_ne (tgt := 20) dX4_isSign_5 (by decide) (fun c1 => ?_) (fun c1 => ?_)
  · have hm := ifp c1 hm
    refine oX_aload_n dX4_isSign_8 rfl rfl ?_
    refine oX_getI fX4_288 rfl oDs1 dX4_isSign_9 ?_
    refine oX_iload_n dX4_isSign_12 rfl rfl ?_
    refine oX_icmp_ne (tgt := 20) dX4_isSign_13 (by decide) (fun c2 => ?_) (fun c2 => ?_)
    · have hm := ifp c2 hm
      refine oX_iconst (v := (1 : Int32)) dX4_isSign_16 (by decide) ?_
      refine oX_goto (tgt := 21) dX4_isSign_17 (by decide) ?_
      obtain rfl := Option.some.inj hm
      exact oX_iret dX4_isSign_21 rfl (by decide) hK
    · have hm := ifn c2 hm
      refine oX_iconst (v := (0 : Int32)) dX4_isSign_20 (by decide) ?_
      obtain rfl := Option.some.inj hm
      exact oX_iret dX4_isSign_21 rfl (by decide) hK
  · have hm := ifn c1 hm
    refine oX_iconst (v := (0 : Int32)) dX4_isSign_20 (by decide) ?_
    obtain rfl := Option.some.inj hm
    exact oX_iret dX4_isSign_21 rfl (by decide) hK
theorem t_X4_isSign {G : OhG} {FI AI : OhI} {FL AL : OhL} {FR GR AR BR : OhQ} {AN : OhN} {C : OhC} (x1 : Int32) {o : Int32} (hm : mX4_isSign FI x1 = some o) : oT G 1 iX4_isSign [vR (some (1, 0)), vI x1] (FI, FL, FR, GR, AI, AL, AR, BR, AN, C) (0, 0) (fun v h => v = (some (vI o)) ∧ h = (FI, FL, FR, GR, AI, AL, AR, BR, AN, C)) ohNo :=
  oT_of (by decide) rfl (Nat.le_of_ble_eq_true rfl) (x_mX4_isSign x1 hm ⟨rfl, rfl⟩)
abbrev iX4_open : OhM := (yX4_open, cX4_open, 3, (some .int), [])
theorem ok_X4_open : oOk iX4_open 0 := ⟨by decide, by decide, by decide +kernel⟩

noncomputable def mX4_open_b4 (n : Nat) (FI : OhI) (FR : OhQ) (AI : OhI) (AN : OhN) (x1 : Int32) (x2 : Int32) : Option ((Int32 × Int32) ⊕ (Int32)) :=
  (if (FI 1 0 38) ≤ x2 then
  some (.inr x1)
else
  gd (vp_in x2 64) <|
    (if (AI 136 0 x2.toNatClampNeg) = (20 : Int32) then
    some (.inl (x1 + (1 : Int32), x2 + (1 : Int32)))
  else
    gd (vp_in x2 64) <|
      (if (AI 136 0 x2.toNatClampNeg) = (23 : Int32) then
      some (.inl (x1 + (1 : Int32), x2 + (1 : Int32)))
    else
      some (.inl (x1 + (0 : Int32), x2 + (1 : Int32))))))
theorem x_mX4_open_b4 {G : OhG} {FI AI : OhI} {FL AL : OhL} {FR GR AR BR : OhQ} {AN : OhN} {C : OhC} {k : Nat × Nat} {Φ : OhP} {Ψ : OhX} (hM : ohShM FR AN) (n : Nat) (x1 : Int32) (x2 : Int32) {r : (Int32 × Int32) ⊕ (Int32)} (hm : mX4_open_b4 n FI FR AI AN x1 x2 = some r) (hk : ∀ v : Int32 × Int32, r = .inl v → oX G 1 iX4_open 4 [(0, vR (some (1, 0))), (1, vI v.1), (2, vI v.2)] [] (FI, FL, FR, GR, AI, AL, AR, BR, AN, C) k Φ Ψ) (hx1 : ∀ v : Int32, r = .inr v → oX G 1 iX4_open 48 [(1, vI v)] [] (FI, FL, FR, GR, AI, AL, AR, BR, AN, C) k Φ Ψ) : oX G 1 iX4_open 4 [(0, vR (some (1, 0))), (1, vI x1), (2, vI x2)] [] (FI, FL, FR, GR, AI, AL, AR, BR, AN, C) k Φ Ψ := by
  unfold mX4_open_b4 at hm
  refine oX_iload_n dX4_open_4 rfl rfl ?_
  refine oX_aload_n dX4_open_5 rfl rfl ?_
  refine oX_getI fX4_381 rfl oDs1 dX4_open_6 ?_
  refine oX_icmp_ge (tgt := 48) dX4_open_9 (by decide) (fun c1 => ?_) (fun c1 => ?_)
  · have hm := ifp c1 hm
    exact oX_sub [1] rfl (hx1 x1 (Option.some.inj hm).symm)
  · have hm := ifn c1 hm
    refine oX_iload_n dX4_open_12 rfl rfl ?_
    refine oX_aload_n dX4_open_13 rfl rfl ?_
    refine oX_getF fX4_97 rfl oDs1 dX4_open_14 (ohF136 hM) ?_
    refine oX_iload_n dX4_open_17 rfl rfl ?_
    obtain ⟨g2, hm⟩ := gd_s hm
    refine oX_iald oDs136 (oIn (ohN136 hM) g2) dX4_open_18 ?_
    refine oX_bipush (v := (20 : Int32)) dX4_open_19 (by decide) ?_
    refine oX_icmp_eq (tgt := 35) dX4_open_21 (by decide) (fun c3 => ?_) (fun c3 => ?_)
    · have hm := ifp c3 hm
      refine oX_iconst (v := (1 : Int32)) dX4_open_35 (by decide) ?_
      refine oX_goto (tgt := 40) dX4_open_36 (by decide) ?_
      refine oX_iadd dX4_open_40 ?_
      refine oX_istore_n (ls' := [(1, vI (x1 + (1 : Int32))), (0, vR (some (1, 0))), (2, vI x2)]) dX4_open_41 rfl (by decide) rfl ?_
      refine oX_iinc (v := x2 + (1 : Int32)) (ls' := [(2, vI (x2 + (1 : Int32))), (1, vI (x1 + (1 : Int32))), (0, vR (some (1, 0)))]) dX4_open_42 rfl rfl (by decide) rfl ?_
      refine oX_goto (tgt := 4) dX4_open_45 (by decide) ?_
      exact oX_sub [2, 1, 0] rfl (hk (x1 + (1 : Int32), x2 + (1 : Int32)) (Option.some.inj hm).symm)
    · have hm := ifn c3 hm
      refine oX_aload_n dX4_open_24 rfl rfl ?_
      refine oX_getF fX4_97 rfl oDs1 dX4_open_25 (ohF136 hM) ?_
      refine oX_iload_n dX4_open_28 rfl rfl ?_
      obtain ⟨g4, hm⟩ := gd_s hm
      refine oX_iald oDs136 (oIn (ohN136 hM) g4) dX4_open_29 ?_
      refine oX_bipush (v := (23 : Int32)) dX4_open_30 (by decide) ?_
      refine oX_icmp_ne (tgt := 39) dX4_open_32 (by decide) (fun c5 => ?_) (fun c5 => ?_)
      · have hm := ifp c5 hm
        refine oX_iconst (v := (1 : Int32)) dX4_open_35 (by decide) ?_
        refine oX_goto (tgt := 40) dX4_open_36 (by decide) ?_
        refine oX_iadd dX4_open_40 ?_
        refine oX_istore_n (ls' := [(1, vI (x1 + (1 : Int32))), (0, vR (some (1, 0))), (2, vI x2)]) dX4_open_41 rfl (by decide) rfl ?_
        refine oX_iinc (v := x2 + (1 : Int32)) (ls' := [(2, vI (x2 + (1 : Int32))), (1, vI (x1 + (1 : Int32))), (0, vR (some (1, 0)))]) dX4_open_42 rfl rfl (by decide) rfl ?_
        refine oX_goto (tgt := 4) dX4_open_45 (by decide) ?_
        exact oX_sub [2, 1, 0] rfl (hk (x1 + (1 : Int32), x2 + (1 : Int32)) (Option.some.inj hm).symm)
      · have hm := ifn c5 hm
        refine oX_iconst (v := (0 : Int32)) dX4_open_39 (by decide) ?_
        refine oX_iadd dX4_open_40 ?_
        refine oX_istore_n (ls' := [(1, vI (x1 + (0 : Int32))), (0, vR (some (1, 0))), (2, vI x2)]) dX4_open_41 rfl (by decide) rfl ?_
        refine oX_iinc (v := x2 + (1 : Int32)) (ls' := [(2, vI (x2 + (1 : Int32))), (1, vI (x1 + (0 : Int32))), (0, vR (some (1, 0)))]) dX4_open_42 rfl rfl (by decide) rfl ?_
        refine oX_goto (tgt := 4) dX4_open_45 (by decide) ?_
        exact oX_sub [2, 1, 0] rfl (hk (x1 + (0 : Int32), x2 + (1 : Int32)) (Option.some.inj hm).symm)
theorem l_mX4_open_b4 {G : OhG} {FI : OhI} {FL : OhL} {FR : OhQ} {GR : OhQ} {AI : OhI} {AL : OhL} {AR : OhQ} {BR : OhQ} {AN : OhN} {C : OhC} {k : Nat × Nat} {Φ : OhP} {Ψ : OhX} (hM : ohShM FR AN) (n : Nat) : ∀ (f : Nat) (x1 : Int32) (x2 : Int32) (b : (Int32)), lpF (fun v => mX4_open_b4 n FI FR AI AN v.1 v.2) f (x1, x2) = some b → (oX G 1 iX4_open 48 [(1, vI b)] [] (FI, FL, FR, GR, AI, AL, AR, BR, AN, C) k Φ Ψ) → oX G 1 iX4_open 4 [(0, vR (some (1, 0))), (1, vI x1), (2, vI x2)] [] (FI, FL, FR, GR, AI, AL, AR, BR, AN, C) k Φ Ψ := by
  intro f
  induction f with
  | zero =>
    intro x1 x2 b hm
    cases hm
  | succ f ih =>
    intro x1 x2 b hm hx1
    obtain ⟨r, hr, hm⟩ := lp_s hm
    refine x_mX4_open_b4 hM n x1 x2 hr (fun v e => ?_) (fun v e => ?_)
    · subst e; exact ih v.1 v.2 _ hm hx1
    · subst e; cases (show v = b from hm); exact hx1
noncomputable def mX4_open (n : Nat) (FI : OhI) (FR : OhQ) (AI : OhI) (AN : OhN) : Option (Int32) :=
  (lpF (fun v => mX4_open_b4 n FI FR AI AN v.1 v.2) n ((0 : Int32), (0 : Int32))).bind fun v6 =>
  some v6
theorem x_mX4_open {G : OhG} {FI AI : OhI} {FL AL : OhL} {FR GR AR BR : OhQ} {AN : OhN} {C : OhC} {k : Nat × Nat} {Φ : OhP} {Ψ : OhX} (hM : ohShM FR AN) (n : Nat) {r : Int32} (hm : mX4_open n FI FR AI AN = some r) (hK : Φ (some (vI r)) (FI, FL, FR, GR, AI, AL, AR, BR, AN, C)) : oX G 1 iX4_open 0 [(0, vR (some (1, 0)))] [] (FI, FL, FR, GR, AI, AL, AR, BR, AN, C) k Φ Ψ := by
  unfold mX4_open at hm
  refine oX_iconst (v := (0 : Int32)) dX4_open_0 (by decide) ?_
  refine oX_istore_n (ls' := [(1, vI (0 : Int32)), (0, vR (some (1, 0)))]) dX4_open_1 rfl (by decide) rfl ?_
  refine oX_iconst (v := (0 : Int32)) dX4_open_2 (by decide) ?_
  refine oX_istore_n (ls' := [(2, vI (0 : Int32)), (1, vI (0 : Int32)), (0, vR (some (1, 0)))]) dX4_open_3 rfl (by decide) rfl ?_
  obtain ⟨v6, g6, hm⟩ := bd_s hm
  refine oX_sub [2, 1, 0] rfl (l_mX4_open_b4 hM n n (0 : Int32) (0 : Int32) _ g6 ?_)
  refine oX_iload_n dX4_open_48 rfl rfl ?_
  obtain rfl := Option.some.inj hm
  exact oX_iret dX4_open_49 rfl rfl hK
theorem t_X4_open {G : OhG} {FI AI : OhI} {FL AL : OhL} {FR GR AR BR : OhQ} {AN : OhN} {C : OhC} (hM : ohShM FR AN) (n : Nat) {o : Int32} (hm : mX4_open n FI FR AI AN = some o) : oT G 1 iX4_open [vR (some (1, 0))] (FI, FL, FR, GR, AI, AL, AR, BR, AN, C) (0, 0) (fun v h => v = (some (vI o)) ∧ h = (FI, FL, FR, GR, AI, AL, AR, BR, AN, C)) ohNo :=
  oT_of (by decide) rfl (Nat.le_of_ble_eq_true rfl) (x_mX4_open hM n hm ⟨rfl, rfl⟩)
abbrev iX4_write : OhM := (yX4_write, cX4_write, 4, none, [])
theorem ok_X4_write : oOk iX4_write 3 := ⟨by decide, by decide, by decide +kernel⟩

noncomputable def mX4_write (FI : OhI) (FR : OhQ) (AI : OhI) (AN : OhN) (x1 : Int32) (x2 : Int32) (x3 : Int32) : Option (OhI × OhI) :=
  gd (vp_in ((2000 : Int32) + (FI 1 0 37)) 2100) <|
  oLet (sA AI 133 0 (uA (AI 133 0) ((2000 : Int32) + (FI 1 0 37)).toNatClampNeg x1)) fun AI1 =>
  gd (vp_in ((2000 : Int32) + (FI 1 0 37)) 2100) <|
  oLet (sA AI1 134 0 (uA (AI1 134 0) ((2000 : Int32) + (FI 1 0 37)).toNatClampNeg x2)) fun AI2 =>
  gd (vp_in ((2000 : Int32) + (FI 1 0 37)) 2100) <|
  oLet (sA AI2 135 0 (uA (AI2 135 0) ((2000 : Int32) + (FI 1 0 37)).toNatClampNeg x3)) fun AI3 =>
  oLet (sA FI 1 0 (uA (FI 1 0) 37 ((FI 1 0 37) + (1 : Int32)))) fun FI4 =>
  some (FI4, AI3)
theorem x_mX4_write {G : OhG} {FI AI : OhI} {FL AL : OhL} {FR GR AR BR : OhQ} {AN : OhN} {C : OhC} {k : Nat × Nat} {Φ : OhP} {Ψ : OhX} (hM : ohShM FR AN) (x1 : Int32) (x2 : Int32) (x3 : Int32) {r : OhI × OhI} (hm : mX4_write FI FR AI AN x1 x2 x3 = some r) (hK : Φ none (r.1, FL, FR, GR, r.2, AL, AR, BR, AN, C)) : oX G 1 iX4_write 0 [(0, vR (some (1, 0))), (1, vI x1), (2, vI x2), (3, vI x3)] [] (FI, FL, FR, GR, AI, AL, AR, BR, AN, C) k Φ Ψ := by
  unfold mX4_write at hm
  refine oX_aload_n dX4_write_0 rfl rfl ?_
  refine oX_getF fX4_88 rfl oDs1 dX4_write_1 (ohF133 hM) ?_
  refine oX_sipush (v := (2000 : Int32)) dX4_write_4 (by decide) ?_
  refine oX_aload_n dX4_write_7 rfl rfl ?_
  refine oX_getI fX4_316 rfl oDs1 dX4_write_8 ?_
  refine oX_iadd dX4_write_11 ?_
  refine oX_iload_n dX4_write_12 rfl rfl ?_
  obtain ⟨g1, hm⟩ := gd_s hm
  obtain ⟨AI1, hAI1, hm⟩ := oLs hm
  refine oX_iast oDs133 (oIn (ohN133 hM) g1) dX4_write_13 hAI1 ?_
  refine oX_aload_n dX4_write_14 rfl rfl ?_
  refine oX_getF fX4_91 rfl oDs1 dX4_write_15 (ohF134 hM) ?_
  refine oX_sipush (v := (2000 : Int32)) dX4_write_18 (by decide) ?_
  refine oX_aload_n dX4_write_21 rfl rfl ?_
  refine oX_getI fX4_316 rfl oDs1 dX4_write_22 ?_
  refine oX_iadd dX4_write_25 ?_
  refine oX_iload_n dX4_write_26 rfl rfl ?_
  obtain ⟨g2, hm⟩ := gd_s hm
  obtain ⟨AI2, hAI2, hm⟩ := oLs hm
  refine oX_iast oDs134 (oIn (ohN134 hM) g2) dX4_write_27 hAI2 ?_
  refine oX_aload_n dX4_write_28 rfl rfl ?_
  refine oX_getF fX4_94 rfl oDs1 dX4_write_29 (ohF135 hM) ?_
  refine oX_sipush (v := (2000 : Int32)) dX4_write_32 (by decide) ?_
  refine oX_aload_n dX4_write_35 rfl rfl ?_
  refine oX_getI fX4_316 rfl oDs1 dX4_write_36 ?_
  refine oX_iadd dX4_write_39 ?_
  refine oX_iload_n dX4_write_40 rfl rfl ?_
  obtain ⟨g3, hm⟩ := gd_s hm
  obtain ⟨AI3, hAI3, hm⟩ := oLs hm
  refine oX_iast oDs135 (oIn (ohN135 hM) g3) dX4_write_41 hAI3 ?_
  refine oX_aload_n dX4_write_42 rfl rfl ?_
  refine oX_dup dX4_write_43 trivial ?_
  refine oX_getI fX4_316 rfl oDs1 dX4_write_44 ?_
  refine oX_iconst (v := (1 : Int32)) dX4_write_47 (by decide) ?_
  refine oX_iadd dX4_write_48 ?_
  obtain ⟨FI4, hFI4, hm⟩ := oLs hm
  refine oX_putI fX4_316 rfl (fun h9 => by cases h9) oDs1 dX4_write_49 ⟨rfl, rfl⟩ hFI4 ?_
  obtain rfl := Option.some.inj hm
  exact oX_vret dX4_write_52 rfl hK
theorem t_X4_write {G : OhG} {FI AI : OhI} {FL AL : OhL} {FR GR AR BR : OhQ} {AN : OhN} {C : OhC} (hM : ohShM FR AN) (x1 : Int32) (x2 : Int32) (x3 : Int32) {o : OhI × OhI} (hm : mX4_write FI FR AI AN x1 x2 x3 = some o) : oT G 1 iX4_write [vR (some (1, 0)), vI x1, vI x2, vI x3] (FI, FL, FR, GR, AI, AL, AR, BR, AN, C) (0, 0) (fun v h => v = none ∧ h = (o.1, FL, FR, GR, o.2, AL, AR, BR, AN, C)) ohNo :=
  oT_of (by decide) rfl (Nat.le_of_ble_eq_true rfl) (x_mX4_write hM x1 x2 x3 hm ⟨rfl, rfl⟩)
abbrev iX4_binds : OhM := (yX4_binds, cX4_binds, 1, (some .int), [])
theorem ok_X4_binds : oOk iX4_binds 1 := ⟨by decide, by decide, by decide +kernel⟩

noncomputable def mX4_binds (x0 : Int32) : Option (Int32) :=
  (if x0 = (20 : Int32) then
  some (3 : Int32)
else
  (if x0 = (21 : Int32) then
    some (2 : Int32)
  else
    some (1 : Int32)))
theorem x_mX4_binds {G : OhG} {FI AI : OhI} {FL AL : OhL} {FR GR AR BR : OhQ} {AN : OhN} {C : OhC} {k : Nat × Nat} {Φ : OhP} {Ψ : OhX} (x0 : Int32) {r : Int32} (hm : mX4_binds x0 = some r) (hK : Φ (some (vI r)) (FI, FL, FR, GR, AI, AL, AR, BR, AN, C)) : oX G 1 iX4_binds 0 [(0, vI x0)] [] (FI, FL, FR, GR, AI, AL, AR, BR, AN, C) k Φ Ψ := by
  unfold mX4_binds at hm
  refine oX_iload_n dX4_binds_0 rfl rfl ?_
  refine oX_bipush (v := (20 : Int32)) dX4_binds_1 (by decide) ?_
  refine oX_icmp_ne (tgt := 10) dX4_binds_3 (by decide) (fun c1 => ?_) (fun c1 => ?_)
  · have hm := ifp c1 hm
    refine oX_iconst (v := (3 : Int32)) dX4_binds_6 (by decide) ?_
    refine oX_goto (tgt := 21) dX4_binds_7 (by decide) ?_
    obtain rfl := Option.some.inj hm
    exact oX_iret dX4_binds_21 rfl rfl hK
  · have hm := ifn c1 hm
    refine oX_iload_n dX4_binds_10 rfl rfl ?_
    refine oX_bipush (v := (21 : Int32)) dX4_binds_11 (by decide) ?_
    refine oX_icmp_ne (tgt := 20) dX4_binds_13 (by decide) (fun c2 => ?_) (fun c2 => ?_)
    · have hm := ifp c2 hm
      refine oX_iconst (v := (2 : Int32)) dX4_binds_16 (by decide) ?_
      refine oX_goto (tgt := 21) dX4_binds_17 (by decide) ?_
      obtain rfl := Option.some.inj hm
      exact oX_iret dX4_binds_21 rfl rfl hK
    · have hm := ifn c2 hm
      refine oX_iconst (v := (1 : Int32)) dX4_binds_20 (by decide) ?_
      obtain rfl := Option.some.inj hm
      exact oX_iret dX4_binds_21 rfl rfl hK
theorem t_X4_binds {G : OhG} {FI AI : OhI} {FL AL : OhL} {FR GR AR BR : OhQ} {AN : OhN} {C : OhC} (x0 : Int32) {o : Int32} (hm : mX4_binds x0 = some o) : oT G 1 iX4_binds [vI x0] (FI, FL, FR, GR, AI, AL, AR, BR, AN, C) (0, 0) (fun v h => v = (some (vI o)) ∧ h = (FI, FL, FR, GR, AI, AL, AR, BR, AN, C)) ohNo :=
  oT_of (by decide) rfl (Nat.le_of_ble_eq_true rfl) (x_mX4_binds x0 hm ⟨rfl, rfl⟩)
abbrev iX4_writeDown : OhM := (yX4_writeDown, cX4_writeDown, 2, none, [])
theorem ok_X4_writeDown : oOk iX4_writeDown 1 := ⟨by decide, by decide, by decide +kernel⟩

noncomputable def mX4_writeDown_b0 (n : Nat) (FI : OhI) (FR : OhQ) (AI : OhI) (AN : OhN) (x1 : Int32) : Option ((OhI × OhI) ⊕ (OhI × OhI)) :=
  (if (FI 1 0 38) ≤ 0 then
  some (.inr (FI, AI))
else
  gd (vp_in ((FI 1 0 38) - (1 : Int32)) 64) <|
    (if (AI 136 0 ((FI 1 0 38) - (1 : Int32)).toNatClampNeg) = (23 : Int32) then
    some (.inr (FI, AI))
  else
    gd (vp_in ((FI 1 0 38) - (1 : Int32)) 64) <|
      (mX4_binds (AI 136 0 ((FI 1 0 38) - (1 : Int32)).toNatClampNeg)).bind fun r5 =>
      (if r5 < x1 then
      some (.inr (FI, AI))
    else
      oLet (sA FI 1 0 (uA (FI 1 0) 38 ((FI 1 0 38) - (1 : Int32)))) fun FI7 =>
        gd (vp_in (FI7 1 0 38) 64) <|
        (mX4_write FI7 FR AI AN (AI 136 0 (FI7 1 0 38).toNatClampNeg) (0 : Int32) (0 : Int32)).bind fun r9 =>
        some (.inl (r9.1, r9.2)))))
theorem x_mX4_writeDown_b0 {G : OhG} {FI AI : OhI} {FL AL : OhL} {FR GR AR BR : OhQ} {AN : OhN} {C : OhC} {k : Nat × Nat} {Φ : OhP} {Ψ : OhX} (hM : ohShM FR AN) (n : Nat) (x1 : Int32) {r : (OhI × OhI) ⊕ (OhI × OhI)} (hm : mX4_writeDown_b0 n FI FR AI AN x1 = some r) (hk : ∀ v : OhI × OhI, r = .inl v → oX G 2 iX4_writeDown 0 [(0, vR (some (1, 0))), (1, vI x1)] [] (v.1, FL, FR, GR, v.2, AL, AR, BR, AN, C) k Φ Ψ) (hx1 : ∀ v : OhI × OhI, r = .inr v → oX G 2 iX4_writeDown 69 [] [] (v.1, FL, FR, GR, v.2, AL, AR, BR, AN, C) k Φ Ψ) : oX G 2 iX4_writeDown 0 [(0, vR (some (1, 0))), (1, vI x1)] [] (FI, FL, FR, GR, AI, AL, AR, BR, AN, C) k Φ Ψ := by
  unfold mX4_writeDown_b0 at hm
  refine oX_aload_n dX4_writeDown_0 rfl rfl ?_
  refine oX_getI fX4_381 rfl oDs1 dX4_writeDown_1 ?_
  refine oX_if_le (tgt := 69) dX4_writeDown_4 (by decide) (fun c1 => ?_) (fun c1 => ?_)
  · have hm := ifp c1 hm
    exact oX_sub [] rfl (hx1 (FI, AI) (Option.some.inj hm).symm)
  · have hm := ifn c1 hm
    refine oX_aload_n dX4_writeDown_7 rfl rfl ?_
    refine oX_getF fX4_97 rfl oDs1 dX4_writeDown_8 (ohF136 hM) ?_
    refine oX_aload_n dX4_writeDown_11 rfl rfl ?_
    refine oX_getI fX4_381 rfl oDs1 dX4_writeDown_12 ?_
    refine oX_iconst (v := (1 : Int32)) dX4_writeDown_15 (by decide) ?_
    refine oX_isub dX4_writeDown_16 ?_
    obtain ⟨g2, hm⟩ := gd_s hm
    refine oX_iald oDs136 (oIn (ohN136 hM) g2) dX4_writeDown_17 ?_
    refine oX_bipush (v := (23 : Int32)) dX4_writeDown_18 (by decide) ?_
    refine oX_icmp_eq (tgt := 69) dX4_writeDown_20 (by decide) (fun c3 => ?_) (fun c3 => ?_)
    · have hm := ifp c3 hm
      exact oX_sub [] rfl (hx1 (FI, AI) (Option.some.inj hm).symm)
    · have hm := ifn c3 hm
      refine oX_aload_n dX4_writeDown_23 rfl rfl ?_
      refine oX_getF fX4_97 rfl oDs1 dX4_writeDown_24 (ohF136 hM) ?_
      refine oX_aload_n dX4_writeDown_27 rfl rfl ?_
      refine oX_getI fX4_381 rfl oDs1 dX4_writeDown_28 ?_
      refine oX_iconst (v := (1 : Int32)) dX4_writeDown_31 (by decide) ?_
      refine oX_isub dX4_writeDown_32 ?_
      obtain ⟨g4, hm⟩ := gd_s hm
      refine oX_iald oDs136 (oIn (ohN136 hM) g4) dX4_writeDown_33 ?_
      obtain ⟨r5, g5, hm⟩ := bd_s hm
      refine oX_cS (as := [vI (AI 136 0 ((FI 1 0 38) - (1 : Int32)).toNatClampNeg)]) dX4_writeDown_34 rfl ok_X4_binds rfl rfl q2152 q2153 q136 q2154 (by decide) (Nat.le_of_ble_eq_true rfl) (t_X4_binds (AI 136 0 ((FI 1 0 38) - (1 : Int32)).toNatClampNeg) g5) ?_
      refine oX_iload_n dX4_writeDown_37 rfl rfl ?_
      refine oX_icmp_lt (tgt := 69) dX4_writeDown_38 (by decide) (fun c6 => ?_) (fun c6 => ?_)
      · have hm := ifp c6 hm
        exact oX_sub [] rfl (hx1 (FI, AI) (Option.some.inj hm).symm)
      · have hm := ifn c6 hm
        refine oX_aload_n dX4_writeDown_41 rfl rfl ?_
        refine oX_dup dX4_writeDown_42 trivial ?_
        refine oX_getI fX4_381 rfl oDs1 dX4_writeDown_43 ?_
        refine oX_iconst (v := (1 : Int32)) dX4_writeDown_46 (by decide) ?_
        refine oX_isub dX4_writeDown_47 ?_
        obtain ⟨FI7, hFI7, hm⟩ := oLs hm
        refine oX_putI fX4_381 rfl (fun h9 => by cases h9) oDs1 dX4_writeDown_48 ⟨rfl, rfl⟩ hFI7 ?_
        refine oX_aload_n dX4_writeDown_51 rfl rfl ?_
        refine oX_aload_n dX4_writeDown_52 rfl rfl ?_
        refine oX_getF fX4_97 rfl oDs1 dX4_writeDown_53 (ohF136 hM) ?_
        refine oX_aload_n dX4_writeDown_56 rfl rfl ?_
        refine oX_getI fX4_381 rfl oDs1 dX4_writeDown_57 ?_
        obtain ⟨g8, hm⟩ := gd_s hm
        refine oX_iald oDs136 (oIn (ohN136 hM) g8) dX4_writeDown_60 ?_
        refine oX_iconst (v := (0 : Int32)) dX4_writeDown_61 (by decide) ?_
        refine oX_iconst (v := (0 : Int32)) dX4_writeDown_62 (by decide) ?_
        obtain ⟨r9, g9, hm⟩ := bd_s hm
        refine oX_cV_ (as := [vI (AI 136 0 (FI7 1 0 38).toNatClampNeg), vI (0 : Int32), vI (0 : Int32)]) dX4_writeDown_63 rfl oDs1 rfl (by decide) rfl ok_X4_write rfl rfl q2144 q2146 qs76 q136 q2147 (by decide) (Nat.le_of_ble_eq_true rfl) (t_X4_write hM (AI 136 0 (FI7 1 0 38).toNatClampNeg) (0 : Int32) (0 : Int32) g9) ?_
        refine oX_goto (tgt := 0) dX4_writeDown_66 (by decide) ?_
        exact oX_sub [0, 1] rfl (hk (r9.1, r9.2) (Option.some.inj hm).symm)
theorem l_mX4_writeDown_b0 {G : OhG} {FL : OhL} {FR : OhQ} {GR : OhQ} {AL : OhL} {AR : OhQ} {BR : OhQ} {AN : OhN} {C : OhC} {k : Nat × Nat} {Φ : OhP} {Ψ : OhX} (hM : ohShM FR AN) (n : Nat) (x1 : Int32) : ∀ (f : Nat) (FI : OhI) (AI : OhI) (b : (OhI × OhI)), lpF (fun v => mX4_writeDown_b0 n v.1 FR v.2 AN x1) f (FI, AI) = some b → (oX G 2 iX4_writeDown 69 [] [] (b.1, FL, FR, GR, b.2, AL, AR, BR, AN, C) k Φ Ψ) → oX G 2 iX4_writeDown 0 [(0, vR (some (1, 0))), (1, vI x1)] [] (FI, FL, FR, GR, AI, AL, AR, BR, AN, C) k Φ Ψ := by
  intro f
  induction f with
  | zero =>
    intro FI AI b hm
    cases hm
  | succ f ih =>
    intro FI AI b hm hx1
    obtain ⟨r, hr, hm⟩ := lp_s hm
    refine x_mX4_writeDown_b0 hM n x1 hr (fun v e => ?_) (fun v e => ?_)
    · subst e; exact ih v.1 v.2 _ hm hx1
    · subst e; cases (show v = b from hm); exact hx1
noncomputable def mX4_writeDown (n : Nat) (FI : OhI) (FR : OhQ) (AI : OhI) (AN : OhN) (x1 : Int32) : Option (OhI × OhI) :=
  (lpF (fun v => mX4_writeDown_b0 n v.1 FR v.2 AN x1) n (FI, AI)).bind fun v10 =>
  some (v10.1, v10.2)
theorem x_mX4_writeDown {G : OhG} {FI AI : OhI} {FL AL : OhL} {FR GR AR BR : OhQ} {AN : OhN} {C : OhC} {k : Nat × Nat} {Φ : OhP} {Ψ : OhX} (hM : ohShM FR AN) (n : Nat) (x1 : Int32) {r : OhI × OhI} (hm : mX4_writeDown n FI FR AI AN x1 = some r) (hK : Φ none (r.1, FL, FR, GR, r.2, AL, AR, BR, AN, C)) : oX G 2 iX4_writeDown 0 [(0, vR (some (1, 0))), (1, vI x1)] [] (FI, FL, FR, GR, AI, AL, AR, BR, AN, C) k Φ Ψ := by
  unfold mX4_writeDown at hm
  obtain ⟨v10, g10, hm⟩ := bd_s hm
  refine oX_sub [0, 1] rfl (l_mX4_writeDown_b0 hM n x1 n FI AI _ g10 ?_)
  obtain rfl := Option.some.inj hm
  exact oX_vret dX4_writeDown_69 rfl hK
theorem t_X4_writeDown {G : OhG} {FI AI : OhI} {FL AL : OhL} {FR GR AR BR : OhQ} {AN : OhN} {C : OhC} (hM : ohShM FR AN) (n : Nat) (x1 : Int32) {o : OhI × OhI} (hm : mX4_writeDown n FI FR AI AN x1 = some o) : oT G 2 iX4_writeDown [vR (some (1, 0)), vI x1] (FI, FL, FR, GR, AI, AL, AR, BR, AN, C) (0, 0) (fun v h => v = none ∧ h = (o.1, FL, FR, GR, o.2, AL, AR, BR, AN, C)) ohNo :=
  oT_of (by decide) rfl (Nat.le_of_ble_eq_true rfl) (x_mX4_writeDown hM n x1 hm ⟨rfl, rfl⟩)
abbrev iX4_one : OhM := (yX4_one, cX4_one, 4, (some .boolean), [])
theorem ok_X4_one : oOk iX4_one 0 := ⟨by decide, by decide, by decide +kernel⟩

noncomputable def mX4_one_j97 (n : Nat) (FI : OhI) (FL : OhL) (FR : OhQ) (AI : OhI) (AN : OhN) (y1 : Int32) (y2 : Int32) : Option ((OhI × OhL × OhI) ⊕ ((OhI × OhL × OhI) ⊕ ((OhI × OhL × OhI) ⊕ (Int32 × OhI × OhL × OhI)))) :=
  gd (vp_in y1 64) <|
  oLet (sA AI 136 0 (uA (AI 136 0) y1.toNatClampNeg y2)) fun AI12 =>
  oLet (sA FI 1 0 (uA (FI 1 0) 38 ((FI 1 0 38) + (1 : Int32)))) fun FI13 =>
  some (.inl (FI13, FL, AI12))
theorem x_mX4_one_j97 {G : OhG} {FI AI : OhI} {FL AL : OhL} {FR GR AR BR : OhQ} {AN : OhN} {C : OhC} {k : Nat × Nat} {Φ : OhP} {Ψ : OhX} (hM : ohShM FR AN) (n : Nat) (y1 : Int32) (y2 : Int32) {r : (OhI × OhL × OhI) ⊕ ((OhI × OhL × OhI) ⊕ ((OhI × OhL × OhI) ⊕ (Int32 × OhI × OhL × OhI)))} (hm : mX4_one_j97 n FI FL FR AI AN y1 y2 = some r) (hk : ∀ v : OhI × OhL × OhI, r = .inl v → oX G 3 iX4_one 0 [(0, vR (some (1, 0)))] [] (v.1, v.2.1, FR, GR, v.2.2, AL, AR, BR, AN, C) k Φ Ψ) (hx1 : ∀ v : OhI × OhL × OhI, r = .inr (.inl v) → oX G 3 iX4_one 30 [(0, vR (some (1, 0)))] [] (v.1, v.2.1, FR, GR, v.2.2, AL, AR, BR, AN, C) k Φ Ψ) (hx2 : ∀ v : OhI × OhL × OhI, r = .inr (.inr (.inl v)) → oX G 3 iX4_one 54 [(0, vR (some (1, 0)))] [] (v.1, v.2.1, FR, GR, v.2.2, AL, AR, BR, AN, C) k Φ Ψ) (hx3 : ∀ v : Int32 × OhI × OhL × OhI, r = .inr (.inr (.inr v)) → oX G 3 iX4_one 111 [(0, vR (some (1, 0))), (2, vI v.1)] [] (v.2.1, v.2.2.1, FR, GR, v.2.2.2, AL, AR, BR, AN, C) k Φ Ψ) : oX G 3 iX4_one 97 [(0, vR (some (1, 0)))] [vI y2, vI y1, vR (some (136, 0))] (FI, FL, FR, GR, AI, AL, AR, BR, AN, C) k Φ Ψ := by
  unfold mX4_one_j97 at hm
  obtain ⟨g12, hm⟩ := gd_s hm
  obtain ⟨AI12, hAI12, hm⟩ := oLs hm
  refine oX_iast oDs136 (oIn (ohN136 hM) g12) dX4_one_97 hAI12 ?_
  refine oX_aload_n dX4_one_98 rfl rfl ?_
  refine oX_dup dX4_one_99 trivial ?_
  refine oX_getI fX4_381 rfl oDs1 dX4_one_100 ?_
  refine oX_iconst (v := (1 : Int32)) dX4_one_103 (by decide) ?_
  refine oX_iadd dX4_one_104 ?_
  obtain ⟨FI13, hFI13, hm⟩ := oLs hm
  refine oX_putI fX4_381 rfl (fun h9 => by cases h9) oDs1 dX4_one_105 ⟨rfl, rfl⟩ hFI13 ?_
  refine oX_goto (tgt := 0) dX4_one_108 (by decide) ?_
  exact oX_sub [0] rfl (hk (FI13, FL, AI12) (Option.some.inj hm).symm)
noncomputable def mX4_one_j36 (n : Nat) (FI : OhI) (FL : OhL) (FR : OhQ) (AI : OhI) (AN : OhN) (x1 : Int32) (x2 : Int32) : Option ((OhI × OhL × OhI) ⊕ ((OhI × OhL × OhI) ⊕ ((OhI × OhL × OhI) ⊕ (Int32 × OhI × OhL × OhI)))) :=
  (if (FI 1 0 39) = (40 : Int32) then
  some (.inr (.inr (.inl (FI, FL, AI))))
else
  (mX4_open n FI FR AI AN).bind fun r6 =>
    (if r6 = (12 : Int32) then
    some (.inr (.inr (.inl (FI, FL, AI))))
  else
    oLet (sA FI 1 0 (uA (FI 1 0) 39 ((FI 1 0 39) + (1 : Int32)))) fun FI8 =>
      (mX4_next_2 n FI8 FL FR AI AN).bind fun r9 =>
      (if 0 ≤ x2 then
      some (.inr (.inr (.inr (x2, r9.1, r9.2, AI))))
    else
      (if x1 = 0 then
        mX4_one_j97 n r9.1 r9.2 FR AI AN (r9.1 1 0 38) (23 : Int32)
      else
        mX4_one_j97 n r9.1 r9.2 FR AI AN (r9.1 1 0 38) (20 : Int32)))))
theorem x_mX4_one_j36 {G : OhG} {FI AI : OhI} {FL AL : OhL} {FR GR AR BR : OhQ} {AN : OhN} {C : OhC} {k : Nat × Nat} {Φ : OhP} {Ψ : OhX} (hM : ohShM FR AN) (n : Nat) (x1 : Int32) (x2 : Int32) {r : (OhI × OhL × OhI) ⊕ ((OhI × OhL × OhI) ⊕ ((OhI × OhL × OhI) ⊕ (Int32 × OhI × OhL × OhI)))} (hm : mX4_one_j36 n FI FL FR AI AN x1 x2 = some r) (hk : ∀ v : OhI × OhL × OhI, r = .inl v → oX G 3 iX4_one 0 [(0, vR (some (1, 0)))] [] (v.1, v.2.1, FR, GR, v.2.2, AL, AR, BR, AN, C) k Φ Ψ) (hx1 : ∀ v : OhI × OhL × OhI, r = .inr (.inl v) → oX G 3 iX4_one 30 [(0, vR (some (1, 0)))] [] (v.1, v.2.1, FR, GR, v.2.2, AL, AR, BR, AN, C) k Φ Ψ) (hx2 : ∀ v : OhI × OhL × OhI, r = .inr (.inr (.inl v)) → oX G 3 iX4_one 54 [(0, vR (some (1, 0)))] [] (v.1, v.2.1, FR, GR, v.2.2, AL, AR, BR, AN, C) k Φ Ψ) (hx3 : ∀ v : Int32 × OhI × OhL × OhI, r = .inr (.inr (.inr v)) → oX G 3 iX4_one 111 [(0, vR (some (1, 0))), (2, vI v.1)] [] (v.2.1, v.2.2.1, FR, GR, v.2.2.2, AL, AR, BR, AN, C) k Φ Ψ) : oX G 3 iX4_one 36 [(0, vR (some (1, 0))), (1, vI x1), (2, vI x2)] [] (FI, FL, FR, GR, AI, AL, AR, BR, AN, C) k Φ Ψ := by
  unfold mX4_one_j36 at hm
  refine oX_aload_n dX4_one_36 rfl rfl ?_
  refine oX_getI fX4_319 rfl oDs1 dX4_one_37 ?_
  refine oX_bipush (v := (40 : Int32)) dX4_one_40 (by decide) ?_
  refine oX_icmp_eq (tgt := 54) dX4_one_42 (by decide) (fun c5 => ?_) (fun c5 => ?_)
  · have hm := ifp c5 hm
    exact oX_sub [0] rfl (hx2 (FI, FL, AI) (Option.some.inj hm).symm)
  · have hm := ifn c5 hm
    refine oX_aload_n dX4_one_45 rfl rfl ?_
    obtain ⟨r6, g6, hm⟩ := bd_s hm
    refine oX_cV (as := []) dX4_one_46 rfl oDs1 rfl (by decide) rfl ok_X4_open rfl rfl q2140 q2142 qs75 q136 q2143 (by decide) (Nat.le_of_ble_eq_true rfl) (t_X4_open hM n g6) ?_
    refine oX_bipush (v := (12 : Int32)) dX4_one_49 (by decide) ?_
    refine oX_icmp_ne (tgt := 60) dX4_one_51 (by decide) (fun c7 => ?_) (fun c7 => ?_)
    · have hm := ifp c7 hm
      exact oX_sub [0] rfl (hx2 (FI, FL, AI) (Option.some.inj hm).symm)
    · have hm := ifn c7 hm
      refine oX_aload_n dX4_one_60 rfl rfl ?_
      refine oX_dup dX4_one_61 trivial ?_
      refine oX_getI fX4_319 rfl oDs1 dX4_one_62 ?_
      refine oX_iconst (v := (1 : Int32)) dX4_one_65 (by decide) ?_
      refine oX_iadd dX4_one_66 ?_
      obtain ⟨FI8, hFI8, hm⟩ := oLs hm
      refine oX_putI fX4_319 rfl (fun h9 => by cases h9) oDs1 dX4_one_67 ⟨rfl, rfl⟩ hFI8 ?_
      refine oX_aload_n dX4_one_70 rfl rfl ?_
      obtain ⟨r9, g9, hm⟩ := bd_s hm
      refine oX_cV_ (as := []) dX4_one_71 rfl oDs1 rfl (by decide) rfl ok_X4_next_2 rfl rfl q2067 q2069 qs63 q136 q2070 (by decide) (Nat.le_of_ble_eq_true rfl) (t_X4_next_2 hM n g9) ?_
      refine oX_iload_n dX4_one_74 rfl rfl ?_
      refine oX_if_ge (tgt := 111) dX4_one_75 (by decide) (fun c10 => ?_) (fun c10 => ?_)
      · have hm := ifp c10 hm
        exact oX_sub [0, 2] rfl (hx3 (x2, r9.1, r9.2, AI) (Option.some.inj hm).symm)
      · have hm := ifn c10 hm
        refine oX_aload_n dX4_one_78 rfl rfl ?_
        refine oX_getF fX4_97 rfl oDs1 dX4_one_79 (ohF136 hM) ?_
        refine oX_aload_n dX4_one_82 rfl rfl ?_
        refine oX_getI fX4_381 rfl oDs1 dX4_one_83 ?_
        refine oX_iload_n dX4_one_86 rfl rfl ?_
        refine oX_if_eq (tgt := 95) dX4_one_87 (by decide) (fun c11 => ?_) (fun c11 => ?_)
        · have hm := ifp c11 hm
          refine oX_bipush (v := (23 : Int32)) dX4_one_95 (by decide) ?_
          exact oX_sub [0] rfl (x_mX4_one_j97 hM n (r9.1 1 0 38) (23 : Int32) hm hk hx1 hx2 hx3)
        · have hm := ifn c11 hm
          refine oX_bipush (v := (20 : Int32)) dX4_one_90 (by decide) ?_
          refine oX_goto (tgt := 97) dX4_one_92 (by decide) ?_
          exact oX_sub [0] rfl (x_mX4_one_j97 hM n (r9.1 1 0 38) (20 : Int32) hm hk hx1 hx2 hx3)
noncomputable def mX4_one_b0 (n : Nat) (FI : OhI) (FL : OhL) (FR : OhQ) (AI : OhI) (AN : OhN) : Option ((OhI × OhL × OhI) ⊕ ((OhI × OhL × OhI) ⊕ ((OhI × OhL × OhI) ⊕ (Int32 × OhI × OhL × OhI)))) :=
  (mX4_isWord FI FL (7237492 : Int64)).bind fun r1 =>
  (mX4_atom FI FL).bind fun r2 =>
  (if r1 = 0 then
  (if 0 ≤ r2 then
    mX4_one_j36 n FI FL FR AI AN r1 r2
  else
    (mX4_isSign FI (40 : Int32)).bind fun r14 =>
      (if r14 = 0 then
      some (.inr (.inl (FI, FL, AI)))
    else
      mX4_one_j36 n FI FL FR AI AN r1 r2))
else
  mX4_one_j36 n FI FL FR AI AN r1 r2)
theorem x_mX4_one_b0 {G : OhG} {FI AI : OhI} {FL AL : OhL} {FR GR AR BR : OhQ} {AN : OhN} {C : OhC} {k : Nat × Nat} {Φ : OhP} {Ψ : OhX} (hM : ohShM FR AN) (n : Nat) {r : (OhI × OhL × OhI) ⊕ ((OhI × OhL × OhI) ⊕ ((OhI × OhL × OhI) ⊕ (Int32 × OhI × OhL × OhI)))} (hm : mX4_one_b0 n FI FL FR AI AN = some r) (hk : ∀ v : OhI × OhL × OhI, r = .inl v → oX G 3 iX4_one 0 [(0, vR (some (1, 0)))] [] (v.1, v.2.1, FR, GR, v.2.2, AL, AR, BR, AN, C) k Φ Ψ) (hx1 : ∀ v : OhI × OhL × OhI, r = .inr (.inl v) → oX G 3 iX4_one 30 [(0, vR (some (1, 0)))] [] (v.1, v.2.1, FR, GR, v.2.2, AL, AR, BR, AN, C) k Φ Ψ) (hx2 : ∀ v : OhI × OhL × OhI, r = .inr (.inr (.inl v)) → oX G 3 iX4_one 54 [(0, vR (some (1, 0)))] [] (v.1, v.2.1, FR, GR, v.2.2, AL, AR, BR, AN, C) k Φ Ψ) (hx3 : ∀ v : Int32 × OhI × OhL × OhI, r = .inr (.inr (.inr v)) → oX G 3 iX4_one 111 [(0, vR (some (1, 0))), (2, vI v.1)] [] (v.2.1, v.2.2.1, FR, GR, v.2.2.2, AL, AR, BR, AN, C) k Φ Ψ) : oX G 3 iX4_one 0 [(0, vR (some (1, 0)))] [] (FI, FL, FR, GR, AI, AL, AR, BR, AN, C) k Φ Ψ := by
  unfold mX4_one_b0 at hm
  refine oX_aload_n dX4_one_0 rfl rfl ?_
  refine oX_ldc2 q2121 dX4_one_1 ?_
  obtain ⟨r1, g1, hm⟩ := bd_s hm
  refine oX_cV (as := [vL (7237492 : Int64)]) dX4_one_4 rfl oDs1 rfl (by decide) rfl ok_X4_isWord rfl rfl q2086 q2088 qs66 q136 q2089 (by decide) (Nat.le_of_ble_eq_true rfl) (t_X4_isWord (7237492 : Int64) g1) ?_
  refine oX_istore_n (ls' := [(1, vI r1), (0, vR (some (1, 0)))]) dX4_one_7 rfl (by decide) rfl ?_
  refine oX_aload_n dX4_one_8 rfl rfl ?_
  obtain ⟨r2, g2, hm⟩ := bd_s hm
  refine oX_cV (as := []) dX4_one_9 rfl oDs1 rfl (by decide) rfl ok_X4_atom rfl rfl q2122 q2124 qs73 q136 q2125 (by decide) (Nat.le_of_ble_eq_true rfl) (t_X4_atom g2) ?_
  refine oX_istore_n (ls' := [(2, vI r2), (1, vI r1), (0, vR (some (1, 0)))]) dX4_one_12 rfl (by decide) rfl ?_
  refine oX_iload_n dX4_one_13 rfl rfl ?_
  refine oX_if_ne (tgt := 36) dX4_one_14 (by decide) (fun c3 => ?_) (fun c3 => ?_)
  · have hm := ifp c3 hm
    refine oX_iload_n dX4_one_17 rfl rfl ?_
    refine oX_if_ge (tgt := 36) dX4_one_18 (by decide) (fun c4 => ?_) (fun c4 => ?_)
    · have hm := ifp c4 hm
      exact oX_sub [2, 1, 0] rfl (x_mX4_one_j36 hM n r1 r2 hm hk hx1 hx2 hx3)
    · have hm := ifn c4 hm
      refine oX_aload_n dX4_one_21 rfl rfl ?_
      refine oX_bipush (v := (40 : Int32)) dX4_one_22 (by decide) ?_
      obtain ⟨r14, g14, hm⟩ := bd_s hm
      refine oX_cV (as := [vI (40 : Int32)]) dX4_one_24 rfl oDs1 rfl (by decide) rfl ok_X4_isSign rfl rfl q2136 q2138 qs74 q136 q2139 (by decide) (Nat.le_of_ble_eq_true rfl) (t_X4_isSign (40 : Int32) g14) ?_
      refine oX_if_ne (tgt := 36) dX4_one_27 (by decide) (fun c15 => ?_) (fun c15 => ?_)
      · have hm := ifp c15 hm
        exact oX_sub [2] rfl (hx1 (FI, FL, AI) (Option.some.inj hm).symm)
      · have hm := ifn c15 hm
        exact oX_sub [2, 1, 0] rfl (x_mX4_one_j36 hM n r1 r2 hm hk hx1 hx2 hx3)
  · have hm := ifn c3 hm
    exact oX_sub [2, 1, 0] rfl (x_mX4_one_j36 hM n r1 r2 hm hk hx1 hx2 hx3)
theorem l_mX4_one_b0 {G : OhG} {FR : OhQ} {GR : OhQ} {AL : OhL} {AR : OhQ} {BR : OhQ} {AN : OhN} {C : OhC} {k : Nat × Nat} {Φ : OhP} {Ψ : OhX} (hM : ohShM FR AN) (n : Nat) : ∀ (f : Nat) (FI : OhI) (FL : OhL) (AI : OhI) (b : ((OhI × OhL × OhI) ⊕ ((OhI × OhL × OhI) ⊕ (Int32 × OhI × OhL × OhI)))), lpF (fun v => mX4_one_b0 n v.1 v.2.1 FR v.2.2 AN) f (FI, FL, AI) = some b → (∀ v : OhI × OhL × OhI, b = (.inl v) → oX G 3 iX4_one 30 [(0, vR (some (1, 0)))] [] (v.1, v.2.1, FR, GR, v.2.2, AL, AR, BR, AN, C) k Φ Ψ) → (∀ v : OhI × OhL × OhI, b = (.inr (.inl v)) → oX G 3 iX4_one 54 [(0, vR (some (1, 0)))] [] (v.1, v.2.1, FR, GR, v.2.2, AL, AR, BR, AN, C) k Φ Ψ) → (∀ v : Int32 × OhI × OhL × OhI, b = (.inr (.inr v)) → oX G 3 iX4_one 111 [(0, vR (some (1, 0))), (2, vI v.1)] [] (v.2.1, v.2.2.1, FR, GR, v.2.2.2, AL, AR, BR, AN, C) k Φ Ψ) → oX G 3 iX4_one 0 [(0, vR (some (1, 0)))] [] (FI, FL, FR, GR, AI, AL, AR, BR, AN, C) k Φ Ψ := by
  intro f
  induction f with
  | zero =>
    intro FI FL AI b hm
    cases hm
  | succ f ih =>
    intro FI FL AI b hm hx1 hx2 hx3
    obtain ⟨r, hr, hm⟩ := lp_s hm
    refine x_mX4_one_b0 hM n hr (fun v e => ?_) (fun v e => ?_) (fun v e => ?_) (fun v e => ?_)
    · subst e; exact ih v.1 v.2.1 v.2.2 _ hm hx1 hx2 hx3
    · subst e; exact hx1 v hm.symm
    · subst e; exact hx2 v hm.symm
    · subst e; exact hx3 v hm.symm
noncomputable def mX4_one_j54 (n : Nat) (FI : OhI) (FL : OhL) (FR : OhQ) (AI : OhI) (AN : OhN) : Option (Int32 × OhI × OhL × OhI) :=
  (mX4_bad FI (4 : Int32)).bind fun r19 =>
  gd (r19.1 = 0 ∨ r19.1 = 1) <|
  some (r19.1, r19.2, FL, AI)
theorem x_mX4_one_j54 {G : OhG} {FI AI : OhI} {FL AL : OhL} {FR GR AR BR : OhQ} {AN : OhN} {C : OhC} {k : Nat × Nat} {Φ : OhP} {Ψ : OhX} (hM : ohShM FR AN) (n : Nat) {r : Int32 × OhI × OhL × OhI} (hm : mX4_one_j54 n FI FL FR AI AN = some r) (hK : Φ (some (vI r.1)) (r.2.1, r.2.2.1, FR, GR, r.2.2.2, AL, AR, BR, AN, C)) : oX G 3 iX4_one 54 [(0, vR (some (1, 0)))] [] (FI, FL, FR, GR, AI, AL, AR, BR, AN, C) k Φ Ψ := by
  unfold mX4_one_j54 at hm
  refine oX_aload_n dX4_one_54 rfl rfl ?_
  refine oX_iconst (v := (4 : Int32)) dX4_one_55 (by decide) ?_
  obtain ⟨r19, g19, hm⟩ := bd_s hm
  refine oX_cV (as := [vI (4 : Int32)]) dX4_one_56 rfl oDs1 rfl (by decide) rfl ok_X4_bad rfl rfl q2094 q2096 qs68 q136 q2097 (by decide) (Nat.le_of_ble_eq_true rfl) (t_X4_bad (4 : Int32) g19) ?_
  obtain ⟨g20, hm⟩ := gd_s hm
  obtain rfl := Option.some.inj hm
  exact oX_iret dX4_one_59 rfl (oNz g20) hK
noncomputable def mX4_one_j197 (n : Nat) (FI : OhI) (FL : OhL) (FR : OhQ) (AI : OhI) (AN : OhN) : Option (Int32 × OhI × OhL × OhI) :=
  (mX4_writeDown n FI FR AI AN (3 : Int32)).bind fun r34 =>
  some ((1 : Int32), r34.1, FL, r34.2)
theorem x_mX4_one_j197 {G : OhG} {FI AI : OhI} {FL AL : OhL} {FR GR AR BR : OhQ} {AN : OhN} {C : OhC} {k : Nat × Nat} {Φ : OhP} {Ψ : OhX} (hM : ohShM FR AN) (n : Nat) {r : Int32 × OhI × OhL × OhI} (hm : mX4_one_j197 n FI FL FR AI AN = some r) (hK : Φ (some (vI r.1)) (r.2.1, r.2.2.1, FR, GR, r.2.2.2, AL, AR, BR, AN, C)) : oX G 3 iX4_one 197 [(0, vR (some (1, 0)))] [] (FI, FL, FR, GR, AI, AL, AR, BR, AN, C) k Φ Ψ := by
  unfold mX4_one_j197 at hm
  refine oX_aload_n dX4_one_197 rfl rfl ?_
  refine oX_iconst (v := (3 : Int32)) dX4_one_198 (by decide) ?_
  obtain ⟨r34, g34, hm⟩ := bd_s hm
  refine oX_cV_ (as := [vI (3 : Int32)]) dX4_one_199 rfl oDs1 rfl (by decide) rfl ok_X4_writeDown rfl rfl q2148 q2150 qs77 q136 q2151 (by decide) (Nat.le_of_ble_eq_true rfl) (t_X4_writeDown hM n (3 : Int32) g34) ?_
  refine oX_iconst (v := (1 : Int32)) dX4_one_202 (by decide) ?_
  obtain rfl := Option.some.inj hm
  exact oX_iret dX4_one_203 rfl (by decide) hK
noncomputable def mX4_one_j160 (n : Nat) (FI : OhI) (FL : OhL) (FR : OhQ) (AI : OhI) (AN : OhN) (x2 : Int32) : Option (Int32 × OhI × OhL × OhI) :=
  (mX4_next_2 n FI FL FR AI AN).bind fun r30 =>
  (if (r30.1 1 0 40) = (2 : Int32) then
  (mX4_write r30.1 FR AI AN x2 (FI 1 0 43) (r30.1 1 0 43)).bind fun r32 =>
    (mX4_next_2 n r32.1 r30.2 FR r32.2 AN).bind fun r33 =>
    mX4_one_j197 n r33.1 r33.2 FR r32.2 AN
else
  (mX4_bad r30.1 (1 : Int32)).bind fun r35 =>
    gd (r35.1 = 0 ∨ r35.1 = 1) <|
    some (r35.1, r35.2, r30.2, AI))
theorem x_mX4_one_j160 {G : OhG} {FI AI : OhI} {FL AL : OhL} {FR GR AR BR : OhQ} {AN : OhN} {C : OhC} {k : Nat × Nat} {Φ : OhP} {Ψ : OhX} (hM : ohShM FR AN) (n : Nat) (x2 : Int32) {r : Int32 × OhI × OhL × OhI} (hm : mX4_one_j160 n FI FL FR AI AN x2 = some r) (hK : Φ (some (vI r.1)) (r.2.1, r.2.2.1, FR, GR, r.2.2.2, AL, AR, BR, AN, C)) : oX G 3 iX4_one 160 [(0, vR (some (1, 0))), (2, vI x2)] [] (FI, FL, FR, GR, AI, AL, AR, BR, AN, C) k Φ Ψ := by
  unfold mX4_one_j160 at hm
  refine oX_aload_n dX4_one_160 rfl rfl ?_
  refine oX_getI fX4_288 rfl oDs1 dX4_one_161 ?_
  refine oX_istore_n (ls' := [(3, vI (FI 1 0 43)), (0, vR (some (1, 0))), (2, vI x2)]) dX4_one_164 rfl (by decide) rfl ?_
  refine oX_aload_n dX4_one_165 rfl rfl ?_
  obtain ⟨r30, g30, hm⟩ := bd_s hm
  refine oX_cV_ (as := []) dX4_one_166 rfl oDs1 rfl (by decide) rfl ok_X4_next_2 rfl rfl q2067 q2069 qs63 q136 q2070 (by decide) (Nat.le_of_ble_eq_true rfl) (t_X4_next_2 hM n g30) ?_
  refine oX_aload_n dX4_one_169 rfl rfl ?_
  refine oX_getI fX4_278 rfl oDs1 dX4_one_170 ?_
  refine oX_iconst (v := (2 : Int32)) dX4_one_173 (by decide) ?_
  refine oX_icmp_eq (tgt := 183) dX4_one_174 (by decide) (fun c31 => ?_) (fun c31 => ?_)
  · have hm := ifp c31 hm
    refine oX_aload_n dX4_one_183 rfl rfl ?_
    refine oX_iload_n dX4_one_184 rfl rfl ?_
    refine oX_iload_n dX4_one_185 rfl rfl ?_
    refine oX_aload_n dX4_one_186 rfl rfl ?_
    refine oX_getI fX4_288 rfl oDs1 dX4_one_187 ?_
    obtain ⟨r32, g32, hm⟩ := bd_s hm
    refine oX_cV_ (as := [vI x2, vI (FI 1 0 43), vI (r30.1 1 0 43)]) dX4_one_190 rfl oDs1 rfl (by decide) rfl ok_X4_write rfl rfl q2144 q2146 qs76 q136 q2147 (by decide) (Nat.le_of_ble_eq_true rfl) (t_X4_write hM x2 (FI 1 0 43) (r30.1 1 0 43) g32) ?_
    refine oX_aload_n dX4_one_193 rfl rfl ?_
    obtain ⟨r33, g33, hm⟩ := bd_s hm
    refine oX_cV_ (as := []) dX4_one_194 rfl oDs1 rfl (by decide) rfl ok_X4_next_2 rfl rfl q2067 q2069 qs63 q136 q2070 (by decide) (Nat.le_of_ble_eq_true rfl) (t_X4_next_2 hM n g33) ?_
    exact oX_sub [1] rfl (x_mX4_one_j197 hM n hm hK)
  · have hm := ifn c31 hm
    refine oX_aload_n dX4_one_177 rfl rfl ?_
    refine oX_iconst (v := (1 : Int32)) dX4_one_178 (by decide) ?_
    obtain ⟨r35, g35, hm⟩ := bd_s hm
    refine oX_cV (as := [vI (1 : Int32)]) dX4_one_179 rfl oDs1 rfl (by decide) rfl ok_X4_bad rfl rfl q2094 q2096 qs68 q136 q2097 (by decide) (Nat.le_of_ble_eq_true rfl) (t_X4_bad (1 : Int32) g35) ?_
    obtain ⟨g36, hm⟩ := gd_s hm
    obtain rfl := Option.some.inj hm
    exact oX_iret dX4_one_182 rfl (oNz g36) hK
noncomputable def mX4_one (n : Nat) (FI : OhI) (FL : OhL) (FR : OhQ) (AI : OhI) (AN : OhN) : Option (Int32 × OhI × OhL × OhI) :=
  (lpF (fun v => mX4_one_b0 n v.1 v.2.1 FR v.2.2 AN) n (FI, FL, AI)).bind (Sum.elim (fun v16 => (mX4_bad v16.1 (1 : Int32)).bind fun r17 =>
  gd (r17.1 = 0 ∨ r17.1 = 1) <|
  some (r17.1, r17.2, v16.2.1, v16.2.2)) (Sum.elim (fun v16 => mX4_one_j54 n v16.1 v16.2.1 FR v16.2.2 AN) (fun v16 => (if (7 : Int32) ≤ v16.1 then
  (mX4_isSign v16.2.1 (60 : Int32)).bind fun r22 =>
    (if r22 = 0 then
    (mX4_isSign v16.2.1 (61 : Int32)).bind fun r24 =>
      (if r24 = 0 then
      (mX4_isSign v16.2.1 (62 : Int32)).bind fun r26 =>
        (if r26 = 0 then
        (mX4_bad v16.2.1 (1 : Int32)).bind fun r28 =>
          gd (r28.1 = 0 ∨ r28.1 = 1) <|
          some (r28.1, r28.2, v16.2.2.1, v16.2.2.2)
      else
        mX4_one_j160 n v16.2.1 v16.2.2.1 FR v16.2.2.2 AN v16.1)
    else
      mX4_one_j160 n v16.2.1 v16.2.2.1 FR v16.2.2.2 AN v16.1)
  else
    mX4_one_j160 n v16.2.1 v16.2.2.1 FR v16.2.2.2 AN v16.1)
else
  (mX4_write v16.2.1 FR v16.2.2.2 AN v16.1 (0 : Int32) (0 : Int32)).bind fun r37 =>
    mX4_one_j197 n r37.1 v16.2.2.1 FR r37.2 AN))))
theorem x_mX4_one {G : OhG} {FI AI : OhI} {FL AL : OhL} {FR GR AR BR : OhQ} {AN : OhN} {C : OhC} {k : Nat × Nat} {Φ : OhP} {Ψ : OhX} (hM : ohShM FR AN) (n : Nat) {r : Int32 × OhI × OhL × OhI} (hm : mX4_one n FI FL FR AI AN = some r) (hK : Φ (some (vI r.1)) (r.2.1, r.2.2.1, FR, GR, r.2.2.2, AL, AR, BR, AN, C)) : oX G 3 iX4_one 0 [(0, vR (some (1, 0)))] [] (FI, FL, FR, GR, AI, AL, AR, BR, AN, C) k Φ Ψ := by
  unfold mX4_one at hm
  obtain ⟨b16, g16, hm⟩ := bd_s hm
  refine oX_sub [0] rfl (l_mX4_one_b0 hM n n FI FL AI _ g16 (fun v16 e16 => ?_) (fun v16 e16 => ?_) (fun v16 e16 => ?_))
  · subst e16
    have hm := el1 hm
    refine oX_aload_n dX4_one_30 rfl rfl ?_
    refine oX_iconst (v := (1 : Int32)) dX4_one_31 (by decide) ?_
    obtain ⟨r17, g17, hm⟩ := bd_s hm
    refine oX_cV (as := [vI (1 : Int32)]) dX4_one_32 rfl oDs1 rfl (by decide) rfl ok_X4_bad rfl rfl q2094 q2096 qs68 q136 q2097 (by decide) (Nat.le_of_ble_eq_true rfl) (t_X4_bad (1 : Int32) g17) ?_
    obtain ⟨g18, hm⟩ := gd_s hm
    obtain rfl := Option.some.inj hm
    exact oX_iret dX4_one_35 rfl (oNz g18) hK
  · subst e16
    have hm := el2 hm
    have hm := el1 hm
    exact oX_sub [0] rfl (x_mX4_one_j54 hM n hm hK)
  · subst e16
    have hm := el2 hm
    have hm := el2 hm
    refine oX_iload_n dX4_one_111 rfl rfl ?_
    refine oX_bipush (v := (7 : Int32)) dX4_one_112 (by decide) ?_
    refine oX_icmp_ge (tgt := 127) dX4_one_114 (by decide) (fun c21 => ?_) (fun c21 => ?_)
    · have hm := ifp c21 hm
      refine oX_aload_n dX4_one_127 rfl rfl ?_
      refine oX_bipush (v := (60 : Int32)) dX4_one_128 (by decide) ?_
      obtain ⟨r22, g22, hm⟩ := bd_s hm
      refine oX_cV (as := [vI (60 : Int32)]) dX4_one_130 rfl oDs1 rfl (by decide) rfl ok_X4_isSign rfl rfl q2136 q2138 qs74 q136 q2139 (by decide) (Nat.le_of_ble_eq_true rfl) (t_X4_isSign (60 : Int32) g22) ?_
      refine oX_if_ne (tgt := 160) dX4_one_133 (by decide) (fun c23 => ?_) (fun c23 => ?_)
      · have hm := ifp c23 hm
        refine oX_aload_n dX4_one_136 rfl rfl ?_
        refine oX_bipush (v := (61 : Int32)) dX4_one_137 (by decide) ?_
        obtain ⟨r24, g24, hm⟩ := bd_s hm
        refine oX_cV (as := [vI (61 : Int32)]) dX4_one_139 rfl oDs1 rfl (by decide) rfl ok_X4_isSign rfl rfl q2136 q2138 qs74 q136 q2139 (by decide) (Nat.le_of_ble_eq_true rfl) (t_X4_isSign (61 : Int32) g24) ?_
        refine oX_if_ne (tgt := 160) dX4_one_142 (by decide) (fun c25 => ?_) (fun c25 => ?_)
        · have hm := ifp c25 hm
          refine oX_aload_n dX4_one_145 rfl rfl ?_
          refine oX_bipush (v := (62 : Int32)) dX4_one_146 (by decide) ?_
          obtain ⟨r26, g26, hm⟩ := bd_s hm
          refine oX_cV (as := [vI (62 : Int32)]) dX4_one_148 rfl oDs1 rfl (by decide) rfl ok_X4_isSign rfl rfl q2136 q2138 qs74 q136 q2139 (by decide) (Nat.le_of_ble_eq_true rfl) (t_X4_isSign (62 : Int32) g26) ?_
          refine oX_if_ne (tgt := 160) dX4_one_151 (by decide) (fun c27 => ?_) (fun c27 => ?_)
          · have hm := ifp c27 hm
            refine oX_aload_n dX4_one_154 rfl rfl ?_
            refine oX_iconst (v := (1 : Int32)) dX4_one_155 (by decide) ?_
            obtain ⟨r28, g28, hm⟩ := bd_s hm
            refine oX_cV (as := [vI (1 : Int32)]) dX4_one_156 rfl oDs1 rfl (by decide) rfl ok_X4_bad rfl rfl q2094 q2096 qs68 q136 q2097 (by decide) (Nat.le_of_ble_eq_true rfl) (t_X4_bad (1 : Int32) g28) ?_
            obtain ⟨g29, hm⟩ := gd_s hm
            obtain rfl := Option.some.inj hm
            exact oX_iret dX4_one_159 rfl (oNz g29) hK
          · have hm := ifn c27 hm
            exact oX_sub [0, 1] rfl (x_mX4_one_j160 hM n v16.1 hm hK)
        · have hm := ifn c25 hm
          exact oX_sub [0, 1] rfl (x_mX4_one_j160 hM n v16.1 hm hK)
      · have hm := ifn c23 hm
        exact oX_sub [0, 1] rfl (x_mX4_one_j160 hM n v16.1 hm hK)
    · have hm := ifn c21 hm
      refine oX_aload_n dX4_one_117 rfl rfl ?_
      refine oX_iload_n dX4_one_118 rfl rfl ?_
      refine oX_iconst (v := (0 : Int32)) dX4_one_119 (by decide) ?_
      refine oX_iconst (v := (0 : Int32)) dX4_one_120 (by decide) ?_
      obtain ⟨r37, g37, hm⟩ := bd_s hm
      refine oX_cV_ (as := [vI v16.1, vI (0 : Int32), vI (0 : Int32)]) dX4_one_121 rfl oDs1 rfl (by decide) rfl ok_X4_write rfl rfl q2144 q2146 qs76 q136 q2147 (by decide) (Nat.le_of_ble_eq_true rfl) (t_X4_write hM v16.1 (0 : Int32) (0 : Int32) g37) ?_
      refine oX_goto (tgt := 197) dX4_one_124 (by decide) ?_
      exact oX_sub [0] rfl (x_mX4_one_j197 hM n hm hK)
theorem t_X4_one {G : OhG} {FI AI : OhI} {FL AL : OhL} {FR GR AR BR : OhQ} {AN : OhN} {C : OhC} (hM : ohShM FR AN) (n : Nat) {o : Int32 × OhI × OhL × OhI} (hm : mX4_one n FI FL FR AI AN = some o) : oT G 3 iX4_one [vR (some (1, 0))] (FI, FL, FR, GR, AI, AL, AR, BR, AN, C) (0, 0) (fun v h => v = (some (vI o.1)) ∧ h = (o.2.1, o.2.2.1, FR, GR, o.2.2.2, AL, AR, BR, AN, C)) ohNo :=
  oT_of (by decide) rfl (Nat.le_of_ble_eq_true rfl) (x_mX4_one hM n hm ⟨rfl, rfl⟩)
abbrev iX4_isOpen : OhM := (yX4_isOpen, cX4_isOpen, 2, (some .boolean), [])
theorem ok_X4_isOpen : oOk iX4_isOpen 0 := ⟨by decide, by decide, by decide +kernel⟩

noncomputable def mX4_isOpen_b2 (n : Nat) (FI : OhI) (FR : OhQ) (AI : OhI) (AN : OhN) (x1 : Int32) : Option ((Int32) ⊕ ((Unit) ⊕ (Unit))) :=
  (if (FI 1 0 38) ≤ x1 then
  some (.inr (.inl ()))
else
  gd (vp_in x1 64) <|
    (if (AI 136 0 x1.toNatClampNeg) = (23 : Int32) then
    some (.inr (.inr ()))
  else
    some (.inl (x1 + (1 : Int32)))))
theorem x_mX4_isOpen_b2 {G : OhG} {FI AI : OhI} {FL AL : OhL} {FR GR AR BR : OhQ} {AN : OhN} {C : OhC} {k : Nat × Nat} {Φ : OhP} {Ψ : OhX} (hM : ohShM FR AN) (n : Nat) (x1 : Int32) {r : (Int32) ⊕ ((Unit) ⊕ (Unit))} (hm : mX4_isOpen_b2 n FI FR AI AN x1 = some r) (hk : ∀ v : Int32, r = .inl v → oX G 1 iX4_isOpen 2 [(0, vR (some (1, 0))), (1, vI v)] [] (FI, FL, FR, GR, AI, AL, AR, BR, AN, C) k Φ Ψ) (hx1 : ∀ v : Unit, r = .inr (.inl v) → oX G 1 iX4_isOpen 29 [] [] (FI, FL, FR, GR, AI, AL, AR, BR, AN, C) k Φ Ψ) (hx2 : ∀ v : Unit, r = .inr (.inr v) → oX G 1 iX4_isOpen 21 [] [] (FI, FL, FR, GR, AI, AL, AR, BR, AN, C) k Φ Ψ) : oX G 1 iX4_isOpen 2 [(0, vR (some (1, 0))), (1, vI x1)] [] (FI, FL, FR, GR, AI, AL, AR, BR, AN, C) k Φ Ψ := by
  unfold mX4_isOpen_b2 at hm
  refine oX_iload_n dX4_isOpen_2 rfl rfl ?_
  refine oX_aload_n dX4_isOpen_3 rfl rfl ?_
  refine oX_getI fX4_381 rfl oDs1 dX4_isOpen_4 ?_
  refine oX_icmp_ge (tgt := 29) dX4_isOpen_7 (by decide) (fun c1 => ?_) (fun c1 => ?_)
  · have hm := ifp c1 hm
    exact oX_sub [] rfl (hx1 () (Option.some.inj hm).symm)
  · have hm := ifn c1 hm
    refine oX_aload_n dX4_isOpen_10 rfl rfl ?_
    refine oX_getF fX4_97 rfl oDs1 dX4_isOpen_11 (ohF136 hM) ?_
    refine oX_iload_n dX4_isOpen_14 rfl rfl ?_
    obtain ⟨g2, hm⟩ := gd_s hm
    refine oX_iald oDs136 (oIn (ohN136 hM) g2) dX4_isOpen_15 ?_
    refine oX_bipush (v := (23 : Int32)) dX4_isOpen_16 (by decide) ?_
    refine oX_icmp_ne (tgt := 23) dX4_isOpen_18 (by decide) (fun c3 => ?_) (fun c3 => ?_)
    · have hm := ifp c3 hm
      exact oX_sub [] rfl (hx2 () (Option.some.inj hm).symm)
    · have hm := ifn c3 hm
      refine oX_iinc (v := x1 + (1 : Int32)) (ls' := [(1, vI (x1 + (1 : Int32))), (0, vR (some (1, 0)))]) dX4_isOpen_23 rfl rfl (by decide) rfl ?_
      refine oX_goto (tgt := 2) dX4_isOpen_26 (by decide) ?_
      exact oX_sub [1, 0] rfl (hk (x1 + (1 : Int32)) (Option.some.inj hm).symm)
theorem l_mX4_isOpen_b2 {G : OhG} {FI : OhI} {FL : OhL} {FR : OhQ} {GR : OhQ} {AI : OhI} {AL : OhL} {AR : OhQ} {BR : OhQ} {AN : OhN} {C : OhC} {k : Nat × Nat} {Φ : OhP} {Ψ : OhX} (hM : ohShM FR AN) (n : Nat) : ∀ (f : Nat) (x1 : Int32) (b : ((Unit) ⊕ (Unit))), lpF (fun v => mX4_isOpen_b2 n FI FR AI AN v) f x1 = some b → (∀ v : Unit, b = (.inl v) → oX G 1 iX4_isOpen 29 [] [] (FI, FL, FR, GR, AI, AL, AR, BR, AN, C) k Φ Ψ) → (∀ v : Unit, b = (.inr v) → oX G 1 iX4_isOpen 21 [] [] (FI, FL, FR, GR, AI, AL, AR, BR, AN, C) k Φ Ψ) → oX G 1 iX4_isOpen 2 [(0, vR (some (1, 0))), (1, vI x1)] [] (FI, FL, FR, GR, AI, AL, AR, BR, AN, C) k Φ Ψ := by
  intro f
  induction f with
  | zero =>
    intro x1 b hm
    cases hm
  | succ f ih =>
    intro x1 b hm hx1 hx2
    obtain ⟨r, hr, hm⟩ := lp_s hm
    refine x_mX4_isOpen_b2 hM n x1 hr (fun v e => ?_) (fun v e => ?_) (fun v e => ?_)
    · subst e; exact ih v _ hm hx1 hx2
    · subst e; exact hx1 v hm.symm
    · subst e; exact hx2 v hm.symm
noncomputable def mX4_isOpen (n : Nat) (FI : OhI) (FR : OhQ) (AI : OhI) (AN : OhN) : Option (Int32) :=
  (lpF (fun v => mX4_isOpen_b2 n FI FR AI AN v) n (0 : Int32)).bind (Sum.elim (fun v4 => some (0 : Int32)) (fun v4 => some (1 : Int32)))
theorem x_mX4_isOpen {G : OhG} {FI AI : OhI} {FL AL : OhL} {FR GR AR BR : OhQ} {AN : OhN} {C : OhC} {k : Nat × Nat} {Φ : OhP} {Ψ : OhX} (hM : ohShM FR AN) (n : Nat) {r : Int32} (hm : mX4_isOpen n FI FR AI AN = some r) (hK : Φ (some (vI r)) (FI, FL, FR, GR, AI, AL, AR, BR, AN, C)) : oX G 1 iX4_isOpen 0 [(0, vR (some (1, 0)))] [] (FI, FL, FR, GR, AI, AL, AR, BR, AN, C) k Φ Ψ := by
  unfold mX4_isOpen at hm
  refine oX_iconst (v := (0 : Int32)) dX4_isOpen_0 (by decide) ?_
  refine oX_istore_n (ls' := [(1, vI (0 : Int32)), (0, vR (some (1, 0)))]) dX4_isOpen_1 rfl (by decide) rfl ?_
  obtain ⟨b4, g4, hm⟩ := bd_s hm
  refine oX_sub [1, 0] rfl (l_mX4_isOpen_b2 hM n n (0 : Int32) _ g4 (fun v4 e4 => ?_) (fun v4 e4 => ?_))
  · subst e4
    have hm := el1 hm
    refine oX_iconst (v := (0 : Int32)) dX4_isOpen_29 (by decide) ?_
    obtain rfl := Option.some.inj hm
    exact oX_iret dX4_isOpen_30 rfl (by decide) hK
  · subst e4
    have hm := el2 hm
    refine oX_iconst (v := (1 : Int32)) dX4_isOpen_21 (by decide) ?_
    obtain rfl := Option.some.inj hm
    exact oX_iret dX4_isOpen_22 rfl (by decide) hK
theorem t_X4_isOpen {G : OhG} {FI AI : OhI} {FL AL : OhL} {FR GR AR BR : OhQ} {AN : OhN} {C : OhC} (hM : ohShM FR AN) (n : Nat) {o : Int32} (hm : mX4_isOpen n FI FR AI AN = some o) : oT G 1 iX4_isOpen [vR (some (1, 0))] (FI, FL, FR, GR, AI, AL, AR, BR, AN, C) (0, 0) (fun v h => v = (some (vI o)) ∧ h = (FI, FL, FR, GR, AI, AL, AR, BR, AN, C)) ohNo :=
  oT_of (by decide) rfl (Nat.le_of_ble_eq_true rfl) (x_mX4_isOpen hM n hm ⟨rfl, rfl⟩)
abbrev iX4_cond : OhM := (yX4_cond, cX4_cond, 2, (some .boolean), [])
theorem ok_X4_cond : oOk iX4_cond 0 := ⟨by decide, by decide, by decide +kernel⟩

noncomputable def mX4_cond_b14 (n : Nat) (FI : OhI) (FL : OhL) (FR : OhQ) (AI : OhI) (AN : OhN) : Option ((OhI × OhL × OhI) ⊕ (OhI × OhL × OhI)) :=
  (mX4_isSign FI (41 : Int32)).bind fun r4 =>
  (if r4 = 0 then
  some (.inr (FI, FL, AI))
else
  (mX4_isOpen n FI FR AI AN).bind fun r6 =>
    (if r6 = 0 then
    some (.inr (FI, FL, AI))
  else
    (mX4_writeDown n FI FR AI AN (1 : Int32)).bind fun r8 =>
      oLet (sA r8.1 1 0 (uA (r8.1 1 0) 38 ((r8.1 1 0 38) - (1 : Int32)))) fun FI9 =>
      (mX4_writeDown n FI9 FR r8.2 AN (3 : Int32)).bind fun r10 =>
      (mX4_next_2 n r10.1 FL FR r10.2 AN).bind fun r11 =>
      some (.inl (r11.1, r11.2, r10.2))))
theorem x_mX4_cond_b14 {G : OhG} {FI AI : OhI} {FL AL : OhL} {FR GR AR BR : OhQ} {AN : OhN} {C : OhC} {k : Nat × Nat} {Φ : OhP} {Ψ : OhX} (hM : ohShM FR AN) (n : Nat) {r : (OhI × OhL × OhI) ⊕ (OhI × OhL × OhI)} (hm : mX4_cond_b14 n FI FL FR AI AN = some r) (hk : ∀ v : OhI × OhL × OhI, r = .inl v → oX G 4 iX4_cond 14 [(0, vR (some (1, 0)))] [] (v.1, v.2.1, FR, GR, v.2.2, AL, AR, BR, AN, C) k Φ Ψ) (hx1 : ∀ v : OhI × OhL × OhI, r = .inr v → oX G 4 iX4_cond 57 [(0, vR (some (1, 0)))] [] (v.1, v.2.1, FR, GR, v.2.2, AL, AR, BR, AN, C) k Φ Ψ) : oX G 4 iX4_cond 14 [(0, vR (some (1, 0)))] [] (FI, FL, FR, GR, AI, AL, AR, BR, AN, C) k Φ Ψ := by
  unfold mX4_cond_b14 at hm
  refine oX_aload_n dX4_cond_14 rfl rfl ?_
  refine oX_bipush (v := (41 : Int32)) dX4_cond_15 (by decide) ?_
  obtain ⟨r4, g4, hm⟩ := bd_s hm
  refine oX_cV (as := [vI (41 : Int32)]) dX4_cond_17 rfl oDs1 rfl (by decide) rfl ok_X4_isSign rfl rfl q2136 q2138 qs74 q136 q2139 (by decide) (Nat.le_of_ble_eq_true rfl) (t_X4_isSign (41 : Int32) g4) ?_
  refine oX_if_eq (tgt := 57) dX4_cond_20 (by decide) (fun c5 => ?_) (fun c5 => ?_)
  · have hm := ifp c5 hm
    exact oX_sub [0] rfl (hx1 (FI, FL, AI) (Option.some.inj hm).symm)
  · have hm := ifn c5 hm
    refine oX_aload_n dX4_cond_23 rfl rfl ?_
    obtain ⟨r6, g6, hm⟩ := bd_s hm
    refine oX_cV (as := []) dX4_cond_24 rfl oDs1 rfl (by decide) rfl ok_X4_isOpen rfl rfl q2155 q2157 qs78 q136 q2158 (by decide) (Nat.le_of_ble_eq_true rfl) (t_X4_isOpen hM n g6) ?_
    refine oX_if_eq (tgt := 57) dX4_cond_27 (by decide) (fun c7 => ?_) (fun c7 => ?_)
    · have hm := ifp c7 hm
      exact oX_sub [0] rfl (hx1 (FI, FL, AI) (Option.some.inj hm).symm)
    · have hm := ifn c7 hm
      refine oX_aload_n dX4_cond_30 rfl rfl ?_
      refine oX_iconst (v := (1 : Int32)) dX4_cond_31 (by decide) ?_
      obtain ⟨r8, g8, hm⟩ := bd_s hm
      refine oX_cV_ (as := [vI (1 : Int32)]) dX4_cond_32 rfl oDs1 rfl (by decide) rfl ok_X4_writeDown rfl rfl q2148 q2150 qs77 q136 q2151 (by decide) (Nat.le_of_ble_eq_true rfl) (t_X4_writeDown hM n (1 : Int32) g8) ?_
      refine oX_aload_n dX4_cond_35 rfl rfl ?_
      refine oX_dup dX4_cond_36 trivial ?_
      refine oX_getI fX4_381 rfl oDs1 dX4_cond_37 ?_
      refine oX_iconst (v := (1 : Int32)) dX4_cond_40 (by decide) ?_
      refine oX_isub dX4_cond_41 ?_
      obtain ⟨FI9, hFI9, hm⟩ := oLs hm
      refine oX_putI fX4_381 rfl (fun h9 => by cases h9) oDs1 dX4_cond_42 ⟨rfl, rfl⟩ hFI9 ?_
      refine oX_aload_n dX4_cond_45 rfl rfl ?_
      refine oX_iconst (v := (3 : Int32)) dX4_cond_46 (by decide) ?_
      obtain ⟨r10, g10, hm⟩ := bd_s hm
      refine oX_cV_ (as := [vI (3 : Int32)]) dX4_cond_47 rfl oDs1 rfl (by decide) rfl ok_X4_writeDown rfl rfl q2148 q2150 qs77 q136 q2151 (by decide) (Nat.le_of_ble_eq_true rfl) (t_X4_writeDown hM n (3 : Int32) g10) ?_
      refine oX_aload_n dX4_cond_50 rfl rfl ?_
      obtain ⟨r11, g11, hm⟩ := bd_s hm
      refine oX_cV_ (as := []) dX4_cond_51 rfl oDs1 rfl (by decide) rfl ok_X4_next_2 rfl rfl q2067 q2069 qs63 q136 q2070 (by decide) (Nat.le_of_ble_eq_true rfl) (t_X4_next_2 hM n g11) ?_
      refine oX_goto (tgt := 14) dX4_cond_54 (by decide) ?_
      exact oX_sub [0] rfl (hk (r11.1, r11.2, r10.2) (Option.some.inj hm).symm)
theorem l_mX4_cond_b14 {G : OhG} {FR : OhQ} {GR : OhQ} {AL : OhL} {AR : OhQ} {BR : OhQ} {AN : OhN} {C : OhC} {k : Nat × Nat} {Φ : OhP} {Ψ : OhX} (hM : ohShM FR AN) (n : Nat) : ∀ (f : Nat) (FI : OhI) (FL : OhL) (AI : OhI) (b : (OhI × OhL × OhI)), lpF (fun v => mX4_cond_b14 n v.1 v.2.1 FR v.2.2 AN) f (FI, FL, AI) = some b → (oX G 4 iX4_cond 57 [(0, vR (some (1, 0)))] [] (b.1, b.2.1, FR, GR, b.2.2, AL, AR, BR, AN, C) k Φ Ψ) → oX G 4 iX4_cond 14 [(0, vR (some (1, 0)))] [] (FI, FL, FR, GR, AI, AL, AR, BR, AN, C) k Φ Ψ := by
  intro f
  induction f with
  | zero =>
    intro FI FL AI b hm
    cases hm
  | succ f ih =>
    intro FI FL AI b hm hx1
    obtain ⟨r, hr, hm⟩ := lp_s hm
    refine x_mX4_cond_b14 hM n hr (fun v e => ?_) (fun v e => ?_)
    · subst e; exact ih v.1 v.2.1 v.2.2 _ hm hx1
    · subst e; cases (show v = b from hm); exact hx1
noncomputable def mX4_cond_j131 (n : Nat) (FI : OhI) (FL : OhL) (FR : OhQ) (AI : OhI) (AN : OhN) (y1 : Int32) (y2 : Int32) : Option ((OhI × OhL × OhI) ⊕ ((OhI × OhL × OhI) ⊕ (OhI × OhL × OhI))) :=
  gd (vp_in y1 64) <|
  oLet (sA AI 136 0 (uA (AI 136 0) y1.toNatClampNeg y2)) fun AI20 =>
  oLet (sA FI 1 0 (uA (FI 1 0) 38 ((FI 1 0 38) + (1 : Int32)))) fun FI21 =>
  (mX4_next_2 n FI21 FL FR AI20 AN).bind fun r22 =>
  some (.inl (r22.1, r22.2, AI20))
theorem x_mX4_cond_j131 {G : OhG} {FI AI : OhI} {FL AL : OhL} {FR GR AR BR : OhQ} {AN : OhN} {C : OhC} {k : Nat × Nat} {Φ : OhP} {Ψ : OhX} (hM : ohShM FR AN) (n : Nat) (y1 : Int32) (y2 : Int32) {r : (OhI × OhL × OhI) ⊕ ((OhI × OhL × OhI) ⊕ (OhI × OhL × OhI))} (hm : mX4_cond_j131 n FI FL FR AI AN y1 y2 = some r) (hk : ∀ v : OhI × OhL × OhI, r = .inl v → oX G 4 iX4_cond 5 [(0, vR (some (1, 0)))] [] (v.1, v.2.1, FR, GR, v.2.2, AL, AR, BR, AN, C) k Φ Ψ) (hx1 : ∀ v : OhI × OhL × OhI, r = .inr (.inl v) → oX G 4 iX4_cond 12 [] [] (v.1, v.2.1, FR, GR, v.2.2, AL, AR, BR, AN, C) k Φ Ψ) (hx2 : ∀ v : OhI × OhL × OhI, r = .inr (.inr v) → oX G 4 iX4_cond 79 [(0, vR (some (1, 0)))] [] (v.1, v.2.1, FR, GR, v.2.2, AL, AR, BR, AN, C) k Φ Ψ) : oX G 4 iX4_cond 131 [(0, vR (some (1, 0)))] [vI y2, vI y1, vR (some (136, 0))] (FI, FL, FR, GR, AI, AL, AR, BR, AN, C) k Φ Ψ := by
  unfold mX4_cond_j131 at hm
  obtain ⟨g20, hm⟩ := gd_s hm
  obtain ⟨AI20, hAI20, hm⟩ := oLs hm
  refine oX_iast oDs136 (oIn (ohN136 hM) g20) dX4_cond_131 hAI20 ?_
  refine oX_aload_n dX4_cond_132 rfl rfl ?_
  refine oX_dup dX4_cond_133 trivial ?_
  refine oX_getI fX4_381 rfl oDs1 dX4_cond_134 ?_
  refine oX_iconst (v := (1 : Int32)) dX4_cond_137 (by decide) ?_
  refine oX_iadd dX4_cond_138 ?_
  obtain ⟨FI21, hFI21, hm⟩ := oLs hm
  refine oX_putI fX4_381 rfl (fun h9 => by cases h9) oDs1 dX4_cond_139 ⟨rfl, rfl⟩ hFI21 ?_
  refine oX_aload_n dX4_cond_142 rfl rfl ?_
  obtain ⟨r22, g22, hm⟩ := bd_s hm
  refine oX_cV_ (as := []) dX4_cond_143 rfl oDs1 rfl (by decide) rfl ok_X4_next_2 rfl rfl q2067 q2069 qs63 q136 q2070 (by decide) (Nat.le_of_ble_eq_true rfl) (t_X4_next_2 hM n g22) ?_
  refine oX_goto (tgt := 5) dX4_cond_146 (by decide) ?_
  exact oX_sub [0] rfl (hk (r22.1, r22.2, AI20) (Option.some.inj hm).symm)
noncomputable def mX4_cond_j109 (n : Nat) (FI : OhI) (FL : OhL) (FR : OhQ) (AI : OhI) (AN : OhN) (x1 : Int32) (y1 : Int32) : Option ((OhI × OhL × OhI) ⊕ ((OhI × OhL × OhI) ⊕ (OhI × OhL × OhI))) :=
  (mX4_writeDown n FI FR AI AN y1).bind fun r18 =>
  (if x1 = 0 then
  mX4_cond_j131 n r18.1 FL FR r18.2 AN (r18.1 1 0 38) (22 : Int32)
else
  mX4_cond_j131 n r18.1 FL FR r18.2 AN (r18.1 1 0 38) (21 : Int32))
theorem x_mX4_cond_j109 {G : OhG} {FI AI : OhI} {FL AL : OhL} {FR GR AR BR : OhQ} {AN : OhN} {C : OhC} {k : Nat × Nat} {Φ : OhP} {Ψ : OhX} (hM : ohShM FR AN) (n : Nat) (x1 : Int32) (y1 : Int32) {r : (OhI × OhL × OhI) ⊕ ((OhI × OhL × OhI) ⊕ (OhI × OhL × OhI))} (hm : mX4_cond_j109 n FI FL FR AI AN x1 y1 = some r) (hk : ∀ v : OhI × OhL × OhI, r = .inl v → oX G 4 iX4_cond 5 [(0, vR (some (1, 0)))] [] (v.1, v.2.1, FR, GR, v.2.2, AL, AR, BR, AN, C) k Φ Ψ) (hx1 : ∀ v : OhI × OhL × OhI, r = .inr (.inl v) → oX G 4 iX4_cond 12 [] [] (v.1, v.2.1, FR, GR, v.2.2, AL, AR, BR, AN, C) k Φ Ψ) (hx2 : ∀ v : OhI × OhL × OhI, r = .inr (.inr v) → oX G 4 iX4_cond 79 [(0, vR (some (1, 0)))] [] (v.1, v.2.1, FR, GR, v.2.2, AL, AR, BR, AN, C) k Φ Ψ) : oX G 4 iX4_cond 109 [(0, vR (some (1, 0))), (1, vI x1)] [vI y1, vR (some (1, 0))] (FI, FL, FR, GR, AI, AL, AR, BR, AN, C) k Φ Ψ := by
  unfold mX4_cond_j109 at hm
  obtain ⟨r18, g18, hm⟩ := bd_s hm
  refine oX_cV_ (as := [vI y1]) dX4_cond_109 rfl oDs1 rfl (by decide) rfl ok_X4_writeDown rfl rfl q2148 q2150 qs77 q136 q2151 (by decide) (Nat.le_of_ble_eq_true rfl) (t_X4_writeDown hM n y1 g18) ?_
  refine oX_aload_n dX4_cond_112 rfl rfl ?_
  refine oX_getF fX4_97 rfl oDs1 dX4_cond_113 (ohF136 hM) ?_
  refine oX_aload_n dX4_cond_116 rfl rfl ?_
  refine oX_getI fX4_381 rfl oDs1 dX4_cond_117 ?_
  refine oX_iload_n dX4_cond_120 rfl rfl ?_
  refine oX_if_eq (tgt := 129) dX4_cond_121 (by decide) (fun c19 => ?_) (fun c19 => ?_)
  · have hm := ifp c19 hm
    refine oX_bipush (v := (22 : Int32)) dX4_cond_129 (by decide) ?_
    exact oX_sub [0] rfl (x_mX4_cond_j131 hM n (r18.1 1 0 38) (22 : Int32) hm hk hx1 hx2)
  · have hm := ifn c19 hm
    refine oX_bipush (v := (21 : Int32)) dX4_cond_124 (by decide) ?_
    refine oX_goto (tgt := 131) dX4_cond_126 (by decide) ?_
    exact oX_sub [0] rfl (x_mX4_cond_j131 hM n (r18.1 1 0 38) (21 : Int32) hm hk hx1 hx2)
noncomputable def mX4_cond_j99 (n : Nat) (FI : OhI) (FL : OhL) (FR : OhQ) (AI : OhI) (AN : OhN) (x1 : Int32) : Option ((OhI × OhL × OhI) ⊕ ((OhI × OhL × OhI) ⊕ (OhI × OhL × OhI))) :=
  (if x1 = 0 then
  mX4_cond_j109 n FI FL FR AI AN x1 (1 : Int32)
else
  mX4_cond_j109 n FI FL FR AI AN x1 (2 : Int32))
theorem x_mX4_cond_j99 {G : OhG} {FI AI : OhI} {FL AL : OhL} {FR GR AR BR : OhQ} {AN : OhN} {C : OhC} {k : Nat × Nat} {Φ : OhP} {Ψ : OhX} (hM : ohShM FR AN) (n : Nat) (x1 : Int32) {r : (OhI × OhL × OhI) ⊕ ((OhI × OhL × OhI) ⊕ (OhI × OhL × OhI))} (hm : mX4_cond_j99 n FI FL FR AI AN x1 = some r) (hk : ∀ v : OhI × OhL × OhI, r = .inl v → oX G 4 iX4_cond 5 [(0, vR (some (1, 0)))] [] (v.1, v.2.1, FR, GR, v.2.2, AL, AR, BR, AN, C) k Φ Ψ) (hx1 : ∀ v : OhI × OhL × OhI, r = .inr (.inl v) → oX G 4 iX4_cond 12 [] [] (v.1, v.2.1, FR, GR, v.2.2, AL, AR, BR, AN, C) k Φ Ψ) (hx2 : ∀ v : OhI × OhL × OhI, r = .inr (.inr v) → oX G 4 iX4_cond 79 [(0, vR (some (1, 0)))] [] (v.1, v.2.1, FR, GR, v.2.2, AL, AR, BR, AN, C) k Φ Ψ) : oX G 4 iX4_cond 99 [(0, vR (some (1, 0))), (1, vI x1)] [] (FI, FL, FR, GR, AI, AL, AR, BR, AN, C) k Φ Ψ := by
  unfold mX4_cond_j99 at hm
  refine oX_aload_n dX4_cond_99 rfl rfl ?_
  refine oX_iload_n dX4_cond_100 rfl rfl ?_
  refine oX_if_eq (tgt := 108) dX4_cond_101 (by decide) (fun c17 => ?_) (fun c17 => ?_)
  · have hm := ifp c17 hm
    refine oX_iconst (v := (1 : Int32)) dX4_cond_108 (by decide) ?_
    exact oX_sub [0, 1] rfl (x_mX4_cond_j109 hM n x1 (1 : Int32) hm hk hx1 hx2)
  · have hm := ifn c17 hm
    refine oX_iconst (v := (2 : Int32)) dX4_cond_104 (by decide) ?_
    refine oX_goto (tgt := 109) dX4_cond_105 (by decide) ?_
    exact oX_sub [0, 1] rfl (x_mX4_cond_j109 hM n x1 (2 : Int32) hm hk hx1 hx2)
noncomputable def mX4_cond_j57 (n : Nat) (FI : OhI) (FL : OhL) (FR : OhQ) (AI : OhI) (AN : OhN) : Option ((OhI × OhL × OhI) ⊕ ((OhI × OhL × OhI) ⊕ (OhI × OhL × OhI))) :=
  (mX4_isWord FI FL (6385252 : Int64)).bind fun r13 =>
  (if r13 = 0 then
  (mX4_isWord FI FL (28530 : Int64)).bind fun r15 =>
    (if r15 = 0 then
    some (.inr (.inr (FI, FL, AI)))
  else
    mX4_cond_j99 n FI FL FR AI AN r13)
else
  mX4_cond_j99 n FI FL FR AI AN r13)
theorem x_mX4_cond_j57 {G : OhG} {FI AI : OhI} {FL AL : OhL} {FR GR AR BR : OhQ} {AN : OhN} {C : OhC} {k : Nat × Nat} {Φ : OhP} {Ψ : OhX} (hM : ohShM FR AN) (n : Nat) {r : (OhI × OhL × OhI) ⊕ ((OhI × OhL × OhI) ⊕ (OhI × OhL × OhI))} (hm : mX4_cond_j57 n FI FL FR AI AN = some r) (hk : ∀ v : OhI × OhL × OhI, r = .inl v → oX G 4 iX4_cond 5 [(0, vR (some (1, 0)))] [] (v.1, v.2.1, FR, GR, v.2.2, AL, AR, BR, AN, C) k Φ Ψ) (hx1 : ∀ v : OhI × OhL × OhI, r = .inr (.inl v) → oX G 4 iX4_cond 12 [] [] (v.1, v.2.1, FR, GR, v.2.2, AL, AR, BR, AN, C) k Φ Ψ) (hx2 : ∀ v : OhI × OhL × OhI, r = .inr (.inr v) → oX G 4 iX4_cond 79 [(0, vR (some (1, 0)))] [] (v.1, v.2.1, FR, GR, v.2.2, AL, AR, BR, AN, C) k Φ Ψ) : oX G 4 iX4_cond 57 [(0, vR (some (1, 0)))] [] (FI, FL, FR, GR, AI, AL, AR, BR, AN, C) k Φ Ψ := by
  unfold mX4_cond_j57 at hm
  refine oX_aload_n dX4_cond_57 rfl rfl ?_
  refine oX_ldc2 q2159 dX4_cond_58 ?_
  obtain ⟨r13, g13, hm⟩ := bd_s hm
  refine oX_cV (as := [vL (6385252 : Int64)]) dX4_cond_61 rfl oDs1 rfl (by decide) rfl ok_X4_isWord rfl rfl q2086 q2088 qs66 q136 q2089 (by decide) (Nat.le_of_ble_eq_true rfl) (t_X4_isWord (6385252 : Int64) g13) ?_
  refine oX_istore_n (ls' := [(1, vI r13), (0, vR (some (1, 0)))]) dX4_cond_64 rfl (by decide) rfl ?_
  refine oX_iload_n dX4_cond_65 rfl rfl ?_
  refine oX_if_ne (tgt := 99) dX4_cond_66 (by decide) (fun c14 => ?_) (fun c14 => ?_)
  · have hm := ifp c14 hm
    refine oX_aload_n dX4_cond_69 rfl rfl ?_
    refine oX_ldc2 q2160 dX4_cond_70 ?_
    obtain ⟨r15, g15, hm⟩ := bd_s hm
    refine oX_cV (as := [vL (28530 : Int64)]) dX4_cond_73 rfl oDs1 rfl (by decide) rfl ok_X4_isWord rfl rfl q2086 q2088 qs66 q136 q2089 (by decide) (Nat.le_of_ble_eq_true rfl) (t_X4_isWord (28530 : Int64) g15) ?_
    refine oX_if_ne (tgt := 99) dX4_cond_76 (by decide) (fun c16 => ?_) (fun c16 => ?_)
    · have hm := ifp c16 hm
      exact oX_sub [1] rfl (hx2 (FI, FL, AI) (Option.some.inj hm).symm)
    · have hm := ifn c16 hm
      exact oX_sub [1, 0] rfl (x_mX4_cond_j99 hM n r13 hm hk hx1 hx2)
  · have hm := ifn c14 hm
    exact oX_sub [1, 0] rfl (x_mX4_cond_j99 hM n r13 hm hk hx1 hx2)
noncomputable def mX4_cond_b5 (n : Nat) (FI : OhI) (FL : OhL) (FR : OhQ) (AI : OhI) (AN : OhN) : Option ((OhI × OhL × OhI) ⊕ ((OhI × OhL × OhI) ⊕ (OhI × OhL × OhI))) :=
  (mX4_one n FI FL FR AI AN).bind fun r2 =>
  (if r2.1 = 0 then
  some (.inr (.inl (r2.2.1, r2.2.2.1, r2.2.2.2)))
else
  (lpF (fun v => mX4_cond_b14 n v.1 v.2.1 FR v.2.2 AN) n (r2.2.1, r2.2.2.1, r2.2.2.2)).bind fun v12 =>
    mX4_cond_j57 n v12.1 v12.2.1 FR v12.2.2 AN)
theorem x_mX4_cond_b5 {G : OhG} {FI AI : OhI} {FL AL : OhL} {FR GR AR BR : OhQ} {AN : OhN} {C : OhC} {k : Nat × Nat} {Φ : OhP} {Ψ : OhX} (hM : ohShM FR AN) (n : Nat) {r : (OhI × OhL × OhI) ⊕ ((OhI × OhL × OhI) ⊕ (OhI × OhL × OhI))} (hm : mX4_cond_b5 n FI FL FR AI AN = some r) (hk : ∀ v : OhI × OhL × OhI, r = .inl v → oX G 4 iX4_cond 5 [(0, vR (some (1, 0)))] [] (v.1, v.2.1, FR, GR, v.2.2, AL, AR, BR, AN, C) k Φ Ψ) (hx1 : ∀ v : OhI × OhL × OhI, r = .inr (.inl v) → oX G 4 iX4_cond 12 [] [] (v.1, v.2.1, FR, GR, v.2.2, AL, AR, BR, AN, C) k Φ Ψ) (hx2 : ∀ v : OhI × OhL × OhI, r = .inr (.inr v) → oX G 4 iX4_cond 79 [(0, vR (some (1, 0)))] [] (v.1, v.2.1, FR, GR, v.2.2, AL, AR, BR, AN, C) k Φ Ψ) : oX G 4 iX4_cond 5 [(0, vR (some (1, 0)))] [] (FI, FL, FR, GR, AI, AL, AR, BR, AN, C) k Φ Ψ := by
  unfold mX4_cond_b5 at hm
  refine oX_aload_n dX4_cond_5 rfl rfl ?_
  obtain ⟨r2, g2, hm⟩ := bd_s hm
  refine oX_cV (as := []) dX4_cond_6 rfl oDs1 rfl (by decide) rfl ok_X4_one rfl rfl q2117 q2119 qs72 q136 q2120 (by decide) (Nat.le_of_ble_eq_true rfl) (t_X4_one hM n g2) ?_
  refine oX_if_ne (tgt := 14) dX4_cond_9 (by decide) (fun c3 => ?_) (fun c3 => ?_)
  · have hm := ifp c3 hm
    exact oX_sub [] rfl (hx1 (r2.2.1, r2.2.2.1, r2.2.2.2) (Option.some.inj hm).symm)
  · have hm := ifn c3 hm
    obtain ⟨v12, g12, hm⟩ := bd_s hm
    refine oX_sub [0] rfl (l_mX4_cond_b14 hM n n r2.2.1 r2.2.2.1 r2.2.2.2 _ g12 ?_)
    exact oX_sub [0] rfl (x_mX4_cond_j57 hM n hm hk hx1 hx2)
theorem l_mX4_cond_b5 {G : OhG} {FR : OhQ} {GR : OhQ} {AL : OhL} {AR : OhQ} {BR : OhQ} {AN : OhN} {C : OhC} {k : Nat × Nat} {Φ : OhP} {Ψ : OhX} (hM : ohShM FR AN) (n : Nat) : ∀ (f : Nat) (FI : OhI) (FL : OhL) (AI : OhI) (b : ((OhI × OhL × OhI) ⊕ (OhI × OhL × OhI))), lpF (fun v => mX4_cond_b5 n v.1 v.2.1 FR v.2.2 AN) f (FI, FL, AI) = some b → (∀ v : OhI × OhL × OhI, b = (.inl v) → oX G 4 iX4_cond 12 [] [] (v.1, v.2.1, FR, GR, v.2.2, AL, AR, BR, AN, C) k Φ Ψ) → (∀ v : OhI × OhL × OhI, b = (.inr v) → oX G 4 iX4_cond 79 [(0, vR (some (1, 0)))] [] (v.1, v.2.1, FR, GR, v.2.2, AL, AR, BR, AN, C) k Φ Ψ) → oX G 4 iX4_cond 5 [(0, vR (some (1, 0)))] [] (FI, FL, FR, GR, AI, AL, AR, BR, AN, C) k Φ Ψ := by
  intro f
  induction f with
  | zero =>
    intro FI FL AI b hm
    cases hm
  | succ f ih =>
    intro FI FL AI b hm hx1 hx2
    obtain ⟨r, hr, hm⟩ := lp_s hm
    refine x_mX4_cond_b5 hM n hr (fun v e => ?_) (fun v e => ?_) (fun v e => ?_)
    · subst e; exact ih v.1 v.2.1 v.2.2 _ hm hx1 hx2
    · subst e; exact hx1 v hm.symm
    · subst e; exact hx2 v hm.symm
noncomputable def mX4_cond (n : Nat) (FI : OhI) (FL : OhL) (FR : OhQ) (AI : OhI) (AN : OhN) : Option (Int32 × OhI × OhL × OhI) :=
  oLet (sA FI 1 0 (uA (FI 1 0) 38 (0 : Int32))) fun FI1 =>
  (lpF (fun v => mX4_cond_b5 n v.1 v.2.1 FR v.2.2 AN) n (FI1, FL, AI)).bind (Sum.elim (fun v23 => some ((0 : Int32), v23.1, v23.2.1, v23.2.2)) (fun v23 => (mX4_isOpen n v23.1 FR v23.2.2 AN).bind fun r24 =>
  (if r24 = 0 then
  (mX4_writeDown n v23.1 FR v23.2.2 AN (1 : Int32)).bind fun r26 =>
    some ((1 : Int32), r26.1, v23.2.1, r26.2)
else
  (mX4_bad v23.1 (1 : Int32)).bind fun r27 =>
    gd (r27.1 = 0 ∨ r27.1 = 1) <|
    some (r27.1, r27.2, v23.2.1, v23.2.2))))
theorem x_mX4_cond {G : OhG} {FI AI : OhI} {FL AL : OhL} {FR GR AR BR : OhQ} {AN : OhN} {C : OhC} {k : Nat × Nat} {Φ : OhP} {Ψ : OhX} (hM : ohShM FR AN) (n : Nat) {r : Int32 × OhI × OhL × OhI} (hm : mX4_cond n FI FL FR AI AN = some r) (hK : Φ (some (vI r.1)) (r.2.1, r.2.2.1, FR, GR, r.2.2.2, AL, AR, BR, AN, C)) : oX G 4 iX4_cond 0 [(0, vR (some (1, 0)))] [] (FI, FL, FR, GR, AI, AL, AR, BR, AN, C) k Φ Ψ := by
  unfold mX4_cond at hm
  refine oX_aload_n dX4_cond_0 rfl rfl ?_
  refine oX_iconst (v := (0 : Int32)) dX4_cond_1 (by decide) ?_
  obtain ⟨FI1, hFI1, hm⟩ := oLs hm
  refine oX_putI fX4_381 rfl (fun h9 => by cases h9) oDs1 dX4_cond_2 ⟨rfl, rfl⟩ hFI1 ?_
  obtain ⟨b23, g23, hm⟩ := bd_s hm
  refine oX_sub [0] rfl (l_mX4_cond_b5 hM n n FI1 FL AI _ g23 (fun v23 e23 => ?_) (fun v23 e23 => ?_))
  · subst e23
    have hm := el1 hm
    refine oX_iconst (v := (0 : Int32)) dX4_cond_12 (by decide) ?_
    obtain rfl := Option.some.inj hm
    exact oX_iret dX4_cond_13 rfl (by decide) hK
  · subst e23
    have hm := el2 hm
    refine oX_aload_n dX4_cond_79 rfl rfl ?_
    obtain ⟨r24, g24, hm⟩ := bd_s hm
    refine oX_cV (as := []) dX4_cond_80 rfl oDs1 rfl (by decide) rfl ok_X4_isOpen rfl rfl q2155 q2157 qs78 q136 q2158 (by decide) (Nat.le_of_ble_eq_true rfl) (t_X4_isOpen hM n g24) ?_
    refine oX_if_eq (tgt := 92) dX4_cond_83 (by decide) (fun c25 => ?_) (fun c25 => ?_)
    · have hm := ifp c25 hm
      refine oX_aload_n dX4_cond_92 rfl rfl ?_
      refine oX_iconst (v := (1 : Int32)) dX4_cond_93 (by decide) ?_
      obtain ⟨r26, g26, hm⟩ := bd_s hm
      refine oX_cV_ (as := [vI (1 : Int32)]) dX4_cond_94 rfl oDs1 rfl (by decide) rfl ok_X4_writeDown rfl rfl q2148 q2150 qs77 q136 q2151 (by decide) (Nat.le_of_ble_eq_true rfl) (t_X4_writeDown hM n (1 : Int32) g26) ?_
      refine oX_iconst (v := (1 : Int32)) dX4_cond_97 (by decide) ?_
      obtain rfl := Option.some.inj hm
      exact oX_iret dX4_cond_98 rfl (by decide) hK
    · have hm := ifn c25 hm
      refine oX_aload_n dX4_cond_86 rfl rfl ?_
      refine oX_iconst (v := (1 : Int32)) dX4_cond_87 (by decide) ?_
      obtain ⟨r27, g27, hm⟩ := bd_s hm
      refine oX_cV (as := [vI (1 : Int32)]) dX4_cond_88 rfl oDs1 rfl (by decide) rfl ok_X4_bad rfl rfl q2094 q2096 qs68 q136 q2097 (by decide) (Nat.le_of_ble_eq_true rfl) (t_X4_bad (1 : Int32) g27) ?_
      obtain ⟨g28, hm⟩ := gd_s hm
      obtain rfl := Option.some.inj hm
      exact oX_iret dX4_cond_91 rfl (oNz g28) hK
theorem t_X4_cond {G : OhG} {FI AI : OhI} {FL AL : OhL} {FR GR AR BR : OhQ} {AN : OhN} {C : OhC} (hM : ohShM FR AN) (n : Nat) {o : Int32 × OhI × OhL × OhI} (hm : mX4_cond n FI FL FR AI AN = some o) : oT G 4 iX4_cond [vR (some (1, 0))] (FI, FL, FR, GR, AI, AL, AR, BR, AN, C) (0, 0) (fun v h => v = (some (vI o.1)) ∧ h = (o.2.1, o.2.2.1, FR, GR, o.2.2.2, AL, AR, BR, AN, C)) ohNo :=
  oT_of (by decide) rfl (Nat.le_of_ble_eq_true rfl) (x_mX4_cond hM n hm ⟨rfl, rfl⟩)
abbrev iX4_fee : OhM := (yX4_fee, cX4_fee, 2, (some .boolean), [])
theorem ok_X4_fee : oOk iX4_fee 0 := ⟨by decide, by decide, by decide +kernel⟩

noncomputable def mX4_fee_j95 (n : Nat) (FI : OhI) (FL : OhL) (FR : OhQ) (AI : OhI) (AN : OhN) (x1 : Int32) : Option (Int32 × OhI × OhL × OhI) :=
  gd (vp_in x1 168) <|
  oLet (sA AI 132 0 (uA (AI 132 0) x1.toNatClampNeg (FI 1 0 37))) fun AI13 =>
  gd (vp_in (20 : Int32) 21) <|
  gd (vp_in (20 : Int32) 21) <|
  oLet (sA AI13 129 0 (uA (AI13 129 0) (20 : Int32).toNatClampNeg ((AI13 129 0 (20 : Int32).toNatClampNeg) + (1 : Int32)))) fun AI15 =>
  some ((1 : Int32), FI, FL, AI15)
theorem x_mX4_fee_j95 {G : OhG} {FI AI : OhI} {FL AL : OhL} {FR GR AR BR : OhQ} {AN : OhN} {C : OhC} {k : Nat × Nat} {Φ : OhP} {Ψ : OhX} (hM : ohShM FR AN) (n : Nat) (x1 : Int32) {r : Int32 × OhI × OhL × OhI} (hm : mX4_fee_j95 n FI FL FR AI AN x1 = some r) (hK : Φ (some (vI r.1)) (r.2.1, r.2.2.1, FR, GR, r.2.2.2, AL, AR, BR, AN, C)) : oX G 5 iX4_fee 95 [(0, vR (some (1, 0))), (1, vI x1)] [] (FI, FL, FR, GR, AI, AL, AR, BR, AN, C) k Φ Ψ := by
  unfold mX4_fee_j95 at hm
  refine oX_aload_n dX4_fee_95 rfl rfl ?_
  refine oX_getF fX4_85 rfl oDs1 dX4_fee_96 (ohF132 hM) ?_
  refine oX_iload_n dX4_fee_99 rfl rfl ?_
  refine oX_aload_n dX4_fee_100 rfl rfl ?_
  refine oX_getI fX4_316 rfl oDs1 dX4_fee_101 ?_
  obtain ⟨g13, hm⟩ := gd_s hm
  obtain ⟨AI13, hAI13, hm⟩ := oLs hm
  refine oX_iast oDs132 (oIn (ohN132 hM) g13) dX4_fee_104 hAI13 ?_
  refine oX_aload_n dX4_fee_105 rfl rfl ?_
  refine oX_getF fX4_76 rfl oDs1 dX4_fee_106 (ohF129 hM) ?_
  refine oX_bipush (v := (20 : Int32)) dX4_fee_109 (by decide) ?_
  refine oX_dup2 dX4_fee_111 trivial trivial ?_
  obtain ⟨g14, hm⟩ := gd_s hm
  refine oX_iald oDs129 (oIn (ohN129 hM) g14) dX4_fee_112 ?_
  refine oX_iconst (v := (1 : Int32)) dX4_fee_113 (by decide) ?_
  refine oX_iadd dX4_fee_114 ?_
  obtain ⟨g15, hm⟩ := gd_s hm
  obtain ⟨AI15, hAI15, hm⟩ := oLs hm
  refine oX_iast oDs129 (oIn (ohN129 hM) g15) dX4_fee_115 hAI15 ?_
  refine oX_iconst (v := (1 : Int32)) dX4_fee_116 (by decide) ?_
  obtain rfl := Option.some.inj hm
  exact oX_iret dX4_fee_117 rfl (by decide) hK
noncomputable def mX4_fee (n : Nat) (FI : OhI) (FL : OhL) (FR : OhQ) (AI : OhI) (AN : OhN) : Option (Int32 × OhI × OhL × OhI) :=
  gd (vp_in (20 : Int32) 21) <|
  (if (AI 129 0 (20 : Int32).toNatClampNeg) = (8 : Int32) then
  (mX4_bad FI (3 : Int32)).bind fun r3 =>
    gd (r3.1 = 0 ∨ r3.1 = 1) <|
    some (r3.1, r3.2, FL, AI)
else
  (mX4_next_2 n FI FL FR AI AN).bind fun r5 =>
    (if (r5.1 1 0 40) = (2 : Int32) then
    gd (vp_in (20 : Int32) 21) <|
      gd (vp_in ((160 : Int32) + (AI 129 0 (20 : Int32).toNatClampNeg)) 168) <|
      oLet (sA AI 130 0 (uA (AI 130 0) ((160 : Int32) + (AI 129 0 (20 : Int32).toNatClampNeg)).toNatClampNeg (r5.1 1 0 43))) fun AI8 =>
      gd (vp_in ((160 : Int32) + (AI 129 0 (20 : Int32).toNatClampNeg)) 168) <|
      oLet (sA AI8 131 0 (uA (AI8 131 0) ((160 : Int32) + (AI 129 0 (20 : Int32).toNatClampNeg)).toNatClampNeg (r5.1 1 0 37))) fun AI9 =>
      (mX4_next_2 n r5.1 r5.2 FR AI9 AN).bind fun r10 =>
      (mX4_isWord r10.1 r10.2 (26982 : Int64)).bind fun r11 =>
      (if r11 = 0 then
      mX4_fee_j95 n r10.1 r10.2 FR AI9 AN ((160 : Int32) + (AI 129 0 (20 : Int32).toNatClampNeg))
    else
      (mX4_next_2 n r10.1 r10.2 FR AI9 AN).bind fun r16 =>
        (mX4_cond n r16.1 r16.2 FR AI9 AN).bind fun r17 =>
        (if r17.1 = 0 then
        some ((0 : Int32), r17.2.1, r17.2.2.1, r17.2.2.2)
      else
        mX4_fee_j95 n r17.2.1 r17.2.2.1 FR r17.2.2.2 AN ((160 : Int32) + (AI 129 0 (20 : Int32).toNatClampNeg))))
  else
    (mX4_bad r5.1 (1 : Int32)).bind fun r19 =>
      gd (r19.1 = 0 ∨ r19.1 = 1) <|
      some (r19.1, r19.2, r5.2, AI)))
theorem x_mX4_fee {G : OhG} {FI AI : OhI} {FL AL : OhL} {FR GR AR BR : OhQ} {AN : OhN} {C : OhC} {k : Nat × Nat} {Φ : OhP} {Ψ : OhX} (hM : ohShM FR AN) (n : Nat) {r : Int32 × OhI × OhL × OhI} (hm : mX4_fee n FI FL FR AI AN = some r) (hK : Φ (some (vI r.1)) (r.2.1, r.2.2.1, FR, GR, r.2.2.2, AL, AR, BR, AN, C)) : oX G 5 iX4_fee 0 [(0, vR (some (1, 0)))] [] (FI, FL, FR, GR, AI, AL, AR, BR, AN, C) k Φ Ψ := by
  unfold mX4_fee at hm
  refine oX_aload_n dX4_fee_0 rfl rfl ?_
  refine oX_getF fX4_76 rfl oDs1 dX4_fee_1 (ohF129 hM) ?_
  refine oX_bipush (v := (20 : Int32)) dX4_fee_4 (by decide) ?_
  obtain ⟨g1, hm⟩ := gd_s hm
  refine oX_iald oDs129 (oIn (ohN129 hM) g1) dX4_fee_6 ?_
  refine oX_bipush (v := (8 : Int32)) dX4_fee_7 (by decide) ?_
  refine oX_icmp_ne (tgt := 18) dX4_fee_9 (by decide) (fun c2 => ?_) (fun c2 => ?_)
  · have hm := ifp c2 hm
    refine oX_aload_n dX4_fee_12 rfl rfl ?_
    refine oX_iconst (v := (3 : Int32)) dX4_fee_13 (by decide) ?_
    obtain ⟨r3, g3, hm⟩ := bd_s hm
    refine oX_cV (as := [vI (3 : Int32)]) dX4_fee_14 rfl oDs1 rfl (by decide) rfl ok_X4_bad rfl rfl q2094 q2096 qs68 q136 q2097 (by decide) (Nat.le_of_ble_eq_true rfl) (t_X4_bad (3 : Int32) g3) ?_
    obtain ⟨g4, hm⟩ := gd_s hm
    obtain rfl := Option.some.inj hm
    exact oX_iret dX4_fee_17 rfl (oNz g4) hK
  · have hm := ifn c2 hm
    refine oX_aload_n dX4_fee_18 rfl rfl ?_
    obtain ⟨r5, g5, hm⟩ := bd_s hm
    refine oX_cV_ (as := []) dX4_fee_19 rfl oDs1 rfl (by decide) rfl ok_X4_next_2 rfl rfl q2067 q2069 qs63 q136 q2070 (by decide) (Nat.le_of_ble_eq_true rfl) (t_X4_next_2 hM n g5) ?_
    refine oX_aload_n dX4_fee_22 rfl rfl ?_
    refine oX_getI fX4_278 rfl oDs1 dX4_fee_23 ?_
    refine oX_iconst (v := (2 : Int32)) dX4_fee_26 (by decide) ?_
    refine oX_icmp_eq (tgt := 36) dX4_fee_27 (by decide) (fun c6 => ?_) (fun c6 => ?_)
    · have hm := ifp c6 hm
      refine oX_sipush (v := (160 : Int32)) dX4_fee_36 (by decide) ?_
      refine oX_aload_n dX4_fee_39 rfl rfl ?_
      refine oX_getF fX4_76 rfl oDs1 dX4_fee_40 (ohF129 hM) ?_
      refine oX_bipush (v := (20 : Int32)) dX4_fee_43 (by decide) ?_
      obtain ⟨g7, hm⟩ := gd_s hm
      refine oX_iald oDs129 (oIn (ohN129 hM) g7) dX4_fee_45 ?_
      refine oX_iadd dX4_fee_46 ?_
      refine oX_istore_n (ls' := [(1, vI ((160 : Int32) + (AI 129 0 (20 : Int32).toNatClampNeg))), (0, vR (some (1, 0)))]) dX4_fee_47 rfl (by decide) rfl ?_
      refine oX_aload_n dX4_fee_48 rfl rfl ?_
      refine oX_getF fX4_79 rfl oDs1 dX4_fee_49 (ohF130 hM) ?_
      refine oX_iload_n dX4_fee_52 rfl rfl ?_
      refine oX_aload_n dX4_fee_53 rfl rfl ?_
      refine oX_getI fX4_288 rfl oDs1 dX4_fee_54 ?_
      obtain ⟨g8, hm⟩ := gd_s hm
      obtain ⟨AI8, hAI8, hm⟩ := oLs hm
      refine oX_iast oDs130 (oIn (ohN130 hM) g8) dX4_fee_57 hAI8 ?_
      refine oX_aload_n dX4_fee_58 rfl rfl ?_
      refine oX_getF fX4_82 rfl oDs1 dX4_fee_59 (ohF131 hM) ?_
      refine oX_iload_n dX4_fee_62 rfl rfl ?_
      refine oX_aload_n dX4_fee_63 rfl rfl ?_
      refine oX_getI fX4_316 rfl oDs1 dX4_fee_64 ?_
      obtain ⟨g9, hm⟩ := gd_s hm
      obtain ⟨AI9, hAI9, hm⟩ := oLs hm
      refine oX_iast oDs131 (oIn (ohN131 hM) g9) dX4_fee_67 hAI9 ?_
      refine oX_aload_n dX4_fee_68 rfl rfl ?_
      obtain ⟨r10, g10, hm⟩ := bd_s hm
      refine oX_cV_ (as := []) dX4_fee_69 rfl oDs1 rfl (by decide) rfl ok_X4_next_2 rfl rfl q2067 q2069 qs63 q136 q2070 (by decide) (Nat.le_of_ble_eq_true rfl) (t_X4_next_2 hM n g10) ?_
      refine oX_aload_n dX4_fee_72 rfl rfl ?_
      refine oX_ldc2 q2112 dX4_fee_73 ?_
      obtain ⟨r11, g11, hm⟩ := bd_s hm
      refine oX_cV (as := [vL (26982 : Int64)]) dX4_fee_76 rfl oDs1 rfl (by decide) rfl ok_X4_isWord rfl rfl q2086 q2088 qs66 q136 q2089 (by decide) (Nat.le_of_ble_eq_true rfl) (t_X4_isWord (26982 : Int64) g11) ?_
      refine oX_if_eq (tgt := 95) dX4_fee_79 (by decide) (fun c12 => ?_) (fun c12 => ?_)
      · have hm := ifp c12 hm
        exact oX_sub [1, 0] rfl (x_mX4_fee_j95 hM n ((160 : Int32) + (AI 129 0 (20 : Int32).toNatClampNeg)) hm hK)
      · have hm := ifn c12 hm
        refine oX_aload_n dX4_fee_82 rfl rfl ?_
        obtain ⟨r16, g16, hm⟩ := bd_s hm
        refine oX_cV_ (as := []) dX4_fee_83 rfl oDs1 rfl (by decide) rfl ok_X4_next_2 rfl rfl q2067 q2069 qs63 q136 q2070 (by decide) (Nat.le_of_ble_eq_true rfl) (t_X4_next_2 hM n g16) ?_
        refine oX_aload_n dX4_fee_86 rfl rfl ?_
        obtain ⟨r17, g17, hm⟩ := bd_s hm
        refine oX_cV (as := []) dX4_fee_87 rfl oDs1 rfl (by decide) rfl ok_X4_cond rfl rfl q2113 q2115 qs71 q136 q2116 (by decide) (Nat.le_of_ble_eq_true rfl) (t_X4_cond hM n g17) ?_
        refine oX_if_ne (tgt := 95) dX4_fee_90 (by decide) (fun c18 => ?_) (fun c18 => ?_)
        · have hm := ifp c18 hm
          refine oX_iconst (v := (0 : Int32)) dX4_fee_93 (by decide) ?_
          obtain rfl := Option.some.inj hm
          exact oX_iret dX4_fee_94 rfl (by decide) hK
        · have hm := ifn c18 hm
          exact oX_sub [1, 0] rfl (x_mX4_fee_j95 hM n ((160 : Int32) + (AI 129 0 (20 : Int32).toNatClampNeg)) hm hK)
    · have hm := ifn c6 hm
      refine oX_aload_n dX4_fee_30 rfl rfl ?_
      refine oX_iconst (v := (1 : Int32)) dX4_fee_31 (by decide) ?_
      obtain ⟨r19, g19, hm⟩ := bd_s hm
      refine oX_cV (as := [vI (1 : Int32)]) dX4_fee_32 rfl oDs1 rfl (by decide) rfl ok_X4_bad rfl rfl q2094 q2096 qs68 q136 q2097 (by decide) (Nat.le_of_ble_eq_true rfl) (t_X4_bad (1 : Int32) g19) ?_
      obtain ⟨g20, hm⟩ := gd_s hm
      obtain rfl := Option.some.inj hm
      exact oX_iret dX4_fee_35 rfl (oNz g20) hK
theorem t_X4_fee {G : OhG} {FI AI : OhI} {FL AL : OhL} {FR GR AR BR : OhQ} {AN : OhN} {C : OhC} (hM : ohShM FR AN) (n : Nat) {o : Int32 × OhI × OhL × OhI} (hm : mX4_fee n FI FL FR AI AN = some o) : oT G 5 iX4_fee [vR (some (1, 0))] (FI, FL, FR, GR, AI, AL, AR, BR, AN, C) (0, 0) (fun v h => v = (some (vI o.1)) ∧ h = (o.2.1, o.2.2.1, FR, GR, o.2.2.2, AL, AR, BR, AN, C)) ohNo :=
  oT_of (by decide) rfl (Nat.le_of_ble_eq_true rfl) (x_mX4_fee hM n hm ⟨rfl, rfl⟩)
abbrev iX4_rule : OhM := (yX4_rule, cX4_rule, 1, (some .boolean), [])
theorem ok_X4_rule : oOk iX4_rule 0 := ⟨by decide, by decide, by decide +kernel⟩

noncomputable def mX4_rule (n : Nat) (FI : OhI) (FL : OhL) (FR : OhQ) (AI : OhI) (AN : OhN) : Option (Int32 × OhI × OhL × OhI) :=
  (mX4_isWord FI FL (1919251316 : Int64)).bind fun r1 =>
  (if r1 = 0 then
  (mX4_isWord FI FL (6578553 : Int64)).bind fun r3 =>
    (if r3 = 0 then
    (mX4_isWord FI FL (2003133803 : Int64)).bind fun r5 =>
      (if r5 = 0 then
      (mX4_isWord FI FL (508675318629 : Int64)).bind fun r7 =>
        (if r7 = 0 then
        (mX4_isWord FI FL (465557354085 : Int64)).bind fun r9 =>
          (if r9 = 0 then
          (mX4_isWord FI FL (6710629 : Int64)).bind fun r11 =>
            (if r11 = 0 then
            (mX4_bad FI (1 : Int32)).bind fun r13 =>
              gd (r13.1 = 0 ∨ r13.1 = 1) <|
              some (r13.1, r13.2, FL, AI)
          else
            (mX4_fee n FI FL FR AI AN).bind fun r15 =>
              gd (r15.1 = 0 ∨ r15.1 = 1) <|
              some (r15.1, r15.2.1, r15.2.2.1, r15.2.2.2))
        else
          (mX4_leave n FI FL FR AI AN).bind fun r17 =>
            gd (r17.1 = 0 ∨ r17.1 = 1) <|
            some (r17.1, r17.2.1, r17.2.2.1, r17.2.2.2))
      else
        (mX4_once n FI FL FR AI AN (3 : Int32) (1 : Int32) (999 : Int32)).bind fun r19 =>
          gd (r19.1 = 0 ∨ r19.1 = 1) <|
          some (r19.1, r19.2.1, r19.2.2.1, r19.2.2.2))
    else
      (mX4_once n FI FL FR AI AN (2 : Int32) (0 : Int32) (7 : Int32)).bind fun r21 =>
        gd (r21.1 = 0 ∨ r21.1 = 1) <|
        some (r21.1, r21.2.1, r21.2.2.1, r21.2.2.2))
  else
    (mX4_once n FI FL FR AI AN (1 : Int32) (1 : Int32) (24 : Int32)).bind fun r23 =>
      gd (r23.1 = 0 ∨ r23.1 = 1) <|
      some (r23.1, r23.2.1, r23.2.2.1, r23.2.2.2))
else
  (mX4_once n FI FL FR AI AN (0 : Int32) (0 : Int32) (72 : Int32)).bind fun r25 =>
    gd (r25.1 = 0 ∨ r25.1 = 1) <|
    some (r25.1, r25.2.1, r25.2.2.1, r25.2.2.2))
theorem x_mX4_rule {G : OhG} {FI AI : OhI} {FL AL : OhL} {FR GR AR BR : OhQ} {AN : OhN} {C : OhC} {k : Nat × Nat} {Φ : OhP} {Ψ : OhX} (hM : ohShM FR AN) (n : Nat) {r : Int32 × OhI × OhL × OhI} (hm : mX4_rule n FI FL FR AI AN = some r) (hK : Φ (some (vI r.1)) (r.2.1, r.2.2.1, FR, GR, r.2.2.2, AL, AR, BR, AN, C)) : oX G 6 iX4_rule 0 [(0, vR (some (1, 0)))] [] (FI, FL, FR, GR, AI, AL, AR, BR, AN, C) k Φ Ψ := by
  unfold mX4_rule at hm
  refine oX_aload_n dX4_rule_0 rfl rfl ?_
  refine oX_ldc2 q2085 dX4_rule_1 ?_
  obtain ⟨r1, g1, hm⟩ := bd_s hm
  refine oX_cV (as := [vL (1919251316 : Int64)]) dX4_rule_4 rfl oDs1 rfl (by decide) rfl ok_X4_isWord rfl rfl q2086 q2088 qs66 q136 q2089 (by decide) (Nat.le_of_ble_eq_true rfl) (t_X4_isWord (1919251316 : Int64) g1) ?_
  refine oX_if_eq (tgt := 19) dX4_rule_7 (by decide) (fun c2 => ?_) (fun c2 => ?_)
  · have hm := ifp c2 hm
    refine oX_aload_n dX4_rule_19 rfl rfl ?_
    refine oX_ldc2 q2098 dX4_rule_20 ?_
    obtain ⟨r3, g3, hm⟩ := bd_s hm
    refine oX_cV (as := [vL (6578553 : Int64)]) dX4_rule_23 rfl oDs1 rfl (by decide) rfl ok_X4_isWord rfl rfl q2086 q2088 qs66 q136 q2089 (by decide) (Nat.le_of_ble_eq_true rfl) (t_X4_isWord (6578553 : Int64) g3) ?_
    refine oX_if_eq (tgt := 38) dX4_rule_26 (by decide) (fun c4 => ?_) (fun c4 => ?_)
    · have hm := ifp c4 hm
      refine oX_aload_n dX4_rule_38 rfl rfl ?_
      refine oX_ldc2 q2099 dX4_rule_39 ?_
      obtain ⟨r5, g5, hm⟩ := bd_s hm
      refine oX_cV (as := [vL (2003133803 : Int64)]) dX4_rule_42 rfl oDs1 rfl (by decide) rfl ok_X4_isWord rfl rfl q2086 q2088 qs66 q136 q2089 (by decide) (Nat.le_of_ble_eq_true rfl) (t_X4_isWord (2003133803 : Int64) g5) ?_
      refine oX_if_eq (tgt := 57) dX4_rule_45 (by decide) (fun c6 => ?_) (fun c6 => ?_)
      · have hm := ifp c6 hm
        refine oX_aload_n dX4_rule_57 rfl rfl ?_
        refine oX_ldc2 q2100 dX4_rule_58 ?_
        obtain ⟨r7, g7, hm⟩ := bd_s hm
        refine oX_cV (as := [vL (508675318629 : Int64)]) dX4_rule_61 rfl oDs1 rfl (by decide) rfl ok_X4_isWord rfl rfl q2086 q2088 qs66 q136 q2089 (by decide) (Nat.le_of_ble_eq_true rfl) (t_X4_isWord (508675318629 : Int64) g7) ?_
        refine oX_if_eq (tgt := 77) dX4_rule_64 (by decide) (fun c8 => ?_) (fun c8 => ?_)
        · have hm := ifp c8 hm
          refine oX_aload_n dX4_rule_77 rfl rfl ?_
          refine oX_ldc2 q2101 dX4_rule_78 ?_
          obtain ⟨r9, g9, hm⟩ := bd_s hm
          refine oX_cV (as := [vL (465557354085 : Int64)]) dX4_rule_81 rfl oDs1 rfl (by decide) rfl ok_X4_isWord rfl rfl q2086 q2088 qs66 q136 q2089 (by decide) (Nat.le_of_ble_eq_true rfl) (t_X4_isWord (465557354085 : Int64) g9) ?_
          refine oX_if_eq (tgt := 92) dX4_rule_84 (by decide) (fun c10 => ?_) (fun c10 => ?_)
          · have hm := ifp c10 hm
            refine oX_aload_n dX4_rule_92 rfl rfl ?_
            refine oX_ldc2 q2107 dX4_rule_93 ?_
            obtain ⟨r11, g11, hm⟩ := bd_s hm
            refine oX_cV (as := [vL (6710629 : Int64)]) dX4_rule_96 rfl oDs1 rfl (by decide) rfl ok_X4_isWord rfl rfl q2086 q2088 qs66 q136 q2089 (by decide) (Nat.le_of_ble_eq_true rfl) (t_X4_isWord (6710629 : Int64) g11) ?_
            refine oX_if_eq (tgt := 109) dX4_rule_99 (by decide) (fun c12 => ?_) (fun c12 => ?_)
            · have hm := ifp c12 hm
              refine oX_aload_n dX4_rule_109 rfl rfl ?_
              refine oX_iconst (v := (1 : Int32)) dX4_rule_110 (by decide) ?_
              obtain ⟨r13, g13, hm⟩ := bd_s hm
              refine oX_cV (as := [vI (1 : Int32)]) dX4_rule_111 rfl oDs1 rfl (by decide) rfl ok_X4_bad rfl rfl q2094 q2096 qs68 q136 q2097 (by decide) (Nat.le_of_ble_eq_true rfl) (t_X4_bad (1 : Int32) g13) ?_
              obtain ⟨g14, hm⟩ := gd_s hm
              obtain rfl := Option.some.inj hm
              exact oX_iret dX4_rule_114 rfl (oNz g14) hK
            · have hm := ifn c12 hm
              refine oX_aload_n dX4_rule_102 rfl rfl ?_
              obtain ⟨r15, g15, hm⟩ := bd_s hm
              refine oX_cV (as := []) dX4_rule_103 rfl oDs1 rfl (by decide) rfl ok_X4_fee rfl rfl q2108 q2110 qs70 q136 q2111 (by decide) (Nat.le_of_ble_eq_true rfl) (t_X4_fee hM n g15) ?_
              refine oX_goto (tgt := 114) dX4_rule_106 (by decide) ?_
              obtain ⟨g16, hm⟩ := gd_s hm
              obtain rfl := Option.some.inj hm
              exact oX_iret dX4_rule_114 rfl (oNz g16) hK
          · have hm := ifn c10 hm
            refine oX_aload_n dX4_rule_87 rfl rfl ?_
            obtain ⟨r17, g17, hm⟩ := bd_s hm
            refine oX_cV (as := []) dX4_rule_88 rfl oDs1 rfl (by decide) rfl ok_X4_leave rfl rfl q2102 q2104 qs69 q136 q2105 (by decide) (Nat.le_of_ble_eq_true rfl) (t_X4_leave hM n g17) ?_
            obtain ⟨g18, hm⟩ := gd_s hm
            obtain rfl := Option.some.inj hm
            exact oX_iret dX4_rule_91 rfl (oNz g18) hK
        · have hm := ifn c8 hm
          refine oX_aload_n dX4_rule_67 rfl rfl ?_
          refine oX_iconst (v := (3 : Int32)) dX4_rule_68 (by decide) ?_
          refine oX_iconst (v := (1 : Int32)) dX4_rule_69 (by decide) ?_
          refine oX_sipush (v := (999 : Int32)) dX4_rule_70 (by decide) ?_
          obtain ⟨r19, g19, hm⟩ := bd_s hm
          refine oX_cV (as := [vI (3 : Int32), vI (1 : Int32), vI (999 : Int32)]) dX4_rule_73 rfl oDs1 rfl (by decide) rfl ok_X4_once rfl rfl q2090 q2092 qs67 q136 q2093 (by decide) (Nat.le_of_ble_eq_true rfl) (t_X4_once hM n (3 : Int32) (1 : Int32) (999 : Int32) g19) ?_
          obtain ⟨g20, hm⟩ := gd_s hm
          obtain rfl := Option.some.inj hm
          exact oX_iret dX4_rule_76 rfl (oNz g20) hK
      · have hm := ifn c6 hm
        refine oX_aload_n dX4_rule_48 rfl rfl ?_
        refine oX_iconst (v := (2 : Int32)) dX4_rule_49 (by decide) ?_
        refine oX_iconst (v := (0 : Int32)) dX4_rule_50 (by decide) ?_
        refine oX_bipush (v := (7 : Int32)) dX4_rule_51 (by decide) ?_
        obtain ⟨r21, g21, hm⟩ := bd_s hm
        refine oX_cV (as := [vI (2 : Int32), vI (0 : Int32), vI (7 : Int32)]) dX4_rule_53 rfl oDs1 rfl (by decide) rfl ok_X4_once rfl rfl q2090 q2092 qs67 q136 q2093 (by decide) (Nat.le_of_ble_eq_true rfl) (t_X4_once hM n (2 : Int32) (0 : Int32) (7 : Int32) g21) ?_
        obtain ⟨g22, hm⟩ := gd_s hm
        obtain rfl := Option.some.inj hm
        exact oX_iret dX4_rule_56 rfl (oNz g22) hK
    · have hm := ifn c4 hm
      refine oX_aload_n dX4_rule_29 rfl rfl ?_
      refine oX_iconst (v := (1 : Int32)) dX4_rule_30 (by decide) ?_
      refine oX_iconst (v := (1 : Int32)) dX4_rule_31 (by decide) ?_
      refine oX_bipush (v := (24 : Int32)) dX4_rule_32 (by decide) ?_
      obtain ⟨r23, g23, hm⟩ := bd_s hm
      refine oX_cV (as := [vI (1 : Int32), vI (1 : Int32), vI (24 : Int32)]) dX4_rule_34 rfl oDs1 rfl (by decide) rfl ok_X4_once rfl rfl q2090 q2092 qs67 q136 q2093 (by decide) (Nat.le_of_ble_eq_true rfl) (t_X4_once hM n (1 : Int32) (1 : Int32) (24 : Int32) g23) ?_
      obtain ⟨g24, hm⟩ := gd_s hm
      obtain rfl := Option.some.inj hm
      exact oX_iret dX4_rule_37 rfl (oNz g24) hK
  · have hm := ifn c2 hm
    refine oX_aload_n dX4_rule_10 rfl rfl ?_
    refine oX_iconst (v := (0 : Int32)) dX4_rule_11 (by decide) ?_
    refine oX_iconst (v := (0 : Int32)) dX4_rule_12 (by decide) ?_
    refine oX_bipush (v := (72 : Int32)) dX4_rule_13 (by decide) ?_
    obtain ⟨r25, g25, hm⟩ := bd_s hm
    refine oX_cV (as := [vI (0 : Int32), vI (0 : Int32), vI (72 : Int32)]) dX4_rule_15 rfl oDs1 rfl (by decide) rfl ok_X4_once rfl rfl q2090 q2092 qs67 q136 q2093 (by decide) (Nat.le_of_ble_eq_true rfl) (t_X4_once hM n (0 : Int32) (0 : Int32) (72 : Int32) g25) ?_
    obtain ⟨g26, hm⟩ := gd_s hm
    obtain rfl := Option.some.inj hm
    exact oX_iret dX4_rule_18 rfl (oNz g26) hK
theorem t_X4_rule {G : OhG} {FI AI : OhI} {FL AL : OhL} {FR GR AR BR : OhQ} {AN : OhN} {C : OhC} (hM : ohShM FR AN) (n : Nat) {o : Int32 × OhI × OhL × OhI} (hm : mX4_rule n FI FL FR AI AN = some o) : oT G 6 iX4_rule [vR (some (1, 0))] (FI, FL, FR, GR, AI, AL, AR, BR, AN, C) (0, 0) (fun v h => v = (some (vI o.1)) ∧ h = (o.2.1, o.2.2.1, FR, GR, o.2.2.2, AL, AR, BR, AN, C)) ohNo :=
  oT_of (by decide) rfl (Nat.le_of_ble_eq_true rfl) (x_mX4_rule hM n hm ⟨rfl, rfl⟩)
abbrev iX4_sign : OhM := (yX4_sign, cX4_sign, 2, (some .boolean), [])
theorem ok_X4_sign : oOk iX4_sign 1 := ⟨by decide, by decide, by decide +kernel⟩

noncomputable def mX4_sign (n : Nat) (FI : OhI) (FL : OhL) (FR : OhQ) (AI : OhI) (AN : OhN) (x1 : Int32) : Option (Int32 × OhI × OhL) :=
  (mX4_isSign FI x1).bind fun r1 =>
  (if r1 = 0 then
  (mX4_bad FI (1 : Int32)).bind fun r3 =>
    gd (r3.1 = 0 ∨ r3.1 = 1) <|
    some (r3.1, r3.2, FL)
else
  (mX4_next_2 n FI FL FR AI AN).bind fun r5 =>
    some ((1 : Int32), r5.1, r5.2))
theorem x_mX4_sign {G : OhG} {FI AI : OhI} {FL AL : OhL} {FR GR AR BR : OhQ} {AN : OhN} {C : OhC} {k : Nat × Nat} {Φ : OhP} {Ψ : OhX} (hM : ohShM FR AN) (n : Nat) (x1 : Int32) {r : Int32 × OhI × OhL} (hm : mX4_sign n FI FL FR AI AN x1 = some r) (hK : Φ (some (vI r.1)) (r.2.1, r.2.2, FR, GR, AI, AL, AR, BR, AN, C)) : oX G 3 iX4_sign 0 [(0, vR (some (1, 0))), (1, vI x1)] [] (FI, FL, FR, GR, AI, AL, AR, BR, AN, C) k Φ Ψ := by
  unfold mX4_sign at hm
  refine oX_aload_n dX4_sign_0 rfl rfl ?_
  refine oX_iload_n dX4_sign_1 rfl rfl ?_
  obtain ⟨r1, g1, hm⟩ := bd_s hm
  refine oX_cV (as := [vI x1]) dX4_sign_2 rfl oDs1 rfl (by decide) rfl ok_X4_isSign rfl rfl q2136 q2138 qs74 q136 q2139 (by decide) (Nat.le_of_ble_eq_true rfl) (t_X4_isSign x1 g1) ?_
  refine oX_if_ne (tgt := 14) dX4_sign_5 (by decide) (fun c2 => ?_) (fun c2 => ?_)
  · have hm := ifp c2 hm
    refine oX_aload_n dX4_sign_8 rfl rfl ?_
    refine oX_iconst (v := (1 : Int32)) dX4_sign_9 (by decide) ?_
    obtain ⟨r3, g3, hm⟩ := bd_s hm
    refine oX_cV (as := [vI (1 : Int32)]) dX4_sign_10 rfl oDs1 rfl (by decide) rfl ok_X4_bad rfl rfl q2094 q2096 qs68 q136 q2097 (by decide) (Nat.le_of_ble_eq_true rfl) (t_X4_bad (1 : Int32) g3) ?_
    obtain ⟨g4, hm⟩ := gd_s hm
    obtain rfl := Option.some.inj hm
    exact oX_iret dX4_sign_13 rfl (oNz g4) hK
  · have hm := ifn c2 hm
    refine oX_aload_n dX4_sign_14 rfl rfl ?_
    obtain ⟨r5, g5, hm⟩ := bd_s hm
    refine oX_cV_ (as := []) dX4_sign_15 rfl oDs1 rfl (by decide) rfl ok_X4_next_2 rfl rfl q2067 q2069 qs63 q136 q2070 (by decide) (Nat.le_of_ble_eq_true rfl) (t_X4_next_2 hM n g5) ?_
    refine oX_iconst (v := (1 : Int32)) dX4_sign_18 (by decide) ?_
    obtain rfl := Option.some.inj hm
    exact oX_iret dX4_sign_19 rfl (by decide) hK
theorem t_X4_sign {G : OhG} {FI AI : OhI} {FL AL : OhL} {FR GR AR BR : OhQ} {AN : OhN} {C : OhC} (hM : ohShM FR AN) (n : Nat) (x1 : Int32) {o : Int32 × OhI × OhL} (hm : mX4_sign n FI FL FR AI AN x1 = some o) : oT G 3 iX4_sign [vR (some (1, 0)), vI x1] (FI, FL, FR, GR, AI, AL, AR, BR, AN, C) (0, 0) (fun v h => v = (some (vI o.1)) ∧ h = (o.2.1, o.2.2, FR, GR, AI, AL, AR, BR, AN, C)) ohNo :=
  oT_of (by decide) rfl (Nat.le_of_ble_eq_true rfl) (x_mX4_sign hM n x1 hm ⟨rfl, rfl⟩)
abbrev iX4_contract : OhM := (yX4_contract, cX4_contract, 4, (some .int), [])
theorem ok_X4_contract : oOk iX4_contract 1 := ⟨by decide, by decide, by decide +kernel⟩

noncomputable def mX4_contract_b53 (n : Nat) (FI : OhI) (FL : OhL) (FR : OhQ) (AI : OhI) (AN : OhN) (x1 : Int32) (x2 : Int32) : Option ((Int32 × OhI × OhL × OhI) ⊕ ((Int32 × OhI × OhL × OhI) ⊕ (OhI × OhL × OhI))) :=
  (if (FI 1 0 40) = 0 then
  some (.inr (.inl (x2, FI, FL, AI)))
else
  (mX4_rule n FI FL FR AI AN).bind fun r12 =>
    (if r12.1 = 0 then
    some (.inr (.inr (r12.2.1, r12.2.2.1, r12.2.2.2)))
  else
    (mX4_sign n r12.2.1 r12.2.2.1 FR r12.2.2.2 AN (59 : Int32)).bind fun r14 =>
      (if r14.1 = 0 then
      some (.inr (.inr (r14.2.1, r14.2.2, r12.2.2.2)))
    else
      some (.inl (x2 + (1 : Int32), r14.2.1, r14.2.2, r12.2.2.2)))))
theorem x_mX4_contract_b53 {G : OhG} {FI AI : OhI} {FL AL : OhL} {FR GR AR BR : OhQ} {AN : OhN} {C : OhC} {k : Nat × Nat} {Φ : OhP} {Ψ : OhX} (hM : ohShM FR AN) (n : Nat) (x1 : Int32) (x2 : Int32) {r : (Int32 × OhI × OhL × OhI) ⊕ ((Int32 × OhI × OhL × OhI) ⊕ (OhI × OhL × OhI))} (hm : mX4_contract_b53 n FI FL FR AI AN x1 x2 = some r) (hk : ∀ v : Int32 × OhI × OhL × OhI, r = .inl v → oX G 7 iX4_contract 53 [(0, vR (some (1, 0))), (1, vI x1), (2, vI v.1)] [] (v.2.1, v.2.2.1, FR, GR, v.2.2.2, AL, AR, BR, AN, C) k Φ Ψ) (hx1 : ∀ v : Int32 × OhI × OhL × OhI, r = .inr (.inl v) → oX G 7 iX4_contract 89 [(0, vR (some (1, 0))), (1, vI x1), (2, vI v.1)] [] (v.2.1, v.2.2.1, FR, GR, v.2.2.2, AL, AR, BR, AN, C) k Φ Ψ) (hx2 : ∀ v : OhI × OhL × OhI, r = .inr (.inr v) → oX G 7 iX4_contract 76 [(0, vR (some (1, 0)))] [] (v.1, v.2.1, FR, GR, v.2.2, AL, AR, BR, AN, C) k Φ Ψ) : oX G 7 iX4_contract 53 [(0, vR (some (1, 0))), (1, vI x1), (2, vI x2)] [] (FI, FL, FR, GR, AI, AL, AR, BR, AN, C) k Φ Ψ := by
  unfold mX4_contract_b53 at hm
  refine oX_aload_n dX4_contract_53 rfl rfl ?_
  refine oX_getI fX4_278 rfl oDs1 dX4_contract_54 ?_
  refine oX_if_eq (tgt := 89) dX4_contract_57 (by decide) (fun c11 => ?_) (fun c11 => ?_)
  · have hm := ifp c11 hm
    exact oX_sub [0, 1, 2] rfl (hx1 (x2, FI, FL, AI) (Option.some.inj hm).symm)
  · have hm := ifn c11 hm
    refine oX_aload_n dX4_contract_60 rfl rfl ?_
    obtain ⟨r12, g12, hm⟩ := bd_s hm
    refine oX_cV (as := []) dX4_contract_61 rfl oDs1 rfl (by decide) rfl ok_X4_rule rfl rfl q2081 q2083 qs65 q136 q2084 (by decide) (Nat.le_of_ble_eq_true rfl) (t_X4_rule hM n g12) ?_
    refine oX_if_eq (tgt := 76) dX4_contract_64 (by decide) (fun c13 => ?_) (fun c13 => ?_)
    · have hm := ifp c13 hm
      exact oX_sub [0] rfl (hx2 (r12.2.1, r12.2.2.1, r12.2.2.2) (Option.some.inj hm).symm)
    · have hm := ifn c13 hm
      refine oX_aload_n dX4_contract_67 rfl rfl ?_
      refine oX_bipush (v := (59 : Int32)) dX4_contract_68 (by decide) ?_
      obtain ⟨r14, g14, hm⟩ := bd_s hm
      refine oX_cV (as := [vI (59 : Int32)]) dX4_contract_70 rfl oDs1 rfl (by decide) rfl ok_X4_sign rfl rfl q2161 q2163 qs79 q136 q2164 (by decide) (Nat.le_of_ble_eq_true rfl) (t_X4_sign hM n (59 : Int32) g14) ?_
      refine oX_if_ne (tgt := 83) dX4_contract_73 (by decide) (fun c15 => ?_) (fun c15 => ?_)
      · have hm := ifp c15 hm
        exact oX_sub [0] rfl (hx2 (r14.2.1, r14.2.2, r12.2.2.2) (Option.some.inj hm).symm)
      · have hm := ifn c15 hm
        refine oX_iinc (v := x2 + (1 : Int32)) (ls' := [(2, vI (x2 + (1 : Int32))), (0, vR (some (1, 0))), (1, vI x1)]) dX4_contract_83 rfl rfl (by decide) rfl ?_
        refine oX_goto (tgt := 53) dX4_contract_86 (by decide) ?_
        exact oX_sub [1, 2, 0] rfl (hk (x2 + (1 : Int32), r14.2.1, r14.2.2, r12.2.2.2) (Option.some.inj hm).symm)
theorem l_mX4_contract_b53 {G : OhG} {FR : OhQ} {GR : OhQ} {AL : OhL} {AR : OhQ} {BR : OhQ} {AN : OhN} {C : OhC} {k : Nat × Nat} {Φ : OhP} {Ψ : OhX} (hM : ohShM FR AN) (n : Nat) (x1 : Int32) : ∀ (f : Nat) (x2 : Int32) (FI : OhI) (FL : OhL) (AI : OhI) (b : ((Int32 × OhI × OhL × OhI) ⊕ (OhI × OhL × OhI))), lpF (fun v => mX4_contract_b53 n v.2.1 v.2.2.1 FR v.2.2.2 AN x1 v.1) f (x2, FI, FL, AI) = some b → (∀ v : Int32 × OhI × OhL × OhI, b = (.inl v) → oX G 7 iX4_contract 89 [(0, vR (some (1, 0))), (1, vI x1), (2, vI v.1)] [] (v.2.1, v.2.2.1, FR, GR, v.2.2.2, AL, AR, BR, AN, C) k Φ Ψ) → (∀ v : OhI × OhL × OhI, b = (.inr v) → oX G 7 iX4_contract 76 [(0, vR (some (1, 0)))] [] (v.1, v.2.1, FR, GR, v.2.2, AL, AR, BR, AN, C) k Φ Ψ) → oX G 7 iX4_contract 53 [(0, vR (some (1, 0))), (1, vI x1), (2, vI x2)] [] (FI, FL, FR, GR, AI, AL, AR, BR, AN, C) k Φ Ψ := by
  intro f
  induction f with
  | zero =>
    intro x2 FI FL AI b hm
    cases hm
  | succ f ih =>
    intro x2 FI FL AI b hm hx1 hx2
    obtain ⟨r, hr, hm⟩ := lp_s hm
    refine x_mX4_contract_b53 hM n x1 x2 hr (fun v e => ?_) (fun v e => ?_) (fun v e => ?_)
    · subst e; exact ih v.1 v.2.1 v.2.2.1 v.2.2.2 _ hm hx1 hx2
    · subst e; exact hx1 v hm.symm
    · subst e; exact hx2 v hm.symm
noncomputable def mX4_contract_b91 (n : Nat) (FI : OhI) (FL : OhL) (FR : OhQ) (AI : OhI) (AN : OhN) (x1 : Int32) (x2 : Int32) (x3 : Int32) : Option ((Int32 × OhI) ⊕ (OhI)) :=
  (if (4 : Int32) ≤ x3 then
  some (.inr AI)
else
  gd (vp_in ((80 : Int32) + x3) 84) <|
    gd (vp_in (((4 : Int32) * x1) + x3) 84) <|
    oLet (sA AI 125 0 (uA (AI 125 0) (((4 : Int32) * x1) + x3).toNatClampNeg (AI 125 0 ((80 : Int32) + x3).toNatClampNeg))) fun AI19 =>
    some (.inl (x3 + (1 : Int32), AI19)))
theorem x_mX4_contract_b91 {G : OhG} {FI AI : OhI} {FL AL : OhL} {FR GR AR BR : OhQ} {AN : OhN} {C : OhC} {k : Nat × Nat} {Φ : OhP} {Ψ : OhX} (hM : ohShM FR AN) (n : Nat) (x1 : Int32) (x2 : Int32) (x3 : Int32) {r : (Int32 × OhI) ⊕ (OhI)} (hm : mX4_contract_b91 n FI FL FR AI AN x1 x2 x3 = some r) (hk : ∀ v : Int32 × OhI, r = .inl v → oX G 7 iX4_contract 91 [(0, vR (some (1, 0))), (1, vI x1), (2, vI x2), (3, vI v.1)] [] (FI, FL, FR, GR, v.2, AL, AR, BR, AN, C) k Φ Ψ) (hx1 : ∀ v : OhI, r = .inr v → oX G 7 iX4_contract 121 [(0, vR (some (1, 0))), (1, vI x1), (2, vI x2)] [] (FI, FL, FR, GR, v, AL, AR, BR, AN, C) k Φ Ψ) : oX G 7 iX4_contract 91 [(0, vR (some (1, 0))), (1, vI x1), (2, vI x2), (3, vI x3)] [] (FI, FL, FR, GR, AI, AL, AR, BR, AN, C) k Φ Ψ := by
  unfold mX4_contract_b91 at hm
  refine oX_iload_n dX4_contract_91 rfl rfl ?_
  refine oX_iconst (v := (4 : Int32)) dX4_contract_92 (by decide) ?_
  refine oX_icmp_ge (tgt := 121) dX4_contract_93 (by decide) (fun c17 => ?_) (fun c17 => ?_)
  · have hm := ifp c17 hm
    exact oX_sub [0, 1, 2] rfl (hx1 AI (Option.some.inj hm).symm)
  · have hm := ifn c17 hm
    refine oX_aload_n dX4_contract_96 rfl rfl ?_
    refine oX_getF fX4_64 rfl oDs1 dX4_contract_97 (ohF125 hM) ?_
    refine oX_iconst (v := (4 : Int32)) dX4_contract_100 (by decide) ?_
    refine oX_iload_n dX4_contract_101 rfl rfl ?_
    refine oX_imul dX4_contract_102 ?_
    refine oX_iload_n dX4_contract_103 rfl rfl ?_
    refine oX_iadd dX4_contract_104 ?_
    refine oX_aload_n dX4_contract_105 rfl rfl ?_
    refine oX_getF fX4_64 rfl oDs1 dX4_contract_106 (ohF125 hM) ?_
    refine oX_bipush (v := (80 : Int32)) dX4_contract_109 (by decide) ?_
    refine oX_iload_n dX4_contract_111 rfl rfl ?_
    refine oX_iadd dX4_contract_112 ?_
    obtain ⟨g18, hm⟩ := gd_s hm
    refine oX_iald oDs125 (oIn (ohN125 hM) g18) dX4_contract_113 ?_
    obtain ⟨g19, hm⟩ := gd_s hm
    obtain ⟨AI19, hAI19, hm⟩ := oLs hm
    refine oX_iast oDs125 (oIn (ohN125 hM) g19) dX4_contract_114 hAI19 ?_
    refine oX_iinc (v := x3 + (1 : Int32)) (ls' := [(3, vI (x3 + (1 : Int32))), (0, vR (some (1, 0))), (1, vI x1), (2, vI x2)]) dX4_contract_115 rfl rfl (by decide) rfl ?_
    refine oX_goto (tgt := 91) dX4_contract_118 (by decide) ?_
    exact oX_sub [1, 2, 3, 0] rfl (hk (x3 + (1 : Int32), AI19) (Option.some.inj hm).symm)
theorem l_mX4_contract_b91 {G : OhG} {FI : OhI} {FL : OhL} {FR : OhQ} {GR : OhQ} {AL : OhL} {AR : OhQ} {BR : OhQ} {AN : OhN} {C : OhC} {k : Nat × Nat} {Φ : OhP} {Ψ : OhX} (hM : ohShM FR AN) (n : Nat) (x1 : Int32) (x2 : Int32) : ∀ (f : Nat) (x3 : Int32) (AI : OhI) (b : (OhI)), lpF (fun v => mX4_contract_b91 n FI FL FR v.2 AN x1 x2 v.1) f (x3, AI) = some b → (oX G 7 iX4_contract 121 [(0, vR (some (1, 0))), (1, vI x1), (2, vI x2)] [] (FI, FL, FR, GR, b, AL, AR, BR, AN, C) k Φ Ψ) → oX G 7 iX4_contract 91 [(0, vR (some (1, 0))), (1, vI x1), (2, vI x2), (3, vI x3)] [] (FI, FL, FR, GR, AI, AL, AR, BR, AN, C) k Φ Ψ := by
  intro f
  induction f with
  | zero =>
    intro x3 AI b hm
    cases hm
  | succ f ih =>
    intro x3 AI b hm hx1
    obtain ⟨r, hr, hm⟩ := lp_s hm
    refine x_mX4_contract_b91 hM n x1 x2 x3 hr (fun v e => ?_) (fun v e => ?_)
    · subst e; exact ih v.1 v.2 _ hm hx1
    · subst e; cases (show v = b from hm); exact hx1
noncomputable def mX4_contract_b136 (n : Nat) (FI : OhI) (FL : OhL) (FR : OhQ) (AI : OhI) (AN : OhN) (x1 : Int32) (x2 : Int32) (x3 : Int32) : Option ((Int32 × OhI) ⊕ (OhI)) :=
  (if (6 : Int32) ≤ x3 then
  some (.inr AI)
else
  gd (vp_in ((120 : Int32) + x3) 126) <|
    gd (vp_in (((6 : Int32) * x1) + x3) 126) <|
    oLet (sA AI 127 0 (uA (AI 127 0) (((6 : Int32) * x1) + x3).toNatClampNeg (AI 127 0 ((120 : Int32) + x3).toNatClampNeg))) fun AI25 =>
    gd (vp_in ((120 : Int32) + x3) 126) <|
    gd (vp_in (((6 : Int32) * x1) + x3) 126) <|
    oLet (sA AI25 128 0 (uA (AI25 128 0) (((6 : Int32) * x1) + x3).toNatClampNeg (AI25 128 0 ((120 : Int32) + x3).toNatClampNeg))) fun AI27 =>
    some (.inl (x3 + (1 : Int32), AI27)))
theorem x_mX4_contract_b136 {G : OhG} {FI AI : OhI} {FL AL : OhL} {FR GR AR BR : OhQ} {AN : OhN} {C : OhC} {k : Nat × Nat} {Φ : OhP} {Ψ : OhX} (hM : ohShM FR AN) (n : Nat) (x1 : Int32) (x2 : Int32) (x3 : Int32) {r : (Int32 × OhI) ⊕ (OhI)} (hm : mX4_contract_b136 n FI FL FR AI AN x1 x2 x3 = some r) (hk : ∀ v : Int32 × OhI, r = .inl v → oX G 7 iX4_contract 136 [(0, vR (some (1, 0))), (1, vI x1), (2, vI x2), (3, vI v.1)] [] (FI, FL, FR, GR, v.2, AL, AR, BR, AN, C) k Φ Ψ) (hx1 : ∀ v : OhI, r = .inr v → oX G 7 iX4_contract 188 [(0, vR (some (1, 0))), (1, vI x1), (2, vI x2)] [] (FI, FL, FR, GR, v, AL, AR, BR, AN, C) k Φ Ψ) : oX G 7 iX4_contract 136 [(0, vR (some (1, 0))), (1, vI x1), (2, vI x2), (3, vI x3)] [] (FI, FL, FR, GR, AI, AL, AR, BR, AN, C) k Φ Ψ := by
  unfold mX4_contract_b136 at hm
  refine oX_iload_n dX4_contract_136 rfl rfl ?_
  refine oX_bipush (v := (6 : Int32)) dX4_contract_137 (by decide) ?_
  refine oX_icmp_ge (tgt := 188) dX4_contract_139 (by decide) (fun c23 => ?_) (fun c23 => ?_)
  · have hm := ifp c23 hm
    exact oX_sub [0, 1, 2] rfl (hx1 AI (Option.some.inj hm).symm)
  · have hm := ifn c23 hm
    refine oX_aload_n dX4_contract_142 rfl rfl ?_
    refine oX_getF fX4_70 rfl oDs1 dX4_contract_143 (ohF127 hM) ?_
    refine oX_bipush (v := (6 : Int32)) dX4_contract_146 (by decide) ?_
    refine oX_iload_n dX4_contract_148 rfl rfl ?_
    refine oX_imul dX4_contract_149 ?_
    refine oX_iload_n dX4_contract_150 rfl rfl ?_
    refine oX_iadd dX4_contract_151 ?_
    refine oX_aload_n dX4_contract_152 rfl rfl ?_
    refine oX_getF fX4_70 rfl oDs1 dX4_contract_153 (ohF127 hM) ?_
    refine oX_bipush (v := (120 : Int32)) dX4_contract_156 (by decide) ?_
    refine oX_iload_n dX4_contract_158 rfl rfl ?_
    refine oX_iadd dX4_contract_159 ?_
    obtain ⟨g24, hm⟩ := gd_s hm
    refine oX_iald oDs127 (oIn (ohN127 hM) g24) dX4_contract_160 ?_
    obtain ⟨g25, hm⟩ := gd_s hm
    obtain ⟨AI25, hAI25, hm⟩ := oLs hm
    refine oX_iast oDs127 (oIn (ohN127 hM) g25) dX4_contract_161 hAI25 ?_
    refine oX_aload_n dX4_contract_162 rfl rfl ?_
    refine oX_getF fX4_73 rfl oDs1 dX4_contract_163 (ohF128 hM) ?_
    refine oX_bipush (v := (6 : Int32)) dX4_contract_166 (by decide) ?_
    refine oX_iload_n dX4_contract_168 rfl rfl ?_
    refine oX_imul dX4_contract_169 ?_
    refine oX_iload_n dX4_contract_170 rfl rfl ?_
    refine oX_iadd dX4_contract_171 ?_
    refine oX_aload_n dX4_contract_172 rfl rfl ?_
    refine oX_getF fX4_73 rfl oDs1 dX4_contract_173 (ohF128 hM) ?_
    refine oX_bipush (v := (120 : Int32)) dX4_contract_176 (by decide) ?_
    refine oX_iload_n dX4_contract_178 rfl rfl ?_
    refine oX_iadd dX4_contract_179 ?_
    obtain ⟨g26, hm⟩ := gd_s hm
    refine oX_iald oDs128 (oIn (ohN128 hM) g26) dX4_contract_180 ?_
    obtain ⟨g27, hm⟩ := gd_s hm
    obtain ⟨AI27, hAI27, hm⟩ := oLs hm
    refine oX_iast oDs128 (oIn (ohN128 hM) g27) dX4_contract_181 hAI27 ?_
    refine oX_iinc (v := x3 + (1 : Int32)) (ls' := [(3, vI (x3 + (1 : Int32))), (0, vR (some (1, 0))), (1, vI x1), (2, vI x2)]) dX4_contract_182 rfl rfl (by decide) rfl ?_
    refine oX_goto (tgt := 136) dX4_contract_185 (by decide) ?_
    exact oX_sub [1, 2, 3, 0] rfl (hk (x3 + (1 : Int32), AI27) (Option.some.inj hm).symm)
theorem l_mX4_contract_b136 {G : OhG} {FI : OhI} {FL : OhL} {FR : OhQ} {GR : OhQ} {AL : OhL} {AR : OhQ} {BR : OhQ} {AN : OhN} {C : OhC} {k : Nat × Nat} {Φ : OhP} {Ψ : OhX} (hM : ohShM FR AN) (n : Nat) (x1 : Int32) (x2 : Int32) : ∀ (f : Nat) (x3 : Int32) (AI : OhI) (b : (OhI)), lpF (fun v => mX4_contract_b136 n FI FL FR v.2 AN x1 x2 v.1) f (x3, AI) = some b → (oX G 7 iX4_contract 188 [(0, vR (some (1, 0))), (1, vI x1), (2, vI x2)] [] (FI, FL, FR, GR, b, AL, AR, BR, AN, C) k Φ Ψ) → oX G 7 iX4_contract 136 [(0, vR (some (1, 0))), (1, vI x1), (2, vI x2), (3, vI x3)] [] (FI, FL, FR, GR, AI, AL, AR, BR, AN, C) k Φ Ψ := by
  intro f
  induction f with
  | zero =>
    intro x3 AI b hm
    cases hm
  | succ f ih =>
    intro x3 AI b hm hx1
    obtain ⟨r, hr, hm⟩ := lp_s hm
    refine x_mX4_contract_b136 hM n x1 x2 x3 hr (fun v e => ?_) (fun v e => ?_)
    · subst e; exact ih v.1 v.2 _ hm hx1
    · subst e; cases (show v = b from hm); exact hx1
noncomputable def mX4_contract_b203 (n : Nat) (FI : OhI) (FL : OhL) (FR : OhQ) (AI : OhI) (AN : OhN) (x1 : Int32) (x2 : Int32) (x3 : Int32) : Option ((Int32 × OhI) ⊕ (OhI)) :=
  (if (8 : Int32) ≤ x3 then
  some (.inr AI)
else
  gd (vp_in ((160 : Int32) + x3) 168) <|
    gd (vp_in (((8 : Int32) * x1) + x3) 168) <|
    oLet (sA AI 130 0 (uA (AI 130 0) (((8 : Int32) * x1) + x3).toNatClampNeg (AI 130 0 ((160 : Int32) + x3).toNatClampNeg))) fun AI33 =>
    gd (vp_in ((160 : Int32) + x3) 168) <|
    gd (vp_in (((8 : Int32) * x1) + x3) 168) <|
    oLet (sA AI33 131 0 (uA (AI33 131 0) (((8 : Int32) * x1) + x3).toNatClampNeg (AI33 131 0 ((160 : Int32) + x3).toNatClampNeg))) fun AI35 =>
    gd (vp_in ((160 : Int32) + x3) 168) <|
    gd (vp_in (((8 : Int32) * x1) + x3) 168) <|
    oLet (sA AI35 132 0 (uA (AI35 132 0) (((8 : Int32) * x1) + x3).toNatClampNeg (AI35 132 0 ((160 : Int32) + x3).toNatClampNeg))) fun AI37 =>
    some (.inl (x3 + (1 : Int32), AI37)))
theorem x_mX4_contract_b203 {G : OhG} {FI AI : OhI} {FL AL : OhL} {FR GR AR BR : OhQ} {AN : OhN} {C : OhC} {k : Nat × Nat} {Φ : OhP} {Ψ : OhX} (hM : ohShM FR AN) (n : Nat) (x1 : Int32) (x2 : Int32) (x3 : Int32) {r : (Int32 × OhI) ⊕ (OhI)} (hm : mX4_contract_b203 n FI FL FR AI AN x1 x2 x3 = some r) (hk : ∀ v : Int32 × OhI, r = .inl v → oX G 7 iX4_contract 203 [(0, vR (some (1, 0))), (1, vI x1), (2, vI x2), (3, vI v.1)] [] (FI, FL, FR, GR, v.2, AL, AR, BR, AN, C) k Φ Ψ) (hx1 : ∀ v : OhI, r = .inr v → oX G 7 iX4_contract 278 [(0, vR (some (1, 0))), (1, vI x1), (2, vI x2)] [] (FI, FL, FR, GR, v, AL, AR, BR, AN, C) k Φ Ψ) : oX G 7 iX4_contract 203 [(0, vR (some (1, 0))), (1, vI x1), (2, vI x2), (3, vI x3)] [] (FI, FL, FR, GR, AI, AL, AR, BR, AN, C) k Φ Ψ := by
  unfold mX4_contract_b203 at hm
  refine oX_iload_n dX4_contract_203 rfl rfl ?_
  refine oX_bipush (v := (8 : Int32)) dX4_contract_204 (by decide) ?_
  refine oX_icmp_ge (tgt := 278) dX4_contract_206 (by decide) (fun c31 => ?_) (fun c31 => ?_)
  · have hm := ifp c31 hm
    exact oX_sub [0, 1, 2] rfl (hx1 AI (Option.some.inj hm).symm)
  · have hm := ifn c31 hm
    refine oX_aload_n dX4_contract_209 rfl rfl ?_
    refine oX_getF fX4_79 rfl oDs1 dX4_contract_210 (ohF130 hM) ?_
    refine oX_bipush (v := (8 : Int32)) dX4_contract_213 (by decide) ?_
    refine oX_iload_n dX4_contract_215 rfl rfl ?_
    refine oX_imul dX4_contract_216 ?_
    refine oX_iload_n dX4_contract_217 rfl rfl ?_
    refine oX_iadd dX4_contract_218 ?_
    refine oX_aload_n dX4_contract_219 rfl rfl ?_
    refine oX_getF fX4_79 rfl oDs1 dX4_contract_220 (ohF130 hM) ?_
    refine oX_sipush (v := (160 : Int32)) dX4_contract_223 (by decide) ?_
    refine oX_iload_n dX4_contract_226 rfl rfl ?_
    refine oX_iadd dX4_contract_227 ?_
    obtain ⟨g32, hm⟩ := gd_s hm
    refine oX_iald oDs130 (oIn (ohN130 hM) g32) dX4_contract_228 ?_
    obtain ⟨g33, hm⟩ := gd_s hm
    obtain ⟨AI33, hAI33, hm⟩ := oLs hm
    refine oX_iast oDs130 (oIn (ohN130 hM) g33) dX4_contract_229 hAI33 ?_
    refine oX_aload_n dX4_contract_230 rfl rfl ?_
    refine oX_getF fX4_82 rfl oDs1 dX4_contract_231 (ohF131 hM) ?_
    refine oX_bipush (v := (8 : Int32)) dX4_contract_234 (by decide) ?_
    refine oX_iload_n dX4_contract_236 rfl rfl ?_
    refine oX_imul dX4_contract_237 ?_
    refine oX_iload_n dX4_contract_238 rfl rfl ?_
    refine oX_iadd dX4_contract_239 ?_
    refine oX_aload_n dX4_contract_240 rfl rfl ?_
    refine oX_getF fX4_82 rfl oDs1 dX4_contract_241 (ohF131 hM) ?_
    refine oX_sipush (v := (160 : Int32)) dX4_contract_244 (by decide) ?_
    refine oX_iload_n dX4_contract_247 rfl rfl ?_
    refine oX_iadd dX4_contract_248 ?_
    obtain ⟨g34, hm⟩ := gd_s hm
    refine oX_iald oDs131 (oIn (ohN131 hM) g34) dX4_contract_249 ?_
    obtain ⟨g35, hm⟩ := gd_s hm
    obtain ⟨AI35, hAI35, hm⟩ := oLs hm
    refine oX_iast oDs131 (oIn (ohN131 hM) g35) dX4_contract_250 hAI35 ?_
    refine oX_aload_n dX4_contract_251 rfl rfl ?_
    refine oX_getF fX4_85 rfl oDs1 dX4_contract_252 (ohF132 hM) ?_
    refine oX_bipush (v := (8 : Int32)) dX4_contract_255 (by decide) ?_
    refine oX_iload_n dX4_contract_257 rfl rfl ?_
    refine oX_imul dX4_contract_258 ?_
    refine oX_iload_n dX4_contract_259 rfl rfl ?_
    refine oX_iadd dX4_contract_260 ?_
    refine oX_aload_n dX4_contract_261 rfl rfl ?_
    refine oX_getF fX4_85 rfl oDs1 dX4_contract_262 (ohF132 hM) ?_
    refine oX_sipush (v := (160 : Int32)) dX4_contract_265 (by decide) ?_
    refine oX_iload_n dX4_contract_268 rfl rfl ?_
    refine oX_iadd dX4_contract_269 ?_
    obtain ⟨g36, hm⟩ := gd_s hm
    refine oX_iald oDs132 (oIn (ohN132 hM) g36) dX4_contract_270 ?_
    obtain ⟨g37, hm⟩ := gd_s hm
    obtain ⟨AI37, hAI37, hm⟩ := oLs hm
    refine oX_iast oDs132 (oIn (ohN132 hM) g37) dX4_contract_271 hAI37 ?_
    refine oX_iinc (v := x3 + (1 : Int32)) (ls' := [(3, vI (x3 + (1 : Int32))), (0, vR (some (1, 0))), (1, vI x1), (2, vI x2)]) dX4_contract_272 rfl rfl (by decide) rfl ?_
    refine oX_goto (tgt := 203) dX4_contract_275 (by decide) ?_
    exact oX_sub [1, 2, 3, 0] rfl (hk (x3 + (1 : Int32), AI37) (Option.some.inj hm).symm)
theorem l_mX4_contract_b203 {G : OhG} {FI : OhI} {FL : OhL} {FR : OhQ} {GR : OhQ} {AL : OhL} {AR : OhQ} {BR : OhQ} {AN : OhN} {C : OhC} {k : Nat × Nat} {Φ : OhP} {Ψ : OhX} (hM : ohShM FR AN) (n : Nat) (x1 : Int32) (x2 : Int32) : ∀ (f : Nat) (x3 : Int32) (AI : OhI) (b : (OhI)), lpF (fun v => mX4_contract_b203 n FI FL FR v.2 AN x1 x2 v.1) f (x3, AI) = some b → (oX G 7 iX4_contract 278 [(0, vR (some (1, 0))), (1, vI x1), (2, vI x2)] [] (FI, FL, FR, GR, b, AL, AR, BR, AN, C) k Φ Ψ) → oX G 7 iX4_contract 203 [(0, vR (some (1, 0))), (1, vI x1), (2, vI x2), (3, vI x3)] [] (FI, FL, FR, GR, AI, AL, AR, BR, AN, C) k Φ Ψ := by
  intro f
  induction f with
  | zero =>
    intro x3 AI b hm
    cases hm
  | succ f ih =>
    intro x3 AI b hm hx1
    obtain ⟨r, hr, hm⟩ := lp_s hm
    refine x_mX4_contract_b203 hM n x1 x2 x3 hr (fun v e => ?_) (fun v e => ?_)
    · subst e; exact ih v.1 v.2 _ hm hx1
    · subst e; cases (show v = b from hm); exact hx1
noncomputable def mX4_contract_b280 (n : Nat) (FI : OhI) (FL : OhL) (FR : OhQ) (AI : OhI) (AN : OhN) (x1 : Int32) (x2 : Int32) (x3 : Int32) : Option ((Int32 × OhI) ⊕ (OhI)) :=
  (if (FI 1 0 37) ≤ x3 then
  some (.inr AI)
else
  gd (vp_in ((2000 : Int32) + x3) 2100) <|
    gd (vp_in (((100 : Int32) * x1) + x3) 2100) <|
    oLet (sA AI 133 0 (uA (AI 133 0) (((100 : Int32) * x1) + x3).toNatClampNeg (AI 133 0 ((2000 : Int32) + x3).toNatClampNeg))) fun AI41 =>
    gd (vp_in ((2000 : Int32) + x3) 2100) <|
    gd (vp_in (((100 : Int32) * x1) + x3) 2100) <|
    oLet (sA AI41 134 0 (uA (AI41 134 0) (((100 : Int32) * x1) + x3).toNatClampNeg (AI41 134 0 ((2000 : Int32) + x3).toNatClampNeg))) fun AI43 =>
    gd (vp_in ((2000 : Int32) + x3) 2100) <|
    gd (vp_in (((100 : Int32) * x1) + x3) 2100) <|
    oLet (sA AI43 135 0 (uA (AI43 135 0) (((100 : Int32) * x1) + x3).toNatClampNeg (AI43 135 0 ((2000 : Int32) + x3).toNatClampNeg))) fun AI45 =>
    some (.inl (x3 + (1 : Int32), AI45)))
theorem x_mX4_contract_b280 {G : OhG} {FI AI : OhI} {FL AL : OhL} {FR GR AR BR : OhQ} {AN : OhN} {C : OhC} {k : Nat × Nat} {Φ : OhP} {Ψ : OhX} (hM : ohShM FR AN) (n : Nat) (x1 : Int32) (x2 : Int32) (x3 : Int32) {r : (Int32 × OhI) ⊕ (OhI)} (hm : mX4_contract_b280 n FI FL FR AI AN x1 x2 x3 = some r) (hk : ∀ v : Int32 × OhI, r = .inl v → oX G 7 iX4_contract 280 [(0, vR (some (1, 0))), (1, vI x1), (2, vI x2), (3, vI v.1)] [] (FI, FL, FR, GR, v.2, AL, AR, BR, AN, C) k Φ Ψ) (hx1 : ∀ v : OhI, r = .inr v → oX G 7 iX4_contract 357 [(0, vR (some (1, 0))), (2, vI x2)] [] (FI, FL, FR, GR, v, AL, AR, BR, AN, C) k Φ Ψ) : oX G 7 iX4_contract 280 [(0, vR (some (1, 0))), (1, vI x1), (2, vI x2), (3, vI x3)] [] (FI, FL, FR, GR, AI, AL, AR, BR, AN, C) k Φ Ψ := by
  unfold mX4_contract_b280 at hm
  refine oX_iload_n dX4_contract_280 rfl rfl ?_
  refine oX_aload_n dX4_contract_281 rfl rfl ?_
  refine oX_getI fX4_316 rfl oDs1 dX4_contract_282 ?_
  refine oX_icmp_ge (tgt := 357) dX4_contract_285 (by decide) (fun c39 => ?_) (fun c39 => ?_)
  · have hm := ifp c39 hm
    exact oX_sub [0, 2] rfl (hx1 AI (Option.some.inj hm).symm)
  · have hm := ifn c39 hm
    refine oX_aload_n dX4_contract_288 rfl rfl ?_
    refine oX_getF fX4_88 rfl oDs1 dX4_contract_289 (ohF133 hM) ?_
    refine oX_bipush (v := (100 : Int32)) dX4_contract_292 (by decide) ?_
    refine oX_iload_n dX4_contract_294 rfl rfl ?_
    refine oX_imul dX4_contract_295 ?_
    refine oX_iload_n dX4_contract_296 rfl rfl ?_
    refine oX_iadd dX4_contract_297 ?_
    refine oX_aload_n dX4_contract_298 rfl rfl ?_
    refine oX_getF fX4_88 rfl oDs1 dX4_contract_299 (ohF133 hM) ?_
    refine oX_sipush (v := (2000 : Int32)) dX4_contract_302 (by decide) ?_
    refine oX_iload_n dX4_contract_305 rfl rfl ?_
    refine oX_iadd dX4_contract_306 ?_
    obtain ⟨g40, hm⟩ := gd_s hm
    refine oX_iald oDs133 (oIn (ohN133 hM) g40) dX4_contract_307 ?_
    obtain ⟨g41, hm⟩ := gd_s hm
    obtain ⟨AI41, hAI41, hm⟩ := oLs hm
    refine oX_iast oDs133 (oIn (ohN133 hM) g41) dX4_contract_308 hAI41 ?_
    refine oX_aload_n dX4_contract_309 rfl rfl ?_
    refine oX_getF fX4_91 rfl oDs1 dX4_contract_310 (ohF134 hM) ?_
    refine oX_bipush (v := (100 : Int32)) dX4_contract_313 (by decide) ?_
    refine oX_iload_n dX4_contract_315 rfl rfl ?_
    refine oX_imul dX4_contract_316 ?_
    refine oX_iload_n dX4_contract_317 rfl rfl ?_
    refine oX_iadd dX4_contract_318 ?_
    refine oX_aload_n dX4_contract_319 rfl rfl ?_
    refine oX_getF fX4_91 rfl oDs1 dX4_contract_320 (ohF134 hM) ?_
    refine oX_sipush (v := (2000 : Int32)) dX4_contract_323 (by decide) ?_
    refine oX_iload_n dX4_contract_326 rfl rfl ?_
    refine oX_iadd dX4_contract_327 ?_
    obtain ⟨g42, hm⟩ := gd_s hm
    refine oX_iald oDs134 (oIn (ohN134 hM) g42) dX4_contract_328 ?_
    obtain ⟨g43, hm⟩ := gd_s hm
    obtain ⟨AI43, hAI43, hm⟩ := oLs hm
    refine oX_iast oDs134 (oIn (ohN134 hM) g43) dX4_contract_329 hAI43 ?_
    refine oX_aload_n dX4_contract_330 rfl rfl ?_
    refine oX_getF fX4_94 rfl oDs1 dX4_contract_331 (ohF135 hM) ?_
    refine oX_bipush (v := (100 : Int32)) dX4_contract_334 (by decide) ?_
    refine oX_iload_n dX4_contract_336 rfl rfl ?_
    refine oX_imul dX4_contract_337 ?_
    refine oX_iload_n dX4_contract_338 rfl rfl ?_
    refine oX_iadd dX4_contract_339 ?_
    refine oX_aload_n dX4_contract_340 rfl rfl ?_
    refine oX_getF fX4_94 rfl oDs1 dX4_contract_341 (ohF135 hM) ?_
    refine oX_sipush (v := (2000 : Int32)) dX4_contract_344 (by decide) ?_
    refine oX_iload_n dX4_contract_347 rfl rfl ?_
    refine oX_iadd dX4_contract_348 ?_
    obtain ⟨g44, hm⟩ := gd_s hm
    refine oX_iald oDs135 (oIn (ohN135 hM) g44) dX4_contract_349 ?_
    obtain ⟨g45, hm⟩ := gd_s hm
    obtain ⟨AI45, hAI45, hm⟩ := oLs hm
    refine oX_iast oDs135 (oIn (ohN135 hM) g45) dX4_contract_350 hAI45 ?_
    refine oX_iinc (v := x3 + (1 : Int32)) (ls' := [(3, vI (x3 + (1 : Int32))), (0, vR (some (1, 0))), (1, vI x1), (2, vI x2)]) dX4_contract_351 rfl rfl (by decide) rfl ?_
    refine oX_goto (tgt := 280) dX4_contract_354 (by decide) ?_
    exact oX_sub [1, 2, 3, 0] rfl (hk (x3 + (1 : Int32), AI45) (Option.some.inj hm).symm)
theorem l_mX4_contract_b280 {G : OhG} {FI : OhI} {FL : OhL} {FR : OhQ} {GR : OhQ} {AL : OhL} {AR : OhQ} {BR : OhQ} {AN : OhN} {C : OhC} {k : Nat × Nat} {Φ : OhP} {Ψ : OhX} (hM : ohShM FR AN) (n : Nat) (x1 : Int32) (x2 : Int32) : ∀ (f : Nat) (x3 : Int32) (AI : OhI) (b : (OhI)), lpF (fun v => mX4_contract_b280 n FI FL FR v.2 AN x1 x2 v.1) f (x3, AI) = some b → (oX G 7 iX4_contract 357 [(0, vR (some (1, 0))), (2, vI x2)] [] (FI, FL, FR, GR, b, AL, AR, BR, AN, C) k Φ Ψ) → oX G 7 iX4_contract 280 [(0, vR (some (1, 0))), (1, vI x1), (2, vI x2), (3, vI x3)] [] (FI, FL, FR, GR, AI, AL, AR, BR, AN, C) k Φ Ψ := by
  intro f
  induction f with
  | zero =>
    intro x3 AI b hm
    cases hm
  | succ f ih =>
    intro x3 AI b hm hx1
    obtain ⟨r, hr, hm⟩ := lp_s hm
    refine x_mX4_contract_b280 hM n x1 x2 x3 hr (fun v e => ?_) (fun v e => ?_)
    · subst e; exact ih v.1 v.2 _ hm hx1
    · subst e; cases (show v = b from hm); exact hx1
noncomputable def mX4_contract (n : Nat) (FI : OhI) (FL : OhL) (FR : OhQ) (AI : OhI) (AN : OhN) (x1 : Int32) : Option (Int32 × OhI × OhL × OhI) :=
  oLet (sA FI 1 0 (uA (FI 1 0) 0 (0 : Int32))) fun FI1 =>
  (mX4_taken FI1).bind fun r2 =>
  (mX4_isSinger r2 x1).bind fun r3 =>
  (if r3 = 0 then
  some ((-1000 : Int32), r2, FL, AI)
else
  oLet (sA r2 1 0 (uA (r2 1 0) 44 (0 : Int32))) fun FI5 =>
    oLet (sA FI5 1 0 (uA (FI5 1 0) 46 (0 : Int32))) fun FI6 =>
    oLet (sA FI6 1 0 (uA (FI6 1 0) 37 (0 : Int32))) fun FI7 =>
    oLet (sA FI7 1 0 (uA (FI7 1 0) 39 (0 : Int32))) fun FI8 =>
    (mX4_plain FR AI AN (20 : Int32)).bind fun r9 =>
    (mX4_next_2 n FI8 FL FR r9 AN).bind fun r10 =>
    (lpF (fun v => mX4_contract_b53 n v.2.1 v.2.2.1 FR v.2.2.2 AN x1 v.1) n ((0 : Int32), r10.1, r10.2, r9)).bind (Sum.elim (fun v16 => (lpF (fun v => mX4_contract_b91 n v16.2.1 v16.2.2.1 FR v.2 AN x1 v16.1 v.1) n ((0 : Int32), v16.2.2.2)).bind fun v20 =>
    gd (vp_in (20 : Int32) 21) <|
    gd (vp_in x1 21) <|
    oLet (sA v20 126 0 (uA (v20 126 0) x1.toNatClampNeg (v20 126 0 (20 : Int32).toNatClampNeg))) fun AI22 =>
    (lpF (fun v => mX4_contract_b136 n v16.2.1 v16.2.2.1 FR v.2 AN x1 v16.1 v.1) n ((0 : Int32), AI22)).bind fun v28 =>
    gd (vp_in (20 : Int32) 21) <|
    gd (vp_in x1 21) <|
    oLet (sA v28 129 0 (uA (v28 129 0) x1.toNatClampNeg (v28 129 0 (20 : Int32).toNatClampNeg))) fun AI30 =>
    (lpF (fun v => mX4_contract_b203 n v16.2.1 v16.2.2.1 FR v.2 AN x1 v16.1 v.1) n ((0 : Int32), AI30)).bind fun v38 =>
    (lpF (fun v => mX4_contract_b280 n v16.2.1 v16.2.2.1 FR v.2 AN x1 v16.1 v.1) n ((0 : Int32), v38)).bind fun v46 =>
    oLet (sA v16.2.1 1 0 (uA (v16.2.1 1 0) 6 ((v16.2.1 1 0 6) + (1 : Int32)))) fun FI47 =>
    some (v16.1, FI47, v16.2.2.1, v46)) (fun v16 => some ((-1 : Int32) - (v16.1 1 0 45), v16.1, v16.2.1, v16.2.2))))
theorem x_mX4_contract {G : OhG} {FI AI : OhI} {FL AL : OhL} {FR GR AR BR : OhQ} {AN : OhN} {C : OhC} {k : Nat × Nat} {Φ : OhP} {Ψ : OhX} (hM : ohShM FR AN) (n : Nat) (x1 : Int32) {r : Int32 × OhI × OhL × OhI} (hm : mX4_contract n FI FL FR AI AN x1 = some r) (hK : Φ (some (vI r.1)) (r.2.1, r.2.2.1, FR, GR, r.2.2.2, AL, AR, BR, AN, C)) : oX G 7 iX4_contract 0 [(0, vR (some (1, 0))), (1, vI x1)] [] (FI, FL, FR, GR, AI, AL, AR, BR, AN, C) k Φ Ψ := by
  unfold mX4_contract at hm
  refine oX_aload_n dX4_contract_0 rfl rfl ?_
  refine oX_iconst (v := (0 : Int32)) dX4_contract_1 (by decide) ?_
  obtain ⟨FI1, hFI1, hm⟩ := oLs hm
  refine oX_putI fX4_226 rfl (fun h9 => by cases h9) oDs1 dX4_contract_2 ⟨rfl, rfl⟩ hFI1 ?_
  refine oX_aload_n dX4_contract_5 rfl rfl ?_
  obtain ⟨r2, g2, hm⟩ := bd_s hm
  refine oX_cV_ (as := []) dX4_contract_6 rfl oDs1 rfl (by decide) rfl ok_X4_taken rfl rfl q2039 q2041 qs60 q136 q2042 (by decide) (Nat.le_of_ble_eq_true rfl) (t_X4_taken g2) ?_
  refine oX_aload_n dX4_contract_9 rfl rfl ?_
  refine oX_iload_n dX4_contract_10 rfl rfl ?_
  obtain ⟨r3, g3, hm⟩ := bd_s hm
  refine oX_cV (as := [vI x1]) dX4_contract_11 rfl oDs1 rfl (by decide) rfl ok_X4_isSinger rfl rfl q2063 q2065 qs62 q136 q2066 (by decide) (Nat.le_of_ble_eq_true rfl) (t_X4_isSinger x1 g3) ?_
  refine oX_if_ne (tgt := 21) dX4_contract_14 (by decide) (fun c4 => ?_) (fun c4 => ?_)
  · have hm := ifp c4 hm
    refine oX_sipush (v := (-1000 : Int32)) dX4_contract_17 (by decide) ?_
    obtain rfl := Option.some.inj hm
    exact oX_iret dX4_contract_20 rfl rfl hK
  · have hm := ifn c4 hm
    refine oX_aload_n dX4_contract_21 rfl rfl ?_
    refine oX_iconst (v := (0 : Int32)) dX4_contract_22 (by decide) ?_
    obtain ⟨FI5, hFI5, hm⟩ := oLs hm
    refine oX_putI fX4_295 rfl (fun h9 => by cases h9) oDs1 dX4_contract_23 ⟨rfl, rfl⟩ hFI5 ?_
    refine oX_aload_n dX4_contract_26 rfl rfl ?_
    refine oX_iconst (v := (0 : Int32)) dX4_contract_27 (by decide) ?_
    obtain ⟨FI6, hFI6, hm⟩ := oLs hm
    refine oX_putI fX4_313 rfl (fun h9 => by cases h9) oDs1 dX4_contract_28 ⟨rfl, rfl⟩ hFI6 ?_
    refine oX_aload_n dX4_contract_31 rfl rfl ?_
    refine oX_iconst (v := (0 : Int32)) dX4_contract_32 (by decide) ?_
    obtain ⟨FI7, hFI7, hm⟩ := oLs hm
    refine oX_putI fX4_316 rfl (fun h9 => by cases h9) oDs1 dX4_contract_33 ⟨rfl, rfl⟩ hFI7 ?_
    refine oX_aload_n dX4_contract_36 rfl rfl ?_
    refine oX_iconst (v := (0 : Int32)) dX4_contract_37 (by decide) ?_
    obtain ⟨FI8, hFI8, hm⟩ := oLs hm
    refine oX_putI fX4_319 rfl (fun h9 => by cases h9) oDs1 dX4_contract_38 ⟨rfl, rfl⟩ hFI8 ?_
    refine oX_aload_n dX4_contract_41 rfl rfl ?_
    refine oX_bipush (v := (20 : Int32)) dX4_contract_42 (by decide) ?_
    obtain ⟨r9, g9, hm⟩ := bd_s hm
    refine oX_cV_ (as := [vI (20 : Int32)]) dX4_contract_44 rfl oDs1 rfl (by decide) rfl ok_X4_plain rfl rfl q2047 q2049 qs61 q136 q2050 (by decide) (Nat.le_of_ble_eq_true rfl) (t_X4_plain hM (20 : Int32) g9) ?_
    refine oX_iconst (v := (0 : Int32)) dX4_contract_47 (by decide) ?_
    refine oX_istore_n (ls' := [(2, vI (0 : Int32)), (0, vR (some (1, 0))), (1, vI x1)]) dX4_contract_48 rfl (by decide) rfl ?_
    refine oX_aload_n dX4_contract_49 rfl rfl ?_
    obtain ⟨r10, g10, hm⟩ := bd_s hm
    refine oX_cV_ (as := []) dX4_contract_50 rfl oDs1 rfl (by decide) rfl ok_X4_next_2 rfl rfl q2067 q2069 qs63 q136 q2070 (by decide) (Nat.le_of_ble_eq_true rfl) (t_X4_next_2 hM n g10) ?_
    obtain ⟨b16, g16, hm⟩ := bd_s hm
    refine oX_sub [1, 2, 0] rfl (l_mX4_contract_b53 hM n x1 n (0 : Int32) r10.1 r10.2 r9 _ g16 (fun v16 e16 => ?_) (fun v16 e16 => ?_))
    · subst e16
      have hm := el1 hm
      refine oX_iconst (v := (0 : Int32)) dX4_contract_89 (by decide) ?_
      refine oX_istore_n (ls' := [(3, vI (0 : Int32)), (0, vR (some (1, 0))), (1, vI x1), (2, vI v16.1)]) dX4_contract_90 rfl (by decide) rfl ?_
      obtain ⟨v20, g20, hm⟩ := bd_s hm
      refine oX_sub [1, 2, 3, 0] rfl (l_mX4_contract_b91 hM n x1 v16.1 n (0 : Int32) v16.2.2.2 _ g20 ?_)
      refine oX_aload_n dX4_contract_121 rfl rfl ?_
      refine oX_getF fX4_67 rfl oDs1 dX4_contract_122 (ohF126 hM) ?_
      refine oX_iload_n dX4_contract_125 rfl rfl ?_
      refine oX_aload_n dX4_contract_126 rfl rfl ?_
      refine oX_getF fX4_67 rfl oDs1 dX4_contract_127 (ohF126 hM) ?_
      refine oX_bipush (v := (20 : Int32)) dX4_contract_130 (by decide) ?_
      obtain ⟨g21, hm⟩ := gd_s hm
      refine oX_iald oDs126 (oIn (ohN126 hM) g21) dX4_contract_132 ?_
      obtain ⟨g22, hm⟩ := gd_s hm
      obtain ⟨AI22, hAI22, hm⟩ := oLs hm
      refine oX_iast oDs126 (oIn (ohN126 hM) g22) dX4_contract_133 hAI22 ?_
      refine oX_iconst (v := (0 : Int32)) dX4_contract_134 (by decide) ?_
      refine oX_istore_n (ls' := [(3, vI (0 : Int32)), (0, vR (some (1, 0))), (1, vI x1), (2, vI v16.1)]) dX4_contract_135 rfl (by decide) rfl ?_
      obtain ⟨v28, g28, hm⟩ := bd_s hm
      refine oX_sub [1, 2, 3, 0] rfl (l_mX4_contract_b136 hM n x1 v16.1 n (0 : Int32) AI22 _ g28 ?_)
      refine oX_aload_n dX4_contract_188 rfl rfl ?_
      refine oX_getF fX4_76 rfl oDs1 dX4_contract_189 (ohF129 hM) ?_
      refine oX_iload_n dX4_contract_192 rfl rfl ?_
      refine oX_aload_n dX4_contract_193 rfl rfl ?_
      refine oX_getF fX4_76 rfl oDs1 dX4_contract_194 (ohF129 hM) ?_
      refine oX_bipush (v := (20 : Int32)) dX4_contract_197 (by decide) ?_
      obtain ⟨g29, hm⟩ := gd_s hm
      refine oX_iald oDs129 (oIn (ohN129 hM) g29) dX4_contract_199 ?_
      obtain ⟨g30, hm⟩ := gd_s hm
      obtain ⟨AI30, hAI30, hm⟩ := oLs hm
      refine oX_iast oDs129 (oIn (ohN129 hM) g30) dX4_contract_200 hAI30 ?_
      refine oX_iconst (v := (0 : Int32)) dX4_contract_201 (by decide) ?_
      refine oX_istore_n (ls' := [(3, vI (0 : Int32)), (0, vR (some (1, 0))), (1, vI x1), (2, vI v16.1)]) dX4_contract_202 rfl (by decide) rfl ?_
      obtain ⟨v38, g38, hm⟩ := bd_s hm
      refine oX_sub [1, 2, 3, 0] rfl (l_mX4_contract_b203 hM n x1 v16.1 n (0 : Int32) AI30 _ g38 ?_)
      refine oX_iconst (v := (0 : Int32)) dX4_contract_278 (by decide) ?_
      refine oX_istore_n (ls' := [(3, vI (0 : Int32)), (0, vR (some (1, 0))), (1, vI x1), (2, vI v16.1)]) dX4_contract_279 rfl (by decide) rfl ?_
      obtain ⟨v46, g46, hm⟩ := bd_s hm
      refine oX_sub [1, 2, 3, 0] rfl (l_mX4_contract_b280 hM n x1 v16.1 n (0 : Int32) v38 _ g46 ?_)
      refine oX_aload_n dX4_contract_357 rfl rfl ?_
      refine oX_dup dX4_contract_358 trivial ?_
      refine oX_getI fX4_249 rfl oDs1 dX4_contract_359 ?_
      refine oX_iconst (v := (1 : Int32)) dX4_contract_362 (by decide) ?_
      refine oX_iadd dX4_contract_363 ?_
      obtain ⟨FI47, hFI47, hm⟩ := oLs hm
      refine oX_putI fX4_249 rfl (fun h9 => by cases h9) oDs1 dX4_contract_364 ⟨rfl, rfl⟩ hFI47 ?_
      refine oX_iload_n dX4_contract_367 rfl rfl ?_
      obtain rfl := Option.some.inj hm
      exact oX_iret dX4_contract_368 rfl rfl hK
    · subst e16
      have hm := el2 hm
      refine oX_iconst (v := (-1 : Int32)) dX4_contract_76 (by decide) ?_
      refine oX_aload_n dX4_contract_77 rfl rfl ?_
      refine oX_getI fX4_298 rfl oDs1 dX4_contract_78 ?_
      refine oX_isub dX4_contract_81 ?_
      obtain rfl := Option.some.inj hm
      exact oX_iret dX4_contract_82 rfl rfl hK
theorem t_X4_contract {G : OhG} {FI AI : OhI} {FL AL : OhL} {FR GR AR BR : OhQ} {AN : OhN} {C : OhC} (hM : ohShM FR AN) (n : Nat) (x1 : Int32) {o : Int32 × OhI × OhL × OhI} (hm : mX4_contract n FI FL FR AI AN x1 = some o) : oT G 7 iX4_contract [vR (some (1, 0)), vI x1] (FI, FL, FR, GR, AI, AL, AR, BR, AN, C) (0, 0) (fun v h => v = (some (vI o.1)) ∧ h = (o.2.1, o.2.2.1, FR, GR, o.2.2.2, AL, AR, BR, AN, C)) ohNo :=
  oT_of (by decide) rfl (Nat.le_of_ble_eq_true rfl) (x_mX4_contract hM n x1 hm ⟨rfl, rfl⟩)
abbrev iX4_fault : OhM := (yX4_fault, cX4_fault, 1, (some .int), [])
theorem ok_X4_fault : oOk iX4_fault 0 := ⟨by decide, by decide, by decide +kernel⟩

noncomputable def mX4_fault (FI : OhI) : Option (Int32 × OhI) :=
  oLet (sA FI 1 0 (uA (FI 1 0) 0 (0 : Int32))) fun FI1 =>
  some (FI1 1 0 44, FI1)
theorem x_mX4_fault {G : OhG} {FI AI : OhI} {FL AL : OhL} {FR GR AR BR : OhQ} {AN : OhN} {C : OhC} {k : Nat × Nat} {Φ : OhP} {Ψ : OhX} {r : Int32 × OhI} (hm : mX4_fault FI = some r) (hK : Φ (some (vI r.1)) (r.2, FL, FR, GR, AI, AL, AR, BR, AN, C)) : oX G 1 iX4_fault 0 [(0, vR (some (1, 0)))] [] (FI, FL, FR, GR, AI, AL, AR, BR, AN, C) k Φ Ψ := by
  unfold mX4_fault at hm
  refine oX_aload_n dX4_fault_0 rfl rfl ?_
  refine oX_iconst (v := (0 : Int32)) dX4_fault_1 (by decide) ?_
  obtain ⟨FI1, hFI1, hm⟩ := oLs hm
  refine oX_putI fX4_226 rfl (fun h9 => by cases h9) oDs1 dX4_fault_2 ⟨rfl, rfl⟩ hFI1 ?_
  refine oX_aload_n dX4_fault_5 rfl rfl ?_
  refine oX_getI fX4_295 rfl oDs1 dX4_fault_6 ?_
  obtain rfl := Option.some.inj hm
  exact oX_iret dX4_fault_9 rfl rfl hK
theorem t_X4_fault {G : OhG} {FI AI : OhI} {FL AL : OhL} {FR GR AR BR : OhQ} {AN : OhN} {C : OhC} {o : Int32 × OhI} (hm : mX4_fault FI = some o) : oT G 1 iX4_fault [vR (some (1, 0))] (FI, FL, FR, GR, AI, AL, AR, BR, AN, C) (0, 0) (fun v h => v = (some (vI o.1)) ∧ h = (o.2, FL, FR, GR, AI, AL, AR, BR, AN, C)) ohNo :=
  oT_of (by decide) rfl (Nat.le_of_ble_eq_true rfl) (x_mX4_fault hm ⟨rfl, rfl⟩)
abbrev iX4_isRole : OhM := (yX4_isRole, cX4_isRole, 3, (some .boolean), [])
theorem ok_X4_isRole : oOk iX4_isRole 2 := ⟨by decide, by decide, by decide +kernel⟩

noncomputable def mX4_isRole (FI : OhI) (FR : OhQ) (AI : OhI) (AN : OhN) (x1 : Int32) (x2 : Int32) : Option (Int32) :=
  (mX4_isIn x1 (0 : Int32) ((FI 1 0 21) - (1 : Int32))).bind fun r1 =>
  (if r1 = 0 then
  some (0 : Int32)
else
  gd (vp_in x1 9) <|
    (mX4_isIn x2 (0 : Int32) ((AI 111 0 x1.toNatClampNeg) - (1 : Int32))).bind fun r4 =>
    (if r4 = 0 then
    some (0 : Int32)
  else
    some (1 : Int32)))
theorem x_mX4_isRole {G : OhG} {FI AI : OhI} {FL AL : OhL} {FR GR AR BR : OhQ} {AN : OhN} {C : OhC} {k : Nat × Nat} {Φ : OhP} {Ψ : OhX} (hM : ohShM FR AN) (x1 : Int32) (x2 : Int32) {r : Int32} (hm : mX4_isRole FI FR AI AN x1 x2 = some r) (hK : Φ (some (vI r)) (FI, FL, FR, GR, AI, AL, AR, BR, AN, C)) : oX G 2 iX4_isRole 0 [(0, vR (some (1, 0))), (1, vI x1), (2, vI x2)] [] (FI, FL, FR, GR, AI, AL, AR, BR, AN, C) k Φ Ψ := by
  unfold mX4_isRole at hm
  refine oX_iload_n dX4_isRole_0 rfl rfl ?_
  refine oX_iconst (v := (0 : Int32)) dX4_isRole_1 (by decide) ?_
  refine oX_aload_n dX4_isRole_2 rfl rfl ?_
  refine oX_getI fX4_255 rfl oDs1 dX4_isRole_3 ?_
  refine oX_iconst (v := (1 : Int32)) dX4_isRole_6 (by decide) ?_
  refine oX_isub dX4_isRole_7 ?_
  obtain ⟨r1, g1, hm⟩ := bd_s hm
  refine oX_cS (as := [vI x1, vI (0 : Int32), vI ((FI 1 0 21) - (1 : Int32))]) dX4_isRole_8 rfl ok_X4_isIn rfl rfl q2032 q2033 q136 q2034 (by decide) (Nat.le_of_ble_eq_true rfl) (t_X4_isIn x1 (0 : Int32) ((FI 1 0 21) - (1 : Int32)) g1) ?_
  refine oX_if_eq (tgt := 34) dX4_isRole_11 (by decide) (fun c2 => ?_) (fun c2 => ?_)
  · have hm := ifp c2 hm
    refine oX_iconst (v := (0 : Int32)) dX4_isRole_34 (by decide) ?_
    obtain rfl := Option.some.inj hm
    exact oX_iret dX4_isRole_35 rfl (by decide) hK
  · have hm := ifn c2 hm
    refine oX_iload_n dX4_isRole_14 rfl rfl ?_
    refine oX_iconst (v := (0 : Int32)) dX4_isRole_15 (by decide) ?_
    refine oX_aload_n dX4_isRole_16 rfl rfl ?_
    refine oX_getF fX4_26 rfl oDs1 dX4_isRole_17 (ohF111 hM) ?_
    refine oX_iload_n dX4_isRole_20 rfl rfl ?_
    obtain ⟨g3, hm⟩ := gd_s hm
    refine oX_iald oDs111 (oIn (ohN111 hM) g3) dX4_isRole_21 ?_
    refine oX_iconst (v := (1 : Int32)) dX4_isRole_22 (by decide) ?_
    refine oX_isub dX4_isRole_23 ?_
    obtain ⟨r4, g4, hm⟩ := bd_s hm
    refine oX_cS (as := [vI x2, vI (0 : Int32), vI ((AI 111 0 x1.toNatClampNeg) - (1 : Int32))]) dX4_isRole_24 rfl ok_X4_isIn rfl rfl q2032 q2033 q136 q2034 (by decide) (Nat.le_of_ble_eq_true rfl) (t_X4_isIn x2 (0 : Int32) ((AI 111 0 x1.toNatClampNeg) - (1 : Int32)) g4) ?_
    refine oX_if_eq (tgt := 34) dX4_isRole_27 (by decide) (fun c5 => ?_) (fun c5 => ?_)
    · have hm := ifp c5 hm
      refine oX_iconst (v := (0 : Int32)) dX4_isRole_34 (by decide) ?_
      obtain rfl := Option.some.inj hm
      exact oX_iret dX4_isRole_35 rfl (by decide) hK
    · have hm := ifn c5 hm
      refine oX_iconst (v := (1 : Int32)) dX4_isRole_30 (by decide) ?_
      refine oX_goto (tgt := 35) dX4_isRole_31 (by decide) ?_
      obtain rfl := Option.some.inj hm
      exact oX_iret dX4_isRole_35 rfl (by decide) hK
theorem t_X4_isRole {G : OhG} {FI AI : OhI} {FL AL : OhL} {FR GR AR BR : OhQ} {AN : OhN} {C : OhC} (hM : ohShM FR AN) (x1 : Int32) (x2 : Int32) {o : Int32} (hm : mX4_isRole FI FR AI AN x1 x2 = some o) : oT G 2 iX4_isRole [vR (some (1, 0)), vI x1, vI x2] (FI, FL, FR, GR, AI, AL, AR, BR, AN, C) (0, 0) (fun v h => v = (some (vI o)) ∧ h = (FI, FL, FR, GR, AI, AL, AR, BR, AN, C)) ohNo :=
  oT_of (by decide) rfl (Nat.le_of_ble_eq_true rfl) (x_mX4_isRole hM x1 x2 hm ⟨rfl, rfl⟩)
abbrev iX4_learn : OhM := (yX4_learn, cX4_learn, 5, (some .boolean), [])
theorem ok_X4_learn : oOk iX4_learn 4 := ⟨by decide, by decide, by decide +kernel⟩

noncomputable def mX4_learn (FI : OhI) (FR : OhQ) (AI : OhI) (AN : OhN) (x1 : Int32) (x2 : Int32) (x3 : Int32) (x4 : Int32) : Option (Int32 × OhI × OhI) :=
  oLet (sA FI 1 0 (uA (FI 1 0) 0 (0 : Int32))) fun FI1 =>
  (mX4_isSinger FI1 x1).bind fun r2 =>
  (if r2 = 0 then
  some ((0 : Int32), FI1, AI)
else
  (mX4_isRole FI1 FR AI AN x2 x3).bind fun r4 =>
    (if r4 = 0 then
    some ((0 : Int32), FI1, AI)
  else
    (mX4_isIn x4 (1 : Int32) (99 : Int32)).bind fun r6 =>
      (if r6 = 0 then
      some ((0 : Int32), FI1, AI)
    else
      (if (FI1 1 0 67) = (200 : Int32) then
        some ((0 : Int32), FI1, AI)
      else
        gd (vp_in (FI1 1 0 67) 200) <|
          oLet (sA AI 148 0 (uA (AI 148 0) (FI1 1 0 67).toNatClampNeg x1)) fun AI9 =>
          gd (vp_in (FI1 1 0 67) 200) <|
          oLet (sA AI9 149 0 (uA (AI9 149 0) (FI1 1 0 67).toNatClampNeg (((8 : Int32) * x2) + x3))) fun AI10 =>
          gd (vp_in (FI1 1 0 67) 200) <|
          oLet (sA AI10 150 0 (uA (AI10 150 0) (FI1 1 0 67).toNatClampNeg x4)) fun AI11 =>
          gd (vp_in (FI1 1 0 67) 200) <|
          oLet (sA AI11 151 0 (uA (AI11 151 0) (FI1 1 0 67).toNatClampNeg (FI1 1 0 5))) fun AI12 =>
          oLet (sA FI1 1 0 (uA (FI1 1 0) 67 ((FI1 1 0 67) + (1 : Int32)))) fun FI13 =>
          oLet (sA FI13 1 0 (uA (FI13 1 0) 6 ((FI13 1 0 6) + (1 : Int32)))) fun FI14 =>
          some ((1 : Int32), FI14, AI12)))))
theorem x_mX4_learn {G : OhG} {FI AI : OhI} {FL AL : OhL} {FR GR AR BR : OhQ} {AN : OhN} {C : OhC} {k : Nat × Nat} {Φ : OhP} {Ψ : OhX} (hM : ohShM FR AN) (x1 : Int32) (x2 : Int32) (x3 : Int32) (x4 : Int32) {r : Int32 × OhI × OhI} (hm : mX4_learn FI FR AI AN x1 x2 x3 x4 = some r) (hK : Φ (some (vI r.1)) (r.2.1, FL, FR, GR, r.2.2, AL, AR, BR, AN, C)) : oX G 3 iX4_learn 0 [(0, vR (some (1, 0))), (1, vI x1), (2, vI x2), (3, vI x3), (4, vI x4)] [] (FI, FL, FR, GR, AI, AL, AR, BR, AN, C) k Φ Ψ := by
  unfold mX4_learn at hm
  refine oX_aload_n dX4_learn_0 rfl rfl ?_
  refine oX_iconst (v := (0 : Int32)) dX4_learn_1 (by decide) ?_
  obtain ⟨FI1, hFI1, hm⟩ := oLs hm
  refine oX_putI fX4_226 rfl (fun h9 => by cases h9) oDs1 dX4_learn_2 ⟨rfl, rfl⟩ hFI1 ?_
  refine oX_aload_n dX4_learn_5 rfl rfl ?_
  refine oX_iload_n dX4_learn_6 rfl rfl ?_
  obtain ⟨r2, g2, hm⟩ := bd_s hm
  refine oX_cV (as := [vI x1]) dX4_learn_7 rfl oDs1 rfl (by decide) rfl ok_X4_isSinger rfl rfl q2063 q2065 qs62 q136 q2066 (by decide) (Nat.le_of_ble_eq_true rfl) (t_X4_isSinger x1 g2) ?_
  refine oX_if_eq (tgt := 43) dX4_learn_10 (by decide) (fun c3 => ?_) (fun c3 => ?_)
  · have hm := ifp c3 hm
    refine oX_iconst (v := (0 : Int32)) dX4_learn_43 (by decide) ?_
    obtain rfl := Option.some.inj hm
    exact oX_iret dX4_learn_44 rfl (by decide) hK
  · have hm := ifn c3 hm
    refine oX_aload_n dX4_learn_13 rfl rfl ?_
    refine oX_iload_n dX4_learn_14 rfl rfl ?_
    refine oX_iload_n dX4_learn_15 rfl rfl ?_
    obtain ⟨r4, g4, hm⟩ := bd_s hm
    refine oX_cV (as := [vI x2, vI x3]) dX4_learn_16 rfl oDs1 rfl (by decide) rfl ok_X4_isRole rfl rfl q2173 q2175 qs80 q136 q2176 (by decide) (Nat.le_of_ble_eq_true rfl) (t_X4_isRole hM x2 x3 g4) ?_
    refine oX_if_eq (tgt := 43) dX4_learn_19 (by decide) (fun c5 => ?_) (fun c5 => ?_)
    · have hm := ifp c5 hm
      refine oX_iconst (v := (0 : Int32)) dX4_learn_43 (by decide) ?_
      obtain rfl := Option.some.inj hm
      exact oX_iret dX4_learn_44 rfl (by decide) hK
    · have hm := ifn c5 hm
      refine oX_iload dX4_learn_22 rfl ?_
      refine oX_iconst (v := (1 : Int32)) dX4_learn_24 (by decide) ?_
      refine oX_bipush (v := (99 : Int32)) dX4_learn_25 (by decide) ?_
      obtain ⟨r6, g6, hm⟩ := bd_s hm
      refine oX_cS (as := [vI x4, vI (1 : Int32), vI (99 : Int32)]) dX4_learn_27 rfl ok_X4_isIn rfl rfl q2032 q2033 q136 q2034 (by decide) (Nat.le_of_ble_eq_true rfl) (t_X4_isIn x4 (1 : Int32) (99 : Int32) g6) ?_
      refine oX_if_eq (tgt := 43) dX4_learn_30 (by decide) (fun c7 => ?_) (fun c7 => ?_)
      · have hm := ifp c7 hm
        refine oX_iconst (v := (0 : Int32)) dX4_learn_43 (by decide) ?_
        obtain rfl := Option.some.inj hm
        exact oX_iret dX4_learn_44 rfl (by decide) hK
      · have hm := ifn c7 hm
        refine oX_aload_n dX4_learn_33 rfl rfl ?_
        refine oX_getI fX4_417 rfl oDs1 dX4_learn_34 ?_
        refine oX_sipush (v := (200 : Int32)) dX4_learn_37 (by decide) ?_
        refine oX_icmp_ne (tgt := 45) dX4_learn_40 (by decide) (fun c8 => ?_) (fun c8 => ?_)
        · have hm := ifp c8 hm
          refine oX_iconst (v := (0 : Int32)) dX4_learn_43 (by decide) ?_
          obtain rfl := Option.some.inj hm
          exact oX_iret dX4_learn_44 rfl (by decide) hK
        · have hm := ifn c8 hm
          refine oX_aload_n dX4_learn_45 rfl rfl ?_
          refine oX_getF fX4_100 rfl oDs1 dX4_learn_46 (ohF148 hM) ?_
          refine oX_aload_n dX4_learn_49 rfl rfl ?_
          refine oX_getI fX4_417 rfl oDs1 dX4_learn_50 ?_
          refine oX_iload_n dX4_learn_53 rfl rfl ?_
          obtain ⟨g9, hm⟩ := gd_s hm
          obtain ⟨AI9, hAI9, hm⟩ := oLs hm
          refine oX_iast oDs148 (oIn (ohN148 hM) g9) dX4_learn_54 hAI9 ?_
          refine oX_aload_n dX4_learn_55 rfl rfl ?_
          refine oX_getF fX4_103 rfl oDs1 dX4_learn_56 (ohF149 hM) ?_
          refine oX_aload_n dX4_learn_59 rfl rfl ?_
          refine oX_getI fX4_417 rfl oDs1 dX4_learn_60 ?_
          refine oX_bipush (v := (8 : Int32)) dX4_learn_63 (by decide) ?_
          refine oX_iload_n dX4_learn_65 rfl rfl ?_
          refine oX_imul dX4_learn_66 ?_
          refine oX_iload_n dX4_learn_67 rfl rfl ?_
          refine oX_iadd dX4_learn_68 ?_
          obtain ⟨g10, hm⟩ := gd_s hm
          obtain ⟨AI10, hAI10, hm⟩ := oLs hm
          refine oX_iast oDs149 (oIn (ohN149 hM) g10) dX4_learn_69 hAI10 ?_
          refine oX_aload_n dX4_learn_70 rfl rfl ?_
          refine oX_getF fX4_106 rfl oDs1 dX4_learn_71 (ohF150 hM) ?_
          refine oX_aload_n dX4_learn_74 rfl rfl ?_
          refine oX_getI fX4_417 rfl oDs1 dX4_learn_75 ?_
          refine oX_iload dX4_learn_78 rfl ?_
          obtain ⟨g11, hm⟩ := gd_s hm
          obtain ⟨AI11, hAI11, hm⟩ := oLs hm
          refine oX_iast oDs150 (oIn (ohN150 hM) g11) dX4_learn_80 hAI11 ?_
          refine oX_aload_n dX4_learn_81 rfl rfl ?_
          refine oX_getF fX4_109 rfl oDs1 dX4_learn_82 (ohF151 hM) ?_
          refine oX_aload_n dX4_learn_85 rfl rfl ?_
          refine oX_getI fX4_417 rfl oDs1 dX4_learn_86 ?_
          refine oX_aload_n dX4_learn_89 rfl rfl ?_
          refine oX_getI fX4_246 rfl oDs1 dX4_learn_90 ?_
          obtain ⟨g12, hm⟩ := gd_s hm
          obtain ⟨AI12, hAI12, hm⟩ := oLs hm
          refine oX_iast oDs151 (oIn (ohN151 hM) g12) dX4_learn_93 hAI12 ?_
          refine oX_aload_n dX4_learn_94 rfl rfl ?_
          refine oX_dup dX4_learn_95 trivial ?_
          refine oX_getI fX4_417 rfl oDs1 dX4_learn_96 ?_
          refine oX_iconst (v := (1 : Int32)) dX4_learn_99 (by decide) ?_
          refine oX_iadd dX4_learn_100 ?_
          obtain ⟨FI13, hFI13, hm⟩ := oLs hm
          refine oX_putI fX4_417 rfl (fun h9 => by cases h9) oDs1 dX4_learn_101 ⟨rfl, rfl⟩ hFI13 ?_
          refine oX_aload_n dX4_learn_104 rfl rfl ?_
          refine oX_dup dX4_learn_105 trivial ?_
          refine oX_getI fX4_249 rfl oDs1 dX4_learn_106 ?_
          refine oX_iconst (v := (1 : Int32)) dX4_learn_109 (by decide) ?_
          refine oX_iadd dX4_learn_110 ?_
          obtain ⟨FI14, hFI14, hm⟩ := oLs hm
          refine oX_putI fX4_249 rfl (fun h9 => by cases h9) oDs1 dX4_learn_111 ⟨rfl, rfl⟩ hFI14 ?_
          refine oX_iconst (v := (1 : Int32)) dX4_learn_114 (by decide) ?_
          obtain rfl := Option.some.inj hm
          exact oX_iret dX4_learn_115 rfl (by decide) hK
theorem t_X4_learn {G : OhG} {FI AI : OhI} {FL AL : OhL} {FR GR AR BR : OhQ} {AN : OhN} {C : OhC} (hM : ohShM FR AN) (x1 : Int32) (x2 : Int32) (x3 : Int32) (x4 : Int32) {o : Int32 × OhI × OhI} (hm : mX4_learn FI FR AI AN x1 x2 x3 x4 = some o) : oT G 3 iX4_learn [vR (some (1, 0)), vI x1, vI x2, vI x3, vI x4] (FI, FL, FR, GR, AI, AL, AR, BR, AN, C) (0, 0) (fun v h => v = (some (vI o.1)) ∧ h = (o.2.1, FL, FR, GR, o.2.2, AL, AR, BR, AN, C)) ohNo :=
  oT_of (by decide) rfl (Nat.le_of_ble_eq_true rfl) (x_mX4_learn hM x1 x2 x3 x4 hm ⟨rfl, rfl⟩)
abbrev iX4_lengthOf : OhM := (yX4_lengthOf, cX4_lengthOf, 3, (some .int), [])
theorem ok_X4_lengthOf : oOk iX4_lengthOf 2 := ⟨by decide, by decide, by decide +kernel⟩

noncomputable def mX4_lengthOf (FR : OhQ) (AI : OhI) (AN : OhN) (x1 : Int32) (x2 : Int32) : Option (Int32) :=
  (if x1 = 0 then
  some (2 : Int32)
else
  (if x1 = (1 : Int32) then
    some (3 : Int32)
  else
    gd (vp_in x2 9) <|
      some (AI 107 0 x2.toNatClampNeg)))
theorem x_mX4_lengthOf {G : OhG} {FI AI : OhI} {FL AL : OhL} {FR GR AR BR : OhQ} {AN : OhN} {C : OhC} {k : Nat × Nat} {Φ : OhP} {Ψ : OhX} (hM : ohShM FR AN) (x1 : Int32) (x2 : Int32) {r : Int32} (hm : mX4_lengthOf FR AI AN x1 x2 = some r) (hK : Φ (some (vI r)) (FI, FL, FR, GR, AI, AL, AR, BR, AN, C)) : oX G 1 iX4_lengthOf 0 [(0, vR (some (1, 0))), (1, vI x1), (2, vI x2)] [] (FI, FL, FR, GR, AI, AL, AR, BR, AN, C) k Φ Ψ := by
  unfold mX4_lengthOf at hm
  refine oX_iload_n dX4_lengthOf_0 rfl rfl ?_
  refine oX_if_ne (tgt := 8) dX4_lengthOf_1 (by decide) (fun c1 => ?_) (fun c1 => ?_)
  · have hm := ifp c1 hm
    refine oX_iconst (v := (2 : Int32)) dX4_lengthOf_4 (by decide) ?_
    refine oX_goto (tgt := 23) dX4_lengthOf_5 (by decide) ?_
    obtain rfl := Option.some.inj hm
    exact oX_iret dX4_lengthOf_23 rfl rfl hK
  · have hm := ifn c1 hm
    refine oX_iload_n dX4_lengthOf_8 rfl rfl ?_
    refine oX_iconst (v := (1 : Int32)) dX4_lengthOf_9 (by decide) ?_
    refine oX_icmp_ne (tgt := 17) dX4_lengthOf_10 (by decide) (fun c2 => ?_) (fun c2 => ?_)
    · have hm := ifp c2 hm
      refine oX_iconst (v := (3 : Int32)) dX4_lengthOf_13 (by decide) ?_
      refine oX_goto (tgt := 23) dX4_lengthOf_14 (by decide) ?_
      obtain rfl := Option.some.inj hm
      exact oX_iret dX4_lengthOf_23 rfl rfl hK
    · have hm := ifn c2 hm
      refine oX_aload_n dX4_lengthOf_17 rfl rfl ?_
      refine oX_getF fX4_13 rfl oDs1 dX4_lengthOf_18 (ohF107 hM) ?_
      refine oX_iload_n dX4_lengthOf_21 rfl rfl ?_
      obtain ⟨g3, hm⟩ := gd_s hm
      refine oX_iald oDs107 (oIn (ohN107 hM) g3) dX4_lengthOf_22 ?_
      obtain rfl := Option.some.inj hm
      exact oX_iret dX4_lengthOf_23 rfl rfl hK
theorem t_X4_lengthOf {G : OhG} {FI AI : OhI} {FL AL : OhL} {FR GR AR BR : OhQ} {AN : OhN} {C : OhC} (hM : ohShM FR AN) (x1 : Int32) (x2 : Int32) {o : Int32} (hm : mX4_lengthOf FR AI AN x1 x2 = some o) : oT G 1 iX4_lengthOf [vR (some (1, 0)), vI x1, vI x2] (FI, FL, FR, GR, AI, AL, AR, BR, AN, C) (0, 0) (fun v h => v = (some (vI o)) ∧ h = (FI, FL, FR, GR, AI, AL, AR, BR, AN, C)) ohNo :=
  oT_of (by decide) rfl (Nat.le_of_ble_eq_true rfl) (x_mX4_lengthOf hM x1 x2 hm ⟨rfl, rfl⟩)
abbrev iX4_place : OhM := (yX4_place, cX4_place, 7, none, [])
theorem ok_X4_place : oOk iX4_place 6 := ⟨by decide, by decide, by decide +kernel⟩

noncomputable def mX4_place (FR : OhQ) (AI : OhI) (AN : OhN) (x1 : Int32) (x2 : Int32) (x3 : Int32) (x4 : Int32) (x5 : Int32) (x6 : Int32) : Option (OhI) :=
  gd (vp_in x1 66) <|
  oLet (sA AI 160 0 (uA (AI 160 0) x1.toNatClampNeg x2)) fun AI1 =>
  gd (vp_in x1 66) <|
  oLet (sA AI1 161 0 (uA (AI1 161 0) x1.toNatClampNeg (((24 : Int32) * x2) + x3))) fun AI2 =>
  gd (vp_in x1 66) <|
  (mX4_lengthOf FR AI2 AN x4 x5).bind fun r4 =>
  gd (vp_in x1 66) <|
  oLet (sA AI2 162 0 (uA (AI2 162 0) x1.toNatClampNeg ((AI2 161 0 x1.toNatClampNeg) + r4))) fun AI5 =>
  gd (vp_in x1 66) <|
  oLet (sA AI5 163 0 (uA (AI5 163 0) x1.toNatClampNeg x4)) fun AI6 =>
  gd (vp_in x1 66) <|
  oLet (sA AI6 164 0 (uA (AI6 164 0) x1.toNatClampNeg x5)) fun AI7 =>
  gd (vp_in x1 66) <|
  oLet (sA AI7 165 0 (uA (AI7 165 0) x1.toNatClampNeg x6)) fun AI8 =>
  some AI8
theorem x_mX4_place {G : OhG} {FI AI : OhI} {FL AL : OhL} {FR GR AR BR : OhQ} {AN : OhN} {C : OhC} {k : Nat × Nat} {Φ : OhP} {Ψ : OhX} (hM : ohShM FR AN) (x1 : Int32) (x2 : Int32) (x3 : Int32) (x4 : Int32) (x5 : Int32) (x6 : Int32) {r : OhI} (hm : mX4_place FR AI AN x1 x2 x3 x4 x5 x6 = some r) (hK : Φ none (FI, FL, FR, GR, r, AL, AR, BR, AN, C)) : oX G 2 iX4_place 0 [(0, vR (some (1, 0))), (1, vI x1), (2, vI x2), (3, vI x3), (4, vI x4), (5, vI x5), (6, vI x6)] [] (FI, FL, FR, GR, AI, AL, AR, BR, AN, C) k Φ Ψ := by
  unfold mX4_place at hm
  refine oX_aload_n dX4_place_0 rfl rfl ?_
  refine oX_getF fX4_136 rfl oDs1 dX4_place_1 (ohF160 hM) ?_
  refine oX_iload_n dX4_place_4 rfl rfl ?_
  refine oX_iload_n dX4_place_5 rfl rfl ?_
  obtain ⟨g1, hm⟩ := gd_s hm
  obtain ⟨AI1, hAI1, hm⟩ := oLs hm
  refine oX_iast oDs160 (oIn (ohN160 hM) g1) dX4_place_6 hAI1 ?_
  refine oX_aload_n dX4_place_7 rfl rfl ?_
  refine oX_getF fX4_139 rfl oDs1 dX4_place_8 (ohF161 hM) ?_
  refine oX_iload_n dX4_place_11 rfl rfl ?_
  refine oX_bipush (v := (24 : Int32)) dX4_place_12 (by decide) ?_
  refine oX_iload_n dX4_place_14 rfl rfl ?_
  refine oX_imul dX4_place_15 ?_
  refine oX_iload_n dX4_place_16 rfl rfl ?_
  refine oX_iadd dX4_place_17 ?_
  obtain ⟨g2, hm⟩ := gd_s hm
  obtain ⟨AI2, hAI2, hm⟩ := oLs hm
  refine oX_iast oDs161 (oIn (ohN161 hM) g2) dX4_place_18 hAI2 ?_
  refine oX_aload_n dX4_place_19 rfl rfl ?_
  refine oX_getF fX4_142 rfl oDs1 dX4_place_20 (ohF162 hM) ?_
  refine oX_iload_n dX4_place_23 rfl rfl ?_
  refine oX_aload_n dX4_place_24 rfl rfl ?_
  refine oX_getF fX4_139 rfl oDs1 dX4_place_25 (ohF161 hM) ?_
  refine oX_iload_n dX4_place_28 rfl rfl ?_
  obtain ⟨g3, hm⟩ := gd_s hm
  refine oX_iald oDs161 (oIn (ohN161 hM) g3) dX4_place_29 ?_
  refine oX_aload_n dX4_place_30 rfl rfl ?_
  refine oX_iload dX4_place_31 rfl ?_
  refine oX_iload dX4_place_33 rfl ?_
  obtain ⟨r4, g4, hm⟩ := bd_s hm
  refine oX_cV (as := [vI x4, vI x5]) dX4_place_35 rfl oDs1 rfl (by decide) rfl ok_X4_lengthOf rfl rfl q2181 q2183 qs81 q136 q2184 (by decide) (Nat.le_of_ble_eq_true rfl) (t_X4_lengthOf hM x4 x5 g4) ?_
  refine oX_iadd dX4_place_38 ?_
  obtain ⟨g5, hm⟩ := gd_s hm
  obtain ⟨AI5, hAI5, hm⟩ := oLs hm
  refine oX_iast oDs162 (oIn (ohN162 hM) g5) dX4_place_39 hAI5 ?_
  refine oX_aload_n dX4_place_40 rfl rfl ?_
  refine oX_getF fX4_145 rfl oDs1 dX4_place_41 (ohF163 hM) ?_
  refine oX_iload_n dX4_place_44 rfl rfl ?_
  refine oX_iload dX4_place_45 rfl ?_
  obtain ⟨g6, hm⟩ := gd_s hm
  obtain ⟨AI6, hAI6, hm⟩ := oLs hm
  refine oX_iast oDs163 (oIn (ohN163 hM) g6) dX4_place_47 hAI6 ?_
  refine oX_aload_n dX4_place_48 rfl rfl ?_
  refine oX_getF fX4_148 rfl oDs1 dX4_place_49 (ohF164 hM) ?_
  refine oX_iload_n dX4_place_52 rfl rfl ?_
  refine oX_iload dX4_place_53 rfl ?_
  obtain ⟨g7, hm⟩ := gd_s hm
  obtain ⟨AI7, hAI7, hm⟩ := oLs hm
  refine oX_iast oDs164 (oIn (ohN164 hM) g7) dX4_place_55 hAI7 ?_
  refine oX_aload_n dX4_place_56 rfl rfl ?_
  refine oX_getF fX4_151 rfl oDs1 dX4_place_57 (ohF165 hM) ?_
  refine oX_iload_n dX4_place_60 rfl rfl ?_
  refine oX_iload dX4_place_61 rfl ?_
  obtain ⟨g8, hm⟩ := gd_s hm
  obtain ⟨AI8, hAI8, hm⟩ := oLs hm
  refine oX_iast oDs165 (oIn (ohN165 hM) g8) dX4_place_63 hAI8 ?_
  obtain rfl := Option.some.inj hm
  exact oX_vret dX4_place_64 rfl hK
theorem t_X4_place {G : OhG} {FI AI : OhI} {FL AL : OhL} {FR GR AR BR : OhQ} {AN : OhN} {C : OhC} (hM : ohShM FR AN) (x1 : Int32) (x2 : Int32) (x3 : Int32) (x4 : Int32) (x5 : Int32) (x6 : Int32) {o : OhI} (hm : mX4_place FR AI AN x1 x2 x3 x4 x5 x6 = some o) : oT G 2 iX4_place [vR (some (1, 0)), vI x1, vI x2, vI x3, vI x4, vI x5, vI x6] (FI, FL, FR, GR, AI, AL, AR, BR, AN, C) (0, 0) (fun v h => v = none ∧ h = (FI, FL, FR, GR, o, AL, AR, BR, AN, C)) ohNo :=
  oT_of (by decide) rfl (Nat.le_of_ble_eq_true rfl) (x_mX4_place hM x1 x2 x3 x4 x5 x6 hm ⟨rfl, rfl⟩)
abbrev iX4_call : OhM := (yX4_call, cX4_call, 6, (some .int), [])
theorem ok_X4_call : oOk iX4_call 5 := ⟨by decide, by decide, by decide +kernel⟩

noncomputable def mX4_call (FI : OhI) (FR : OhQ) (AI : OhI) (AN : OhN) (x1 : Int32) (x2 : Int32) (x3 : Int32) (x4 : Int32) (x5 : Int32) : Option (Int32 × OhI × OhI) :=
  oLet (sA FI 1 0 (uA (FI 1 0) 0 (0 : Int32))) fun FI1 =>
  (if (FI1 1 0 70) = (60 : Int32) then
  some ((-1 : Int32), FI1, AI)
else
  (mX4_isIn x1 (FI1 1 0 5) (29 : Int32)).bind fun r3 =>
    (if r3 = 0 then
    some ((-1 : Int32), FI1, AI)
  else
    (mX4_isIn x2 (0 : Int32) (23 : Int32)).bind fun r5 =>
      (if r5 = 0 then
      some ((-1 : Int32), FI1, AI)
    else
      (mX4_isIn x3 (0 : Int32) (3 : Int32)).bind fun r7 =>
        (if r7 = 0 then
        some ((-1 : Int32), FI1, AI)
      else
        (mX4_isIn x4 (0 : Int32) ((FI1 1 0 21) - (1 : Int32))).bind fun r9 =>
          (if r9 = 0 then
          some ((-1 : Int32), FI1, AI)
        else
          (mX4_isIn x5 (0 : Int32) (3 : Int32)).bind fun r11 =>
            (if r11 = 0 then
            some ((-1 : Int32), FI1, AI)
          else
            (mX4_lengthOf FR AI AN x3 x4).bind fun r13 =>
              (if (x2 + r13) ≤ (24 : Int32) then
              (mX4_place FR AI AN (FI1 1 0 70) x1 x2 x3 x4 x5).bind fun r15 =>
                oLet (sA FI1 1 0 (uA (FI1 1 0) 70 ((FI1 1 0 70) + (1 : Int32)))) fun FI16 =>
                oLet (sA FI16 1 0 (uA (FI16 1 0) 6 ((FI16 1 0 6) + (1 : Int32)))) fun FI17 =>
                some ((FI17 1 0 70) - (1 : Int32), FI17, r15)
            else
              some ((-1 : Int32), FI1, AI))))))))
theorem x_mX4_call {G : OhG} {FI AI : OhI} {FL AL : OhL} {FR GR AR BR : OhQ} {AN : OhN} {C : OhC} {k : Nat × Nat} {Φ : OhP} {Ψ : OhX} (hM : ohShM FR AN) (x1 : Int32) (x2 : Int32) (x3 : Int32) (x4 : Int32) (x5 : Int32) {r : Int32 × OhI × OhI} (hm : mX4_call FI FR AI AN x1 x2 x3 x4 x5 = some r) (hK : Φ (some (vI r.1)) (r.2.1, FL, FR, GR, r.2.2, AL, AR, BR, AN, C)) : oX G 3 iX4_call 0 [(0, vR (some (1, 0))), (1, vI x1), (2, vI x2), (3, vI x3), (4, vI x4), (5, vI x5)] [] (FI, FL, FR, GR, AI, AL, AR, BR, AN, C) k Φ Ψ := by
  unfold mX4_call at hm
  refine oX_aload_n dX4_call_0 rfl rfl ?_
  refine oX_iconst (v := (0 : Int32)) dX4_call_1 (by decide) ?_
  obtain ⟨FI1, hFI1, hm⟩ := oLs hm
  refine oX_putI fX4_226 rfl (fun h9 => by cases h9) oDs1 dX4_call_2 ⟨rfl, rfl⟩ hFI1 ?_
  refine oX_aload_n dX4_call_5 rfl rfl ?_
  refine oX_getI fX4_423 rfl oDs1 dX4_call_6 ?_
  refine oX_bipush (v := (60 : Int32)) dX4_call_9 (by decide) ?_
  refine oX_icmp_eq (tgt := 85) dX4_call_11 (by decide) (fun c2 => ?_) (fun c2 => ?_)
  · have hm := ifp c2 hm
    refine oX_iconst (v := (-1 : Int32)) dX4_call_85 (by decide) ?_
    obtain rfl := Option.some.inj hm
    exact oX_iret dX4_call_86 rfl rfl hK
  · have hm := ifn c2 hm
    refine oX_iload_n dX4_call_14 rfl rfl ?_
    refine oX_aload_n dX4_call_15 rfl rfl ?_
    refine oX_getI fX4_246 rfl oDs1 dX4_call_16 ?_
    refine oX_bipush (v := (29 : Int32)) dX4_call_19 (by decide) ?_
    obtain ⟨r3, g3, hm⟩ := bd_s hm
    refine oX_cS (as := [vI x1, vI (FI1 1 0 5), vI (29 : Int32)]) dX4_call_21 rfl ok_X4_isIn rfl rfl q2032 q2033 q136 q2034 (by decide) (Nat.le_of_ble_eq_true rfl) (t_X4_isIn x1 (FI1 1 0 5) (29 : Int32) g3) ?_
    refine oX_if_eq (tgt := 85) dX4_call_24 (by decide) (fun c4 => ?_) (fun c4 => ?_)
    · have hm := ifp c4 hm
      refine oX_iconst (v := (-1 : Int32)) dX4_call_85 (by decide) ?_
      obtain rfl := Option.some.inj hm
      exact oX_iret dX4_call_86 rfl rfl hK
    · have hm := ifn c4 hm
      refine oX_iload_n dX4_call_27 rfl rfl ?_
      refine oX_iconst (v := (0 : Int32)) dX4_call_28 (by decide) ?_
      refine oX_bipush (v := (23 : Int32)) dX4_call_29 (by decide) ?_
      obtain ⟨r5, g5, hm⟩ := bd_s hm
      refine oX_cS (as := [vI x2, vI (0 : Int32), vI (23 : Int32)]) dX4_call_31 rfl ok_X4_isIn rfl rfl q2032 q2033 q136 q2034 (by decide) (Nat.le_of_ble_eq_true rfl) (t_X4_isIn x2 (0 : Int32) (23 : Int32) g5) ?_
      refine oX_if_eq (tgt := 85) dX4_call_34 (by decide) (fun c6 => ?_) (fun c6 => ?_)
      · have hm := ifp c6 hm
        refine oX_iconst (v := (-1 : Int32)) dX4_call_85 (by decide) ?_
        obtain rfl := Option.some.inj hm
        exact oX_iret dX4_call_86 rfl rfl hK
      · have hm := ifn c6 hm
        refine oX_iload_n dX4_call_37 rfl rfl ?_
        refine oX_iconst (v := (0 : Int32)) dX4_call_38 (by decide) ?_
        refine oX_iconst (v := (3 : Int32)) dX4_call_39 (by decide) ?_
        obtain ⟨r7, g7, hm⟩ := bd_s hm
        refine oX_cS (as := [vI x3, vI (0 : Int32), vI (3 : Int32)]) dX4_call_40 rfl ok_X4_isIn rfl rfl q2032 q2033 q136 q2034 (by decide) (Nat.le_of_ble_eq_true rfl) (t_X4_isIn x3 (0 : Int32) (3 : Int32) g7) ?_
        refine oX_if_eq (tgt := 85) dX4_call_43 (by decide) (fun c8 => ?_) (fun c8 => ?_)
        · have hm := ifp c8 hm
          refine oX_iconst (v := (-1 : Int32)) dX4_call_85 (by decide) ?_
          obtain rfl := Option.some.inj hm
          exact oX_iret dX4_call_86 rfl rfl hK
        · have hm := ifn c8 hm
          refine oX_iload dX4_call_46 rfl ?_
          refine oX_iconst (v := (0 : Int32)) dX4_call_48 (by decide) ?_
          refine oX_aload_n dX4_call_49 rfl rfl ?_
          refine oX_getI fX4_255 rfl oDs1 dX4_call_50 ?_
          refine oX_iconst (v := (1 : Int32)) dX4_call_53 (by decide) ?_
          refine oX_isub dX4_call_54 ?_
          obtain ⟨r9, g9, hm⟩ := bd_s hm
          refine oX_cS (as := [vI x4, vI (0 : Int32), vI ((FI1 1 0 21) - (1 : Int32))]) dX4_call_55 rfl ok_X4_isIn rfl rfl q2032 q2033 q136 q2034 (by decide) (Nat.le_of_ble_eq_true rfl) (t_X4_isIn x4 (0 : Int32) ((FI1 1 0 21) - (1 : Int32)) g9) ?_
          refine oX_if_eq (tgt := 85) dX4_call_58 (by decide) (fun c10 => ?_) (fun c10 => ?_)
          · have hm := ifp c10 hm
            refine oX_iconst (v := (-1 : Int32)) dX4_call_85 (by decide) ?_
            obtain rfl := Option.some.inj hm
            exact oX_iret dX4_call_86 rfl rfl hK
          · have hm := ifn c10 hm
            refine oX_iload dX4_call_61 rfl ?_
            refine oX_iconst (v := (0 : Int32)) dX4_call_63 (by decide) ?_
            refine oX_iconst (v := (3 : Int32)) dX4_call_64 (by decide) ?_
            obtain ⟨r11, g11, hm⟩ := bd_s hm
            refine oX_cS (as := [vI x5, vI (0 : Int32), vI (3 : Int32)]) dX4_call_65 rfl ok_X4_isIn rfl rfl q2032 q2033 q136 q2034 (by decide) (Nat.le_of_ble_eq_true rfl) (t_X4_isIn x5 (0 : Int32) (3 : Int32) g11) ?_
            refine oX_if_eq (tgt := 85) dX4_call_68 (by decide) (fun c12 => ?_) (fun c12 => ?_)
            · have hm := ifp c12 hm
              refine oX_iconst (v := (-1 : Int32)) dX4_call_85 (by decide) ?_
              obtain rfl := Option.some.inj hm
              exact oX_iret dX4_call_86 rfl rfl hK
            · have hm := ifn c12 hm
              refine oX_iload_n dX4_call_71 rfl rfl ?_
              refine oX_aload_n dX4_call_72 rfl rfl ?_
              refine oX_iload_n dX4_call_73 rfl rfl ?_
              refine oX_iload dX4_call_74 rfl ?_
              obtain ⟨r13, g13, hm⟩ := bd_s hm
              refine oX_cV (as := [vI x3, vI x4]) dX4_call_76 rfl oDs1 rfl (by decide) rfl ok_X4_lengthOf rfl rfl q2181 q2183 qs81 q136 q2184 (by decide) (Nat.le_of_ble_eq_true rfl) (t_X4_lengthOf hM x3 x4 g13) ?_
              refine oX_iadd dX4_call_79 ?_
              refine oX_bipush (v := (24 : Int32)) dX4_call_80 (by decide) ?_
              refine oX_icmp_le (tgt := 87) dX4_call_82 (by decide) (fun c14 => ?_) (fun c14 => ?_)
              · have hm := ifp c14 hm
                refine oX_aload_n dX4_call_87 rfl rfl ?_
                refine oX_aload_n dX4_call_88 rfl rfl ?_
                refine oX_getI fX4_423 rfl oDs1 dX4_call_89 ?_
                refine oX_iload_n dX4_call_92 rfl rfl ?_
                refine oX_iload_n dX4_call_93 rfl rfl ?_
                refine oX_iload_n dX4_call_94 rfl rfl ?_
                refine oX_iload dX4_call_95 rfl ?_
                refine oX_iload dX4_call_97 rfl ?_
                obtain ⟨r15, g15, hm⟩ := bd_s hm
                refine oX_cV_ (as := [vI (FI1 1 0 70), vI x1, vI x2, vI x3, vI x4, vI x5]) dX4_call_99 rfl oDs1 rfl (by decide) rfl ok_X4_place rfl rfl q2185 q2187 qs82 q136 q2188 (by decide) (Nat.le_of_ble_eq_true rfl) (t_X4_place hM (FI1 1 0 70) x1 x2 x3 x4 x5 g15) ?_
                refine oX_aload_n dX4_call_102 rfl rfl ?_
                refine oX_dup dX4_call_103 trivial ?_
                refine oX_getI fX4_423 rfl oDs1 dX4_call_104 ?_
                refine oX_iconst (v := (1 : Int32)) dX4_call_107 (by decide) ?_
                refine oX_iadd dX4_call_108 ?_
                obtain ⟨FI16, hFI16, hm⟩ := oLs hm
                refine oX_putI fX4_423 rfl (fun h9 => by cases h9) oDs1 dX4_call_109 ⟨rfl, rfl⟩ hFI16 ?_
                refine oX_aload_n dX4_call_112 rfl rfl ?_
                refine oX_dup dX4_call_113 trivial ?_
                refine oX_getI fX4_249 rfl oDs1 dX4_call_114 ?_
                refine oX_iconst (v := (1 : Int32)) dX4_call_117 (by decide) ?_
                refine oX_iadd dX4_call_118 ?_
                obtain ⟨FI17, hFI17, hm⟩ := oLs hm
                refine oX_putI fX4_249 rfl (fun h9 => by cases h9) oDs1 dX4_call_119 ⟨rfl, rfl⟩ hFI17 ?_
                refine oX_aload_n dX4_call_122 rfl rfl ?_
                refine oX_getI fX4_423 rfl oDs1 dX4_call_123 ?_
                refine oX_iconst (v := (1 : Int32)) dX4_call_126 (by decide) ?_
                refine oX_isub dX4_call_127 ?_
                obtain rfl := Option.some.inj hm
                exact oX_iret dX4_call_128 rfl rfl hK
              · have hm := ifn c14 hm
                refine oX_iconst (v := (-1 : Int32)) dX4_call_85 (by decide) ?_
                obtain rfl := Option.some.inj hm
                exact oX_iret dX4_call_86 rfl rfl hK
theorem t_X4_call {G : OhG} {FI AI : OhI} {FL AL : OhL} {FR GR AR BR : OhQ} {AN : OhN} {C : OhC} (hM : ohShM FR AN) (x1 : Int32) (x2 : Int32) (x3 : Int32) (x4 : Int32) (x5 : Int32) {o : Int32 × OhI × OhI} (hm : mX4_call FI FR AI AN x1 x2 x3 x4 x5 = some o) : oT G 3 iX4_call [vR (some (1, 0)), vI x1, vI x2, vI x3, vI x4, vI x5] (FI, FL, FR, GR, AI, AL, AR, BR, AN, C) (0, 0) (fun v h => v = (some (vI o.1)) ∧ h = (o.2.1, FL, FR, GR, o.2.2, AL, AR, BR, AN, C)) ohNo :=
  oT_of (by decide) rfl (Nat.le_of_ble_eq_true rfl) (x_mX4_call hM x1 x2 x3 x4 x5 hm ⟨rfl, rfl⟩)
abbrev iX4_isCallRole : OhM := (yX4_isCallRole, cX4_isCallRole, 3, (some .boolean), [])
theorem ok_X4_isCallRole : oOk iX4_isCallRole 2 := ⟨by decide, by decide, by decide +kernel⟩

noncomputable def mX4_isCallRole (FI : OhI) (FR : OhQ) (AI : OhI) (AN : OhN) (x1 : Int32) (x2 : Int32) : Option (Int32) :=
  (mX4_isIn x1 (0 : Int32) ((FI 1 0 70) - (1 : Int32))).bind fun r1 =>
  (if r1 = 0 then
  some (0 : Int32)
else
  gd (vp_in x1 66) <|
    (mX4_isRole FI FR AI AN (AI 164 0 x1.toNatClampNeg) x2).bind fun r4 =>
    (if r4 = 0 then
    some (0 : Int32)
  else
    some (1 : Int32)))
theorem x_mX4_isCallRole {G : OhG} {FI AI : OhI} {FL AL : OhL} {FR GR AR BR : OhQ} {AN : OhN} {C : OhC} {k : Nat × Nat} {Φ : OhP} {Ψ : OhX} (hM : ohShM FR AN) (x1 : Int32) (x2 : Int32) {r : Int32} (hm : mX4_isCallRole FI FR AI AN x1 x2 = some r) (hK : Φ (some (vI r)) (FI, FL, FR, GR, AI, AL, AR, BR, AN, C)) : oX G 3 iX4_isCallRole 0 [(0, vR (some (1, 0))), (1, vI x1), (2, vI x2)] [] (FI, FL, FR, GR, AI, AL, AR, BR, AN, C) k Φ Ψ := by
  unfold mX4_isCallRole at hm
  refine oX_iload_n dX4_isCallRole_0 rfl rfl ?_
  refine oX_iconst (v := (0 : Int32)) dX4_isCallRole_1 (by decide) ?_
  refine oX_aload_n dX4_isCallRole_2 rfl rfl ?_
  refine oX_getI fX4_423 rfl oDs1 dX4_isCallRole_3 ?_
  refine oX_iconst (v := (1 : Int32)) dX4_isCallRole_6 (by decide) ?_
  refine oX_isub dX4_isCallRole_7 ?_
  obtain ⟨r1, g1, hm⟩ := bd_s hm
  refine oX_cS (as := [vI x1, vI (0 : Int32), vI ((FI 1 0 70) - (1 : Int32))]) dX4_isCallRole_8 rfl ok_X4_isIn rfl rfl q2032 q2033 q136 q2034 (by decide) (Nat.le_of_ble_eq_true rfl) (t_X4_isIn x1 (0 : Int32) ((FI 1 0 70) - (1 : Int32)) g1) ?_
  refine oX_if_eq (tgt := 32) dX4_isCallRole_11 (by decide) (fun c2 => ?_) (fun c2 => ?_)
  · have hm := ifp c2 hm
    refine oX_iconst (v := (0 : Int32)) dX4_isCallRole_32 (by decide) ?_
    obtain rfl := Option.some.inj hm
    exact oX_iret dX4_isCallRole_33 rfl (by decide) hK
  · have hm := ifn c2 hm
    refine oX_aload_n dX4_isCallRole_14 rfl rfl ?_
    refine oX_aload_n dX4_isCallRole_15 rfl rfl ?_
    refine oX_getF fX4_148 rfl oDs1 dX4_isCallRole_16 (ohF164 hM) ?_
    refine oX_iload_n dX4_isCallRole_19 rfl rfl ?_
    obtain ⟨g3, hm⟩ := gd_s hm
    refine oX_iald oDs164 (oIn (ohN164 hM) g3) dX4_isCallRole_20 ?_
    refine oX_iload_n dX4_isCallRole_21 rfl rfl ?_
    obtain ⟨r4, g4, hm⟩ := bd_s hm
    refine oX_cV (as := [vI (AI 164 0 x1.toNatClampNeg), vI x2]) dX4_isCallRole_22 rfl oDs1 rfl (by decide) rfl ok_X4_isRole rfl rfl q2173 q2175 qs80 q136 q2176 (by decide) (Nat.le_of_ble_eq_true rfl) (t_X4_isRole hM (AI 164 0 x1.toNatClampNeg) x2 g4) ?_
    refine oX_if_eq (tgt := 32) dX4_isCallRole_25 (by decide) (fun c5 => ?_) (fun c5 => ?_)
    · have hm := ifp c5 hm
      refine oX_iconst (v := (0 : Int32)) dX4_isCallRole_32 (by decide) ?_
      obtain rfl := Option.some.inj hm
      exact oX_iret dX4_isCallRole_33 rfl (by decide) hK
    · have hm := ifn c5 hm
      refine oX_iconst (v := (1 : Int32)) dX4_isCallRole_28 (by decide) ?_
      refine oX_goto (tgt := 33) dX4_isCallRole_29 (by decide) ?_
      obtain rfl := Option.some.inj hm
      exact oX_iret dX4_isCallRole_33 rfl (by decide) hK
theorem t_X4_isCallRole {G : OhG} {FI AI : OhI} {FL AL : OhL} {FR GR AR BR : OhQ} {AN : OhN} {C : OhC} (hM : ohShM FR AN) (x1 : Int32) (x2 : Int32) {o : Int32} (hm : mX4_isCallRole FI FR AI AN x1 x2 = some o) : oT G 3 iX4_isCallRole [vR (some (1, 0)), vI x1, vI x2] (FI, FL, FR, GR, AI, AL, AR, BR, AN, C) (0, 0) (fun v h => v = (some (vI o)) ∧ h = (FI, FL, FR, GR, AI, AL, AR, BR, AN, C)) ohNo :=
  oT_of (by decide) rfl (Nat.le_of_ble_eq_true rfl) (x_mX4_isCallRole hM x1 x2 hm ⟨rfl, rfl⟩)
abbrev iX4_tell : OhM := (yX4_tell, cX4_tell, 5, none, [])
theorem ok_X4_tell : oOk iX4_tell 4 := ⟨by decide, by decide, by decide +kernel⟩

noncomputable def mX4_tell (FI : OhI) (FR : OhQ) (AI : OhI) (AN : OhN) (x1 : Int32) (x2 : Int32) (x3 : Int32) (x4 : Int32) : Option (OhI × OhI) :=
  gd (vp_in (FI 1 0 69) 400) <|
  oLet (sA AI 156 0 (uA (AI 156 0) (FI 1 0 69).toNatClampNeg x1)) fun AI1 =>
  gd (vp_in (FI 1 0 69) 400) <|
  oLet (sA AI1 157 0 (uA (AI1 157 0) (FI 1 0 69).toNatClampNeg x2)) fun AI2 =>
  gd (vp_in (FI 1 0 69) 400) <|
  oLet (sA AI2 158 0 (uA (AI2 158 0) (FI 1 0 69).toNatClampNeg x3)) fun AI3 =>
  gd (vp_in (FI 1 0 69) 400) <|
  oLet (sA AI3 159 0 (uA (AI3 159 0) (FI 1 0 69).toNatClampNeg (FI 1 0 5))) fun AI4 =>
  gd (vp_in (FI 1 0 69) 400) <|
  oLet (sA AI4 166 0 (uA (AI4 166 0) (FI 1 0 69).toNatClampNeg (vp_nar .boolean x4))) fun AI5 =>
  oLet (sA FI 1 0 (uA (FI 1 0) 69 ((FI 1 0 69) + (1 : Int32)))) fun FI6 =>
  some (FI6, AI5)
theorem x_mX4_tell {G : OhG} {FI AI : OhI} {FL AL : OhL} {FR GR AR BR : OhQ} {AN : OhN} {C : OhC} {k : Nat × Nat} {Φ : OhP} {Ψ : OhX} (hM : ohShM FR AN) (x1 : Int32) (x2 : Int32) (x3 : Int32) (x4 : Int32) {r : OhI × OhI} (hm : mX4_tell FI FR AI AN x1 x2 x3 x4 = some r) (hK : Φ none (r.1, FL, FR, GR, r.2, AL, AR, BR, AN, C)) : oX G 1 iX4_tell 0 [(0, vR (some (1, 0))), (1, vI x1), (2, vI x2), (3, vI x3), (4, vI x4)] [] (FI, FL, FR, GR, AI, AL, AR, BR, AN, C) k Φ Ψ := by
  unfold mX4_tell at hm
  refine oX_aload_n dX4_tell_0 rfl rfl ?_
  refine oX_getF fX4_124 rfl oDs1 dX4_tell_1 (ohF156 hM) ?_
  refine oX_aload_n dX4_tell_4 rfl rfl ?_
  refine oX_getI fX4_430 rfl oDs1 dX4_tell_5 ?_
  refine oX_iload_n dX4_tell_8 rfl rfl ?_
  obtain ⟨g1, hm⟩ := gd_s hm
  obtain ⟨AI1, hAI1, hm⟩ := oLs hm
  refine oX_iast oDs156 (oIn (ohN156 hM) g1) dX4_tell_9 hAI1 ?_
  refine oX_aload_n dX4_tell_10 rfl rfl ?_
  refine oX_getF fX4_127 rfl oDs1 dX4_tell_11 (ohF157 hM) ?_
  refine oX_aload_n dX4_tell_14 rfl rfl ?_
  refine oX_getI fX4_430 rfl oDs1 dX4_tell_15 ?_
  refine oX_iload_n dX4_tell_18 rfl rfl ?_
  obtain ⟨g2, hm⟩ := gd_s hm
  obtain ⟨AI2, hAI2, hm⟩ := oLs hm
  refine oX_iast oDs157 (oIn (ohN157 hM) g2) dX4_tell_19 hAI2 ?_
  refine oX_aload_n dX4_tell_20 rfl rfl ?_
  refine oX_getF fX4_130 rfl oDs1 dX4_tell_21 (ohF158 hM) ?_
  refine oX_aload_n dX4_tell_24 rfl rfl ?_
  refine oX_getI fX4_430 rfl oDs1 dX4_tell_25 ?_
  refine oX_iload_n dX4_tell_28 rfl rfl ?_
  obtain ⟨g3, hm⟩ := gd_s hm
  obtain ⟨AI3, hAI3, hm⟩ := oLs hm
  refine oX_iast oDs158 (oIn (ohN158 hM) g3) dX4_tell_29 hAI3 ?_
  refine oX_aload_n dX4_tell_30 rfl rfl ?_
  refine oX_getF fX4_133 rfl oDs1 dX4_tell_31 (ohF159 hM) ?_
  refine oX_aload_n dX4_tell_34 rfl rfl ?_
  refine oX_getI fX4_430 rfl oDs1 dX4_tell_35 ?_
  refine oX_aload_n dX4_tell_38 rfl rfl ?_
  refine oX_getI fX4_246 rfl oDs1 dX4_tell_39 ?_
  obtain ⟨g4, hm⟩ := gd_s hm
  obtain ⟨AI4, hAI4, hm⟩ := oLs hm
  refine oX_iast oDs159 (oIn (ohN159 hM) g4) dX4_tell_42 hAI4 ?_
  refine oX_aload_n dX4_tell_43 rfl rfl ?_
  refine oX_getF fX4_154 rfl oDs1 dX4_tell_44 (ohF166 hM) ?_
  refine oX_aload_n dX4_tell_47 rfl rfl ?_
  refine oX_getI fX4_430 rfl oDs1 dX4_tell_48 ?_
  refine oX_iload dX4_tell_51 rfl ?_
  obtain ⟨g5, hm⟩ := gd_s hm
  obtain ⟨AI5, hAI5, hm⟩ := oLs hm
  refine oX_zast oDs166 (oIn (ohN166 hM) g5) dX4_tell_53 hAI5 ?_
  refine oX_aload_n dX4_tell_54 rfl rfl ?_
  refine oX_dup dX4_tell_55 trivial ?_
  refine oX_getI fX4_430 rfl oDs1 dX4_tell_56 ?_
  refine oX_iconst (v := (1 : Int32)) dX4_tell_59 (by decide) ?_
  refine oX_iadd dX4_tell_60 ?_
  obtain ⟨FI6, hFI6, hm⟩ := oLs hm
  refine oX_putI fX4_430 rfl (fun h9 => by cases h9) oDs1 dX4_tell_61 ⟨rfl, rfl⟩ hFI6 ?_
  obtain rfl := Option.some.inj hm
  exact oX_vret dX4_tell_64 rfl hK
theorem t_X4_tell {G : OhG} {FI AI : OhI} {FL AL : OhL} {FR GR AR BR : OhQ} {AN : OhN} {C : OhC} (hM : ohShM FR AN) (x1 : Int32) (x2 : Int32) (x3 : Int32) (x4 : Int32) {o : OhI × OhI} (hm : mX4_tell FI FR AI AN x1 x2 x3 x4 = some o) : oT G 1 iX4_tell [vR (some (1, 0)), vI x1, vI x2, vI x3, vI x4] (FI, FL, FR, GR, AI, AL, AR, BR, AN, C) (0, 0) (fun v h => v = none ∧ h = (o.1, FL, FR, GR, o.2, AL, AR, BR, AN, C)) ohNo :=
  oT_of (by decide) rfl (Nat.le_of_ble_eq_true rfl) (x_mX4_tell hM x1 x2 x3 x4 hm ⟨rfl, rfl⟩)
abbrev iX4_cast : OhM := (yX4_cast, cX4_cast, 5, (some .boolean), [])
theorem ok_X4_cast : oOk iX4_cast 4 := ⟨by decide, by decide, by decide +kernel⟩

noncomputable def mX4_cast_j27 (FI : OhI) (FR : OhQ) (AI : OhI) (AN : OhN) (x1 : Int32) (x2 : Int32) (x3 : Int32) (x4 : Int32) : Option (Int32 × OhI × OhI) :=
  gd (vp_in x1 66) <|
  (if (AI 160 0 x1.toNatClampNeg) < (FI 1 0 5) then
  some ((0 : Int32), FI, AI)
else
  (if (FI 1 0 69) = (400 : Int32) then
    some ((0 : Int32), FI, AI)
  else
    (mX4_tell FI FR AI AN x1 x2 x3 x4).bind fun r8 =>
      oLet (sA r8.1 1 0 (uA (r8.1 1 0) 6 ((r8.1 1 0 6) + (1 : Int32)))) fun FI9 =>
      some ((1 : Int32), FI9, r8.2)))
theorem x_mX4_cast_j27 {G : OhG} {FI AI : OhI} {FL AL : OhL} {FR GR AR BR : OhQ} {AN : OhN} {C : OhC} {k : Nat × Nat} {Φ : OhP} {Ψ : OhX} (hM : ohShM FR AN) (x1 : Int32) (x2 : Int32) (x3 : Int32) (x4 : Int32) {r : Int32 × OhI × OhI} (hm : mX4_cast_j27 FI FR AI AN x1 x2 x3 x4 = some r) (hK : Φ (some (vI r.1)) (r.2.1, FL, FR, GR, r.2.2, AL, AR, BR, AN, C)) : oX G 4 iX4_cast 27 [(0, vR (some (1, 0))), (1, vI x1), (2, vI x2), (3, vI x3), (4, vI x4)] [] (FI, FL, FR, GR, AI, AL, AR, BR, AN, C) k Φ Ψ := by
  unfold mX4_cast_j27 at hm
  refine oX_aload_n dX4_cast_27 rfl rfl ?_
  refine oX_getF fX4_136 rfl oDs1 dX4_cast_28 (ohF160 hM) ?_
  refine oX_iload_n dX4_cast_31 rfl rfl ?_
  obtain ⟨g5, hm⟩ := gd_s hm
  refine oX_iald oDs160 (oIn (ohN160 hM) g5) dX4_cast_32 ?_
  refine oX_aload_n dX4_cast_33 rfl rfl ?_
  refine oX_getI fX4_246 rfl oDs1 dX4_cast_34 ?_
  refine oX_icmp_lt (tgt := 50) dX4_cast_37 (by decide) (fun c6 => ?_) (fun c6 => ?_)
  · have hm := ifp c6 hm
    refine oX_iconst (v := (0 : Int32)) dX4_cast_50 (by decide) ?_
    obtain rfl := Option.some.inj hm
    exact oX_iret dX4_cast_51 rfl (by decide) hK
  · have hm := ifn c6 hm
    refine oX_aload_n dX4_cast_40 rfl rfl ?_
    refine oX_getI fX4_430 rfl oDs1 dX4_cast_41 ?_
    refine oX_sipush (v := (400 : Int32)) dX4_cast_44 (by decide) ?_
    refine oX_icmp_ne (tgt := 52) dX4_cast_47 (by decide) (fun c7 => ?_) (fun c7 => ?_)
    · have hm := ifp c7 hm
      refine oX_iconst (v := (0 : Int32)) dX4_cast_50 (by decide) ?_
      obtain rfl := Option.some.inj hm
      exact oX_iret dX4_cast_51 rfl (by decide) hK
    · have hm := ifn c7 hm
      refine oX_aload_n dX4_cast_52 rfl rfl ?_
      refine oX_iload_n dX4_cast_53 rfl rfl ?_
      refine oX_iload_n dX4_cast_54 rfl rfl ?_
      refine oX_iload_n dX4_cast_55 rfl rfl ?_
      refine oX_iload dX4_cast_56 rfl ?_
      obtain ⟨r8, g8, hm⟩ := bd_s hm
      refine oX_cV_ (as := [vI x1, vI x2, vI x3, vI x4]) dX4_cast_58 rfl oDs1 rfl (by decide) rfl ok_X4_tell rfl rfl q2197 q2199 qs84 q136 q2200 (by decide) (Nat.le_of_ble_eq_true rfl) (t_X4_tell hM x1 x2 x3 x4 g8) ?_
      refine oX_aload_n dX4_cast_61 rfl rfl ?_
      refine oX_dup dX4_cast_62 trivial ?_
      refine oX_getI fX4_249 rfl oDs1 dX4_cast_63 ?_
      refine oX_iconst (v := (1 : Int32)) dX4_cast_66 (by decide) ?_
      refine oX_iadd dX4_cast_67 ?_
      obtain ⟨FI9, hFI9, hm⟩ := oLs hm
      refine oX_putI fX4_249 rfl (fun h9 => by cases h9) oDs1 dX4_cast_68 ⟨rfl, rfl⟩ hFI9 ?_
      refine oX_iconst (v := (1 : Int32)) dX4_cast_71 (by decide) ?_
      obtain rfl := Option.some.inj hm
      exact oX_iret dX4_cast_72 rfl (by decide) hK
noncomputable def mX4_cast (FI : OhI) (FR : OhQ) (AI : OhI) (AN : OhN) (x1 : Int32) (x2 : Int32) (x3 : Int32) (x4 : Int32) : Option (Int32 × OhI × OhI) :=
  oLet (sA FI 1 0 (uA (FI 1 0) 0 (0 : Int32))) fun FI1 =>
  (mX4_isCallRole FI1 FR AI AN x1 x2).bind fun r2 =>
  (if r2 = 0 then
  some ((0 : Int32), FI1, AI)
else
  (if x3 = (-1 : Int32) then
    mX4_cast_j27 FI1 FR AI AN x1 x2 x3 x4
  else
    (mX4_isSinger FI1 x3).bind fun r10 =>
      (if r10 = 0 then
      some ((0 : Int32), FI1, AI)
    else
      mX4_cast_j27 FI1 FR AI AN x1 x2 x3 x4)))
theorem x_mX4_cast {G : OhG} {FI AI : OhI} {FL AL : OhL} {FR GR AR BR : OhQ} {AN : OhN} {C : OhC} {k : Nat × Nat} {Φ : OhP} {Ψ : OhX} (hM : ohShM FR AN) (x1 : Int32) (x2 : Int32) (x3 : Int32) (x4 : Int32) {r : Int32 × OhI × OhI} (hm : mX4_cast FI FR AI AN x1 x2 x3 x4 = some r) (hK : Φ (some (vI r.1)) (r.2.1, FL, FR, GR, r.2.2, AL, AR, BR, AN, C)) : oX G 4 iX4_cast 0 [(0, vR (some (1, 0))), (1, vI x1), (2, vI x2), (3, vI x3), (4, vI x4)] [] (FI, FL, FR, GR, AI, AL, AR, BR, AN, C) k Φ Ψ := by
  unfold mX4_cast at hm
  refine oX_aload_n dX4_cast_0 rfl rfl ?_
  refine oX_iconst (v := (0 : Int32)) dX4_cast_1 (by decide) ?_
  obtain ⟨FI1, hFI1, hm⟩ := oLs hm
  refine oX_putI fX4_226 rfl (fun h9 => by cases h9) oDs1 dX4_cast_2 ⟨rfl, rfl⟩ hFI1 ?_
  refine oX_aload_n dX4_cast_5 rfl rfl ?_
  refine oX_iload_n dX4_cast_6 rfl rfl ?_
  refine oX_iload_n dX4_cast_7 rfl rfl ?_
  obtain ⟨r2, g2, hm⟩ := bd_s hm
  refine oX_cV (as := [vI x1, vI x2]) dX4_cast_8 rfl oDs1 rfl (by decide) rfl ok_X4_isCallRole rfl rfl q2193 q2195 qs83 q136 q2196 (by decide) (Nat.le_of_ble_eq_true rfl) (t_X4_isCallRole hM x1 x2 g2) ?_
  refine oX_if_eq (tgt := 50) dX4_cast_11 (by decide) (fun c3 => ?_) (fun c3 => ?_)
  · have hm := ifp c3 hm
    refine oX_iconst (v := (0 : Int32)) dX4_cast_50 (by decide) ?_
    obtain rfl := Option.some.inj hm
    exact oX_iret dX4_cast_51 rfl (by decide) hK
  · have hm := ifn c3 hm
    refine oX_iload_n dX4_cast_14 rfl rfl ?_
    refine oX_iconst (v := (-1 : Int32)) dX4_cast_15 (by decide) ?_
    refine oX_icmp_eq (tgt := 27) dX4_cast_16 (by decide) (fun c4 => ?_) (fun c4 => ?_)
    · have hm := ifp c4 hm
      exact oX_sub [0, 1, 2, 3, 4] rfl (x_mX4_cast_j27 hM x1 x2 x3 x4 hm hK)
    · have hm := ifn c4 hm
      refine oX_aload_n dX4_cast_19 rfl rfl ?_
      refine oX_iload_n dX4_cast_20 rfl rfl ?_
      obtain ⟨r10, g10, hm⟩ := bd_s hm
      refine oX_cV (as := [vI x3]) dX4_cast_21 rfl oDs1 rfl (by decide) rfl ok_X4_isSinger rfl rfl q2063 q2065 qs62 q136 q2066 (by decide) (Nat.le_of_ble_eq_true rfl) (t_X4_isSinger x3 g10) ?_
      refine oX_if_eq (tgt := 50) dX4_cast_24 (by decide) (fun c11 => ?_) (fun c11 => ?_)
      · have hm := ifp c11 hm
        refine oX_iconst (v := (0 : Int32)) dX4_cast_50 (by decide) ?_
        obtain rfl := Option.some.inj hm
        exact oX_iret dX4_cast_51 rfl (by decide) hK
      · have hm := ifn c11 hm
        exact oX_sub [0, 1, 2, 3, 4] rfl (x_mX4_cast_j27 hM x1 x2 x3 x4 hm hK)
theorem t_X4_cast {G : OhG} {FI AI : OhI} {FL AL : OhL} {FR GR AR BR : OhQ} {AN : OhN} {C : OhC} (hM : ohShM FR AN) (x1 : Int32) (x2 : Int32) (x3 : Int32) (x4 : Int32) {o : Int32 × OhI × OhI} (hm : mX4_cast FI FR AI AN x1 x2 x3 x4 = some o) : oT G 4 iX4_cast [vR (some (1, 0)), vI x1, vI x2, vI x3, vI x4] (FI, FL, FR, GR, AI, AL, AR, BR, AN, C) (0, 0) (fun v h => v = (some (vI o.1)) ∧ h = (o.2.1, FL, FR, GR, o.2.2, AL, AR, BR, AN, C)) ohNo :=
  oT_of (by decide) rfl (Nat.le_of_ble_eq_true rfl) (x_mX4_cast hM x1 x2 x3 x4 hm ⟨rfl, rfl⟩)
abbrev iX4_ill : OhM := (yX4_ill, cX4_ill, 4, (some .boolean), [])
theorem ok_X4_ill : oOk iX4_ill 3 := ⟨by decide, by decide, by decide +kernel⟩

noncomputable def mX4_ill (FI : OhI) (FR : OhQ) (AI : OhI) (AN : OhN) (x1 : Int32) (x2 : Int32) (x3 : Int32) : Option (Int32 × OhI × OhI) :=
  oLet (sA FI 1 0 (uA (FI 1 0) 0 (0 : Int32))) fun FI1 =>
  (mX4_isSinger FI1 x1).bind fun r2 =>
  (if r2 = 0 then
  some ((0 : Int32), FI1, AI)
else
  (if x2 < 0 then
    some ((0 : Int32), FI1, AI)
  else
    (if x3 < x2 then
      some ((0 : Int32), FI1, AI)
    else
      (if (29 : Int32) < x3 then
        some ((0 : Int32), FI1, AI)
      else
        (if (FI1 1 0 68) = (60 : Int32) then
          some ((0 : Int32), FI1, AI)
        else
          gd (vp_in (FI1 1 0 68) 60) <|
            oLet (sA AI 152 0 (uA (AI 152 0) (FI1 1 0 68).toNatClampNeg x1)) fun AI8 =>
            gd (vp_in (FI1 1 0 68) 60) <|
            oLet (sA AI8 153 0 (uA (AI8 153 0) (FI1 1 0 68).toNatClampNeg x2)) fun AI9 =>
            gd (vp_in (FI1 1 0 68) 60) <|
            oLet (sA AI9 154 0 (uA (AI9 154 0) (FI1 1 0 68).toNatClampNeg x3)) fun AI10 =>
            gd (vp_in (FI1 1 0 68) 60) <|
            oLet (sA AI10 155 0 (uA (AI10 155 0) (FI1 1 0 68).toNatClampNeg (FI1 1 0 5))) fun AI11 =>
            oLet (sA FI1 1 0 (uA (FI1 1 0) 68 ((FI1 1 0 68) + (1 : Int32)))) fun FI12 =>
            oLet (sA FI12 1 0 (uA (FI12 1 0) 6 ((FI12 1 0 6) + (1 : Int32)))) fun FI13 =>
            some ((1 : Int32), FI13, AI11))))))
theorem x_mX4_ill {G : OhG} {FI AI : OhI} {FL AL : OhL} {FR GR AR BR : OhQ} {AN : OhN} {C : OhC} {k : Nat × Nat} {Φ : OhP} {Ψ : OhX} (hM : ohShM FR AN) (x1 : Int32) (x2 : Int32) (x3 : Int32) {r : Int32 × OhI × OhI} (hm : mX4_ill FI FR AI AN x1 x2 x3 = some r) (hK : Φ (some (vI r.1)) (r.2.1, FL, FR, GR, r.2.2, AL, AR, BR, AN, C)) : oX G 3 iX4_ill 0 [(0, vR (some (1, 0))), (1, vI x1), (2, vI x2), (3, vI x3)] [] (FI, FL, FR, GR, AI, AL, AR, BR, AN, C) k Φ Ψ := by
  unfold mX4_ill at hm
  refine oX_aload_n dX4_ill_0 rfl rfl ?_
  refine oX_iconst (v := (0 : Int32)) dX4_ill_1 (by decide) ?_
  obtain ⟨FI1, hFI1, hm⟩ := oLs hm
  refine oX_putI fX4_226 rfl (fun h9 => by cases h9) oDs1 dX4_ill_2 ⟨rfl, rfl⟩ hFI1 ?_
  refine oX_aload_n dX4_ill_5 rfl rfl ?_
  refine oX_iload_n dX4_ill_6 rfl rfl ?_
  obtain ⟨r2, g2, hm⟩ := bd_s hm
  refine oX_cV (as := [vI x1]) dX4_ill_7 rfl oDs1 rfl (by decide) rfl ok_X4_isSinger rfl rfl q2063 q2065 qs62 q136 q2066 (by decide) (Nat.le_of_ble_eq_true rfl) (t_X4_isSinger x1 g2) ?_
  refine oX_if_eq (tgt := 37) dX4_ill_10 (by decide) (fun c3 => ?_) (fun c3 => ?_)
  · have hm := ifp c3 hm
    refine oX_iconst (v := (0 : Int32)) dX4_ill_37 (by decide) ?_
    obtain rfl := Option.some.inj hm
    exact oX_iret dX4_ill_38 rfl (by decide) hK
  · have hm := ifn c3 hm
    refine oX_iload_n dX4_ill_13 rfl rfl ?_
    refine oX_if_lt (tgt := 37) dX4_ill_14 (by decide) (fun c4 => ?_) (fun c4 => ?_)
    · have hm := ifp c4 hm
      refine oX_iconst (v := (0 : Int32)) dX4_ill_37 (by decide) ?_
      obtain rfl := Option.some.inj hm
      exact oX_iret dX4_ill_38 rfl (by decide) hK
    · have hm := ifn c4 hm
      refine oX_iload_n dX4_ill_17 rfl rfl ?_
      refine oX_iload_n dX4_ill_18 rfl rfl ?_
      refine oX_icmp_lt (tgt := 37) dX4_ill_19 (by decide) (fun c5 => ?_) (fun c5 => ?_)
      · have hm := ifp c5 hm
        refine oX_iconst (v := (0 : Int32)) dX4_ill_37 (by decide) ?_
        obtain rfl := Option.some.inj hm
        exact oX_iret dX4_ill_38 rfl (by decide) hK
      · have hm := ifn c5 hm
        refine oX_iload_n dX4_ill_22 rfl rfl ?_
        refine oX_bipush (v := (29 : Int32)) dX4_ill_23 (by decide) ?_
        refine oX_icmp_gt (tgt := 37) dX4_ill_25 (by decide) (fun c6 => ?_) (fun c6 => ?_)
        · have hm := ifp c6 hm
          refine oX_iconst (v := (0 : Int32)) dX4_ill_37 (by decide) ?_
          obtain rfl := Option.some.inj hm
          exact oX_iret dX4_ill_38 rfl (by decide) hK
        · have hm := ifn c6 hm
          refine oX_aload_n dX4_ill_28 rfl rfl ?_
          refine oX_getI fX4_440 rfl oDs1 dX4_ill_29 ?_
          refine oX_bipush (v := (60 : Int32)) dX4_ill_32 (by decide) ?_
          refine oX_icmp_ne (tgt := 39) dX4_ill_34 (by decide) (fun c7 => ?_) (fun c7 => ?_)
          · have hm := ifp c7 hm
            refine oX_iconst (v := (0 : Int32)) dX4_ill_37 (by decide) ?_
            obtain rfl := Option.some.inj hm
            exact oX_iret dX4_ill_38 rfl (by decide) hK
          · have hm := ifn c7 hm
            refine oX_aload_n dX4_ill_39 rfl rfl ?_
            refine oX_getF fX4_112 rfl oDs1 dX4_ill_40 (ohF152 hM) ?_
            refine oX_aload_n dX4_ill_43 rfl rfl ?_
            refine oX_getI fX4_440 rfl oDs1 dX4_ill_44 ?_
            refine oX_iload_n dX4_ill_47 rfl rfl ?_
            obtain ⟨g8, hm⟩ := gd_s hm
            obtain ⟨AI8, hAI8, hm⟩ := oLs hm
            refine oX_iast oDs152 (oIn (ohN152 hM) g8) dX4_ill_48 hAI8 ?_
            refine oX_aload_n dX4_ill_49 rfl rfl ?_
            refine oX_getF fX4_115 rfl oDs1 dX4_ill_50 (ohF153 hM) ?_
            refine oX_aload_n dX4_ill_53 rfl rfl ?_
            refine oX_getI fX4_440 rfl oDs1 dX4_ill_54 ?_
            refine oX_iload_n dX4_ill_57 rfl rfl ?_
            obtain ⟨g9, hm⟩ := gd_s hm
            obtain ⟨AI9, hAI9, hm⟩ := oLs hm
            refine oX_iast oDs153 (oIn (ohN153 hM) g9) dX4_ill_58 hAI9 ?_
            refine oX_aload_n dX4_ill_59 rfl rfl ?_
            refine oX_getF fX4_118 rfl oDs1 dX4_ill_60 (ohF154 hM) ?_
            refine oX_aload_n dX4_ill_63 rfl rfl ?_
            refine oX_getI fX4_440 rfl oDs1 dX4_ill_64 ?_
            refine oX_iload_n dX4_ill_67 rfl rfl ?_
            obtain ⟨g10, hm⟩ := gd_s hm
            obtain ⟨AI10, hAI10, hm⟩ := oLs hm
            refine oX_iast oDs154 (oIn (ohN154 hM) g10) dX4_ill_68 hAI10 ?_
            refine oX_aload_n dX4_ill_69 rfl rfl ?_
            refine oX_getF fX4_121 rfl oDs1 dX4_ill_70 (ohF155 hM) ?_
            refine oX_aload_n dX4_ill_73 rfl rfl ?_
            refine oX_getI fX4_440 rfl oDs1 dX4_ill_74 ?_
            refine oX_aload_n dX4_ill_77 rfl rfl ?_
            refine oX_getI fX4_246 rfl oDs1 dX4_ill_78 ?_
            obtain ⟨g11, hm⟩ := gd_s hm
            obtain ⟨AI11, hAI11, hm⟩ := oLs hm
            refine oX_iast oDs155 (oIn (ohN155 hM) g11) dX4_ill_81 hAI11 ?_
            refine oX_aload_n dX4_ill_82 rfl rfl ?_
            refine oX_dup dX4_ill_83 trivial ?_
            refine oX_getI fX4_440 rfl oDs1 dX4_ill_84 ?_
            refine oX_iconst (v := (1 : Int32)) dX4_ill_87 (by decide) ?_
            refine oX_iadd dX4_ill_88 ?_
            obtain ⟨FI12, hFI12, hm⟩ := oLs hm
            refine oX_putI fX4_440 rfl (fun h9 => by cases h9) oDs1 dX4_ill_89 ⟨rfl, rfl⟩ hFI12 ?_
            refine oX_aload_n dX4_ill_92 rfl rfl ?_
            refine oX_dup dX4_ill_93 trivial ?_
            refine oX_getI fX4_249 rfl oDs1 dX4_ill_94 ?_
            refine oX_iconst (v := (1 : Int32)) dX4_ill_97 (by decide) ?_
            refine oX_iadd dX4_ill_98 ?_
            obtain ⟨FI13, hFI13, hm⟩ := oLs hm
            refine oX_putI fX4_249 rfl (fun h9 => by cases h9) oDs1 dX4_ill_99 ⟨rfl, rfl⟩ hFI13 ?_
            refine oX_iconst (v := (1 : Int32)) dX4_ill_102 (by decide) ?_
            obtain rfl := Option.some.inj hm
            exact oX_iret dX4_ill_103 rfl (by decide) hK
theorem t_X4_ill {G : OhG} {FI AI : OhI} {FL AL : OhL} {FR GR AR BR : OhQ} {AN : OhN} {C : OhC} (hM : ohShM FR AN) (x1 : Int32) (x2 : Int32) (x3 : Int32) {o : Int32 × OhI × OhI} (hm : mX4_ill FI FR AI AN x1 x2 x3 = some o) : oT G 3 iX4_ill [vR (some (1, 0)), vI x1, vI x2, vI x3] (FI, FL, FR, GR, AI, AL, AR, BR, AN, C) (0, 0) (fun v h => v = (some (vI o.1)) ∧ h = (o.2.1, FL, FR, GR, o.2.2, AL, AR, BR, AN, C)) ohNo :=
  oT_of (by decide) rfl (Nat.le_of_ble_eq_true rfl) (x_mX4_ill hM x1 x2 x3 hm ⟨rfl, rfl⟩)
abbrev iX4_enroll : OhM := (yX4_enroll, cX4_enroll, 3, none, [])
theorem ok_X4_enroll : oOk iX4_enroll 1 := ⟨by decide, by decide, by decide +kernel⟩

noncomputable def mX4_enroll_j72 (n : Nat) (FR : OhQ) (AI : OhI) (AN : OhN) (x1 : Int32) (x2 : Int32) (y1 : Int32) (y2 : Int32) : Option ((Int32 × OhI) ⊕ (OhI)) :=
  gd (vp_in y1 66) <|
  oLet (sA AI 177 0 (uA (AI 177 0) y1.toNatClampNeg y2)) fun AI9 =>
  some (.inl (x2 + (1 : Int32), AI9))
theorem x_mX4_enroll_j72 {G : OhG} {FI AI : OhI} {FL AL : OhL} {FR GR AR BR : OhQ} {AN : OhN} {C : OhC} {k : Nat × Nat} {Φ : OhP} {Ψ : OhX} (hM : ohShM FR AN) (n : Nat) (x1 : Int32) (x2 : Int32) (y1 : Int32) (y2 : Int32) {r : (Int32 × OhI) ⊕ (OhI)} (hm : mX4_enroll_j72 n FR AI AN x1 x2 y1 y2 = some r) (hk : ∀ v : Int32 × OhI, r = .inl v → oX G 1 iX4_enroll 9 [(0, vR (some (1, 0))), (1, vI x1), (2, vI v.1)] [] (FI, FL, FR, GR, v.2, AL, AR, BR, AN, C) k Φ Ψ) (hx1 : ∀ v : OhI, r = .inr v → oX G 1 iX4_enroll 79 [] [] (FI, FL, FR, GR, v, AL, AR, BR, AN, C) k Φ Ψ) : oX G 1 iX4_enroll 72 [(0, vR (some (1, 0))), (1, vI x1), (2, vI x2)] [vI y2, vI y1, vR (some (177, 0))] (FI, FL, FR, GR, AI, AL, AR, BR, AN, C) k Φ Ψ := by
  unfold mX4_enroll_j72 at hm
  obtain ⟨g9, hm⟩ := gd_s hm
  obtain ⟨AI9, hAI9, hm⟩ := oLs hm
  refine oX_iast oDs177 (oIn (ohN177 hM) g9) dX4_enroll_72 hAI9 ?_
  refine oX_iinc (v := x2 + (1 : Int32)) (ls' := [(2, vI (x2 + (1 : Int32))), (0, vR (some (1, 0))), (1, vI x1)]) dX4_enroll_73 rfl rfl (by decide) rfl ?_
  refine oX_goto (tgt := 9) dX4_enroll_76 (by decide) ?_
  exact oX_sub [1, 2, 0] rfl (hk (x2 + (1 : Int32), AI9) (Option.some.inj hm).symm)
noncomputable def mX4_enroll_b9 (n : Nat) (FR : OhQ) (AI : OhI) (AN : OhN) (x1 : Int32) (x2 : Int32) : Option ((Int32 × OhI) ⊕ (OhI)) :=
  gd (vp_in x1 66) <|
  gd (vp_in (AI 164 0 x1.toNatClampNeg) 9) <|
  (if (AI 111 0 (AI 164 0 x1.toNatClampNeg).toNatClampNeg) ≤ x2 then
  some (.inr AI)
else
  gd (vp_in (((8 : Int32) * x1) + x2) 528) <|
    (if 0 ≤ (AI 172 0 (((8 : Int32) * x1) + x2).toNatClampNeg) then
    gd (vp_in x1 66) <|
      gd (vp_in (((8 : Int32) * x1) + x2) 528) <|
      mX4_enroll_j72 n FR AI AN x1 x2 x1 ((AI 177 0 x1.toNatClampNeg) ||| ((1 : Int32) <<< ((AI 172 0 (((8 : Int32) * x1) + x2).toNatClampNeg) &&& 31)))
  else
    gd (vp_in x1 66) <|
      mX4_enroll_j72 n FR AI AN x1 x2 x1 (AI 177 0 x1.toNatClampNeg)))
theorem x_mX4_enroll_b9 {G : OhG} {FI AI : OhI} {FL AL : OhL} {FR GR AR BR : OhQ} {AN : OhN} {C : OhC} {k : Nat × Nat} {Φ : OhP} {Ψ : OhX} (hM : ohShM FR AN) (n : Nat) (x1 : Int32) (x2 : Int32) {r : (Int32 × OhI) ⊕ (OhI)} (hm : mX4_enroll_b9 n FR AI AN x1 x2 = some r) (hk : ∀ v : Int32 × OhI, r = .inl v → oX G 1 iX4_enroll 9 [(0, vR (some (1, 0))), (1, vI x1), (2, vI v.1)] [] (FI, FL, FR, GR, v.2, AL, AR, BR, AN, C) k Φ Ψ) (hx1 : ∀ v : OhI, r = .inr v → oX G 1 iX4_enroll 79 [] [] (FI, FL, FR, GR, v, AL, AR, BR, AN, C) k Φ Ψ) : oX G 1 iX4_enroll 9 [(0, vR (some (1, 0))), (1, vI x1), (2, vI x2)] [] (FI, FL, FR, GR, AI, AL, AR, BR, AN, C) k Φ Ψ := by
  unfold mX4_enroll_b9 at hm
  refine oX_iload_n dX4_enroll_9 rfl rfl ?_
  refine oX_aload_n dX4_enroll_10 rfl rfl ?_
  refine oX_getF fX4_26 rfl oDs1 dX4_enroll_11 (ohF111 hM) ?_
  refine oX_aload_n dX4_enroll_14 rfl rfl ?_
  refine oX_getF fX4_148 rfl oDs1 dX4_enroll_15 (ohF164 hM) ?_
  refine oX_iload_n dX4_enroll_18 rfl rfl ?_
  obtain ⟨g2, hm⟩ := gd_s hm
  refine oX_iald oDs164 (oIn (ohN164 hM) g2) dX4_enroll_19 ?_
  obtain ⟨g3, hm⟩ := gd_s hm
  refine oX_iald oDs111 (oIn (ohN111 hM) g3) dX4_enroll_20 ?_
  refine oX_icmp_ge (tgt := 79) dX4_enroll_21 (by decide) (fun c4 => ?_) (fun c4 => ?_)
  · have hm := ifp c4 hm
    exact oX_sub [] rfl (hx1 AI (Option.some.inj hm).symm)
  · have hm := ifn c4 hm
    refine oX_aload_n dX4_enroll_24 rfl rfl ?_
    refine oX_getF fX4_172 rfl oDs1 dX4_enroll_25 (ohF177 hM) ?_
    refine oX_iload_n dX4_enroll_28 rfl rfl ?_
    refine oX_aload_n dX4_enroll_29 rfl rfl ?_
    refine oX_getF fX4_157 rfl oDs1 dX4_enroll_30 (ohF172 hM) ?_
    refine oX_bipush (v := (8 : Int32)) dX4_enroll_33 (by decide) ?_
    refine oX_iload_n dX4_enroll_35 rfl rfl ?_
    refine oX_imul dX4_enroll_36 ?_
    refine oX_iload_n dX4_enroll_37 rfl rfl ?_
    refine oX_iadd dX4_enroll_38 ?_
    obtain ⟨g5, hm⟩ := gd_s hm
    refine oX_iald oDs172 (oIn (ohN172 hM) g5) dX4_enroll_39 ?_
    refine oX_if_ge (tgt := 52) dX4_enroll_40 (by decide) (fun c6 => ?_) (fun c6 => ?_)
    · have hm := ifp c6 hm
      refine oX_aload_n dX4_enroll_52 rfl rfl ?_
      refine oX_getF fX4_172 rfl oDs1 dX4_enroll_53 (ohF177 hM) ?_
      refine oX_iload_n dX4_enroll_56 rfl rfl ?_
      obtain ⟨g7, hm⟩ := gd_s hm
      refine oX_iald oDs177 (oIn (ohN177 hM) g7) dX4_enroll_57 ?_
      refine oX_iconst (v := (1 : Int32)) dX4_enroll_58 (by decide) ?_
      refine oX_aload_n dX4_enroll_59 rfl rfl ?_
      refine oX_getF fX4_157 rfl oDs1 dX4_enroll_60 (ohF172 hM) ?_
      refine oX_bipush (v := (8 : Int32)) dX4_enroll_63 (by decide) ?_
      refine oX_iload_n dX4_enroll_65 rfl rfl ?_
      refine oX_imul dX4_enroll_66 ?_
      refine oX_iload_n dX4_enroll_67 rfl rfl ?_
      refine oX_iadd dX4_enroll_68 ?_
      obtain ⟨g8, hm⟩ := gd_s hm
      refine oX_iald oDs172 (oIn (ohN172 hM) g8) dX4_enroll_69 ?_
      refine oX_ishl dX4_enroll_70 ?_
      refine oX_ior dX4_enroll_71 ?_
      exact oX_sub [0, 1, 2] rfl (x_mX4_enroll_j72 hM n x1 x2 x1 ((AI 177 0 x1.toNatClampNeg) ||| ((1 : Int32) <<< ((AI 172 0 (((8 : Int32) * x1) + x2).toNatClampNeg) &&& 31))) hm hk hx1)
    · have hm := ifn c6 hm
      refine oX_aload_n dX4_enroll_43 rfl rfl ?_
      refine oX_getF fX4_172 rfl oDs1 dX4_enroll_44 (ohF177 hM) ?_
      refine oX_iload_n dX4_enroll_47 rfl rfl ?_
      obtain ⟨g10, hm⟩ := gd_s hm
      refine oX_iald oDs177 (oIn (ohN177 hM) g10) dX4_enroll_48 ?_
      refine oX_goto (tgt := 72) dX4_enroll_49 (by decide) ?_
      exact oX_sub [0, 1, 2] rfl (x_mX4_enroll_j72 hM n x1 x2 x1 (AI 177 0 x1.toNatClampNeg) hm hk hx1)
theorem l_mX4_enroll_b9 {G : OhG} {FI : OhI} {FL : OhL} {FR : OhQ} {GR : OhQ} {AL : OhL} {AR : OhQ} {BR : OhQ} {AN : OhN} {C : OhC} {k : Nat × Nat} {Φ : OhP} {Ψ : OhX} (hM : ohShM FR AN) (n : Nat) (x1 : Int32) : ∀ (f : Nat) (x2 : Int32) (AI : OhI) (b : (OhI)), lpF (fun v => mX4_enroll_b9 n FR v.2 AN x1 v.1) f (x2, AI) = some b → (oX G 1 iX4_enroll 79 [] [] (FI, FL, FR, GR, b, AL, AR, BR, AN, C) k Φ Ψ) → oX G 1 iX4_enroll 9 [(0, vR (some (1, 0))), (1, vI x1), (2, vI x2)] [] (FI, FL, FR, GR, AI, AL, AR, BR, AN, C) k Φ Ψ := by
  intro f
  induction f with
  | zero =>
    intro x2 AI b hm
    cases hm
  | succ f ih =>
    intro x2 AI b hm hx1
    obtain ⟨r, hr, hm⟩ := lp_s hm
    refine x_mX4_enroll_b9 hM n x1 x2 hr (fun v e => ?_) (fun v e => ?_)
    · subst e; exact ih v.1 v.2 _ hm hx1
    · subst e; cases (show v = b from hm); exact hx1
noncomputable def mX4_enroll (n : Nat) (FR : OhQ) (AI : OhI) (AN : OhN) (x1 : Int32) : Option (OhI) :=
  gd (vp_in x1 66) <|
  oLet (sA AI 177 0 (uA (AI 177 0) x1.toNatClampNeg (0 : Int32))) fun AI1 =>
  (lpF (fun v => mX4_enroll_b9 n FR v.2 AN x1 v.1) n ((0 : Int32), AI1)).bind fun v11 =>
  some v11
theorem x_mX4_enroll {G : OhG} {FI AI : OhI} {FL AL : OhL} {FR GR AR BR : OhQ} {AN : OhN} {C : OhC} {k : Nat × Nat} {Φ : OhP} {Ψ : OhX} (hM : ohShM FR AN) (n : Nat) (x1 : Int32) {r : OhI} (hm : mX4_enroll n FR AI AN x1 = some r) (hK : Φ none (FI, FL, FR, GR, r, AL, AR, BR, AN, C)) : oX G 1 iX4_enroll 0 [(0, vR (some (1, 0))), (1, vI x1)] [] (FI, FL, FR, GR, AI, AL, AR, BR, AN, C) k Φ Ψ := by
  unfold mX4_enroll at hm
  refine oX_aload_n dX4_enroll_0 rfl rfl ?_
  refine oX_getF fX4_172 rfl oDs1 dX4_enroll_1 (ohF177 hM) ?_
  refine oX_iload_n dX4_enroll_4 rfl rfl ?_
  refine oX_iconst (v := (0 : Int32)) dX4_enroll_5 (by decide) ?_
  obtain ⟨g1, hm⟩ := gd_s hm
  obtain ⟨AI1, hAI1, hm⟩ := oLs hm
  refine oX_iast oDs177 (oIn (ohN177 hM) g1) dX4_enroll_6 hAI1 ?_
  refine oX_iconst (v := (0 : Int32)) dX4_enroll_7 (by decide) ?_
  refine oX_istore_n (ls' := [(2, vI (0 : Int32)), (0, vR (some (1, 0))), (1, vI x1)]) dX4_enroll_8 rfl (by decide) rfl ?_
  obtain ⟨v11, g11, hm⟩ := bd_s hm
  refine oX_sub [1, 2, 0] rfl (l_mX4_enroll_b9 hM n x1 n (0 : Int32) AI1 _ g11 ?_)
  obtain rfl := Option.some.inj hm
  exact oX_vret dX4_enroll_79 rfl hK
theorem t_X4_enroll {G : OhG} {FI AI : OhI} {FL AL : OhL} {FR GR AR BR : OhQ} {AN : OhN} {C : OhC} (hM : ohShM FR AN) (n : Nat) (x1 : Int32) {o : OhI} (hm : mX4_enroll n FR AI AN x1 = some o) : oT G 1 iX4_enroll [vR (some (1, 0)), vI x1] (FI, FL, FR, GR, AI, AL, AR, BR, AN, C) (0, 0) (fun v h => v = none ∧ h = (FI, FL, FR, GR, o, AL, AR, BR, AN, C)) ohNo :=
  oT_of (by decide) rfl (Nat.le_of_ble_eq_true rfl) (x_mX4_enroll hM n x1 hm ⟨rfl, rfl⟩)
abbrev iX4_sort : OhM := (yX4_sort, cX4_sort, 3, none, [])
theorem ok_X4_sort : oOk iX4_sort 0 := ⟨by decide, by decide, by decide +kernel⟩

noncomputable def mX4_sort_b12 (n : Nat) (FI : OhI) (FR : OhQ) (AI : OhI) (AN : OhN) (x1 : Int32) (x2 : Int32) : Option ((Int32 × OhI) ⊕ (Int32 × OhI)) :=
  (if x2 ≤ 0 then
  some (.inr (x2, AI))
else
  gd (vp_in (x2 - (1 : Int32)) 66) <|
    gd (vp_in (AI 175 0 (x2 - (1 : Int32)).toNatClampNeg) 66) <|
    gd (vp_in x1 66) <|
    (if (AI 161 0 (AI 175 0 (x2 - (1 : Int32)).toNatClampNeg).toNatClampNeg) ≤ (AI 161 0 x1.toNatClampNeg) then
    some (.inr (x2, AI))
  else
    gd (vp_in (x2 - (1 : Int32)) 66) <|
      gd (vp_in x2 66) <|
      oLet (sA AI 175 0 (uA (AI 175 0) x2.toNatClampNeg (AI 175 0 (x2 - (1 : Int32)).toNatClampNeg))) fun AI8 =>
      some (.inl (x2 + (-1 : Int32), AI8))))
theorem x_mX4_sort_b12 {G : OhG} {FI AI : OhI} {FL AL : OhL} {FR GR AR BR : OhQ} {AN : OhN} {C : OhC} {k : Nat × Nat} {Φ : OhP} {Ψ : OhX} (hM : ohShM FR AN) (n : Nat) (x1 : Int32) (x2 : Int32) {r : (Int32 × OhI) ⊕ (Int32 × OhI)} (hm : mX4_sort_b12 n FI FR AI AN x1 x2 = some r) (hk : ∀ v : Int32 × OhI, r = .inl v → oX G 2 iX4_sort 12 [(0, vR (some (1, 0))), (1, vI x1), (2, vI v.1)] [] (FI, FL, FR, GR, v.2, AL, AR, BR, AN, C) k Φ Ψ) (hx1 : ∀ v : Int32 × OhI, r = .inr v → oX G 2 iX4_sort 58 [(0, vR (some (1, 0))), (1, vI x1), (2, vI v.1)] [] (FI, FL, FR, GR, v.2, AL, AR, BR, AN, C) k Φ Ψ) : oX G 2 iX4_sort 12 [(0, vR (some (1, 0))), (1, vI x1), (2, vI x2)] [] (FI, FL, FR, GR, AI, AL, AR, BR, AN, C) k Φ Ψ := by
  unfold mX4_sort_b12 at hm
  refine oX_iload_n dX4_sort_12 rfl rfl ?_
  refine oX_if_le (tgt := 58) dX4_sort_13 (by decide) (fun c2 => ?_) (fun c2 => ?_)
  · have hm := ifp c2 hm
    exact oX_sub [0, 1, 2] rfl (hx1 (x2, AI) (Option.some.inj hm).symm)
  · have hm := ifn c2 hm
    refine oX_aload_n dX4_sort_16 rfl rfl ?_
    refine oX_getF fX4_139 rfl oDs1 dX4_sort_17 (ohF161 hM) ?_
    refine oX_aload_n dX4_sort_20 rfl rfl ?_
    refine oX_getF fX4_166 rfl oDs1 dX4_sort_21 (ohF175 hM) ?_
    refine oX_iload_n dX4_sort_24 rfl rfl ?_
    refine oX_iconst (v := (1 : Int32)) dX4_sort_25 (by decide) ?_
    refine oX_isub dX4_sort_26 ?_
    obtain ⟨g3, hm⟩ := gd_s hm
    refine oX_iald oDs175 (oIn (ohN175 hM) g3) dX4_sort_27 ?_
    obtain ⟨g4, hm⟩ := gd_s hm
    refine oX_iald oDs161 (oIn (ohN161 hM) g4) dX4_sort_28 ?_
    refine oX_aload_n dX4_sort_29 rfl rfl ?_
    refine oX_getF fX4_139 rfl oDs1 dX4_sort_30 (ohF161 hM) ?_
    refine oX_iload_n dX4_sort_33 rfl rfl ?_
    obtain ⟨g5, hm⟩ := gd_s hm
    refine oX_iald oDs161 (oIn (ohN161 hM) g5) dX4_sort_34 ?_
    refine oX_icmp_le (tgt := 58) dX4_sort_35 (by decide) (fun c6 => ?_) (fun c6 => ?_)
    · have hm := ifp c6 hm
      exact oX_sub [0, 1, 2] rfl (hx1 (x2, AI) (Option.some.inj hm).symm)
    · have hm := ifn c6 hm
      refine oX_aload_n dX4_sort_38 rfl rfl ?_
      refine oX_getF fX4_166 rfl oDs1 dX4_sort_39 (ohF175 hM) ?_
      refine oX_iload_n dX4_sort_42 rfl rfl ?_
      refine oX_aload_n dX4_sort_43 rfl rfl ?_
      refine oX_getF fX4_166 rfl oDs1 dX4_sort_44 (ohF175 hM) ?_
      refine oX_iload_n dX4_sort_47 rfl rfl ?_
      refine oX_iconst (v := (1 : Int32)) dX4_sort_48 (by decide) ?_
      refine oX_isub dX4_sort_49 ?_
      obtain ⟨g7, hm⟩ := gd_s hm
      refine oX_iald oDs175 (oIn (ohN175 hM) g7) dX4_sort_50 ?_
      obtain ⟨g8, hm⟩ := gd_s hm
      obtain ⟨AI8, hAI8, hm⟩ := oLs hm
      refine oX_iast oDs175 (oIn (ohN175 hM) g8) dX4_sort_51 hAI8 ?_
      refine oX_iinc (v := x2 + (-1 : Int32)) (ls' := [(2, vI (x2 + (-1 : Int32))), (0, vR (some (1, 0))), (1, vI x1)]) dX4_sort_52 rfl rfl (by decide) rfl ?_
      refine oX_goto (tgt := 12) dX4_sort_55 (by decide) ?_
      exact oX_sub [1, 2, 0] rfl (hk (x2 + (-1 : Int32), AI8) (Option.some.inj hm).symm)
theorem l_mX4_sort_b12 {G : OhG} {FI : OhI} {FL : OhL} {FR : OhQ} {GR : OhQ} {AL : OhL} {AR : OhQ} {BR : OhQ} {AN : OhN} {C : OhC} {k : Nat × Nat} {Φ : OhP} {Ψ : OhX} (hM : ohShM FR AN) (n : Nat) (x1 : Int32) : ∀ (f : Nat) (x2 : Int32) (AI : OhI) (b : (Int32 × OhI)), lpF (fun v => mX4_sort_b12 n FI FR v.2 AN x1 v.1) f (x2, AI) = some b → (oX G 2 iX4_sort 58 [(0, vR (some (1, 0))), (1, vI x1), (2, vI b.1)] [] (FI, FL, FR, GR, b.2, AL, AR, BR, AN, C) k Φ Ψ) → oX G 2 iX4_sort 12 [(0, vR (some (1, 0))), (1, vI x1), (2, vI x2)] [] (FI, FL, FR, GR, AI, AL, AR, BR, AN, C) k Φ Ψ := by
  intro f
  induction f with
  | zero =>
    intro x2 AI b hm
    cases hm
  | succ f ih =>
    intro x2 AI b hm hx1
    obtain ⟨r, hr, hm⟩ := lp_s hm
    refine x_mX4_sort_b12 hM n x1 x2 hr (fun v e => ?_) (fun v e => ?_)
    · subst e; exact ih v.1 v.2 _ hm hx1
    · subst e; cases (show v = b from hm); exact hx1
noncomputable def mX4_sort_j58 (n : Nat) (FI : OhI) (FR : OhQ) (AI : OhI) (AN : OhN) (x1 : Int32) (x2 : Int32) : Option ((Int32 × OhI) ⊕ (OhI)) :=
  gd (vp_in x2 66) <|
  oLet (sA AI 175 0 (uA (AI 175 0) x2.toNatClampNeg x1)) fun AI10 =>
  some (.inl (x1 + (1 : Int32), AI10))
theorem x_mX4_sort_j58 {G : OhG} {FI AI : OhI} {FL AL : OhL} {FR GR AR BR : OhQ} {AN : OhN} {C : OhC} {k : Nat × Nat} {Φ : OhP} {Ψ : OhX} (hM : ohShM FR AN) (n : Nat) (x1 : Int32) (x2 : Int32) {r : (Int32 × OhI) ⊕ (OhI)} (hm : mX4_sort_j58 n FI FR AI AN x1 x2 = some r) (hk : ∀ v : Int32 × OhI, r = .inl v → oX G 2 iX4_sort 2 [(0, vR (some (1, 0))), (1, vI v.1)] [] (FI, FL, FR, GR, v.2, AL, AR, BR, AN, C) k Φ Ψ) (hx1 : ∀ v : OhI, r = .inr v → oX G 2 iX4_sort 71 [(0, vR (some (1, 0)))] [] (FI, FL, FR, GR, v, AL, AR, BR, AN, C) k Φ Ψ) : oX G 2 iX4_sort 58 [(0, vR (some (1, 0))), (1, vI x1), (2, vI x2)] [] (FI, FL, FR, GR, AI, AL, AR, BR, AN, C) k Φ Ψ := by
  unfold mX4_sort_j58 at hm
  refine oX_aload_n dX4_sort_58 rfl rfl ?_
  refine oX_getF fX4_166 rfl oDs1 dX4_sort_59 (ohF175 hM) ?_
  refine oX_iload_n dX4_sort_62 rfl rfl ?_
  refine oX_iload_n dX4_sort_63 rfl rfl ?_
  obtain ⟨g10, hm⟩ := gd_s hm
  obtain ⟨AI10, hAI10, hm⟩ := oLs hm
  refine oX_iast oDs175 (oIn (ohN175 hM) g10) dX4_sort_64 hAI10 ?_
  refine oX_iinc (v := x1 + (1 : Int32)) (ls' := [(1, vI (x1 + (1 : Int32))), (0, vR (some (1, 0))), (2, vI x2)]) dX4_sort_65 rfl rfl (by decide) rfl ?_
  refine oX_goto (tgt := 2) dX4_sort_68 (by decide) ?_
  exact oX_sub [1, 0] rfl (hk (x1 + (1 : Int32), AI10) (Option.some.inj hm).symm)
noncomputable def mX4_sort_b2 (n : Nat) (FI : OhI) (FR : OhQ) (AI : OhI) (AN : OhN) (x1 : Int32) : Option ((Int32 × OhI) ⊕ (OhI)) :=
  (if (FI 1 0 71) ≤ x1 then
  some (.inr AI)
else
  (lpF (fun v => mX4_sort_b12 n FI FR v.2 AN x1 v.1) n (x1, AI)).bind fun v9 =>
    mX4_sort_j58 n FI FR v9.2 AN x1 v9.1)
theorem x_mX4_sort_b2 {G : OhG} {FI AI : OhI} {FL AL : OhL} {FR GR AR BR : OhQ} {AN : OhN} {C : OhC} {k : Nat × Nat} {Φ : OhP} {Ψ : OhX} (hM : ohShM FR AN) (n : Nat) (x1 : Int32) {r : (Int32 × OhI) ⊕ (OhI)} (hm : mX4_sort_b2 n FI FR AI AN x1 = some r) (hk : ∀ v : Int32 × OhI, r = .inl v → oX G 2 iX4_sort 2 [(0, vR (some (1, 0))), (1, vI v.1)] [] (FI, FL, FR, GR, v.2, AL, AR, BR, AN, C) k Φ Ψ) (hx1 : ∀ v : OhI, r = .inr v → oX G 2 iX4_sort 71 [(0, vR (some (1, 0)))] [] (FI, FL, FR, GR, v, AL, AR, BR, AN, C) k Φ Ψ) : oX G 2 iX4_sort 2 [(0, vR (some (1, 0))), (1, vI x1)] [] (FI, FL, FR, GR, AI, AL, AR, BR, AN, C) k Φ Ψ := by
  unfold mX4_sort_b2 at hm
  refine oX_iload_n dX4_sort_2 rfl rfl ?_
  refine oX_aload_n dX4_sort_3 rfl rfl ?_
  refine oX_getI fX4_446 rfl oDs1 dX4_sort_4 ?_
  refine oX_icmp_ge (tgt := 71) dX4_sort_7 (by decide) (fun c1 => ?_) (fun c1 => ?_)
  · have hm := ifp c1 hm
    exact oX_sub [0] rfl (hx1 AI (Option.some.inj hm).symm)
  · have hm := ifn c1 hm
    refine oX_iload_n dX4_sort_10 rfl rfl ?_
    refine oX_istore_n (ls' := [(2, vI x1), (0, vR (some (1, 0))), (1, vI x1)]) dX4_sort_11 rfl (by decide) rfl ?_
    obtain ⟨v9, g9, hm⟩ := bd_s hm
    refine oX_sub [1, 2, 0] rfl (l_mX4_sort_b12 hM n x1 n x1 AI _ g9 ?_)
    exact oX_sub [0, 1, 2] rfl (x_mX4_sort_j58 hM n x1 v9.1 hm hk hx1)
theorem l_mX4_sort_b2 {G : OhG} {FI : OhI} {FL : OhL} {FR : OhQ} {GR : OhQ} {AL : OhL} {AR : OhQ} {BR : OhQ} {AN : OhN} {C : OhC} {k : Nat × Nat} {Φ : OhP} {Ψ : OhX} (hM : ohShM FR AN) (n : Nat) : ∀ (f : Nat) (x1 : Int32) (AI : OhI) (b : (OhI)), lpF (fun v => mX4_sort_b2 n FI FR v.2 AN v.1) f (x1, AI) = some b → (oX G 2 iX4_sort 71 [(0, vR (some (1, 0)))] [] (FI, FL, FR, GR, b, AL, AR, BR, AN, C) k Φ Ψ) → oX G 2 iX4_sort 2 [(0, vR (some (1, 0))), (1, vI x1)] [] (FI, FL, FR, GR, AI, AL, AR, BR, AN, C) k Φ Ψ := by
  intro f
  induction f with
  | zero =>
    intro x1 AI b hm
    cases hm
  | succ f ih =>
    intro x1 AI b hm hx1
    obtain ⟨r, hr, hm⟩ := lp_s hm
    refine x_mX4_sort_b2 hM n x1 hr (fun v e => ?_) (fun v e => ?_)
    · subst e; exact ih v.1 v.2 _ hm hx1
    · subst e; cases (show v = b from hm); exact hx1
noncomputable def mX4_sort_b73 (n : Nat) (FI : OhI) (FR : OhQ) (AI : OhI) (AN : OhN) (x1 : Int32) : Option ((Int32 × OhI) ⊕ (OhI)) :=
  (if (FI 1 0 71) ≤ x1 then
  some (.inr AI)
else
  gd (vp_in x1 66) <|
    gd (vp_in (AI 175 0 x1.toNatClampNeg) 66) <|
    oLet (sA AI 176 0 (uA (AI 176 0) (AI 175 0 x1.toNatClampNeg).toNatClampNeg x1)) fun AI14 =>
    (mX4_enroll n FR AI14 AN x1).bind fun r15 =>
    some (.inl (x1 + (1 : Int32), r15)))
theorem x_mX4_sort_b73 {G : OhG} {FI AI : OhI} {FL AL : OhL} {FR GR AR BR : OhQ} {AN : OhN} {C : OhC} {k : Nat × Nat} {Φ : OhP} {Ψ : OhX} (hM : ohShM FR AN) (n : Nat) (x1 : Int32) {r : (Int32 × OhI) ⊕ (OhI)} (hm : mX4_sort_b73 n FI FR AI AN x1 = some r) (hk : ∀ v : Int32 × OhI, r = .inl v → oX G 2 iX4_sort 73 [(0, vR (some (1, 0))), (1, vI v.1)] [] (FI, FL, FR, GR, v.2, AL, AR, BR, AN, C) k Φ Ψ) (hx1 : ∀ v : OhI, r = .inr v → oX G 2 iX4_sort 104 [] [] (FI, FL, FR, GR, v, AL, AR, BR, AN, C) k Φ Ψ) : oX G 2 iX4_sort 73 [(0, vR (some (1, 0))), (1, vI x1)] [] (FI, FL, FR, GR, AI, AL, AR, BR, AN, C) k Φ Ψ := by
  unfold mX4_sort_b73 at hm
  refine oX_iload_n dX4_sort_73 rfl rfl ?_
  refine oX_aload_n dX4_sort_74 rfl rfl ?_
  refine oX_getI fX4_446 rfl oDs1 dX4_sort_75 ?_
  refine oX_icmp_ge (tgt := 104) dX4_sort_78 (by decide) (fun c12 => ?_) (fun c12 => ?_)
  · have hm := ifp c12 hm
    exact oX_sub [] rfl (hx1 AI (Option.some.inj hm).symm)
  · have hm := ifn c12 hm
    refine oX_aload_n dX4_sort_81 rfl rfl ?_
    refine oX_getF fX4_169 rfl oDs1 dX4_sort_82 (ohF176 hM) ?_
    refine oX_aload_n dX4_sort_85 rfl rfl ?_
    refine oX_getF fX4_166 rfl oDs1 dX4_sort_86 (ohF175 hM) ?_
    refine oX_iload_n dX4_sort_89 rfl rfl ?_
    obtain ⟨g13, hm⟩ := gd_s hm
    refine oX_iald oDs175 (oIn (ohN175 hM) g13) dX4_sort_90 ?_
    refine oX_iload_n dX4_sort_91 rfl rfl ?_
    obtain ⟨g14, hm⟩ := gd_s hm
    obtain ⟨AI14, hAI14, hm⟩ := oLs hm
    refine oX_iast oDs176 (oIn (ohN176 hM) g14) dX4_sort_92 hAI14 ?_
    refine oX_aload_n dX4_sort_93 rfl rfl ?_
    refine oX_iload_n dX4_sort_94 rfl rfl ?_
    obtain ⟨r15, g15, hm⟩ := bd_s hm
    refine oX_cV_ (as := [vI x1]) dX4_sort_95 rfl oDs1 rfl (by decide) rfl ok_X4_enroll rfl rfl q2217 q2219 qs87 q136 q2220 (by decide) (Nat.le_of_ble_eq_true rfl) (t_X4_enroll hM n x1 g15) ?_
    refine oX_iinc (v := x1 + (1 : Int32)) (ls' := [(1, vI (x1 + (1 : Int32))), (0, vR (some (1, 0)))]) dX4_sort_98 rfl rfl (by decide) rfl ?_
    refine oX_goto (tgt := 73) dX4_sort_101 (by decide) ?_
    exact oX_sub [1, 0] rfl (hk (x1 + (1 : Int32), r15) (Option.some.inj hm).symm)
theorem l_mX4_sort_b73 {G : OhG} {FI : OhI} {FL : OhL} {FR : OhQ} {GR : OhQ} {AL : OhL} {AR : OhQ} {BR : OhQ} {AN : OhN} {C : OhC} {k : Nat × Nat} {Φ : OhP} {Ψ : OhX} (hM : ohShM FR AN) (n : Nat) : ∀ (f : Nat) (x1 : Int32) (AI : OhI) (b : (OhI)), lpF (fun v => mX4_sort_b73 n FI FR v.2 AN v.1) f (x1, AI) = some b → (oX G 2 iX4_sort 104 [] [] (FI, FL, FR, GR, b, AL, AR, BR, AN, C) k Φ Ψ) → oX G 2 iX4_sort 73 [(0, vR (some (1, 0))), (1, vI x1)] [] (FI, FL, FR, GR, AI, AL, AR, BR, AN, C) k Φ Ψ := by
  intro f
  induction f with
  | zero =>
    intro x1 AI b hm
    cases hm
  | succ f ih =>
    intro x1 AI b hm hx1
    obtain ⟨r, hr, hm⟩ := lp_s hm
    refine x_mX4_sort_b73 hM n x1 hr (fun v e => ?_) (fun v e => ?_)
    · subst e; exact ih v.1 v.2 _ hm hx1
    · subst e; cases (show v = b from hm); exact hx1
noncomputable def mX4_sort (n : Nat) (FI : OhI) (FR : OhQ) (AI : OhI) (AN : OhN) : Option (OhI) :=
  (lpF (fun v => mX4_sort_b2 n FI FR v.2 AN v.1) n ((0 : Int32), AI)).bind fun v11 =>
  (lpF (fun v => mX4_sort_b73 n FI FR v.2 AN v.1) n ((0 : Int32), v11)).bind fun v16 =>
  some v16
theorem x_mX4_sort {G : OhG} {FI AI : OhI} {FL AL : OhL} {FR GR AR BR : OhQ} {AN : OhN} {C : OhC} {k : Nat × Nat} {Φ : OhP} {Ψ : OhX} (hM : ohShM FR AN) (n : Nat) {r : OhI} (hm : mX4_sort n FI FR AI AN = some r) (hK : Φ none (FI, FL, FR, GR, r, AL, AR, BR, AN, C)) : oX G 2 iX4_sort 0 [(0, vR (some (1, 0)))] [] (FI, FL, FR, GR, AI, AL, AR, BR, AN, C) k Φ Ψ := by
  unfold mX4_sort at hm
  refine oX_iconst (v := (0 : Int32)) dX4_sort_0 (by decide) ?_
  refine oX_istore_n (ls' := [(1, vI (0 : Int32)), (0, vR (some (1, 0)))]) dX4_sort_1 rfl (by decide) rfl ?_
  obtain ⟨v11, g11, hm⟩ := bd_s hm
  refine oX_sub [1, 0] rfl (l_mX4_sort_b2 hM n n (0 : Int32) AI _ g11 ?_)
  refine oX_iconst (v := (0 : Int32)) dX4_sort_71 (by decide) ?_
  refine oX_istore_n (ls' := [(1, vI (0 : Int32)), (0, vR (some (1, 0)))]) dX4_sort_72 rfl (by decide) rfl ?_
  obtain ⟨v16, g16, hm⟩ := bd_s hm
  refine oX_sub [1, 0] rfl (l_mX4_sort_b73 hM n n (0 : Int32) v11 _ g16 ?_)
  obtain rfl := Option.some.inj hm
  exact oX_vret dX4_sort_104 rfl hK
theorem t_X4_sort {G : OhG} {FI AI : OhI} {FL AL : OhL} {FR GR AR BR : OhQ} {AN : OhN} {C : OhC} (hM : ohShM FR AN) (n : Nat) {o : OhI} (hm : mX4_sort n FI FR AI AN = some o) : oT G 2 iX4_sort [vR (some (1, 0))] (FI, FL, FR, GR, AI, AL, AR, BR, AN, C) (0, 0) (fun v h => v = none ∧ h = (FI, FL, FR, GR, o, AL, AR, BR, AN, C)) ohNo :=
  oT_of (by decide) rfl (Nat.le_of_ble_eq_true rfl) (x_mX4_sort hM n hm ⟨rfl, rfl⟩)
abbrev iX4_load : OhM := (yX4_load, cX4_load, 4, none, [])
theorem ok_X4_load : oOk iX4_load 1 := ⟨by decide, by decide, by decide +kernel⟩

noncomputable def mX4_load_b15 (n : Nat) (FI : OhI) (FR : OhQ) (AI : OhI) (AN : OhN) (x1 : Int32) (x2 : Int32) : Option ((Int32 × OhI) ⊕ (OhI)) :=
  (if (528 : Int32) ≤ x2 then
  some (.inr AI)
else
  gd (vp_in x2 528) <|
    oLet (sA AI 172 0 (uA (AI 172 0) x2.toNatClampNeg (-1 : Int32))) fun AI4 =>
    gd (vp_in x2 528) <|
    oLet (sA AI4 173 0 (uA (AI4 173 0) x2.toNatClampNeg (-1 : Int32))) fun AI5 =>
    gd (vp_in x2 528) <|
    oLet (sA AI5 174 0 (uA (AI5 174 0) x2.toNatClampNeg (-1 : Int32))) fun AI6 =>
    some (.inl (x2 + (1 : Int32), AI6)))
theorem x_mX4_load_b15 {G : OhG} {FI AI : OhI} {FL AL : OhL} {FR GR AR BR : OhQ} {AN : OhN} {C : OhC} {k : Nat × Nat} {Φ : OhP} {Ψ : OhX} (hM : ohShM FR AN) (n : Nat) (x1 : Int32) (x2 : Int32) {r : (Int32 × OhI) ⊕ (OhI)} (hm : mX4_load_b15 n FI FR AI AN x1 x2 = some r) (hk : ∀ v : Int32 × OhI, r = .inl v → oX G 3 iX4_load 15 [(0, vR (some (1, 0))), (1, vI x1), (2, vI v.1)] [] (FI, FL, FR, GR, v.2, AL, AR, BR, AN, C) k Φ Ψ) (hx1 : ∀ v : OhI, r = .inr v → oX G 3 iX4_load 49 [(0, vR (some (1, 0))), (1, vI x1)] [] (FI, FL, FR, GR, v, AL, AR, BR, AN, C) k Φ Ψ) : oX G 3 iX4_load 15 [(0, vR (some (1, 0))), (1, vI x1), (2, vI x2)] [] (FI, FL, FR, GR, AI, AL, AR, BR, AN, C) k Φ Ψ := by
  unfold mX4_load_b15 at hm
  refine oX_iload_n dX4_load_15 rfl rfl ?_
  refine oX_sipush (v := (528 : Int32)) dX4_load_16 (by decide) ?_
  refine oX_icmp_ge (tgt := 49) dX4_load_19 (by decide) (fun c3 => ?_) (fun c3 => ?_)
  · have hm := ifp c3 hm
    exact oX_sub [0, 1] rfl (hx1 AI (Option.some.inj hm).symm)
  · have hm := ifn c3 hm
    refine oX_aload_n dX4_load_22 rfl rfl ?_
    refine oX_getF fX4_157 rfl oDs1 dX4_load_23 (ohF172 hM) ?_
    refine oX_iload_n dX4_load_26 rfl rfl ?_
    refine oX_iconst (v := (-1 : Int32)) dX4_load_27 (by decide) ?_
    obtain ⟨g4, hm⟩ := gd_s hm
    obtain ⟨AI4, hAI4, hm⟩ := oLs hm
    refine oX_iast oDs172 (oIn (ohN172 hM) g4) dX4_load_28 hAI4 ?_
    refine oX_aload_n dX4_load_29 rfl rfl ?_
    refine oX_getF fX4_160 rfl oDs1 dX4_load_30 (ohF173 hM) ?_
    refine oX_iload_n dX4_load_33 rfl rfl ?_
    refine oX_iconst (v := (-1 : Int32)) dX4_load_34 (by decide) ?_
    obtain ⟨g5, hm⟩ := gd_s hm
    obtain ⟨AI5, hAI5, hm⟩ := oLs hm
    refine oX_iast oDs173 (oIn (ohN173 hM) g5) dX4_load_35 hAI5 ?_
    refine oX_aload_n dX4_load_36 rfl rfl ?_
    refine oX_getF fX4_163 rfl oDs1 dX4_load_37 (ohF174 hM) ?_
    refine oX_iload_n dX4_load_40 rfl rfl ?_
    refine oX_iconst (v := (-1 : Int32)) dX4_load_41 (by decide) ?_
    obtain ⟨g6, hm⟩ := gd_s hm
    obtain ⟨AI6, hAI6, hm⟩ := oLs hm
    refine oX_iast oDs174 (oIn (ohN174 hM) g6) dX4_load_42 hAI6 ?_
    refine oX_iinc (v := x2 + (1 : Int32)) (ls' := [(2, vI (x2 + (1 : Int32))), (0, vR (some (1, 0))), (1, vI x1)]) dX4_load_43 rfl rfl (by decide) rfl ?_
    refine oX_goto (tgt := 15) dX4_load_46 (by decide) ?_
    exact oX_sub [1, 2, 0] rfl (hk (x2 + (1 : Int32), AI6) (Option.some.inj hm).symm)
theorem l_mX4_load_b15 {G : OhG} {FI : OhI} {FL : OhL} {FR : OhQ} {GR : OhQ} {AL : OhL} {AR : OhQ} {BR : OhQ} {AN : OhN} {C : OhC} {k : Nat × Nat} {Φ : OhP} {Ψ : OhX} (hM : ohShM FR AN) (n : Nat) (x1 : Int32) : ∀ (f : Nat) (x2 : Int32) (AI : OhI) (b : (OhI)), lpF (fun v => mX4_load_b15 n FI FR v.2 AN x1 v.1) f (x2, AI) = some b → (oX G 3 iX4_load 49 [(0, vR (some (1, 0))), (1, vI x1)] [] (FI, FL, FR, GR, b, AL, AR, BR, AN, C) k Φ Ψ) → oX G 3 iX4_load 15 [(0, vR (some (1, 0))), (1, vI x1), (2, vI x2)] [] (FI, FL, FR, GR, AI, AL, AR, BR, AN, C) k Φ Ψ := by
  intro f
  induction f with
  | zero =>
    intro x2 AI b hm
    cases hm
  | succ f ih =>
    intro x2 AI b hm hx1
    obtain ⟨r, hr, hm⟩ := lp_s hm
    refine x_mX4_load_b15 hM n x1 x2 hr (fun v e => ?_) (fun v e => ?_)
    · subst e; exact ih v.1 v.2 _ hm hx1
    · subst e; cases (show v = b from hm); exact hx1
noncomputable def mX4_load_b51 (n : Nat) (FI : OhI) (FR : OhQ) (AI : OhI) (AN : OhN) (x1 : Int32) (x2 : Int32) : Option ((Int32 × OhI) ⊕ (OhI)) :=
  (if (FI 1 0 69) ≤ x2 then
  some (.inr AI)
else
  gd (vp_in x2 400) <|
    (if (AI 159 0 x2.toNatClampNeg) ≤ x1 then
    gd (vp_in x2 400) <|
      gd (vp_in x2 400) <|
      gd (vp_in x2 400) <|
      (if (AI 166 0 x2.toNatClampNeg) = 0 then
      gd (vp_in (((8 : Int32) * (AI 156 0 x2.toNatClampNeg)) + (AI 157 0 x2.toNatClampNeg)) 528) <|
        gd (vp_in (((8 : Int32) * (AI 156 0 x2.toNatClampNeg)) + (AI 157 0 x2.toNatClampNeg)) 528) <|
        oLet (sA AI 174 0 (uA (AI 174 0) (((8 : Int32) * (AI 156 0 x2.toNatClampNeg)) + (AI 157 0 x2.toNatClampNeg)).toNatClampNeg (AI 172 0 (((8 : Int32) * (AI 156 0 x2.toNatClampNeg)) + (AI 157 0 x2.toNatClampNeg)).toNatClampNeg))) fun AI16 =>
        gd (vp_in x2 400) <|
        gd (vp_in (((8 : Int32) * (AI 156 0 x2.toNatClampNeg)) + (AI 157 0 x2.toNatClampNeg)) 528) <|
        oLet (sA AI16 172 0 (uA (AI16 172 0) (((8 : Int32) * (AI 156 0 x2.toNatClampNeg)) + (AI 157 0 x2.toNatClampNeg)).toNatClampNeg (AI16 158 0 x2.toNatClampNeg))) fun AI18 =>
        some (.inl (x2 + (1 : Int32), AI18))
    else
      gd (vp_in x2 400) <|
        gd (vp_in (((8 : Int32) * (AI 156 0 x2.toNatClampNeg)) + (AI 157 0 x2.toNatClampNeg)) 528) <|
        oLet (sA AI 173 0 (uA (AI 173 0) (((8 : Int32) * (AI 156 0 x2.toNatClampNeg)) + (AI 157 0 x2.toNatClampNeg)).toNatClampNeg (AI 158 0 x2.toNatClampNeg))) fun AI20 =>
        some (.inl (x2 + (1 : Int32), AI20)))
  else
    some (.inl (x2 + (1 : Int32), AI))))
theorem x_mX4_load_b51 {G : OhG} {FI AI : OhI} {FL AL : OhL} {FR GR AR BR : OhQ} {AN : OhN} {C : OhC} {k : Nat × Nat} {Φ : OhP} {Ψ : OhX} (hM : ohShM FR AN) (n : Nat) (x1 : Int32) (x2 : Int32) {r : (Int32 × OhI) ⊕ (OhI)} (hm : mX4_load_b51 n FI FR AI AN x1 x2 = some r) (hk : ∀ v : Int32 × OhI, r = .inl v → oX G 3 iX4_load 51 [(0, vR (some (1, 0))), (1, vI x1), (2, vI v.1)] [] (FI, FL, FR, GR, v.2, AL, AR, BR, AN, C) k Φ Ψ) (hx1 : ∀ v : OhI, r = .inr v → oX G 3 iX4_load 143 [(0, vR (some (1, 0)))] [] (FI, FL, FR, GR, v, AL, AR, BR, AN, C) k Φ Ψ) : oX G 3 iX4_load 51 [(0, vR (some (1, 0))), (1, vI x1), (2, vI x2)] [] (FI, FL, FR, GR, AI, AL, AR, BR, AN, C) k Φ Ψ := by
  unfold mX4_load_b51 at hm
  refine oX_iload_n dX4_load_51 rfl rfl ?_
  refine oX_aload_n dX4_load_52 rfl rfl ?_
  refine oX_getI fX4_430 rfl oDs1 dX4_load_53 ?_
  refine oX_icmp_ge (tgt := 143) dX4_load_56 (by decide) (fun c8 => ?_) (fun c8 => ?_)
  · have hm := ifp c8 hm
    exact oX_sub [0] rfl (hx1 AI (Option.some.inj hm).symm)
  · have hm := ifn c8 hm
    refine oX_aload_n dX4_load_59 rfl rfl ?_
    refine oX_getF fX4_133 rfl oDs1 dX4_load_60 (ohF159 hM) ?_
    refine oX_iload_n dX4_load_63 rfl rfl ?_
    obtain ⟨g9, hm⟩ := gd_s hm
    refine oX_iald oDs159 (oIn (ohN159 hM) g9) dX4_load_64 ?_
    refine oX_iload_n dX4_load_65 rfl rfl ?_
    refine oX_icmp_le (tgt := 72) dX4_load_66 (by decide) (fun c10 => ?_) (fun c10 => ?_)
    · have hm := ifp c10 hm
      refine oX_bipush (v := (8 : Int32)) dX4_load_72 (by decide) ?_
      refine oX_aload_n dX4_load_74 rfl rfl ?_
      refine oX_getF fX4_124 rfl oDs1 dX4_load_75 (ohF156 hM) ?_
      refine oX_iload_n dX4_load_78 rfl rfl ?_
      obtain ⟨g11, hm⟩ := gd_s hm
      refine oX_iald oDs156 (oIn (ohN156 hM) g11) dX4_load_79 ?_
      refine oX_imul dX4_load_80 ?_
      refine oX_aload_n dX4_load_81 rfl rfl ?_
      refine oX_getF fX4_127 rfl oDs1 dX4_load_82 (ohF157 hM) ?_
      refine oX_iload_n dX4_load_85 rfl rfl ?_
      obtain ⟨g12, hm⟩ := gd_s hm
      refine oX_iald oDs157 (oIn (ohN157 hM) g12) dX4_load_86 ?_
      refine oX_iadd dX4_load_87 ?_
      refine oX_istore_n (ls' := [(3, vI (((8 : Int32) * (AI 156 0 x2.toNatClampNeg)) + (AI 157 0 x2.toNatClampNeg))), (0, vR (some (1, 0))), (1, vI x1), (2, vI x2)]) dX4_load_88 rfl (by decide) rfl ?_
      refine oX_aload_n dX4_load_89 rfl rfl ?_
      refine oX_getF fX4_154 rfl oDs1 dX4_load_90 (ohF166 hM) ?_
      refine oX_iload_n dX4_load_93 rfl rfl ?_
      obtain ⟨g13, hm⟩ := gd_s hm
      refine oX_zald oDs166 (oIn (ohN166 hM) g13) dX4_load_94 ?_
      refine oX_if_eq (tgt := 113) dX4_load_95 (by decide) (fun c14 => ?_) (fun c14 => ?_)
      · have hm := ifp c14 hm
        refine oX_aload_n dX4_load_113 rfl rfl ?_
        refine oX_getF fX4_163 rfl oDs1 dX4_load_114 (ohF174 hM) ?_
        refine oX_iload_n dX4_load_117 rfl rfl ?_
        refine oX_aload_n dX4_load_118 rfl rfl ?_
        refine oX_getF fX4_157 rfl oDs1 dX4_load_119 (ohF172 hM) ?_
        refine oX_iload_n dX4_load_122 rfl rfl ?_
        obtain ⟨g15, hm⟩ := gd_s hm
        refine oX_iald oDs172 (oIn (ohN172 hM) g15) dX4_load_123 ?_
        obtain ⟨g16, hm⟩ := gd_s hm
        obtain ⟨AI16, hAI16, hm⟩ := oLs hm
        refine oX_iast oDs174 (oIn (ohN174 hM) g16) dX4_load_124 hAI16 ?_
        refine oX_aload_n dX4_load_125 rfl rfl ?_
        refine oX_getF fX4_157 rfl oDs1 dX4_load_126 (ohF172 hM) ?_
        refine oX_iload_n dX4_load_129 rfl rfl ?_
        refine oX_aload_n dX4_load_130 rfl rfl ?_
        refine oX_getF fX4_130 rfl oDs1 dX4_load_131 (ohF158 hM) ?_
        refine oX_iload_n dX4_load_134 rfl rfl ?_
        obtain ⟨g17, hm⟩ := gd_s hm
        refine oX_iald oDs158 (oIn (ohN158 hM) g17) dX4_load_135 ?_
        obtain ⟨g18, hm⟩ := gd_s hm
        obtain ⟨AI18, hAI18, hm⟩ := oLs hm
        refine oX_iast oDs172 (oIn (ohN172 hM) g18) dX4_load_136 hAI18 ?_
        refine oX_iinc (v := x2 + (1 : Int32)) (ls' := [(2, vI (x2 + (1 : Int32))), (3, vI (((8 : Int32) * (AI 156 0 x2.toNatClampNeg)) + (AI 157 0 x2.toNatClampNeg))), (0, vR (some (1, 0))), (1, vI x1)]) dX4_load_137 rfl rfl (by decide) rfl ?_
        refine oX_goto (tgt := 51) dX4_load_140 (by decide) ?_
        exact oX_sub [2, 3, 0] rfl (hk (x2 + (1 : Int32), AI18) (Option.some.inj hm).symm)
      · have hm := ifn c14 hm
        refine oX_aload_n dX4_load_98 rfl rfl ?_
        refine oX_getF fX4_160 rfl oDs1 dX4_load_99 (ohF173 hM) ?_
        refine oX_iload_n dX4_load_102 rfl rfl ?_
        refine oX_aload_n dX4_load_103 rfl rfl ?_
        refine oX_getF fX4_130 rfl oDs1 dX4_load_104 (ohF158 hM) ?_
        refine oX_iload_n dX4_load_107 rfl rfl ?_
        obtain ⟨g19, hm⟩ := gd_s hm
        refine oX_iald oDs158 (oIn (ohN158 hM) g19) dX4_load_108 ?_
        obtain ⟨g20, hm⟩ := gd_s hm
        obtain ⟨AI20, hAI20, hm⟩ := oLs hm
        refine oX_iast oDs173 (oIn (ohN173 hM) g20) dX4_load_109 hAI20 ?_
        refine oX_goto (tgt := 137) dX4_load_110 (by decide) ?_
        refine oX_iinc (v := x2 + (1 : Int32)) (ls' := [(2, vI (x2 + (1 : Int32))), (3, vI (((8 : Int32) * (AI 156 0 x2.toNatClampNeg)) + (AI 157 0 x2.toNatClampNeg))), (0, vR (some (1, 0))), (1, vI x1)]) dX4_load_137 rfl rfl (by decide) rfl ?_
        refine oX_goto (tgt := 51) dX4_load_140 (by decide) ?_
        exact oX_sub [2, 3, 0] rfl (hk (x2 + (1 : Int32), AI20) (Option.some.inj hm).symm)
    · have hm := ifn c10 hm
      refine oX_goto (tgt := 137) dX4_load_69 (by decide) ?_
      refine oX_iinc (v := x2 + (1 : Int32)) (ls' := [(2, vI (x2 + (1 : Int32))), (0, vR (some (1, 0))), (1, vI x1)]) dX4_load_137 rfl rfl (by decide) rfl ?_
      refine oX_goto (tgt := 51) dX4_load_140 (by decide) ?_
      exact oX_sub [1, 2, 0] rfl (hk (x2 + (1 : Int32), AI) (Option.some.inj hm).symm)
theorem l_mX4_load_b51 {G : OhG} {FI : OhI} {FL : OhL} {FR : OhQ} {GR : OhQ} {AL : OhL} {AR : OhQ} {BR : OhQ} {AN : OhN} {C : OhC} {k : Nat × Nat} {Φ : OhP} {Ψ : OhX} (hM : ohShM FR AN) (n : Nat) (x1 : Int32) : ∀ (f : Nat) (x2 : Int32) (AI : OhI) (b : (OhI)), lpF (fun v => mX4_load_b51 n FI FR v.2 AN x1 v.1) f (x2, AI) = some b → (oX G 3 iX4_load 143 [(0, vR (some (1, 0)))] [] (FI, FL, FR, GR, b, AL, AR, BR, AN, C) k Φ Ψ) → oX G 3 iX4_load 51 [(0, vR (some (1, 0))), (1, vI x1), (2, vI x2)] [] (FI, FL, FR, GR, AI, AL, AR, BR, AN, C) k Φ Ψ := by
  intro f
  induction f with
  | zero =>
    intro x2 AI b hm
    cases hm
  | succ f ih =>
    intro x2 AI b hm hx1
    obtain ⟨r, hr, hm⟩ := lp_s hm
    refine x_mX4_load_b51 hM n x1 x2 hr (fun v e => ?_) (fun v e => ?_)
    · subst e; exact ih v.1 v.2 _ hm hx1
    · subst e; cases (show v = b from hm); exact hx1
noncomputable def mX4_load (n : Nat) (FI : OhI) (FR : OhQ) (AI : OhI) (AN : OhN) (x1 : Int32) : Option (OhI × OhI) :=
  oLet (sA FI 1 0 (uA (FI 1 0) 78 x1)) fun FI1 =>
  oLet (sA FI1 1 0 (uA (FI1 1 0) 71 (FI1 1 0 70))) fun FI2 =>
  (lpF (fun v => mX4_load_b15 n FI2 FR v.2 AN x1 v.1) n ((0 : Int32), AI)).bind fun v7 =>
  (lpF (fun v => mX4_load_b51 n FI2 FR v.2 AN x1 v.1) n ((0 : Int32), v7)).bind fun v21 =>
  (mX4_sort n FI2 FR v21 AN).bind fun r22 =>
  some (FI2, r22)
theorem x_mX4_load {G : OhG} {FI AI : OhI} {FL AL : OhL} {FR GR AR BR : OhQ} {AN : OhN} {C : OhC} {k : Nat × Nat} {Φ : OhP} {Ψ : OhX} (hM : ohShM FR AN) (n : Nat) (x1 : Int32) {r : OhI × OhI} (hm : mX4_load n FI FR AI AN x1 = some r) (hK : Φ none (r.1, FL, FR, GR, r.2, AL, AR, BR, AN, C)) : oX G 3 iX4_load 0 [(0, vR (some (1, 0))), (1, vI x1)] [] (FI, FL, FR, GR, AI, AL, AR, BR, AN, C) k Φ Ψ := by
  unfold mX4_load at hm
  refine oX_aload_n dX4_load_0 rfl rfl ?_
  refine oX_iload_n dX4_load_1 rfl rfl ?_
  obtain ⟨FI1, hFI1, hm⟩ := oLs hm
  refine oX_putI fX4_443 rfl (fun h9 => by cases h9) oDs1 dX4_load_2 ⟨rfl, rfl⟩ hFI1 ?_
  refine oX_aload_n dX4_load_5 rfl rfl ?_
  refine oX_aload_n dX4_load_6 rfl rfl ?_
  refine oX_getI fX4_423 rfl oDs1 dX4_load_7 ?_
  obtain ⟨FI2, hFI2, hm⟩ := oLs hm
  refine oX_putI fX4_446 rfl (fun h9 => by cases h9) oDs1 dX4_load_10 ⟨rfl, rfl⟩ hFI2 ?_
  refine oX_iconst (v := (0 : Int32)) dX4_load_13 (by decide) ?_
  refine oX_istore_n (ls' := [(2, vI (0 : Int32)), (0, vR (some (1, 0))), (1, vI x1)]) dX4_load_14 rfl (by decide) rfl ?_
  obtain ⟨v7, g7, hm⟩ := bd_s hm
  refine oX_sub [1, 2, 0] rfl (l_mX4_load_b15 hM n x1 n (0 : Int32) AI _ g7 ?_)
  refine oX_iconst (v := (0 : Int32)) dX4_load_49 (by decide) ?_
  refine oX_istore_n (ls' := [(2, vI (0 : Int32)), (0, vR (some (1, 0))), (1, vI x1)]) dX4_load_50 rfl (by decide) rfl ?_
  obtain ⟨v21, g21, hm⟩ := bd_s hm
  refine oX_sub [1, 2, 0] rfl (l_mX4_load_b51 hM n x1 n (0 : Int32) v7 _ g21 ?_)
  refine oX_aload_n dX4_load_143 rfl rfl ?_
  obtain ⟨r22, g22, hm⟩ := bd_s hm
  refine oX_cV_ (as := []) dX4_load_144 rfl oDs1 rfl (by decide) rfl ok_X4_sort rfl rfl q2213 q2215 qs86 q136 q2216 (by decide) (Nat.le_of_ble_eq_true rfl) (t_X4_sort hM n g22) ?_
  obtain rfl := Option.some.inj hm
  exact oX_vret dX4_load_147 rfl hK
theorem t_X4_load {G : OhG} {FI AI : OhI} {FL AL : OhL} {FR GR AR BR : OhQ} {AN : OhN} {C : OhC} (hM : ohShM FR AN) (n : Nat) (x1 : Int32) {o : OhI × OhI} (hm : mX4_load n FI FR AI AN x1 = some o) : oT G 3 iX4_load [vR (some (1, 0)), vI x1] (FI, FL, FR, GR, AI, AL, AR, BR, AN, C) (0, 0) (fun v h => v = none ∧ h = (o.1, FL, FR, GR, o.2, AL, AR, BR, AN, C)) ohNo :=
  oT_of (by decide) rfl (Nat.le_of_ble_eq_true rfl) (x_mX4_load hM n x1 hm ⟨rfl, rfl⟩)
abbrev iX4_who : OhM := (yX4_who, cX4_who, 5, (some .int), [])
theorem ok_X4_who : oOk iX4_who 4 := ⟨by decide, by decide, by decide +kernel⟩

noncomputable def mX4_who (n : Nat) (FI : OhI) (FR : OhQ) (AI : OhI) (AN : OhN) (x1 : Int32) (x2 : Int32) (x3 : Int32) (x4 : Int32) : Option (Int32 × OhI × OhI) :=
  oLet (sA FI 1 0 (uA (FI 1 0) 0 (0 : Int32))) fun FI1 =>
  (mX4_isCallRole FI1 FR AI AN x1 x2).bind fun r2 =>
  (if r2 = 0 then
  some ((-1 : Int32), FI1, AI)
else
  (mX4_load n FI1 FR AI AN x4).bind fun r4 =>
    (if x3 = 0 then
    gd (vp_in (((8 : Int32) * x1) + x2) 528) <|
      some (r4.2 172 0 (((8 : Int32) * x1) + x2).toNatClampNeg, r4.1, r4.2)
  else
    gd (vp_in (((8 : Int32) * x1) + x2) 528) <|
      some (r4.2 173 0 (((8 : Int32) * x1) + x2).toNatClampNeg, r4.1, r4.2)))
theorem x_mX4_who {G : OhG} {FI AI : OhI} {FL AL : OhL} {FR GR AR BR : OhQ} {AN : OhN} {C : OhC} {k : Nat × Nat} {Φ : OhP} {Ψ : OhX} (hM : ohShM FR AN) (n : Nat) (x1 : Int32) (x2 : Int32) (x3 : Int32) (x4 : Int32) {r : Int32 × OhI × OhI} (hm : mX4_who n FI FR AI AN x1 x2 x3 x4 = some r) (hK : Φ (some (vI r.1)) (r.2.1, FL, FR, GR, r.2.2, AL, AR, BR, AN, C)) : oX G 4 iX4_who 0 [(0, vR (some (1, 0))), (1, vI x1), (2, vI x2), (3, vI x3), (4, vI x4)] [] (FI, FL, FR, GR, AI, AL, AR, BR, AN, C) k Φ Ψ := by
  unfold mX4_who at hm
  refine oX_aload_n dX4_who_0 rfl rfl ?_
  refine oX_iconst (v := (0 : Int32)) dX4_who_1 (by decide) ?_
  obtain ⟨FI1, hFI1, hm⟩ := oLs hm
  refine oX_putI fX4_226 rfl (fun h9 => by cases h9) oDs1 dX4_who_2 ⟨rfl, rfl⟩ hFI1 ?_
  refine oX_aload_n dX4_who_5 rfl rfl ?_
  refine oX_iload_n dX4_who_6 rfl rfl ?_
  refine oX_iload_n dX4_who_7 rfl rfl ?_
  obtain ⟨r2, g2, hm⟩ := bd_s hm
  refine oX_cV (as := [vI x1, vI x2]) dX4_who_8 rfl oDs1 rfl (by decide) rfl ok_X4_isCallRole rfl rfl q2193 q2195 qs83 q136 q2196 (by decide) (Nat.le_of_ble_eq_true rfl) (t_X4_isCallRole hM x1 x2 g2) ?_
  refine oX_if_ne (tgt := 16) dX4_who_11 (by decide) (fun c3 => ?_) (fun c3 => ?_)
  · have hm := ifp c3 hm
    refine oX_iconst (v := (-1 : Int32)) dX4_who_14 (by decide) ?_
    obtain rfl := Option.some.inj hm
    exact oX_iret dX4_who_15 rfl rfl hK
  · have hm := ifn c3 hm
    refine oX_aload_n dX4_who_16 rfl rfl ?_
    refine oX_iload dX4_who_17 rfl ?_
    obtain ⟨r4, g4, hm⟩ := bd_s hm
    refine oX_cV_ (as := [vI x4]) dX4_who_19 rfl oDs1 rfl (by decide) rfl ok_X4_load rfl rfl q2209 q2211 qs85 q136 q2212 (by decide) (Nat.le_of_ble_eq_true rfl) (t_X4_load hM n x4 g4) ?_
    refine oX_iload_n dX4_who_22 rfl rfl ?_
    refine oX_if_eq (tgt := 40) dX4_who_23 (by decide) (fun c5 => ?_) (fun c5 => ?_)
    · have hm := ifp c5 hm
      refine oX_aload_n dX4_who_40 rfl rfl ?_
      refine oX_getF fX4_157 rfl oDs1 dX4_who_41 (ohF172 hM) ?_
      refine oX_bipush (v := (8 : Int32)) dX4_who_44 (by decide) ?_
      refine oX_iload_n dX4_who_46 rfl rfl ?_
      refine oX_imul dX4_who_47 ?_
      refine oX_iload_n dX4_who_48 rfl rfl ?_
      refine oX_iadd dX4_who_49 ?_
      obtain ⟨g6, hm⟩ := gd_s hm
      refine oX_iald oDs172 (oIn (ohN172 hM) g6) dX4_who_50 ?_
      obtain rfl := Option.some.inj hm
      exact oX_iret dX4_who_51 rfl rfl hK
    · have hm := ifn c5 hm
      refine oX_aload_n dX4_who_26 rfl rfl ?_
      refine oX_getF fX4_160 rfl oDs1 dX4_who_27 (ohF173 hM) ?_
      refine oX_bipush (v := (8 : Int32)) dX4_who_30 (by decide) ?_
      refine oX_iload_n dX4_who_32 rfl rfl ?_
      refine oX_imul dX4_who_33 ?_
      refine oX_iload_n dX4_who_34 rfl rfl ?_
      refine oX_iadd dX4_who_35 ?_
      obtain ⟨g7, hm⟩ := gd_s hm
      refine oX_iald oDs173 (oIn (ohN173 hM) g7) dX4_who_36 ?_
      refine oX_goto (tgt := 51) dX4_who_37 (by decide) ?_
      obtain rfl := Option.some.inj hm
      exact oX_iret dX4_who_51 rfl rfl hK
theorem t_X4_who {G : OhG} {FI AI : OhI} {FL AL : OhL} {FR GR AR BR : OhQ} {AN : OhN} {C : OhC} (hM : ohShM FR AN) (n : Nat) (x1 : Int32) (x2 : Int32) (x3 : Int32) (x4 : Int32) {o : Int32 × OhI × OhI} (hm : mX4_who n FI FR AI AN x1 x2 x3 x4 = some o) : oT G 4 iX4_who [vR (some (1, 0)), vI x1, vI x2, vI x3, vI x4] (FI, FL, FR, GR, AI, AL, AR, BR, AN, C) (0, 0) (fun v h => v = (some (vI o.1)) ∧ h = (o.2.1, FL, FR, GR, o.2.2, AL, AR, BR, AN, C)) ohNo :=
  oT_of (by decide) rfl (Nat.le_of_ble_eq_true rfl) (x_mX4_who hM n x1 x2 x3 x4 hm ⟨rfl, rfl⟩)
abbrev iX4_longOf : OhM := (yX4_longOf, cX4_longOf, 2, (some .int), [])
theorem ok_X4_longOf : oOk iX4_longOf 1 := ⟨by decide, by decide, by decide +kernel⟩

noncomputable def mX4_longOf (FR : OhQ) (AI : OhI) (AN : OhN) (x1 : Int32) : Option (Int32) :=
  gd (vp_in x1 66) <|
  gd (vp_in x1 66) <|
  some ((AI 162 0 x1.toNatClampNeg) - (AI 161 0 x1.toNatClampNeg))
theorem x_mX4_longOf {G : OhG} {FI AI : OhI} {FL AL : OhL} {FR GR AR BR : OhQ} {AN : OhN} {C : OhC} {k : Nat × Nat} {Φ : OhP} {Ψ : OhX} (hM : ohShM FR AN) (x1 : Int32) {r : Int32} (hm : mX4_longOf FR AI AN x1 = some r) (hK : Φ (some (vI r)) (FI, FL, FR, GR, AI, AL, AR, BR, AN, C)) : oX G 1 iX4_longOf 0 [(0, vR (some (1, 0))), (1, vI x1)] [] (FI, FL, FR, GR, AI, AL, AR, BR, AN, C) k Φ Ψ := by
  unfold mX4_longOf at hm
  refine oX_aload_n dX4_longOf_0 rfl rfl ?_
  refine oX_getF fX4_142 rfl oDs1 dX4_longOf_1 (ohF162 hM) ?_
  refine oX_iload_n dX4_longOf_4 rfl rfl ?_
  obtain ⟨g1, hm⟩ := gd_s hm
  refine oX_iald oDs162 (oIn (ohN162 hM) g1) dX4_longOf_5 ?_
  refine oX_aload_n dX4_longOf_6 rfl rfl ?_
  refine oX_getF fX4_139 rfl oDs1 dX4_longOf_7 (ohF161 hM) ?_
  refine oX_iload_n dX4_longOf_10 rfl rfl ?_
  obtain ⟨g2, hm⟩ := gd_s hm
  refine oX_iald oDs161 (oIn (ohN161 hM) g2) dX4_longOf_11 ?_
  refine oX_isub dX4_longOf_12 ?_
  obtain rfl := Option.some.inj hm
  exact oX_iret dX4_longOf_13 rfl rfl hK
theorem t_X4_longOf {G : OhG} {FI AI : OhI} {FL AL : OhL} {FR GR AR BR : OhQ} {AN : OhN} {C : OhC} (hM : ohShM FR AN) (x1 : Int32) {o : Int32} (hm : mX4_longOf FR AI AN x1 = some o) : oT G 1 iX4_longOf [vR (some (1, 0)), vI x1] (FI, FL, FR, GR, AI, AL, AR, BR, AN, C) (0, 0) (fun v h => v = (some (vI o)) ∧ h = (FI, FL, FR, GR, AI, AL, AR, BR, AN, C)) ohNo :=
  oT_of (by decide) rfl (Nat.le_of_ble_eq_true rfl) (x_mX4_longOf hM x1 hm ⟨rfl, rfl⟩)
abbrev iX4_learnedOf : OhM := (yX4_learnedOf, cX4_learnedOf, 7, (some .int), [])
theorem ok_X4_learnedOf : oOk iX4_learnedOf 3 := ⟨by decide, by decide, by decide +kernel⟩

noncomputable def mX4_learnedOf_b19 (n : Nat) (FI : OhI) (FR : OhQ) (AI : OhI) (AN : OhN) (x1 : Int32) (x2 : Int32) (x3 : Int32) (x4 : Int32) (x5 : Int32) (x6 : Int32) : Option ((Int32 × Int32) ⊕ (Int32)) :=
  (if (FI 1 0 67) ≤ x6 then
  some (.inr x4)
else
  gd (vp_in x6 200) <|
    (if (FI 1 0 78) < (AI 151 0 x6.toNatClampNeg) then
    some (.inl (x4 + (0 : Int32), x6 + (1 : Int32)))
  else
    gd (vp_in x6 200) <|
      (if (AI 148 0 x6.toNatClampNeg) = x1 then
      gd (vp_in x6 200) <|
        (if (AI 149 0 x6.toNatClampNeg) = x5 then
        gd (vp_in x6 200) <|
          some (.inl (x4 + (AI 150 0 x6.toNatClampNeg), x6 + (1 : Int32)))
      else
        some (.inl (x4 + (0 : Int32), x6 + (1 : Int32))))
    else
      some (.inl (x4 + (0 : Int32), x6 + (1 : Int32))))))
theorem x_mX4_learnedOf_b19 {G : OhG} {FI AI : OhI} {FL AL : OhL} {FR GR AR BR : OhQ} {AN : OhN} {C : OhC} {k : Nat × Nat} {Φ : OhP} {Ψ : OhX} (hM : ohShM FR AN) (n : Nat) (x1 : Int32) (x2 : Int32) (x3 : Int32) (x4 : Int32) (x5 : Int32) (x6 : Int32) {r : (Int32 × Int32) ⊕ (Int32)} (hm : mX4_learnedOf_b19 n FI FR AI AN x1 x2 x3 x4 x5 x6 = some r) (hk : ∀ v : Int32 × Int32, r = .inl v → oX G 2 iX4_learnedOf 19 [(0, vR (some (1, 0))), (1, vI x1), (2, vI x2), (3, vI x3), (4, vI v.1), (5, vI x5), (6, vI v.2)] [] (FI, FL, FR, GR, AI, AL, AR, BR, AN, C) k Φ Ψ) (hx1 : ∀ v : Int32, r = .inr v → oX G 2 iX4_learnedOf 87 [(0, vR (some (1, 0))), (1, vI x1), (2, vI x2), (3, vI x3), (4, vI v)] [] (FI, FL, FR, GR, AI, AL, AR, BR, AN, C) k Φ Ψ) : oX G 2 iX4_learnedOf 19 [(0, vR (some (1, 0))), (1, vI x1), (2, vI x2), (3, vI x3), (4, vI x4), (5, vI x5), (6, vI x6)] [] (FI, FL, FR, GR, AI, AL, AR, BR, AN, C) k Φ Ψ := by
  unfold mX4_learnedOf_b19 at hm
  refine oX_iload dX4_learnedOf_19 rfl ?_
  refine oX_aload_n dX4_learnedOf_21 rfl rfl ?_
  refine oX_getI fX4_417 rfl oDs1 dX4_learnedOf_22 ?_
  refine oX_icmp_ge (tgt := 87) dX4_learnedOf_25 (by decide) (fun c2 => ?_) (fun c2 => ?_)
  · have hm := ifp c2 hm
    exact oX_sub [0, 1, 2, 3, 4] rfl (hx1 x4 (Option.some.inj hm).symm)
  · have hm := ifn c2 hm
    refine oX_iload dX4_learnedOf_28 rfl ?_
    refine oX_aload_n dX4_learnedOf_30 rfl rfl ?_
    refine oX_getF fX4_109 rfl oDs1 dX4_learnedOf_31 (ohF151 hM) ?_
    refine oX_iload dX4_learnedOf_34 rfl ?_
    obtain ⟨g3, hm⟩ := gd_s hm
    refine oX_iald oDs151 (oIn (ohN151 hM) g3) dX4_learnedOf_36 ?_
    refine oX_aload_n dX4_learnedOf_37 rfl rfl ?_
    refine oX_getI fX4_443 rfl oDs1 dX4_learnedOf_38 ?_
    refine oX_icmp_gt (tgt := 77) dX4_learnedOf_41 (by decide) (fun c4 => ?_) (fun c4 => ?_)
    · have hm := ifp c4 hm
      refine oX_iconst (v := (0 : Int32)) dX4_learnedOf_77 (by decide) ?_
      refine oX_iadd dX4_learnedOf_78 ?_
      refine oX_istore (ls' := [(4, vI (x4 + (0 : Int32))), (0, vR (some (1, 0))), (1, vI x1), (2, vI x2), (3, vI x3), (5, vI x5), (6, vI x6)]) dX4_learnedOf_79 (by decide) rfl ?_
      refine oX_iinc (v := x6 + (1 : Int32)) (ls' := [(6, vI (x6 + (1 : Int32))), (4, vI (x4 + (0 : Int32))), (0, vR (some (1, 0))), (1, vI x1), (2, vI x2), (3, vI x3), (5, vI x5)]) dX4_learnedOf_81 rfl rfl (by decide) rfl ?_
      refine oX_goto (tgt := 19) dX4_learnedOf_84 (by decide) ?_
      exact oX_sub [2, 3, 4, 5, 1, 6, 0] rfl (hk (x4 + (0 : Int32), x6 + (1 : Int32)) (Option.some.inj hm).symm)
    · have hm := ifn c4 hm
      refine oX_aload_n dX4_learnedOf_44 rfl rfl ?_
      refine oX_getF fX4_100 rfl oDs1 dX4_learnedOf_45 (ohF148 hM) ?_
      refine oX_iload dX4_learnedOf_48 rfl ?_
      obtain ⟨g5, hm⟩ := gd_s hm
      refine oX_iald oDs148 (oIn (ohN148 hM) g5) dX4_learnedOf_50 ?_
      refine oX_iload_n dX4_learnedOf_51 rfl rfl ?_
      refine oX_icmp_ne (tgt := 77) dX4_learnedOf_52 (by decide) (fun c6 => ?_) (fun c6 => ?_)
      · have hm := ifp c6 hm
        refine oX_aload_n dX4_learnedOf_55 rfl rfl ?_
        refine oX_getF fX4_103 rfl oDs1 dX4_learnedOf_56 (ohF149 hM) ?_
        refine oX_iload dX4_learnedOf_59 rfl ?_
        obtain ⟨g7, hm⟩ := gd_s hm
        refine oX_iald oDs149 (oIn (ohN149 hM) g7) dX4_learnedOf_61 ?_
        refine oX_iload dX4_learnedOf_62 rfl ?_
        refine oX_icmp_ne (tgt := 77) dX4_learnedOf_64 (by decide) (fun c8 => ?_) (fun c8 => ?_)
        · have hm := ifp c8 hm
          refine oX_aload_n dX4_learnedOf_67 rfl rfl ?_
          refine oX_getF fX4_106 rfl oDs1 dX4_learnedOf_68 (ohF150 hM) ?_
          refine oX_iload dX4_learnedOf_71 rfl ?_
          obtain ⟨g9, hm⟩ := gd_s hm
          refine oX_iald oDs150 (oIn (ohN150 hM) g9) dX4_learnedOf_73 ?_
          refine oX_goto (tgt := 78) dX4_learnedOf_74 (by decide) ?_
          refine oX_iadd dX4_learnedOf_78 ?_
          refine oX_istore (ls' := [(4, vI (x4 + (AI 150 0 x6.toNatClampNeg))), (0, vR (some (1, 0))), (1, vI x1), (2, vI x2), (3, vI x3), (5, vI x5), (6, vI x6)]) dX4_learnedOf_79 (by decide) rfl ?_
          refine oX_iinc (v := x6 + (1 : Int32)) (ls' := [(6, vI (x6 + (1 : Int32))), (4, vI (x4 + (AI 150 0 x6.toNatClampNeg))), (0, vR (some (1, 0))), (1, vI x1), (2, vI x2), (3, vI x3), (5, vI x5)]) dX4_learnedOf_81 rfl rfl (by decide) rfl ?_
          refine oX_goto (tgt := 19) dX4_learnedOf_84 (by decide) ?_
          exact oX_sub [2, 3, 4, 5, 1, 6, 0] rfl (hk (x4 + (AI 150 0 x6.toNatClampNeg), x6 + (1 : Int32)) (Option.some.inj hm).symm)
        · have hm := ifn c8 hm
          refine oX_iconst (v := (0 : Int32)) dX4_learnedOf_77 (by decide) ?_
          refine oX_iadd dX4_learnedOf_78 ?_
          refine oX_istore (ls' := [(4, vI (x4 + (0 : Int32))), (0, vR (some (1, 0))), (1, vI x1), (2, vI x2), (3, vI x3), (5, vI x5), (6, vI x6)]) dX4_learnedOf_79 (by decide) rfl ?_
          refine oX_iinc (v := x6 + (1 : Int32)) (ls' := [(6, vI (x6 + (1 : Int32))), (4, vI (x4 + (0 : Int32))), (0, vR (some (1, 0))), (1, vI x1), (2, vI x2), (3, vI x3), (5, vI x5)]) dX4_learnedOf_81 rfl rfl (by decide) rfl ?_
          refine oX_goto (tgt := 19) dX4_learnedOf_84 (by decide) ?_
          exact oX_sub [2, 3, 4, 5, 1, 6, 0] rfl (hk (x4 + (0 : Int32), x6 + (1 : Int32)) (Option.some.inj hm).symm)
      · have hm := ifn c6 hm
        refine oX_iconst (v := (0 : Int32)) dX4_learnedOf_77 (by decide) ?_
        refine oX_iadd dX4_learnedOf_78 ?_
        refine oX_istore (ls' := [(4, vI (x4 + (0 : Int32))), (0, vR (some (1, 0))), (1, vI x1), (2, vI x2), (3, vI x3), (5, vI x5), (6, vI x6)]) dX4_learnedOf_79 (by decide) rfl ?_
        refine oX_iinc (v := x6 + (1 : Int32)) (ls' := [(6, vI (x6 + (1 : Int32))), (4, vI (x4 + (0 : Int32))), (0, vR (some (1, 0))), (1, vI x1), (2, vI x2), (3, vI x3), (5, vI x5)]) dX4_learnedOf_81 rfl rfl (by decide) rfl ?_
        refine oX_goto (tgt := 19) dX4_learnedOf_84 (by decide) ?_
        exact oX_sub [2, 3, 4, 5, 1, 6, 0] rfl (hk (x4 + (0 : Int32), x6 + (1 : Int32)) (Option.some.inj hm).symm)
theorem l_mX4_learnedOf_b19 {G : OhG} {FI : OhI} {FL : OhL} {FR : OhQ} {GR : OhQ} {AI : OhI} {AL : OhL} {AR : OhQ} {BR : OhQ} {AN : OhN} {C : OhC} {k : Nat × Nat} {Φ : OhP} {Ψ : OhX} (hM : ohShM FR AN) (n : Nat) (x1 : Int32) (x2 : Int32) (x3 : Int32) (x5 : Int32) : ∀ (f : Nat) (x4 : Int32) (x6 : Int32) (b : (Int32)), lpF (fun v => mX4_learnedOf_b19 n FI FR AI AN x1 x2 x3 v.1 x5 v.2) f (x4, x6) = some b → (oX G 2 iX4_learnedOf 87 [(0, vR (some (1, 0))), (1, vI x1), (2, vI x2), (3, vI x3), (4, vI b)] [] (FI, FL, FR, GR, AI, AL, AR, BR, AN, C) k Φ Ψ) → oX G 2 iX4_learnedOf 19 [(0, vR (some (1, 0))), (1, vI x1), (2, vI x2), (3, vI x3), (4, vI x4), (5, vI x5), (6, vI x6)] [] (FI, FL, FR, GR, AI, AL, AR, BR, AN, C) k Φ Ψ := by
  intro f
  induction f with
  | zero =>
    intro x4 x6 b hm
    cases hm
  | succ f ih =>
    intro x4 x6 b hm hx1
    obtain ⟨r, hr, hm⟩ := lp_s hm
    refine x_mX4_learnedOf_b19 hM n x1 x2 x3 x4 x5 x6 hr (fun v e => ?_) (fun v e => ?_)
    · subst e; exact ih v.1 v.2 _ hm hx1
    · subst e; cases (show v = b from hm); exact hx1
noncomputable def mX4_learnedOf_b90 (n : Nat) (FI : OhI) (FR : OhQ) (AI : OhI) (AN : OhN) (x1 : Int32) (x2 : Int32) (x3 : Int32) (x4 : Int32) (x6 : Int32) : Option ((Int32 × Int32) ⊕ (Int32)) :=
  (if (FI 1 0 71) ≤ x6 then
  some (.inr x4)
else
  gd (vp_in x6 66) <|
    (if (AI 163 0 x6.toNatClampNeg) = (3 : Int32) then
    some (.inl (x4 + (0 : Int32), x6 + (1 : Int32)))
  else
    gd (vp_in x6 66) <|
      gd (vp_in x2 66) <|
      (if (AI 164 0 x6.toNatClampNeg) = (AI 164 0 x2.toNatClampNeg) then
      gd (vp_in (((8 : Int32) * x6) + x3) 528) <|
        (if (AI 172 0 (((8 : Int32) * x6) + x3).toNatClampNeg) = x1 then
        gd (vp_in x6 66) <|
          gd (vp_in x2 66) <|
          (if (AI 161 0 x2.toNatClampNeg) < (AI 162 0 x6.toNatClampNeg) then
          some (.inl (x4 + (0 : Int32), x6 + (1 : Int32)))
        else
          (mX4_longOf FR AI AN x6).bind fun r22 =>
            some (.inl (x4 + r22, x6 + (1 : Int32))))
      else
        some (.inl (x4 + (0 : Int32), x6 + (1 : Int32))))
    else
      some (.inl (x4 + (0 : Int32), x6 + (1 : Int32))))))
theorem x_mX4_learnedOf_b90 {G : OhG} {FI AI : OhI} {FL AL : OhL} {FR GR AR BR : OhQ} {AN : OhN} {C : OhC} {k : Nat × Nat} {Φ : OhP} {Ψ : OhX} (hM : ohShM FR AN) (n : Nat) (x1 : Int32) (x2 : Int32) (x3 : Int32) (x4 : Int32) (x6 : Int32) {r : (Int32 × Int32) ⊕ (Int32)} (hm : mX4_learnedOf_b90 n FI FR AI AN x1 x2 x3 x4 x6 = some r) (hk : ∀ v : Int32 × Int32, r = .inl v → oX G 2 iX4_learnedOf 90 [(0, vR (some (1, 0))), (1, vI x1), (2, vI x2), (3, vI x3), (4, vI v.1), (6, vI v.2)] [] (FI, FL, FR, GR, AI, AL, AR, BR, AN, C) k Φ Ψ) (hx1 : ∀ v : Int32, r = .inr v → oX G 2 iX4_learnedOf 179 [(4, vI v)] [] (FI, FL, FR, GR, AI, AL, AR, BR, AN, C) k Φ Ψ) : oX G 2 iX4_learnedOf 90 [(0, vR (some (1, 0))), (1, vI x1), (2, vI x2), (3, vI x3), (4, vI x4), (6, vI x6)] [] (FI, FL, FR, GR, AI, AL, AR, BR, AN, C) k Φ Ψ := by
  unfold mX4_learnedOf_b90 at hm
  refine oX_iload dX4_learnedOf_90 rfl ?_
  refine oX_aload_n dX4_learnedOf_92 rfl rfl ?_
  refine oX_getI fX4_446 rfl oDs1 dX4_learnedOf_93 ?_
  refine oX_icmp_ge (tgt := 179) dX4_learnedOf_96 (by decide) (fun c11 => ?_) (fun c11 => ?_)
  · have hm := ifp c11 hm
    exact oX_sub [4] rfl (hx1 x4 (Option.some.inj hm).symm)
  · have hm := ifn c11 hm
    refine oX_iload dX4_learnedOf_99 rfl ?_
    refine oX_aload_n dX4_learnedOf_101 rfl rfl ?_
    refine oX_getF fX4_145 rfl oDs1 dX4_learnedOf_102 (ohF163 hM) ?_
    refine oX_iload dX4_learnedOf_105 rfl ?_
    obtain ⟨g12, hm⟩ := gd_s hm
    refine oX_iald oDs163 (oIn (ohN163 hM) g12) dX4_learnedOf_107 ?_
    refine oX_iconst (v := (3 : Int32)) dX4_learnedOf_108 (by decide) ?_
    refine oX_icmp_eq (tgt := 169) dX4_learnedOf_109 (by decide) (fun c13 => ?_) (fun c13 => ?_)
    · have hm := ifp c13 hm
      refine oX_iconst (v := (0 : Int32)) dX4_learnedOf_169 (by decide) ?_
      refine oX_iadd dX4_learnedOf_170 ?_
      refine oX_istore (ls' := [(4, vI (x4 + (0 : Int32))), (0, vR (some (1, 0))), (1, vI x1), (2, vI x2), (3, vI x3), (6, vI x6)]) dX4_learnedOf_171 (by decide) rfl ?_
      refine oX_iinc (v := x6 + (1 : Int32)) (ls' := [(6, vI (x6 + (1 : Int32))), (4, vI (x4 + (0 : Int32))), (0, vR (some (1, 0))), (1, vI x1), (2, vI x2), (3, vI x3)]) dX4_learnedOf_173 rfl rfl (by decide) rfl ?_
      refine oX_goto (tgt := 90) dX4_learnedOf_176 (by decide) ?_
      exact oX_sub [2, 3, 4, 5, 1, 0] rfl (hk (x4 + (0 : Int32), x6 + (1 : Int32)) (Option.some.inj hm).symm)
    · have hm := ifn c13 hm
      refine oX_aload_n dX4_learnedOf_112 rfl rfl ?_
      refine oX_getF fX4_148 rfl oDs1 dX4_learnedOf_113 (ohF164 hM) ?_
      refine oX_iload dX4_learnedOf_116 rfl ?_
      obtain ⟨g14, hm⟩ := gd_s hm
      refine oX_iald oDs164 (oIn (ohN164 hM) g14) dX4_learnedOf_118 ?_
      refine oX_aload_n dX4_learnedOf_119 rfl rfl ?_
      refine oX_getF fX4_148 rfl oDs1 dX4_learnedOf_120 (ohF164 hM) ?_
      refine oX_iload_n dX4_learnedOf_123 rfl rfl ?_
      obtain ⟨g15, hm⟩ := gd_s hm
      refine oX_iald oDs164 (oIn (ohN164 hM) g15) dX4_learnedOf_124 ?_
      refine oX_icmp_ne (tgt := 169) dX4_learnedOf_125 (by decide) (fun c16 => ?_) (fun c16 => ?_)
      · have hm := ifp c16 hm
        refine oX_aload_n dX4_learnedOf_128 rfl rfl ?_
        refine oX_getF fX4_157 rfl oDs1 dX4_learnedOf_129 (ohF172 hM) ?_
        refine oX_bipush (v := (8 : Int32)) dX4_learnedOf_132 (by decide) ?_
        refine oX_iload dX4_learnedOf_134 rfl ?_
        refine oX_imul dX4_learnedOf_136 ?_
        refine oX_iload_n dX4_learnedOf_137 rfl rfl ?_
        refine oX_iadd dX4_learnedOf_138 ?_
        obtain ⟨g17, hm⟩ := gd_s hm
        refine oX_iald oDs172 (oIn (ohN172 hM) g17) dX4_learnedOf_139 ?_
        refine oX_iload_n dX4_learnedOf_140 rfl rfl ?_
        refine oX_icmp_ne (tgt := 169) dX4_learnedOf_141 (by decide) (fun c18 => ?_) (fun c18 => ?_)
        · have hm := ifp c18 hm
          refine oX_aload_n dX4_learnedOf_144 rfl rfl ?_
          refine oX_getF fX4_142 rfl oDs1 dX4_learnedOf_145 (ohF162 hM) ?_
          refine oX_iload dX4_learnedOf_148 rfl ?_
          obtain ⟨g19, hm⟩ := gd_s hm
          refine oX_iald oDs162 (oIn (ohN162 hM) g19) dX4_learnedOf_150 ?_
          refine oX_aload_n dX4_learnedOf_151 rfl rfl ?_
          refine oX_getF fX4_139 rfl oDs1 dX4_learnedOf_152 (ohF161 hM) ?_
          refine oX_iload_n dX4_learnedOf_155 rfl rfl ?_
          obtain ⟨g20, hm⟩ := gd_s hm
          refine oX_iald oDs161 (oIn (ohN161 hM) g20) dX4_learnedOf_156 ?_
          refine oX_icmp_gt (tgt := 169) dX4_learnedOf_157 (by decide) (fun c21 => ?_) (fun c21 => ?_)
          · have hm := ifp c21 hm
            refine oX_iconst (v := (0 : Int32)) dX4_learnedOf_169 (by decide) ?_
            refine oX_iadd dX4_learnedOf_170 ?_
            refine oX_istore (ls' := [(4, vI (x4 + (0 : Int32))), (0, vR (some (1, 0))), (1, vI x1), (2, vI x2), (3, vI x3), (6, vI x6)]) dX4_learnedOf_171 (by decide) rfl ?_
            refine oX_iinc (v := x6 + (1 : Int32)) (ls' := [(6, vI (x6 + (1 : Int32))), (4, vI (x4 + (0 : Int32))), (0, vR (some (1, 0))), (1, vI x1), (2, vI x2), (3, vI x3)]) dX4_learnedOf_173 rfl rfl (by decide) rfl ?_
            refine oX_goto (tgt := 90) dX4_learnedOf_176 (by decide) ?_
            exact oX_sub [2, 3, 4, 5, 1, 0] rfl (hk (x4 + (0 : Int32), x6 + (1 : Int32)) (Option.some.inj hm).symm)
          · have hm := ifn c21 hm
            refine oX_aload_n dX4_learnedOf_160 rfl rfl ?_
            refine oX_iload dX4_learnedOf_161 rfl ?_
            obtain ⟨r22, g22, hm⟩ := bd_s hm
            refine oX_cV (as := [vI x6]) dX4_learnedOf_163 rfl oDs1 rfl (by decide) rfl ok_X4_longOf rfl rfl q2229 q2231 qs89 q136 q2232 (by decide) (Nat.le_of_ble_eq_true rfl) (t_X4_longOf hM x6 g22) ?_
            refine oX_goto (tgt := 170) dX4_learnedOf_166 (by decide) ?_
            refine oX_iadd dX4_learnedOf_170 ?_
            refine oX_istore (ls' := [(4, vI (x4 + r22)), (0, vR (some (1, 0))), (1, vI x1), (2, vI x2), (3, vI x3), (6, vI x6)]) dX4_learnedOf_171 (by decide) rfl ?_
            refine oX_iinc (v := x6 + (1 : Int32)) (ls' := [(6, vI (x6 + (1 : Int32))), (4, vI (x4 + r22)), (0, vR (some (1, 0))), (1, vI x1), (2, vI x2), (3, vI x3)]) dX4_learnedOf_173 rfl rfl (by decide) rfl ?_
            refine oX_goto (tgt := 90) dX4_learnedOf_176 (by decide) ?_
            exact oX_sub [2, 3, 4, 5, 1, 0] rfl (hk (x4 + r22, x6 + (1 : Int32)) (Option.some.inj hm).symm)
        · have hm := ifn c18 hm
          refine oX_iconst (v := (0 : Int32)) dX4_learnedOf_169 (by decide) ?_
          refine oX_iadd dX4_learnedOf_170 ?_
          refine oX_istore (ls' := [(4, vI (x4 + (0 : Int32))), (0, vR (some (1, 0))), (1, vI x1), (2, vI x2), (3, vI x3), (6, vI x6)]) dX4_learnedOf_171 (by decide) rfl ?_
          refine oX_iinc (v := x6 + (1 : Int32)) (ls' := [(6, vI (x6 + (1 : Int32))), (4, vI (x4 + (0 : Int32))), (0, vR (some (1, 0))), (1, vI x1), (2, vI x2), (3, vI x3)]) dX4_learnedOf_173 rfl rfl (by decide) rfl ?_
          refine oX_goto (tgt := 90) dX4_learnedOf_176 (by decide) ?_
          exact oX_sub [2, 3, 4, 5, 1, 0] rfl (hk (x4 + (0 : Int32), x6 + (1 : Int32)) (Option.some.inj hm).symm)
      · have hm := ifn c16 hm
        refine oX_iconst (v := (0 : Int32)) dX4_learnedOf_169 (by decide) ?_
        refine oX_iadd dX4_learnedOf_170 ?_
        refine oX_istore (ls' := [(4, vI (x4 + (0 : Int32))), (0, vR (some (1, 0))), (1, vI x1), (2, vI x2), (3, vI x3), (6, vI x6)]) dX4_learnedOf_171 (by decide) rfl ?_
        refine oX_iinc (v := x6 + (1 : Int32)) (ls' := [(6, vI (x6 + (1 : Int32))), (4, vI (x4 + (0 : Int32))), (0, vR (some (1, 0))), (1, vI x1), (2, vI x2), (3, vI x3)]) dX4_learnedOf_173 rfl rfl (by decide) rfl ?_
        refine oX_goto (tgt := 90) dX4_learnedOf_176 (by decide) ?_
        exact oX_sub [2, 3, 4, 5, 1, 0] rfl (hk (x4 + (0 : Int32), x6 + (1 : Int32)) (Option.some.inj hm).symm)
theorem l_mX4_learnedOf_b90 {G : OhG} {FI : OhI} {FL : OhL} {FR : OhQ} {GR : OhQ} {AI : OhI} {AL : OhL} {AR : OhQ} {BR : OhQ} {AN : OhN} {C : OhC} {k : Nat × Nat} {Φ : OhP} {Ψ : OhX} (hM : ohShM FR AN) (n : Nat) (x1 : Int32) (x2 : Int32) (x3 : Int32) : ∀ (f : Nat) (x4 : Int32) (x6 : Int32) (b : (Int32)), lpF (fun v => mX4_learnedOf_b90 n FI FR AI AN x1 x2 x3 v.1 v.2) f (x4, x6) = some b → (oX G 2 iX4_learnedOf 179 [(4, vI b)] [] (FI, FL, FR, GR, AI, AL, AR, BR, AN, C) k Φ Ψ) → oX G 2 iX4_learnedOf 90 [(0, vR (some (1, 0))), (1, vI x1), (2, vI x2), (3, vI x3), (4, vI x4), (6, vI x6)] [] (FI, FL, FR, GR, AI, AL, AR, BR, AN, C) k Φ Ψ := by
  intro f
  induction f with
  | zero =>
    intro x4 x6 b hm
    cases hm
  | succ f ih =>
    intro x4 x6 b hm hx1
    obtain ⟨r, hr, hm⟩ := lp_s hm
    refine x_mX4_learnedOf_b90 hM n x1 x2 x3 x4 x6 hr (fun v e => ?_) (fun v e => ?_)
    · subst e; exact ih v.1 v.2 _ hm hx1
    · subst e; cases (show v = b from hm); exact hx1
noncomputable def mX4_learnedOf (n : Nat) (FI : OhI) (FR : OhQ) (AI : OhI) (AN : OhN) (x1 : Int32) (x2 : Int32) (x3 : Int32) : Option (Int32) :=
  gd (vp_in x2 66) <|
  (lpF (fun v => mX4_learnedOf_b19 n FI FR AI AN x1 x2 x3 v.1 (((8 : Int32) * (AI 164 0 x2.toNatClampNeg)) + x3) v.2) n ((0 : Int32), (0 : Int32))).bind fun v10 =>
  (lpF (fun v => mX4_learnedOf_b90 n FI FR AI AN x1 x2 x3 v.1 v.2) n (v10, (0 : Int32))).bind fun v23 =>
  some v23
theorem x_mX4_learnedOf {G : OhG} {FI AI : OhI} {FL AL : OhL} {FR GR AR BR : OhQ} {AN : OhN} {C : OhC} {k : Nat × Nat} {Φ : OhP} {Ψ : OhX} (hM : ohShM FR AN) (n : Nat) (x1 : Int32) (x2 : Int32) (x3 : Int32) {r : Int32} (hm : mX4_learnedOf n FI FR AI AN x1 x2 x3 = some r) (hK : Φ (some (vI r)) (FI, FL, FR, GR, AI, AL, AR, BR, AN, C)) : oX G 2 iX4_learnedOf 0 [(0, vR (some (1, 0))), (1, vI x1), (2, vI x2), (3, vI x3)] [] (FI, FL, FR, GR, AI, AL, AR, BR, AN, C) k Φ Ψ := by
  unfold mX4_learnedOf at hm
  refine oX_iconst (v := (0 : Int32)) dX4_learnedOf_0 (by decide) ?_
  refine oX_istore (ls' := [(4, vI (0 : Int32)), (0, vR (some (1, 0))), (1, vI x1), (2, vI x2), (3, vI x3)]) dX4_learnedOf_1 (by decide) rfl ?_
  refine oX_bipush (v := (8 : Int32)) dX4_learnedOf_3 (by decide) ?_
  refine oX_aload_n dX4_learnedOf_5 rfl rfl ?_
  refine oX_getF fX4_148 rfl oDs1 dX4_learnedOf_6 (ohF164 hM) ?_
  refine oX_iload_n dX4_learnedOf_9 rfl rfl ?_
  obtain ⟨g1, hm⟩ := gd_s hm
  refine oX_iald oDs164 (oIn (ohN164 hM) g1) dX4_learnedOf_10 ?_
  refine oX_imul dX4_learnedOf_11 ?_
  refine oX_iload_n dX4_learnedOf_12 rfl rfl ?_
  refine oX_iadd dX4_learnedOf_13 ?_
  refine oX_istore (ls' := [(5, vI (((8 : Int32) * (AI 164 0 x2.toNatClampNeg)) + x3)), (4, vI (0 : Int32)), (0, vR (some (1, 0))), (1, vI x1), (2, vI x2), (3, vI x3)]) dX4_learnedOf_14 (by decide) rfl ?_
  refine oX_iconst (v := (0 : Int32)) dX4_learnedOf_16 (by decide) ?_
  refine oX_istore (ls' := [(6, vI (0 : Int32)), (5, vI (((8 : Int32) * (AI 164 0 x2.toNatClampNeg)) + x3)), (4, vI (0 : Int32)), (0, vR (some (1, 0))), (1, vI x1), (2, vI x2), (3, vI x3)]) dX4_learnedOf_17 (by decide) rfl ?_
  obtain ⟨v10, g10, hm⟩ := bd_s hm
  refine oX_sub [3, 4, 5, 6, 2, 1, 0] rfl (l_mX4_learnedOf_b19 hM n x1 x2 x3 (((8 : Int32) * (AI 164 0 x2.toNatClampNeg)) + x3) n (0 : Int32) (0 : Int32) _ g10 ?_)
  refine oX_iconst (v := (0 : Int32)) dX4_learnedOf_87 (by decide) ?_
  refine oX_istore (ls' := [(6, vI (0 : Int32)), (0, vR (some (1, 0))), (1, vI x1), (2, vI x2), (3, vI x3), (4, vI v10)]) dX4_learnedOf_88 (by decide) rfl ?_
  obtain ⟨v23, g23, hm⟩ := bd_s hm
  refine oX_sub [1, 2, 3, 4, 5, 0] rfl (l_mX4_learnedOf_b90 hM n x1 x2 x3 n v10 (0 : Int32) _ g23 ?_)
  refine oX_iload dX4_learnedOf_179 rfl ?_
  obtain rfl := Option.some.inj hm
  exact oX_iret dX4_learnedOf_181 rfl rfl hK
theorem t_X4_learnedOf {G : OhG} {FI AI : OhI} {FL AL : OhL} {FR GR AR BR : OhQ} {AN : OhN} {C : OhC} (hM : ohShM FR AN) (n : Nat) (x1 : Int32) (x2 : Int32) (x3 : Int32) {o : Int32} (hm : mX4_learnedOf n FI FR AI AN x1 x2 x3 = some o) : oT G 2 iX4_learnedOf [vR (some (1, 0)), vI x1, vI x2, vI x3] (FI, FL, FR, GR, AI, AL, AR, BR, AN, C) (0, 0) (fun v h => v = (some (vI o)) ∧ h = (FI, FL, FR, GR, AI, AL, AR, BR, AN, C)) ohNo :=
  oT_of (by decide) rfl (Nat.le_of_ble_eq_true rfl) (x_mX4_learnedOf hM n x1 x2 x3 hm ⟨rfl, rfl⟩)
abbrev iX4_learned : OhM := (yX4_learned, cX4_learned, 5, (some .int), [])
theorem ok_X4_learned : oOk iX4_learned 4 := ⟨by decide, by decide, by decide +kernel⟩

noncomputable def mX4_learned (n : Nat) (FI : OhI) (FR : OhQ) (AI : OhI) (AN : OhN) (x1 : Int32) (x2 : Int32) (x3 : Int32) (x4 : Int32) : Option (Int32 × OhI × OhI) :=
  oLet (sA FI 1 0 (uA (FI 1 0) 0 (0 : Int32))) fun FI1 =>
  (mX4_isSinger FI1 x1).bind fun r2 =>
  (if r2 = 0 then
  some ((-1 : Int32), FI1, AI)
else
  (mX4_isCallRole FI1 FR AI AN x2 x3).bind fun r4 =>
    (if r4 = 0 then
    some ((-1 : Int32), FI1, AI)
  else
    (mX4_load n FI1 FR AI AN x4).bind fun r6 =>
      (mX4_learnedOf n r6.1 FR r6.2 AN x1 x2 x3).bind fun r7 =>
      some (r7, r6.1, r6.2)))
theorem x_mX4_learned {G : OhG} {FI AI : OhI} {FL AL : OhL} {FR GR AR BR : OhQ} {AN : OhN} {C : OhC} {k : Nat × Nat} {Φ : OhP} {Ψ : OhX} (hM : ohShM FR AN) (n : Nat) (x1 : Int32) (x2 : Int32) (x3 : Int32) (x4 : Int32) {r : Int32 × OhI × OhI} (hm : mX4_learned n FI FR AI AN x1 x2 x3 x4 = some r) (hK : Φ (some (vI r.1)) (r.2.1, FL, FR, GR, r.2.2, AL, AR, BR, AN, C)) : oX G 4 iX4_learned 0 [(0, vR (some (1, 0))), (1, vI x1), (2, vI x2), (3, vI x3), (4, vI x4)] [] (FI, FL, FR, GR, AI, AL, AR, BR, AN, C) k Φ Ψ := by
  unfold mX4_learned at hm
  refine oX_aload_n dX4_learned_0 rfl rfl ?_
  refine oX_iconst (v := (0 : Int32)) dX4_learned_1 (by decide) ?_
  obtain ⟨FI1, hFI1, hm⟩ := oLs hm
  refine oX_putI fX4_226 rfl (fun h9 => by cases h9) oDs1 dX4_learned_2 ⟨rfl, rfl⟩ hFI1 ?_
  refine oX_aload_n dX4_learned_5 rfl rfl ?_
  refine oX_iload_n dX4_learned_6 rfl rfl ?_
  obtain ⟨r2, g2, hm⟩ := bd_s hm
  refine oX_cV (as := [vI x1]) dX4_learned_7 rfl oDs1 rfl (by decide) rfl ok_X4_isSinger rfl rfl q2063 q2065 qs62 q136 q2066 (by decide) (Nat.le_of_ble_eq_true rfl) (t_X4_isSinger x1 g2) ?_
  refine oX_if_eq (tgt := 22) dX4_learned_10 (by decide) (fun c3 => ?_) (fun c3 => ?_)
  · have hm := ifp c3 hm
    refine oX_iconst (v := (-1 : Int32)) dX4_learned_22 (by decide) ?_
    obtain rfl := Option.some.inj hm
    exact oX_iret dX4_learned_23 rfl rfl hK
  · have hm := ifn c3 hm
    refine oX_aload_n dX4_learned_13 rfl rfl ?_
    refine oX_iload_n dX4_learned_14 rfl rfl ?_
    refine oX_iload_n dX4_learned_15 rfl rfl ?_
    obtain ⟨r4, g4, hm⟩ := bd_s hm
    refine oX_cV (as := [vI x2, vI x3]) dX4_learned_16 rfl oDs1 rfl (by decide) rfl ok_X4_isCallRole rfl rfl q2193 q2195 qs83 q136 q2196 (by decide) (Nat.le_of_ble_eq_true rfl) (t_X4_isCallRole hM x2 x3 g4) ?_
    refine oX_if_ne (tgt := 24) dX4_learned_19 (by decide) (fun c5 => ?_) (fun c5 => ?_)
    · have hm := ifp c5 hm
      refine oX_iconst (v := (-1 : Int32)) dX4_learned_22 (by decide) ?_
      obtain rfl := Option.some.inj hm
      exact oX_iret dX4_learned_23 rfl rfl hK
    · have hm := ifn c5 hm
      refine oX_aload_n dX4_learned_24 rfl rfl ?_
      refine oX_iload dX4_learned_25 rfl ?_
      obtain ⟨r6, g6, hm⟩ := bd_s hm
      refine oX_cV_ (as := [vI x4]) dX4_learned_27 rfl oDs1 rfl (by decide) rfl ok_X4_load rfl rfl q2209 q2211 qs85 q136 q2212 (by decide) (Nat.le_of_ble_eq_true rfl) (t_X4_load hM n x4 g6) ?_
      refine oX_aload_n dX4_learned_30 rfl rfl ?_
      refine oX_iload_n dX4_learned_31 rfl rfl ?_
      refine oX_iload_n dX4_learned_32 rfl rfl ?_
      refine oX_iload_n dX4_learned_33 rfl rfl ?_
      obtain ⟨r7, g7, hm⟩ := bd_s hm
      refine oX_cV (as := [vI x1, vI x2, vI x3]) dX4_learned_34 rfl oDs1 rfl (by decide) rfl ok_X4_learnedOf rfl rfl q2225 q2227 qs88 q136 q2228 (by decide) (Nat.le_of_ble_eq_true rfl) (t_X4_learnedOf hM n x1 x2 x3 g7) ?_
      obtain rfl := Option.some.inj hm
      exact oX_iret dX4_learned_37 rfl rfl hK
theorem t_X4_learned {G : OhG} {FI AI : OhI} {FL AL : OhL} {FR GR AR BR : OhQ} {AN : OhN} {C : OhC} (hM : ohShM FR AN) (n : Nat) (x1 : Int32) (x2 : Int32) (x3 : Int32) (x4 : Int32) {o : Int32 × OhI × OhI} (hm : mX4_learned n FI FR AI AN x1 x2 x3 x4 = some o) : oT G 4 iX4_learned [vR (some (1, 0)), vI x1, vI x2, vI x3, vI x4] (FI, FL, FR, GR, AI, AL, AR, BR, AN, C) (0, 0) (fun v h => v = (some (vI o.1)) ∧ h = (o.2.1, FL, FR, GR, o.2.2, AL, AR, BR, AN, C)) ohNo :=
  oT_of (by decide) rfl (Nat.le_of_ble_eq_true rfl) (x_mX4_learned hM n x1 x2 x3 x4 hm ⟨rfl, rfl⟩)
abbrev iX4_isIn_2 : OhM := (yX4_isIn_2, cX4_isIn_2, 3, (some .boolean), [])
theorem ok_X4_isIn_2 : oOk iX4_isIn_2 2 := ⟨by decide, by decide, by decide +kernel⟩

noncomputable def mX4_isIn_2 (FR : OhQ) (AI : OhI) (AN : OhN) (x1 : Int32) (x2 : Int32) : Option (Int32) :=
  gd (vp_in x2 66) <|
  (if (((AI 177 0 x2.toNatClampNeg) >>> (x1 &&& 31)) &&& (1 : Int32)) = (1 : Int32) then
  some (1 : Int32)
else
  some (0 : Int32))
theorem x_mX4_isIn_2 {G : OhG} {FI AI : OhI} {FL AL : OhL} {FR GR AR BR : OhQ} {AN : OhN} {C : OhC} {k : Nat × Nat} {Φ : OhP} {Ψ : OhX} (hM : ohShM FR AN) (x1 : Int32) (x2 : Int32) {r : Int32} (hm : mX4_isIn_2 FR AI AN x1 x2 = some r) (hK : Φ (some (vI r)) (FI, FL, FR, GR, AI, AL, AR, BR, AN, C)) : oX G 1 iX4_isIn_2 0 [(0, vR (some (1, 0))), (1, vI x1), (2, vI x2)] [] (FI, FL, FR, GR, AI, AL, AR, BR, AN, C) k Φ Ψ := by
  unfold mX4_isIn_2 at hm
  refine oX_aload_n dX4_isIn_2_0 rfl rfl ?_
  refine oX_getF fX4_172 rfl oDs1 dX4_isIn_2_1 (ohF177 hM) ?_
  refine oX_iload_n dX4_isIn_2_4 rfl rfl ?_
  obtain ⟨g1, hm⟩ := gd_s hm
  refine oX_iald oDs177 (oIn (ohN177 hM) g1) dX4_isIn_2_5 ?_
  refine oX_iload_n dX4_isIn_2_6 rfl rfl ?_
  refine oX_ishr dX4_isIn_2_7 ?_
  refine oX_iconst (v := (1 : Int32)) dX4_isIn_2_8 (by decide) ?_
  refine oX_iand dX4_isIn_2_9 ?_
  refine oX_iconst (v := (1 : Int32)) dX4_isIn_2_10 (by decide) ?_
  refine oX_icmp_ne (tgt := 18) dX4_isIn_2_11 (by decide) (fun c2 => ?_) (fun c2 => ?_)
  · have hm := ifp c2 hm
    refine oX_iconst (v := (1 : Int32)) dX4_isIn_2_14 (by decide) ?_
    refine oX_goto (tgt := 19) dX4_isIn_2_15 (by decide) ?_
    obtain rfl := Option.some.inj hm
    exact oX_iret dX4_isIn_2_19 rfl (by decide) hK
  · have hm := ifn c2 hm
    refine oX_iconst (v := (0 : Int32)) dX4_isIn_2_18 (by decide) ?_
    obtain rfl := Option.some.inj hm
    exact oX_iret dX4_isIn_2_19 rfl (by decide) hK
theorem t_X4_isIn_2 {G : OhG} {FI AI : OhI} {FL AL : OhL} {FR GR AR BR : OhQ} {AN : OhN} {C : OhC} (hM : ohShM FR AN) (x1 : Int32) (x2 : Int32) {o : Int32} (hm : mX4_isIn_2 FR AI AN x1 x2 = some o) : oT G 1 iX4_isIn_2 [vR (some (1, 0)), vI x1, vI x2] (FI, FL, FR, GR, AI, AL, AR, BR, AN, C) (0, 0) (fun v h => v = (some (vI o)) ∧ h = (FI, FL, FR, GR, AI, AL, AR, BR, AN, C)) ohNo :=
  oT_of (by decide) rfl (Nat.le_of_ble_eq_true rfl) (x_mX4_isIn_2 hM x1 x2 hm ⟨rfl, rfl⟩)
abbrev iX4_tiredOf : OhM := (yX4_tiredOf, cX4_tiredOf, 9, (some .int), [])
theorem ok_X4_tiredOf : oOk iX4_tiredOf 2 := ⟨by decide, by decide, by decide +kernel⟩

noncomputable def mX4_tiredOf_b34 (n : Nat) (FR : OhQ) (AI : OhI) (AN : OhN) (x1 : Int32) (x2 : Int32) (x3 : Int32) (x4 : Int32) (x5 : Int32) (x6 : Int32) (x7 : Int32) (x8 : Int32) : Option ((Int32 × Int32) ⊕ (Int32)) :=
  gd (vp_in x6 66) <|
  gd (vp_in (AI 164 0 x6.toNatClampNeg) 9) <|
  (if (AI 111 0 (AI 164 0 x6.toNatClampNeg).toNatClampNeg) ≤ x8 then
  some (.inr x7)
else
  (mX4_isIn_2 FR AI AN x1 x6).bind fun r7 =>
    (if r7 = 0 then
    some (.inr x7)
  else
    gd (vp_in (((8 : Int32) * x6) + x8) 528) <|
      (if (AI 172 0 (((8 : Int32) * x6) + x8).toNatClampNeg) = x1 then
      gd (vp_in x6 66) <|
        gd (vp_in (((8 : Int32) * (AI 164 0 x6.toNatClampNeg)) + x8) 72) <|
        some (.inl (x7 + (AI 113 0 (((8 : Int32) * (AI 164 0 x6.toNatClampNeg)) + x8).toNatClampNeg), x8 + (1 : Int32)))
    else
      some (.inl (x7 + (0 : Int32), x8 + (1 : Int32))))))
theorem x_mX4_tiredOf_b34 {G : OhG} {FI AI : OhI} {FL AL : OhL} {FR GR AR BR : OhQ} {AN : OhN} {C : OhC} {k : Nat × Nat} {Φ : OhP} {Ψ : OhX} (hM : ohShM FR AN) (n : Nat) (x1 : Int32) (x2 : Int32) (x3 : Int32) (x4 : Int32) (x5 : Int32) (x6 : Int32) (x7 : Int32) (x8 : Int32) {r : (Int32 × Int32) ⊕ (Int32)} (hm : mX4_tiredOf_b34 n FR AI AN x1 x2 x3 x4 x5 x6 x7 x8 = some r) (hk : ∀ v : Int32 × Int32, r = .inl v → oX G 2 iX4_tiredOf 34 [(0, vR (some (1, 0))), (1, vI x1), (2, vI x2), (3, vI x3), (4, vI x4), (5, vI x5), (6, vI x6), (7, vI v.1), (8, vI v.2)] [] (FI, FL, FR, GR, AI, AL, AR, BR, AN, C) k Φ Ψ) (hx1 : ∀ v : Int32, r = .inr v → oX G 2 iX4_tiredOf 111 [(0, vR (some (1, 0))), (1, vI x1), (2, vI x2), (3, vI x3), (4, vI x4), (5, vI x5), (6, vI x6), (7, vI v)] [] (FI, FL, FR, GR, AI, AL, AR, BR, AN, C) k Φ Ψ) : oX G 2 iX4_tiredOf 34 [(0, vR (some (1, 0))), (1, vI x1), (2, vI x2), (3, vI x3), (4, vI x4), (5, vI x5), (6, vI x6), (7, vI x7), (8, vI x8)] [] (FI, FL, FR, GR, AI, AL, AR, BR, AN, C) k Φ Ψ := by
  unfold mX4_tiredOf_b34 at hm
  refine oX_iload dX4_tiredOf_34 rfl ?_
  refine oX_aload_n dX4_tiredOf_36 rfl rfl ?_
  refine oX_getF fX4_26 rfl oDs1 dX4_tiredOf_37 (ohF111 hM) ?_
  refine oX_aload_n dX4_tiredOf_40 rfl rfl ?_
  refine oX_getF fX4_148 rfl oDs1 dX4_tiredOf_41 (ohF164 hM) ?_
  refine oX_iload dX4_tiredOf_44 rfl ?_
  obtain ⟨g4, hm⟩ := gd_s hm
  refine oX_iald oDs164 (oIn (ohN164 hM) g4) dX4_tiredOf_46 ?_
  obtain ⟨g5, hm⟩ := gd_s hm
  refine oX_iald oDs111 (oIn (ohN111 hM) g5) dX4_tiredOf_47 ?_
  refine oX_icmp_ge (tgt := 111) dX4_tiredOf_48 (by decide) (fun c6 => ?_) (fun c6 => ?_)
  · have hm := ifp c6 hm
    exact oX_sub [0, 1, 2, 3, 4, 5, 6, 7] rfl (hx1 x7 (Option.some.inj hm).symm)
  · have hm := ifn c6 hm
    refine oX_aload_n dX4_tiredOf_51 rfl rfl ?_
    refine oX_iload_n dX4_tiredOf_52 rfl rfl ?_
    refine oX_iload dX4_tiredOf_53 rfl ?_
    obtain ⟨r7, g7, hm⟩ := bd_s hm
    refine oX_cV (as := [vI x1, vI x6]) dX4_tiredOf_55 rfl oDs1 rfl (by decide) rfl ok_X4_isIn_2 rfl rfl q2241 q2243 qs91 q136 q2244 (by decide) (Nat.le_of_ble_eq_true rfl) (t_X4_isIn_2 hM x1 x6 g7) ?_
    refine oX_if_eq (tgt := 111) dX4_tiredOf_58 (by decide) (fun c8 => ?_) (fun c8 => ?_)
    · have hm := ifp c8 hm
      exact oX_sub [0, 1, 2, 3, 4, 5, 6, 7] rfl (hx1 x7 (Option.some.inj hm).symm)
    · have hm := ifn c8 hm
      refine oX_iload dX4_tiredOf_61 rfl ?_
      refine oX_aload_n dX4_tiredOf_63 rfl rfl ?_
      refine oX_getF fX4_157 rfl oDs1 dX4_tiredOf_64 (ohF172 hM) ?_
      refine oX_bipush (v := (8 : Int32)) dX4_tiredOf_67 (by decide) ?_
      refine oX_iload dX4_tiredOf_69 rfl ?_
      refine oX_imul dX4_tiredOf_71 ?_
      refine oX_iload dX4_tiredOf_72 rfl ?_
      refine oX_iadd dX4_tiredOf_74 ?_
      obtain ⟨g9, hm⟩ := gd_s hm
      refine oX_iald oDs172 (oIn (ohN172 hM) g9) dX4_tiredOf_75 ?_
      refine oX_iload_n dX4_tiredOf_76 rfl rfl ?_
      refine oX_icmp_ne (tgt := 101) dX4_tiredOf_77 (by decide) (fun c10 => ?_) (fun c10 => ?_)
      · have hm := ifp c10 hm
        refine oX_aload_n dX4_tiredOf_80 rfl rfl ?_
        refine oX_getF fX4_32 rfl oDs1 dX4_tiredOf_81 (ohF113 hM) ?_
        refine oX_bipush (v := (8 : Int32)) dX4_tiredOf_84 (by decide) ?_
        refine oX_aload_n dX4_tiredOf_86 rfl rfl ?_
        refine oX_getF fX4_148 rfl oDs1 dX4_tiredOf_87 (ohF164 hM) ?_
        refine oX_iload dX4_tiredOf_90 rfl ?_
        obtain ⟨g11, hm⟩ := gd_s hm
        refine oX_iald oDs164 (oIn (ohN164 hM) g11) dX4_tiredOf_92 ?_
        refine oX_imul dX4_tiredOf_93 ?_
        refine oX_iload dX4_tiredOf_94 rfl ?_
        refine oX_iadd dX4_tiredOf_96 ?_
        obtain ⟨g12, hm⟩ := gd_s hm
        refine oX_iald oDs113 (oIn (ohN113 hM) g12) dX4_tiredOf_97 ?_
        refine oX_goto (tgt := 102) dX4_tiredOf_98 (by decide) ?_
        refine oX_iadd dX4_tiredOf_102 ?_
        refine oX_istore (ls' := [(7, vI (x7 + (AI 113 0 (((8 : Int32) * (AI 164 0 x6.toNatClampNeg)) + x8).toNatClampNeg))), (0, vR (some (1, 0))), (1, vI x1), (2, vI x2), (3, vI x3), (4, vI x4), (5, vI x5), (6, vI x6), (8, vI x8)]) dX4_tiredOf_103 (by decide) rfl ?_
        refine oX_iinc (v := x8 + (1 : Int32)) (ls' := [(8, vI (x8 + (1 : Int32))), (7, vI (x7 + (AI 113 0 (((8 : Int32) * (AI 164 0 x6.toNatClampNeg)) + x8).toNatClampNeg))), (0, vR (some (1, 0))), (1, vI x1), (2, vI x2), (3, vI x3), (4, vI x4), (5, vI x5), (6, vI x6)]) dX4_tiredOf_105 rfl rfl (by decide) rfl ?_
        refine oX_goto (tgt := 34) dX4_tiredOf_108 (by decide) ?_
        exact oX_sub [2, 3, 4, 5, 6, 7, 8, 1, 0] rfl (hk (x7 + (AI 113 0 (((8 : Int32) * (AI 164 0 x6.toNatClampNeg)) + x8).toNatClampNeg), x8 + (1 : Int32)) (Option.some.inj hm).symm)
      · have hm := ifn c10 hm
        refine oX_iconst (v := (0 : Int32)) dX4_tiredOf_101 (by decide) ?_
        refine oX_iadd dX4_tiredOf_102 ?_
        refine oX_istore (ls' := [(7, vI (x7 + (0 : Int32))), (0, vR (some (1, 0))), (1, vI x1), (2, vI x2), (3, vI x3), (4, vI x4), (5, vI x5), (6, vI x6), (8, vI x8)]) dX4_tiredOf_103 (by decide) rfl ?_
        refine oX_iinc (v := x8 + (1 : Int32)) (ls' := [(8, vI (x8 + (1 : Int32))), (7, vI (x7 + (0 : Int32))), (0, vR (some (1, 0))), (1, vI x1), (2, vI x2), (3, vI x3), (4, vI x4), (5, vI x5), (6, vI x6)]) dX4_tiredOf_105 rfl rfl (by decide) rfl ?_
        refine oX_goto (tgt := 34) dX4_tiredOf_108 (by decide) ?_
        exact oX_sub [2, 3, 4, 5, 6, 7, 8, 1, 0] rfl (hk (x7 + (0 : Int32), x8 + (1 : Int32)) (Option.some.inj hm).symm)
theorem l_mX4_tiredOf_b34 {G : OhG} {FI : OhI} {FL : OhL} {FR : OhQ} {GR : OhQ} {AI : OhI} {AL : OhL} {AR : OhQ} {BR : OhQ} {AN : OhN} {C : OhC} {k : Nat × Nat} {Φ : OhP} {Ψ : OhX} (hM : ohShM FR AN) (n : Nat) (x1 : Int32) (x2 : Int32) (x3 : Int32) (x4 : Int32) (x5 : Int32) (x6 : Int32) : ∀ (f : Nat) (x7 : Int32) (x8 : Int32) (b : (Int32)), lpF (fun v => mX4_tiredOf_b34 n FR AI AN x1 x2 x3 x4 x5 x6 v.1 v.2) f (x7, x8) = some b → (oX G 2 iX4_tiredOf 111 [(0, vR (some (1, 0))), (1, vI x1), (2, vI x2), (3, vI x3), (4, vI x4), (5, vI x5), (6, vI x6), (7, vI b)] [] (FI, FL, FR, GR, AI, AL, AR, BR, AN, C) k Φ Ψ) → oX G 2 iX4_tiredOf 34 [(0, vR (some (1, 0))), (1, vI x1), (2, vI x2), (3, vI x3), (4, vI x4), (5, vI x5), (6, vI x6), (7, vI x7), (8, vI x8)] [] (FI, FL, FR, GR, AI, AL, AR, BR, AN, C) k Φ Ψ := by
  intro f
  induction f with
  | zero =>
    intro x7 x8 b hm
    cases hm
  | succ f ih =>
    intro x7 x8 b hm hx1
    obtain ⟨r, hr, hm⟩ := lp_s hm
    refine x_mX4_tiredOf_b34 hM n x1 x2 x3 x4 x5 x6 x7 x8 hr (fun v e => ?_) (fun v e => ?_)
    · subst e; exact ih v.1 v.2 _ hm hx1
    · subst e; cases (show v = b from hm); exact hx1
noncomputable def mX4_tiredOf_j192 (n : Nat) (FR : OhQ) (AI : OhI) (AN : OhN) (x1 : Int32) (x2 : Int32) (x5 : Int32) (x6 : Int32) (x7 : Int32) (y0 : Int32) : Option ((Int32 × Int32 × Int32) ⊕ (Int32)) :=
  gd (vp_in x6 66) <|
  some (.inl (y0 + x7, AI 161 0 x6.toNatClampNeg, x5 + (1 : Int32)))
theorem x_mX4_tiredOf_j192 {G : OhG} {FI AI : OhI} {FL AL : OhL} {FR GR AR BR : OhQ} {AN : OhN} {C : OhC} {k : Nat × Nat} {Φ : OhP} {Ψ : OhX} (hM : ohShM FR AN) (n : Nat) (x1 : Int32) (x2 : Int32) (x5 : Int32) (x6 : Int32) (x7 : Int32) (y0 : Int32) {r : (Int32 × Int32 × Int32) ⊕ (Int32)} (hm : mX4_tiredOf_j192 n FR AI AN x1 x2 x5 x6 x7 y0 = some r) (hk : ∀ v : Int32 × Int32 × Int32, r = .inl v → oX G 2 iX4_tiredOf 8 [(0, vR (some (1, 0))), (1, vI x1), (2, vI x2), (3, vI v.1), (4, vI v.2.1), (5, vI v.2.2)] [] (FI, FL, FR, GR, AI, AL, AR, BR, AN, C) k Φ Ψ) (hx1 : ∀ v : Int32, r = .inr v → oX G 2 iX4_tiredOf 213 [(3, vI v)] [] (FI, FL, FR, GR, AI, AL, AR, BR, AN, C) k Φ Ψ) : oX G 2 iX4_tiredOf 192 [(0, vR (some (1, 0))), (1, vI x1), (2, vI x2), (5, vI x5), (6, vI x6), (7, vI x7)] [vI y0] (FI, FL, FR, GR, AI, AL, AR, BR, AN, C) k Φ Ψ := by
  unfold mX4_tiredOf_j192 at hm
  refine oX_istore_n (ls' := [(3, vI y0), (0, vR (some (1, 0))), (1, vI x1), (2, vI x2), (5, vI x5), (6, vI x6), (7, vI x7)]) dX4_tiredOf_192 rfl (by decide) rfl ?_
  refine oX_aload_n dX4_tiredOf_193 rfl rfl ?_
  refine oX_getF fX4_139 rfl oDs1 dX4_tiredOf_194 (ohF161 hM) ?_
  refine oX_iload dX4_tiredOf_197 rfl ?_
  obtain ⟨g20, hm⟩ := gd_s hm
  refine oX_iald oDs161 (oIn (ohN161 hM) g20) dX4_tiredOf_199 ?_
  refine oX_istore (ls' := [(4, vI (AI 161 0 x6.toNatClampNeg)), (3, vI y0), (0, vR (some (1, 0))), (1, vI x1), (2, vI x2), (5, vI x5), (6, vI x6), (7, vI x7)]) dX4_tiredOf_200 (by decide) rfl ?_
  refine oX_iload_n dX4_tiredOf_202 rfl rfl ?_
  refine oX_iload dX4_tiredOf_203 rfl ?_
  refine oX_iadd dX4_tiredOf_205 ?_
  refine oX_istore_n (ls' := [(3, vI (y0 + x7)), (4, vI (AI 161 0 x6.toNatClampNeg)), (0, vR (some (1, 0))), (1, vI x1), (2, vI x2), (5, vI x5), (6, vI x6), (7, vI x7)]) dX4_tiredOf_206 rfl (by decide) rfl ?_
  refine oX_iinc (v := x5 + (1 : Int32)) (ls' := [(5, vI (x5 + (1 : Int32))), (3, vI (y0 + x7)), (4, vI (AI 161 0 x6.toNatClampNeg)), (0, vR (some (1, 0))), (1, vI x1), (2, vI x2), (6, vI x6), (7, vI x7)]) dX4_tiredOf_207 rfl rfl (by decide) rfl ?_
  refine oX_goto (tgt := 8) dX4_tiredOf_210 (by decide) ?_
  exact oX_sub [3, 4, 5, 1, 2, 0] rfl (hk (y0 + x7, AI 161 0 x6.toNatClampNeg, x5 + (1 : Int32)) (Option.some.inj hm).symm)
noncomputable def mX4_tiredOf_j162 (n : Nat) (FR : OhQ) (AI : OhI) (AN : OhN) (x1 : Int32) (x2 : Int32) (x3 : Int32) (x4 : Int32) (x5 : Int32) (x6 : Int32) (x7 : Int32) : Option ((Int32 × Int32 × Int32) ⊕ (Int32)) :=
  gd (vp_in x6 66) <|
  (if x3 ≤ ((AI 161 0 x6.toNatClampNeg) - x4) then
  mX4_tiredOf_j192 n FR AI AN x1 x2 x5 x6 x7 (0 : Int32)
else
  gd (vp_in x6 66) <|
    mX4_tiredOf_j192 n FR AI AN x1 x2 x5 x6 x7 ((x3 - (AI 161 0 x6.toNatClampNeg)) + x4))
theorem x_mX4_tiredOf_j162 {G : OhG} {FI AI : OhI} {FL AL : OhL} {FR GR AR BR : OhQ} {AN : OhN} {C : OhC} {k : Nat × Nat} {Φ : OhP} {Ψ : OhX} (hM : ohShM FR AN) (n : Nat) (x1 : Int32) (x2 : Int32) (x3 : Int32) (x4 : Int32) (x5 : Int32) (x6 : Int32) (x7 : Int32) {r : (Int32 × Int32 × Int32) ⊕ (Int32)} (hm : mX4_tiredOf_j162 n FR AI AN x1 x2 x3 x4 x5 x6 x7 = some r) (hk : ∀ v : Int32 × Int32 × Int32, r = .inl v → oX G 2 iX4_tiredOf 8 [(0, vR (some (1, 0))), (1, vI x1), (2, vI x2), (3, vI v.1), (4, vI v.2.1), (5, vI v.2.2)] [] (FI, FL, FR, GR, AI, AL, AR, BR, AN, C) k Φ Ψ) (hx1 : ∀ v : Int32, r = .inr v → oX G 2 iX4_tiredOf 213 [(3, vI v)] [] (FI, FL, FR, GR, AI, AL, AR, BR, AN, C) k Φ Ψ) : oX G 2 iX4_tiredOf 162 [(0, vR (some (1, 0))), (1, vI x1), (2, vI x2), (3, vI x3), (4, vI x4), (5, vI x5), (6, vI x6), (7, vI x7)] [] (FI, FL, FR, GR, AI, AL, AR, BR, AN, C) k Φ Ψ := by
  unfold mX4_tiredOf_j162 at hm
  refine oX_iload_n dX4_tiredOf_162 rfl rfl ?_
  refine oX_aload_n dX4_tiredOf_163 rfl rfl ?_
  refine oX_getF fX4_139 rfl oDs1 dX4_tiredOf_164 (ohF161 hM) ?_
  refine oX_iload dX4_tiredOf_167 rfl ?_
  obtain ⟨g18, hm⟩ := gd_s hm
  refine oX_iald oDs161 (oIn (ohN161 hM) g18) dX4_tiredOf_169 ?_
  refine oX_iload dX4_tiredOf_170 rfl ?_
  refine oX_isub dX4_tiredOf_172 ?_
  refine oX_icmp_le (tgt := 191) dX4_tiredOf_173 (by decide) (fun c19 => ?_) (fun c19 => ?_)
  · have hm := ifp c19 hm
    refine oX_iconst (v := (0 : Int32)) dX4_tiredOf_191 (by decide) ?_
    exact oX_sub [0, 1, 2, 5, 6, 7] rfl (x_mX4_tiredOf_j192 hM n x1 x2 x5 x6 x7 (0 : Int32) hm hk hx1)
  · have hm := ifn c19 hm
    refine oX_iload_n dX4_tiredOf_176 rfl rfl ?_
    refine oX_aload_n dX4_tiredOf_177 rfl rfl ?_
    refine oX_getF fX4_139 rfl oDs1 dX4_tiredOf_178 (ohF161 hM) ?_
    refine oX_iload dX4_tiredOf_181 rfl ?_
    obtain ⟨g21, hm⟩ := gd_s hm
    refine oX_iald oDs161 (oIn (ohN161 hM) g21) dX4_tiredOf_183 ?_
    refine oX_isub dX4_tiredOf_184 ?_
    refine oX_iload dX4_tiredOf_185 rfl ?_
    refine oX_iadd dX4_tiredOf_187 ?_
    refine oX_goto (tgt := 192) dX4_tiredOf_188 (by decide) ?_
    exact oX_sub [0, 1, 2, 5, 6, 7] rfl (x_mX4_tiredOf_j192 hM n x1 x2 x5 x6 x7 ((x3 - (AI 161 0 x6.toNatClampNeg)) + x4) hm hk hx1)
noncomputable def mX4_tiredOf_j146 (n : Nat) (FR : OhQ) (AI : OhI) (AN : OhN) (x1 : Int32) (x2 : Int32) (x3 : Int32) (x4 : Int32) (x5 : Int32) (x6 : Int32) (y0 : Int32) : Option ((Int32 × Int32 × Int32) ⊕ (Int32)) :=
  (if y0 = 0 then
  (if x6 = x2 then
    mX4_tiredOf_j162 n FR AI AN x1 x2 x3 x4 x5 x6 y0
  else
    some (.inl (x3, x4, x5 + (1 : Int32))))
else
  mX4_tiredOf_j162 n FR AI AN x1 x2 x3 x4 x5 x6 y0)
theorem x_mX4_tiredOf_j146 {G : OhG} {FI AI : OhI} {FL AL : OhL} {FR GR AR BR : OhQ} {AN : OhN} {C : OhC} {k : Nat × Nat} {Φ : OhP} {Ψ : OhX} (hM : ohShM FR AN) (n : Nat) (x1 : Int32) (x2 : Int32) (x3 : Int32) (x4 : Int32) (x5 : Int32) (x6 : Int32) (y0 : Int32) {r : (Int32 × Int32 × Int32) ⊕ (Int32)} (hm : mX4_tiredOf_j146 n FR AI AN x1 x2 x3 x4 x5 x6 y0 = some r) (hk : ∀ v : Int32 × Int32 × Int32, r = .inl v → oX G 2 iX4_tiredOf 8 [(0, vR (some (1, 0))), (1, vI x1), (2, vI x2), (3, vI v.1), (4, vI v.2.1), (5, vI v.2.2)] [] (FI, FL, FR, GR, AI, AL, AR, BR, AN, C) k Φ Ψ) (hx1 : ∀ v : Int32, r = .inr v → oX G 2 iX4_tiredOf 213 [(3, vI v)] [] (FI, FL, FR, GR, AI, AL, AR, BR, AN, C) k Φ Ψ) : oX G 2 iX4_tiredOf 146 [(0, vR (some (1, 0))), (1, vI x1), (2, vI x2), (3, vI x3), (4, vI x4), (5, vI x5), (6, vI x6)] [vI y0] (FI, FL, FR, GR, AI, AL, AR, BR, AN, C) k Φ Ψ := by
  unfold mX4_tiredOf_j146 at hm
  refine oX_istore (ls' := [(7, vI y0), (0, vR (some (1, 0))), (1, vI x1), (2, vI x2), (3, vI x3), (4, vI x4), (5, vI x5), (6, vI x6)]) dX4_tiredOf_146 (by decide) rfl ?_
  refine oX_iload dX4_tiredOf_148 rfl ?_
  refine oX_if_ne (tgt := 162) dX4_tiredOf_150 (by decide) (fun c16 => ?_) (fun c16 => ?_)
  · have hm := ifp c16 hm
    refine oX_iload dX4_tiredOf_153 rfl ?_
    refine oX_iload_n dX4_tiredOf_155 rfl rfl ?_
    refine oX_icmp_eq (tgt := 162) dX4_tiredOf_156 (by decide) (fun c17 => ?_) (fun c17 => ?_)
    · have hm := ifp c17 hm
      exact oX_sub [1, 2, 3, 4, 5, 6, 7, 0] rfl (x_mX4_tiredOf_j162 hM n x1 x2 x3 x4 x5 x6 y0 hm hk hx1)
    · have hm := ifn c17 hm
      refine oX_goto (tgt := 207) dX4_tiredOf_159 (by decide) ?_
      refine oX_iinc (v := x5 + (1 : Int32)) (ls' := [(5, vI (x5 + (1 : Int32))), (7, vI y0), (0, vR (some (1, 0))), (1, vI x1), (2, vI x2), (3, vI x3), (4, vI x4), (6, vI x6)]) dX4_tiredOf_207 rfl rfl (by decide) rfl ?_
      refine oX_goto (tgt := 8) dX4_tiredOf_210 (by decide) ?_
      exact oX_sub [2, 3, 4, 5, 6, 0] rfl (hk (x3, x4, x5 + (1 : Int32)) (Option.some.inj hm).symm)
  · have hm := ifn c16 hm
    exact oX_sub [1, 2, 3, 4, 5, 6, 7, 0] rfl (x_mX4_tiredOf_j162 hM n x1 x2 x3 x4 x5 x6 y0 hm hk hx1)
noncomputable def mX4_tiredOf_j111 (n : Nat) (FR : OhQ) (AI : OhI) (AN : OhN) (x1 : Int32) (x2 : Int32) (x3 : Int32) (x4 : Int32) (x5 : Int32) (x6 : Int32) (x7 : Int32) : Option ((Int32 × Int32 × Int32) ⊕ (Int32)) :=
  gd (vp_in x6 66) <|
  (if (AI 163 0 x6.toNatClampNeg) = (3 : Int32) then
  mX4_tiredOf_j146 n FR AI AN x1 x2 x3 x4 x5 x6 ((2 : Int32) * x7)
else
  gd (vp_in x6 66) <|
    (if (AI 163 0 x6.toNatClampNeg) = (2 : Int32) then
    mX4_tiredOf_j146 n FR AI AN x1 x2 x3 x4 x5 x6 x7
  else
    mX4_tiredOf_j146 n FR AI AN x1 x2 x3 x4 x5 x6 (0 : Int32)))
theorem x_mX4_tiredOf_j111 {G : OhG} {FI AI : OhI} {FL AL : OhL} {FR GR AR BR : OhQ} {AN : OhN} {C : OhC} {k : Nat × Nat} {Φ : OhP} {Ψ : OhX} (hM : ohShM FR AN) (n : Nat) (x1 : Int32) (x2 : Int32) (x3 : Int32) (x4 : Int32) (x5 : Int32) (x6 : Int32) (x7 : Int32) {r : (Int32 × Int32 × Int32) ⊕ (Int32)} (hm : mX4_tiredOf_j111 n FR AI AN x1 x2 x3 x4 x5 x6 x7 = some r) (hk : ∀ v : Int32 × Int32 × Int32, r = .inl v → oX G 2 iX4_tiredOf 8 [(0, vR (some (1, 0))), (1, vI x1), (2, vI x2), (3, vI v.1), (4, vI v.2.1), (5, vI v.2.2)] [] (FI, FL, FR, GR, AI, AL, AR, BR, AN, C) k Φ Ψ) (hx1 : ∀ v : Int32, r = .inr v → oX G 2 iX4_tiredOf 213 [(3, vI v)] [] (FI, FL, FR, GR, AI, AL, AR, BR, AN, C) k Φ Ψ) : oX G 2 iX4_tiredOf 111 [(0, vR (some (1, 0))), (1, vI x1), (2, vI x2), (3, vI x3), (4, vI x4), (5, vI x5), (6, vI x6), (7, vI x7)] [] (FI, FL, FR, GR, AI, AL, AR, BR, AN, C) k Φ Ψ := by
  unfold mX4_tiredOf_j111 at hm
  refine oX_aload_n dX4_tiredOf_111 rfl rfl ?_
  refine oX_getF fX4_145 rfl oDs1 dX4_tiredOf_112 (ohF163 hM) ?_
  refine oX_iload dX4_tiredOf_115 rfl ?_
  obtain ⟨g14, hm⟩ := gd_s hm
  refine oX_iald oDs163 (oIn (ohN163 hM) g14) dX4_tiredOf_117 ?_
  refine oX_iconst (v := (3 : Int32)) dX4_tiredOf_118 (by decide) ?_
  refine oX_icmp_ne (tgt := 129) dX4_tiredOf_119 (by decide) (fun c15 => ?_) (fun c15 => ?_)
  · have hm := ifp c15 hm
    refine oX_iconst (v := (2 : Int32)) dX4_tiredOf_122 (by decide) ?_
    refine oX_iload dX4_tiredOf_123 rfl ?_
    refine oX_imul dX4_tiredOf_125 ?_
    refine oX_goto (tgt := 146) dX4_tiredOf_126 (by decide) ?_
    exact oX_sub [0, 1, 2, 3, 4, 5, 6] rfl (x_mX4_tiredOf_j146 hM n x1 x2 x3 x4 x5 x6 ((2 : Int32) * x7) hm hk hx1)
  · have hm := ifn c15 hm
    refine oX_aload_n dX4_tiredOf_129 rfl rfl ?_
    refine oX_getF fX4_145 rfl oDs1 dX4_tiredOf_130 (ohF163 hM) ?_
    refine oX_iload dX4_tiredOf_133 rfl ?_
    obtain ⟨g22, hm⟩ := gd_s hm
    refine oX_iald oDs163 (oIn (ohN163 hM) g22) dX4_tiredOf_135 ?_
    refine oX_iconst (v := (2 : Int32)) dX4_tiredOf_136 (by decide) ?_
    refine oX_icmp_ne (tgt := 145) dX4_tiredOf_137 (by decide) (fun c23 => ?_) (fun c23 => ?_)
    · have hm := ifp c23 hm
      refine oX_iload dX4_tiredOf_140 rfl ?_
      refine oX_goto (tgt := 146) dX4_tiredOf_142 (by decide) ?_
      exact oX_sub [0, 1, 2, 3, 4, 5, 6] rfl (x_mX4_tiredOf_j146 hM n x1 x2 x3 x4 x5 x6 x7 hm hk hx1)
    · have hm := ifn c23 hm
      refine oX_iconst (v := (0 : Int32)) dX4_tiredOf_145 (by decide) ?_
      exact oX_sub [0, 1, 2, 3, 4, 5, 6] rfl (x_mX4_tiredOf_j146 hM n x1 x2 x3 x4 x5 x6 (0 : Int32) hm hk hx1)
noncomputable def mX4_tiredOf_b8 (n : Nat) (FR : OhQ) (AI : OhI) (AN : OhN) (x1 : Int32) (x2 : Int32) (x3 : Int32) (x4 : Int32) (x5 : Int32) : Option ((Int32 × Int32 × Int32) ⊕ (Int32)) :=
  gd (vp_in x2 66) <|
  (if (AI 176 0 x2.toNatClampNeg) < x5 then
  some (.inr x3)
else
  gd (vp_in x5 66) <|
    (lpF (fun v => mX4_tiredOf_b34 n FR AI AN x1 x2 x3 x4 x5 (AI 175 0 x5.toNatClampNeg) v.1 v.2) n ((0 : Int32), (0 : Int32))).bind fun v13 =>
    mX4_tiredOf_j111 n FR AI AN x1 x2 x3 x4 x5 (AI 175 0 x5.toNatClampNeg) v13)
theorem x_mX4_tiredOf_b8 {G : OhG} {FI AI : OhI} {FL AL : OhL} {FR GR AR BR : OhQ} {AN : OhN} {C : OhC} {k : Nat × Nat} {Φ : OhP} {Ψ : OhX} (hM : ohShM FR AN) (n : Nat) (x1 : Int32) (x2 : Int32) (x3 : Int32) (x4 : Int32) (x5 : Int32) {r : (Int32 × Int32 × Int32) ⊕ (Int32)} (hm : mX4_tiredOf_b8 n FR AI AN x1 x2 x3 x4 x5 = some r) (hk : ∀ v : Int32 × Int32 × Int32, r = .inl v → oX G 2 iX4_tiredOf 8 [(0, vR (some (1, 0))), (1, vI x1), (2, vI x2), (3, vI v.1), (4, vI v.2.1), (5, vI v.2.2)] [] (FI, FL, FR, GR, AI, AL, AR, BR, AN, C) k Φ Ψ) (hx1 : ∀ v : Int32, r = .inr v → oX G 2 iX4_tiredOf 213 [(3, vI v)] [] (FI, FL, FR, GR, AI, AL, AR, BR, AN, C) k Φ Ψ) : oX G 2 iX4_tiredOf 8 [(0, vR (some (1, 0))), (1, vI x1), (2, vI x2), (3, vI x3), (4, vI x4), (5, vI x5)] [] (FI, FL, FR, GR, AI, AL, AR, BR, AN, C) k Φ Ψ := by
  unfold mX4_tiredOf_b8 at hm
  refine oX_iload dX4_tiredOf_8 rfl ?_
  refine oX_aload_n dX4_tiredOf_10 rfl rfl ?_
  refine oX_getF fX4_169 rfl oDs1 dX4_tiredOf_11 (ohF176 hM) ?_
  refine oX_iload_n dX4_tiredOf_14 rfl rfl ?_
  obtain ⟨g1, hm⟩ := gd_s hm
  refine oX_iald oDs176 (oIn (ohN176 hM) g1) dX4_tiredOf_15 ?_
  refine oX_icmp_gt (tgt := 213) dX4_tiredOf_16 (by decide) (fun c2 => ?_) (fun c2 => ?_)
  · have hm := ifp c2 hm
    exact oX_sub [3] rfl (hx1 x3 (Option.some.inj hm).symm)
  · have hm := ifn c2 hm
    refine oX_aload_n dX4_tiredOf_19 rfl rfl ?_
    refine oX_getF fX4_166 rfl oDs1 dX4_tiredOf_20 (ohF175 hM) ?_
    refine oX_iload dX4_tiredOf_23 rfl ?_
    obtain ⟨g3, hm⟩ := gd_s hm
    refine oX_iald oDs175 (oIn (ohN175 hM) g3) dX4_tiredOf_25 ?_
    refine oX_istore (ls' := [(6, vI (AI 175 0 x5.toNatClampNeg)), (0, vR (some (1, 0))), (1, vI x1), (2, vI x2), (3, vI x3), (4, vI x4), (5, vI x5)]) dX4_tiredOf_26 (by decide) rfl ?_
    refine oX_iconst (v := (0 : Int32)) dX4_tiredOf_28 (by decide) ?_
    refine oX_istore (ls' := [(7, vI (0 : Int32)), (6, vI (AI 175 0 x5.toNatClampNeg)), (0, vR (some (1, 0))), (1, vI x1), (2, vI x2), (3, vI x3), (4, vI x4), (5, vI x5)]) dX4_tiredOf_29 (by decide) rfl ?_
    refine oX_iconst (v := (0 : Int32)) dX4_tiredOf_31 (by decide) ?_
    refine oX_istore (ls' := [(8, vI (0 : Int32)), (7, vI (0 : Int32)), (6, vI (AI 175 0 x5.toNatClampNeg)), (0, vR (some (1, 0))), (1, vI x1), (2, vI x2), (3, vI x3), (4, vI x4), (5, vI x5)]) dX4_tiredOf_32 (by decide) rfl ?_
    obtain ⟨v13, g13, hm⟩ := bd_s hm
    refine oX_sub [3, 4, 5, 6, 7, 8, 2, 1, 0] rfl (l_mX4_tiredOf_b34 hM n x1 x2 x3 x4 x5 (AI 175 0 x5.toNatClampNeg) n (0 : Int32) (0 : Int32) _ g13 ?_)
    exact oX_sub [0, 1, 2, 3, 4, 5, 6, 7] rfl (x_mX4_tiredOf_j111 hM n x1 x2 x3 x4 x5 (AI 175 0 x5.toNatClampNeg) v13 hm hk hx1)
theorem l_mX4_tiredOf_b8 {G : OhG} {FI : OhI} {FL : OhL} {FR : OhQ} {GR : OhQ} {AI : OhI} {AL : OhL} {AR : OhQ} {BR : OhQ} {AN : OhN} {C : OhC} {k : Nat × Nat} {Φ : OhP} {Ψ : OhX} (hM : ohShM FR AN) (n : Nat) (x1 : Int32) (x2 : Int32) : ∀ (f : Nat) (x3 : Int32) (x4 : Int32) (x5 : Int32) (b : (Int32)), lpF (fun v => mX4_tiredOf_b8 n FR AI AN x1 x2 v.1 v.2.1 v.2.2) f (x3, x4, x5) = some b → (oX G 2 iX4_tiredOf 213 [(3, vI b)] [] (FI, FL, FR, GR, AI, AL, AR, BR, AN, C) k Φ Ψ) → oX G 2 iX4_tiredOf 8 [(0, vR (some (1, 0))), (1, vI x1), (2, vI x2), (3, vI x3), (4, vI x4), (5, vI x5)] [] (FI, FL, FR, GR, AI, AL, AR, BR, AN, C) k Φ Ψ := by
  intro f
  induction f with
  | zero =>
    intro x3 x4 x5 b hm
    cases hm
  | succ f ih =>
    intro x3 x4 x5 b hm hx1
    obtain ⟨r, hr, hm⟩ := lp_s hm
    refine x_mX4_tiredOf_b8 hM n x1 x2 x3 x4 x5 hr (fun v e => ?_) (fun v e => ?_)
    · subst e; exact ih v.1 v.2.1 v.2.2 _ hm hx1
    · subst e; cases (show v = b from hm); exact hx1
noncomputable def mX4_tiredOf (n : Nat) (FR : OhQ) (AI : OhI) (AN : OhN) (x1 : Int32) (x2 : Int32) : Option (Int32) :=
  (lpF (fun v => mX4_tiredOf_b8 n FR AI AN x1 x2 v.1 v.2.1 v.2.2) n ((0 : Int32), (0 : Int32), (0 : Int32))).bind fun v24 =>
  some v24
theorem x_mX4_tiredOf {G : OhG} {FI AI : OhI} {FL AL : OhL} {FR GR AR BR : OhQ} {AN : OhN} {C : OhC} {k : Nat × Nat} {Φ : OhP} {Ψ : OhX} (hM : ohShM FR AN) (n : Nat) (x1 : Int32) (x2 : Int32) {r : Int32} (hm : mX4_tiredOf n FR AI AN x1 x2 = some r) (hK : Φ (some (vI r)) (FI, FL, FR, GR, AI, AL, AR, BR, AN, C)) : oX G 2 iX4_tiredOf 0 [(0, vR (some (1, 0))), (1, vI x1), (2, vI x2)] [] (FI, FL, FR, GR, AI, AL, AR, BR, AN, C) k Φ Ψ := by
  unfold mX4_tiredOf at hm
  refine oX_iconst (v := (0 : Int32)) dX4_tiredOf_0 (by decide) ?_
  refine oX_istore_n (ls' := [(3, vI (0 : Int32)), (0, vR (some (1, 0))), (1, vI x1), (2, vI x2)]) dX4_tiredOf_1 rfl (by decide) rfl ?_
  refine oX_iconst (v := (0 : Int32)) dX4_tiredOf_2 (by decide) ?_
  refine oX_istore (ls' := [(4, vI (0 : Int32)), (3, vI (0 : Int32)), (0, vR (some (1, 0))), (1, vI x1), (2, vI x2)]) dX4_tiredOf_3 (by decide) rfl ?_
  refine oX_iconst (v := (0 : Int32)) dX4_tiredOf_5 (by decide) ?_
  refine oX_istore (ls' := [(5, vI (0 : Int32)), (4, vI (0 : Int32)), (3, vI (0 : Int32)), (0, vR (some (1, 0))), (1, vI x1), (2, vI x2)]) dX4_tiredOf_6 (by decide) rfl ?_
  obtain ⟨v24, g24, hm⟩ := bd_s hm
  refine oX_sub [3, 4, 5, 2, 1, 0] rfl (l_mX4_tiredOf_b8 hM n x1 x2 n (0 : Int32) (0 : Int32) (0 : Int32) _ g24 ?_)
  refine oX_iload_n dX4_tiredOf_213 rfl rfl ?_
  obtain rfl := Option.some.inj hm
  exact oX_iret dX4_tiredOf_214 rfl rfl hK
theorem t_X4_tiredOf {G : OhG} {FI AI : OhI} {FL AL : OhL} {FR GR AR BR : OhQ} {AN : OhN} {C : OhC} (hM : ohShM FR AN) (n : Nat) (x1 : Int32) (x2 : Int32) {o : Int32} (hm : mX4_tiredOf n FR AI AN x1 x2 = some o) : oT G 2 iX4_tiredOf [vR (some (1, 0)), vI x1, vI x2] (FI, FL, FR, GR, AI, AL, AR, BR, AN, C) (0, 0) (fun v h => v = (some (vI o)) ∧ h = (FI, FL, FR, GR, AI, AL, AR, BR, AN, C)) ohNo :=
  oT_of (by decide) rfl (Nat.le_of_ble_eq_true rfl) (x_mX4_tiredOf hM n x1 x2 hm ⟨rfl, rfl⟩)
abbrev iX4_tired : OhM := (yX4_tired, cX4_tired, 4, (some .int), [])
theorem ok_X4_tired : oOk iX4_tired 3 := ⟨by decide, by decide, by decide +kernel⟩

noncomputable def mX4_tired (n : Nat) (FI : OhI) (FR : OhQ) (AI : OhI) (AN : OhN) (x1 : Int32) (x2 : Int32) (x3 : Int32) : Option (Int32 × OhI × OhI) :=
  oLet (sA FI 1 0 (uA (FI 1 0) 0 (0 : Int32))) fun FI1 =>
  (mX4_isSinger FI1 x1).bind fun r2 =>
  (if r2 = 0 then
  some ((-1 : Int32), FI1, AI)
else
  (mX4_isIn x2 (0 : Int32) ((FI1 1 0 70) - (1 : Int32))).bind fun r4 =>
    (if r4 = 0 then
    some ((-1 : Int32), FI1, AI)
  else
    (mX4_load n FI1 FR AI AN x3).bind fun r6 =>
      (mX4_tiredOf n FR r6.2 AN x1 x2).bind fun r7 =>
      some (r7, r6.1, r6.2)))
theorem x_mX4_tired {G : OhG} {FI AI : OhI} {FL AL : OhL} {FR GR AR BR : OhQ} {AN : OhN} {C : OhC} {k : Nat × Nat} {Φ : OhP} {Ψ : OhX} (hM : ohShM FR AN) (n : Nat) (x1 : Int32) (x2 : Int32) (x3 : Int32) {r : Int32 × OhI × OhI} (hm : mX4_tired n FI FR AI AN x1 x2 x3 = some r) (hK : Φ (some (vI r.1)) (r.2.1, FL, FR, GR, r.2.2, AL, AR, BR, AN, C)) : oX G 4 iX4_tired 0 [(0, vR (some (1, 0))), (1, vI x1), (2, vI x2), (3, vI x3)] [] (FI, FL, FR, GR, AI, AL, AR, BR, AN, C) k Φ Ψ := by
  unfold mX4_tired at hm
  refine oX_aload_n dX4_tired_0 rfl rfl ?_
  refine oX_iconst (v := (0 : Int32)) dX4_tired_1 (by decide) ?_
  obtain ⟨FI1, hFI1, hm⟩ := oLs hm
  refine oX_putI fX4_226 rfl (fun h9 => by cases h9) oDs1 dX4_tired_2 ⟨rfl, rfl⟩ hFI1 ?_
  refine oX_aload_n dX4_tired_5 rfl rfl ?_
  refine oX_iload_n dX4_tired_6 rfl rfl ?_
  obtain ⟨r2, g2, hm⟩ := bd_s hm
  refine oX_cV (as := [vI x1]) dX4_tired_7 rfl oDs1 rfl (by decide) rfl ok_X4_isSinger rfl rfl q2063 q2065 qs62 q136 q2066 (by decide) (Nat.le_of_ble_eq_true rfl) (t_X4_isSinger x1 g2) ?_
  refine oX_if_eq (tgt := 27) dX4_tired_10 (by decide) (fun c3 => ?_) (fun c3 => ?_)
  · have hm := ifp c3 hm
    refine oX_iconst (v := (-1 : Int32)) dX4_tired_27 (by decide) ?_
    obtain rfl := Option.some.inj hm
    exact oX_iret dX4_tired_28 rfl rfl hK
  · have hm := ifn c3 hm
    refine oX_iload_n dX4_tired_13 rfl rfl ?_
    refine oX_iconst (v := (0 : Int32)) dX4_tired_14 (by decide) ?_
    refine oX_aload_n dX4_tired_15 rfl rfl ?_
    refine oX_getI fX4_423 rfl oDs1 dX4_tired_16 ?_
    refine oX_iconst (v := (1 : Int32)) dX4_tired_19 (by decide) ?_
    refine oX_isub dX4_tired_20 ?_
    obtain ⟨r4, g4, hm⟩ := bd_s hm
    refine oX_cS (as := [vI x2, vI (0 : Int32), vI ((FI1 1 0 70) - (1 : Int32))]) dX4_tired_21 rfl ok_X4_isIn rfl rfl q2032 q2033 q136 q2034 (by decide) (Nat.le_of_ble_eq_true rfl) (t_X4_isIn x2 (0 : Int32) ((FI1 1 0 70) - (1 : Int32)) g4) ?_
    refine oX_if_ne (tgt := 29) dX4_tired_24 (by decide) (fun c5 => ?_) (fun c5 => ?_)
    · have hm := ifp c5 hm
      refine oX_iconst (v := (-1 : Int32)) dX4_tired_27 (by decide) ?_
      obtain rfl := Option.some.inj hm
      exact oX_iret dX4_tired_28 rfl rfl hK
    · have hm := ifn c5 hm
      refine oX_aload_n dX4_tired_29 rfl rfl ?_
      refine oX_iload_n dX4_tired_30 rfl rfl ?_
      obtain ⟨r6, g6, hm⟩ := bd_s hm
      refine oX_cV_ (as := [vI x3]) dX4_tired_31 rfl oDs1 rfl (by decide) rfl ok_X4_load rfl rfl q2209 q2211 qs85 q136 q2212 (by decide) (Nat.le_of_ble_eq_true rfl) (t_X4_load hM n x3 g6) ?_
      refine oX_aload_n dX4_tired_34 rfl rfl ?_
      refine oX_iload_n dX4_tired_35 rfl rfl ?_
      refine oX_iload_n dX4_tired_36 rfl rfl ?_
      obtain ⟨r7, g7, hm⟩ := bd_s hm
      refine oX_cV (as := [vI x1, vI x2]) dX4_tired_37 rfl oDs1 rfl (by decide) rfl ok_X4_tiredOf rfl rfl q2237 q2239 qs90 q136 q2240 (by decide) (Nat.le_of_ble_eq_true rfl) (t_X4_tiredOf hM n x1 x2 g7) ?_
      obtain rfl := Option.some.inj hm
      exact oX_iret dX4_tired_40 rfl rfl hK
theorem t_X4_tired {G : OhG} {FI AI : OhI} {FL AL : OhL} {FR GR AR BR : OhQ} {AN : OhN} {C : OhC} (hM : ohShM FR AN) (n : Nat) (x1 : Int32) (x2 : Int32) (x3 : Int32) {o : Int32 × OhI × OhI} (hm : mX4_tired n FI FR AI AN x1 x2 x3 = some o) : oT G 4 iX4_tired [vR (some (1, 0)), vI x1, vI x2, vI x3] (FI, FL, FR, GR, AI, AL, AR, BR, AN, C) (0, 0) (fun v h => v = (some (vI o.1)) ∧ h = (o.2.1, FL, FR, GR, o.2.2, AL, AR, BR, AN, C)) ohNo :=
  oT_of (by decide) rfl (Nat.le_of_ble_eq_true rfl) (x_mX4_tired hM n x1 x2 x3 hm ⟨rfl, rfl⟩)
abbrev iX4_isCover : OhM := (yX4_isCover, cX4_isCover, 4, (some .boolean), [])
theorem ok_X4_isCover : oOk iX4_isCover 2 := ⟨by decide, by decide, by decide +kernel⟩

noncomputable def mX4_isCover_b2 (n : Nat) (FR : OhQ) (AI : OhI) (AN : OhN) (x1 : Int32) (x2 : Int32) (x3 : Int32) : Option ((Int32) ⊕ ((Unit) ⊕ (Unit))) :=
  gd (vp_in x2 66) <|
  gd (vp_in (AI 164 0 x2.toNatClampNeg) 9) <|
  (if (AI 111 0 (AI 164 0 x2.toNatClampNeg).toNatClampNeg) ≤ x3 then
  some (.inr (.inl ()))
else
  gd (vp_in (((8 : Int32) * x2) + x3) 528) <|
    (if (AI 173 0 (((8 : Int32) * x2) + x3).toNatClampNeg) = x1 then
    some (.inr (.inr ()))
  else
    some (.inl (x3 + (1 : Int32)))))
theorem x_mX4_isCover_b2 {G : OhG} {FI AI : OhI} {FL AL : OhL} {FR GR AR BR : OhQ} {AN : OhN} {C : OhC} {k : Nat × Nat} {Φ : OhP} {Ψ : OhX} (hM : ohShM FR AN) (n : Nat) (x1 : Int32) (x2 : Int32) (x3 : Int32) {r : (Int32) ⊕ ((Unit) ⊕ (Unit))} (hm : mX4_isCover_b2 n FR AI AN x1 x2 x3 = some r) (hk : ∀ v : Int32, r = .inl v → oX G 1 iX4_isCover 2 [(0, vR (some (1, 0))), (1, vI x1), (2, vI x2), (3, vI v)] [] (FI, FL, FR, GR, AI, AL, AR, BR, AN, C) k Φ Ψ) (hx1 : ∀ v : Unit, r = .inr (.inl v) → oX G 1 iX4_isCover 40 [] [] (FI, FL, FR, GR, AI, AL, AR, BR, AN, C) k Φ Ψ) (hx2 : ∀ v : Unit, r = .inr (.inr v) → oX G 1 iX4_isCover 32 [] [] (FI, FL, FR, GR, AI, AL, AR, BR, AN, C) k Φ Ψ) : oX G 1 iX4_isCover 2 [(0, vR (some (1, 0))), (1, vI x1), (2, vI x2), (3, vI x3)] [] (FI, FL, FR, GR, AI, AL, AR, BR, AN, C) k Φ Ψ := by
  unfold mX4_isCover_b2 at hm
  refine oX_iload_n dX4_isCover_2 rfl rfl ?_
  refine oX_aload_n dX4_isCover_3 rfl rfl ?_
  refine oX_getF fX4_26 rfl oDs1 dX4_isCover_4 (ohF111 hM) ?_
  refine oX_aload_n dX4_isCover_7 rfl rfl ?_
  refine oX_getF fX4_148 rfl oDs1 dX4_isCover_8 (ohF164 hM) ?_
  refine oX_iload_n dX4_isCover_11 rfl rfl ?_
  obtain ⟨g1, hm⟩ := gd_s hm
  refine oX_iald oDs164 (oIn (ohN164 hM) g1) dX4_isCover_12 ?_
  obtain ⟨g2, hm⟩ := gd_s hm
  refine oX_iald oDs111 (oIn (ohN111 hM) g2) dX4_isCover_13 ?_
  refine oX_icmp_ge (tgt := 40) dX4_isCover_14 (by decide) (fun c3 => ?_) (fun c3 => ?_)
  · have hm := ifp c3 hm
    exact oX_sub [] rfl (hx1 () (Option.some.inj hm).symm)
  · have hm := ifn c3 hm
    refine oX_aload_n dX4_isCover_17 rfl rfl ?_
    refine oX_getF fX4_160 rfl oDs1 dX4_isCover_18 (ohF173 hM) ?_
    refine oX_bipush (v := (8 : Int32)) dX4_isCover_21 (by decide) ?_
    refine oX_iload_n dX4_isCover_23 rfl rfl ?_
    refine oX_imul dX4_isCover_24 ?_
    refine oX_iload_n dX4_isCover_25 rfl rfl ?_
    refine oX_iadd dX4_isCover_26 ?_
    obtain ⟨g4, hm⟩ := gd_s hm
    refine oX_iald oDs173 (oIn (ohN173 hM) g4) dX4_isCover_27 ?_
    refine oX_iload_n dX4_isCover_28 rfl rfl ?_
    refine oX_icmp_ne (tgt := 34) dX4_isCover_29 (by decide) (fun c5 => ?_) (fun c5 => ?_)
    · have hm := ifp c5 hm
      exact oX_sub [] rfl (hx2 () (Option.some.inj hm).symm)
    · have hm := ifn c5 hm
      refine oX_iinc (v := x3 + (1 : Int32)) (ls' := [(3, vI (x3 + (1 : Int32))), (0, vR (some (1, 0))), (1, vI x1), (2, vI x2)]) dX4_isCover_34 rfl rfl (by decide) rfl ?_
      refine oX_goto (tgt := 2) dX4_isCover_37 (by decide) ?_
      exact oX_sub [1, 2, 3, 0] rfl (hk (x3 + (1 : Int32)) (Option.some.inj hm).symm)
theorem l_mX4_isCover_b2 {G : OhG} {FI : OhI} {FL : OhL} {FR : OhQ} {GR : OhQ} {AI : OhI} {AL : OhL} {AR : OhQ} {BR : OhQ} {AN : OhN} {C : OhC} {k : Nat × Nat} {Φ : OhP} {Ψ : OhX} (hM : ohShM FR AN) (n : Nat) (x1 : Int32) (x2 : Int32) : ∀ (f : Nat) (x3 : Int32) (b : ((Unit) ⊕ (Unit))), lpF (fun v => mX4_isCover_b2 n FR AI AN x1 x2 v) f x3 = some b → (∀ v : Unit, b = (.inl v) → oX G 1 iX4_isCover 40 [] [] (FI, FL, FR, GR, AI, AL, AR, BR, AN, C) k Φ Ψ) → (∀ v : Unit, b = (.inr v) → oX G 1 iX4_isCover 32 [] [] (FI, FL, FR, GR, AI, AL, AR, BR, AN, C) k Φ Ψ) → oX G 1 iX4_isCover 2 [(0, vR (some (1, 0))), (1, vI x1), (2, vI x2), (3, vI x3)] [] (FI, FL, FR, GR, AI, AL, AR, BR, AN, C) k Φ Ψ := by
  intro f
  induction f with
  | zero =>
    intro x3 b hm
    cases hm
  | succ f ih =>
    intro x3 b hm hx1 hx2
    obtain ⟨r, hr, hm⟩ := lp_s hm
    refine x_mX4_isCover_b2 hM n x1 x2 x3 hr (fun v e => ?_) (fun v e => ?_) (fun v e => ?_)
    · subst e; exact ih v _ hm hx1 hx2
    · subst e; exact hx1 v hm.symm
    · subst e; exact hx2 v hm.symm
noncomputable def mX4_isCover (n : Nat) (FR : OhQ) (AI : OhI) (AN : OhN) (x1 : Int32) (x2 : Int32) : Option (Int32) :=
  (lpF (fun v => mX4_isCover_b2 n FR AI AN x1 x2 v) n (0 : Int32)).bind (Sum.elim (fun v6 => some (0 : Int32)) (fun v6 => some (1 : Int32)))
theorem x_mX4_isCover {G : OhG} {FI AI : OhI} {FL AL : OhL} {FR GR AR BR : OhQ} {AN : OhN} {C : OhC} {k : Nat × Nat} {Φ : OhP} {Ψ : OhX} (hM : ohShM FR AN) (n : Nat) (x1 : Int32) (x2 : Int32) {r : Int32} (hm : mX4_isCover n FR AI AN x1 x2 = some r) (hK : Φ (some (vI r)) (FI, FL, FR, GR, AI, AL, AR, BR, AN, C)) : oX G 1 iX4_isCover 0 [(0, vR (some (1, 0))), (1, vI x1), (2, vI x2)] [] (FI, FL, FR, GR, AI, AL, AR, BR, AN, C) k Φ Ψ := by
  unfold mX4_isCover at hm
  refine oX_iconst (v := (0 : Int32)) dX4_isCover_0 (by decide) ?_
  refine oX_istore_n (ls' := [(3, vI (0 : Int32)), (0, vR (some (1, 0))), (1, vI x1), (2, vI x2)]) dX4_isCover_1 rfl (by decide) rfl ?_
  obtain ⟨b6, g6, hm⟩ := bd_s hm
  refine oX_sub [1, 2, 3, 0] rfl (l_mX4_isCover_b2 hM n x1 x2 n (0 : Int32) _ g6 (fun v6 e6 => ?_) (fun v6 e6 => ?_))
  · subst e6
    have hm := el1 hm
    refine oX_iconst (v := (0 : Int32)) dX4_isCover_40 (by decide) ?_
    obtain rfl := Option.some.inj hm
    exact oX_iret dX4_isCover_41 rfl (by decide) hK
  · subst e6
    have hm := el2 hm
    refine oX_iconst (v := (1 : Int32)) dX4_isCover_32 (by decide) ?_
    obtain rfl := Option.some.inj hm
    exact oX_iret dX4_isCover_33 rfl (by decide) hK
theorem t_X4_isCover {G : OhG} {FI AI : OhI} {FL AL : OhL} {FR GR AR BR : OhQ} {AN : OhN} {C : OhC} (hM : ohShM FR AN) (n : Nat) (x1 : Int32) (x2 : Int32) {o : Int32} (hm : mX4_isCover n FR AI AN x1 x2 = some o) : oT G 1 iX4_isCover [vR (some (1, 0)), vI x1, vI x2] (FI, FL, FR, GR, AI, AL, AR, BR, AN, C) (0, 0) (fun v h => v = (some (vI o)) ∧ h = (FI, FL, FR, GR, AI, AL, AR, BR, AN, C)) ohNo :=
  oT_of (by decide) rfl (Nat.le_of_ble_eq_true rfl) (x_mX4_isCover hM n x1 x2 hm ⟨rfl, rfl⟩)
abbrev iX4_isIll : OhM := (yX4_isIll, cX4_isIll, 4, (some .boolean), [])
theorem ok_X4_isIll : oOk iX4_isIll 2 := ⟨by decide, by decide, by decide +kernel⟩

noncomputable def mX4_isIll_b2 (n : Nat) (FI : OhI) (FR : OhQ) (AI : OhI) (AN : OhN) (x1 : Int32) (x2 : Int32) (x3 : Int32) : Option ((Int32) ⊕ ((Unit) ⊕ (Unit))) :=
  (if (FI 1 0 68) ≤ x3 then
  some (.inr (.inl ()))
else
  gd (vp_in x3 60) <|
    (if (FI 1 0 78) < (AI 155 0 x3.toNatClampNeg) then
    some (.inl (x3 + (1 : Int32)))
  else
    gd (vp_in x3 60) <|
      (if (AI 152 0 x3.toNatClampNeg) = x1 then
      gd (vp_in x3 60) <|
        (if x2 < (AI 153 0 x3.toNatClampNeg) then
        some (.inl (x3 + (1 : Int32)))
      else
        gd (vp_in x3 60) <|
          (if (AI 154 0 x3.toNatClampNeg) < x2 then
          some (.inl (x3 + (1 : Int32)))
        else
          some (.inr (.inr ()))))
    else
      some (.inl (x3 + (1 : Int32))))))
theorem x_mX4_isIll_b2 {G : OhG} {FI AI : OhI} {FL AL : OhL} {FR GR AR BR : OhQ} {AN : OhN} {C : OhC} {k : Nat × Nat} {Φ : OhP} {Ψ : OhX} (hM : ohShM FR AN) (n : Nat) (x1 : Int32) (x2 : Int32) (x3 : Int32) {r : (Int32) ⊕ ((Unit) ⊕ (Unit))} (hm : mX4_isIll_b2 n FI FR AI AN x1 x2 x3 = some r) (hk : ∀ v : Int32, r = .inl v → oX G 1 iX4_isIll 2 [(0, vR (some (1, 0))), (1, vI x1), (2, vI x2), (3, vI v)] [] (FI, FL, FR, GR, AI, AL, AR, BR, AN, C) k Φ Ψ) (hx1 : ∀ v : Unit, r = .inr (.inl v) → oX G 1 iX4_isIll 61 [] [] (FI, FL, FR, GR, AI, AL, AR, BR, AN, C) k Φ Ψ) (hx2 : ∀ v : Unit, r = .inr (.inr v) → oX G 1 iX4_isIll 53 [] [] (FI, FL, FR, GR, AI, AL, AR, BR, AN, C) k Φ Ψ) : oX G 1 iX4_isIll 2 [(0, vR (some (1, 0))), (1, vI x1), (2, vI x2), (3, vI x3)] [] (FI, FL, FR, GR, AI, AL, AR, BR, AN, C) k Φ Ψ := by
  unfold mX4_isIll_b2 at hm
  refine oX_iload_n dX4_isIll_2 rfl rfl ?_
  refine oX_aload_n dX4_isIll_3 rfl rfl ?_
  refine oX_getI fX4_440 rfl oDs1 dX4_isIll_4 ?_
  refine oX_icmp_ge (tgt := 61) dX4_isIll_7 (by decide) (fun c1 => ?_) (fun c1 => ?_)
  · have hm := ifp c1 hm
    exact oX_sub [] rfl (hx1 () (Option.some.inj hm).symm)
  · have hm := ifn c1 hm
    refine oX_aload_n dX4_isIll_10 rfl rfl ?_
    refine oX_getF fX4_121 rfl oDs1 dX4_isIll_11 (ohF155 hM) ?_
    refine oX_iload_n dX4_isIll_14 rfl rfl ?_
    obtain ⟨g2, hm⟩ := gd_s hm
    refine oX_iald oDs155 (oIn (ohN155 hM) g2) dX4_isIll_15 ?_
    refine oX_aload_n dX4_isIll_16 rfl rfl ?_
    refine oX_getI fX4_443 rfl oDs1 dX4_isIll_17 ?_
    refine oX_icmp_gt (tgt := 55) dX4_isIll_20 (by decide) (fun c3 => ?_) (fun c3 => ?_)
    · have hm := ifp c3 hm
      refine oX_iinc (v := x3 + (1 : Int32)) (ls' := [(3, vI (x3 + (1 : Int32))), (0, vR (some (1, 0))), (1, vI x1), (2, vI x2)]) dX4_isIll_55 rfl rfl (by decide) rfl ?_
      refine oX_goto (tgt := 2) dX4_isIll_58 (by decide) ?_
      exact oX_sub [1, 2, 3, 0] rfl (hk (x3 + (1 : Int32)) (Option.some.inj hm).symm)
    · have hm := ifn c3 hm
      refine oX_aload_n dX4_isIll_23 rfl rfl ?_
      refine oX_getF fX4_112 rfl oDs1 dX4_isIll_24 (ohF152 hM) ?_
      refine oX_iload_n dX4_isIll_27 rfl rfl ?_
      obtain ⟨g4, hm⟩ := gd_s hm
      refine oX_iald oDs152 (oIn (ohN152 hM) g4) dX4_isIll_28 ?_
      refine oX_iload_n dX4_isIll_29 rfl rfl ?_
      refine oX_icmp_ne (tgt := 55) dX4_isIll_30 (by decide) (fun c5 => ?_) (fun c5 => ?_)
      · have hm := ifp c5 hm
        refine oX_aload_n dX4_isIll_33 rfl rfl ?_
        refine oX_getF fX4_115 rfl oDs1 dX4_isIll_34 (ohF153 hM) ?_
        refine oX_iload_n dX4_isIll_37 rfl rfl ?_
        obtain ⟨g6, hm⟩ := gd_s hm
        refine oX_iald oDs153 (oIn (ohN153 hM) g6) dX4_isIll_38 ?_
        refine oX_iload_n dX4_isIll_39 rfl rfl ?_
        refine oX_icmp_gt (tgt := 55) dX4_isIll_40 (by decide) (fun c7 => ?_) (fun c7 => ?_)
        · have hm := ifp c7 hm
          refine oX_iinc (v := x3 + (1 : Int32)) (ls' := [(3, vI (x3 + (1 : Int32))), (0, vR (some (1, 0))), (1, vI x1), (2, vI x2)]) dX4_isIll_55 rfl rfl (by decide) rfl ?_
          refine oX_goto (tgt := 2) dX4_isIll_58 (by decide) ?_
          exact oX_sub [1, 2, 3, 0] rfl (hk (x3 + (1 : Int32)) (Option.some.inj hm).symm)
        · have hm := ifn c7 hm
          refine oX_iload_n dX4_isIll_43 rfl rfl ?_
          refine oX_aload_n dX4_isIll_44 rfl rfl ?_
          refine oX_getF fX4_118 rfl oDs1 dX4_isIll_45 (ohF154 hM) ?_
          refine oX_iload_n dX4_isIll_48 rfl rfl ?_
          obtain ⟨g8, hm⟩ := gd_s hm
          refine oX_iald oDs154 (oIn (ohN154 hM) g8) dX4_isIll_49 ?_
          refine oX_icmp_gt (tgt := 55) dX4_isIll_50 (by decide) (fun c9 => ?_) (fun c9 => ?_)
          · have hm := ifp c9 hm
            refine oX_iinc (v := x3 + (1 : Int32)) (ls' := [(3, vI (x3 + (1 : Int32))), (0, vR (some (1, 0))), (1, vI x1), (2, vI x2)]) dX4_isIll_55 rfl rfl (by decide) rfl ?_
            refine oX_goto (tgt := 2) dX4_isIll_58 (by decide) ?_
            exact oX_sub [1, 2, 3, 0] rfl (hk (x3 + (1 : Int32)) (Option.some.inj hm).symm)
          · have hm := ifn c9 hm
            exact oX_sub [] rfl (hx2 () (Option.some.inj hm).symm)
      · have hm := ifn c5 hm
        refine oX_iinc (v := x3 + (1 : Int32)) (ls' := [(3, vI (x3 + (1 : Int32))), (0, vR (some (1, 0))), (1, vI x1), (2, vI x2)]) dX4_isIll_55 rfl rfl (by decide) rfl ?_
        refine oX_goto (tgt := 2) dX4_isIll_58 (by decide) ?_
        exact oX_sub [1, 2, 3, 0] rfl (hk (x3 + (1 : Int32)) (Option.some.inj hm).symm)
theorem l_mX4_isIll_b2 {G : OhG} {FI : OhI} {FL : OhL} {FR : OhQ} {GR : OhQ} {AI : OhI} {AL : OhL} {AR : OhQ} {BR : OhQ} {AN : OhN} {C : OhC} {k : Nat × Nat} {Φ : OhP} {Ψ : OhX} (hM : ohShM FR AN) (n : Nat) (x1 : Int32) (x2 : Int32) : ∀ (f : Nat) (x3 : Int32) (b : ((Unit) ⊕ (Unit))), lpF (fun v => mX4_isIll_b2 n FI FR AI AN x1 x2 v) f x3 = some b → (∀ v : Unit, b = (.inl v) → oX G 1 iX4_isIll 61 [] [] (FI, FL, FR, GR, AI, AL, AR, BR, AN, C) k Φ Ψ) → (∀ v : Unit, b = (.inr v) → oX G 1 iX4_isIll 53 [] [] (FI, FL, FR, GR, AI, AL, AR, BR, AN, C) k Φ Ψ) → oX G 1 iX4_isIll 2 [(0, vR (some (1, 0))), (1, vI x1), (2, vI x2), (3, vI x3)] [] (FI, FL, FR, GR, AI, AL, AR, BR, AN, C) k Φ Ψ := by
  intro f
  induction f with
  | zero =>
    intro x3 b hm
    cases hm
  | succ f ih =>
    intro x3 b hm hx1 hx2
    obtain ⟨r, hr, hm⟩ := lp_s hm
    refine x_mX4_isIll_b2 hM n x1 x2 x3 hr (fun v e => ?_) (fun v e => ?_) (fun v e => ?_)
    · subst e; exact ih v _ hm hx1 hx2
    · subst e; exact hx1 v hm.symm
    · subst e; exact hx2 v hm.symm
noncomputable def mX4_isIll (n : Nat) (FI : OhI) (FR : OhQ) (AI : OhI) (AN : OhN) (x1 : Int32) (x2 : Int32) : Option (Int32) :=
  (lpF (fun v => mX4_isIll_b2 n FI FR AI AN x1 x2 v) n (0 : Int32)).bind (Sum.elim (fun v10 => some (0 : Int32)) (fun v10 => some (1 : Int32)))
theorem x_mX4_isIll {G : OhG} {FI AI : OhI} {FL AL : OhL} {FR GR AR BR : OhQ} {AN : OhN} {C : OhC} {k : Nat × Nat} {Φ : OhP} {Ψ : OhX} (hM : ohShM FR AN) (n : Nat) (x1 : Int32) (x2 : Int32) {r : Int32} (hm : mX4_isIll n FI FR AI AN x1 x2 = some r) (hK : Φ (some (vI r)) (FI, FL, FR, GR, AI, AL, AR, BR, AN, C)) : oX G 1 iX4_isIll 0 [(0, vR (some (1, 0))), (1, vI x1), (2, vI x2)] [] (FI, FL, FR, GR, AI, AL, AR, BR, AN, C) k Φ Ψ := by
  unfold mX4_isIll at hm
  refine oX_iconst (v := (0 : Int32)) dX4_isIll_0 (by decide) ?_
  refine oX_istore_n (ls' := [(3, vI (0 : Int32)), (0, vR (some (1, 0))), (1, vI x1), (2, vI x2)]) dX4_isIll_1 rfl (by decide) rfl ?_
  obtain ⟨b10, g10, hm⟩ := bd_s hm
  refine oX_sub [1, 2, 3, 0] rfl (l_mX4_isIll_b2 hM n x1 x2 n (0 : Int32) _ g10 (fun v10 e10 => ?_) (fun v10 e10 => ?_))
  · subst e10
    have hm := el1 hm
    refine oX_iconst (v := (0 : Int32)) dX4_isIll_61 (by decide) ?_
    obtain rfl := Option.some.inj hm
    exact oX_iret dX4_isIll_62 rfl (by decide) hK
  · subst e10
    have hm := el2 hm
    refine oX_iconst (v := (1 : Int32)) dX4_isIll_53 (by decide) ?_
    obtain rfl := Option.some.inj hm
    exact oX_iret dX4_isIll_54 rfl (by decide) hK
theorem t_X4_isIll {G : OhG} {FI AI : OhI} {FL AL : OhL} {FR GR AR BR : OhQ} {AN : OhN} {C : OhC} (hM : ohShM FR AN) (n : Nat) (x1 : Int32) (x2 : Int32) {o : Int32} (hm : mX4_isIll n FI FR AI AN x1 x2 = some o) : oT G 1 iX4_isIll [vR (some (1, 0)), vI x1, vI x2] (FI, FL, FR, GR, AI, AL, AR, BR, AN, C) (0, 0) (fun v h => v = (some (vI o)) ∧ h = (FI, FL, FR, GR, AI, AL, AR, BR, AN, C)) ohNo :=
  oT_of (by decide) rfl (Nat.le_of_ble_eq_true rfl) (x_mX4_isIll hM n x1 x2 hm ⟨rfl, rfl⟩)
abbrev iX4_cameInstead : OhM := (yX4_cameInstead, cX4_cameInstead, 5, (some .boolean), [])
theorem ok_X4_cameInstead : oOk iX4_cameInstead 2 := ⟨by decide, by decide, by decide +kernel⟩

noncomputable def mX4_cameInstead_b2 (n : Nat) (FR : OhQ) (AI : OhI) (AN : OhN) (x1 : Int32) (x2 : Int32) (x3 : Int32) : Option ((Int32) ⊕ ((Unit) ⊕ (Unit))) :=
  gd (vp_in x2 66) <|
  gd (vp_in (AI 164 0 x2.toNatClampNeg) 9) <|
  (if (AI 111 0 (AI 164 0 x2.toNatClampNeg).toNatClampNeg) ≤ x3 then
  some (.inr (.inl ()))
else
  gd (vp_in (((8 : Int32) * x2) + x3) 528) <|
    (if (AI 172 0 (((8 : Int32) * x2) + x3).toNatClampNeg) = x1 then
    gd (vp_in (((8 : Int32) * x2) + x3) 528) <|
      (if (AI 174 0 (((8 : Int32) * x2) + x3).toNatClampNeg) < 0 then
      some (.inl (x3 + (1 : Int32)))
    else
      gd (vp_in (((8 : Int32) * x2) + x3) 528) <|
        (if (AI 174 0 (((8 : Int32) * x2) + x3).toNatClampNeg) = x1 then
        some (.inl (x3 + (1 : Int32)))
      else
        some (.inr (.inr ()))))
  else
    some (.inl (x3 + (1 : Int32)))))
theorem x_mX4_cameInstead_b2 {G : OhG} {FI AI : OhI} {FL AL : OhL} {FR GR AR BR : OhQ} {AN : OhN} {C : OhC} {k : Nat × Nat} {Φ : OhP} {Ψ : OhX} (hM : ohShM FR AN) (n : Nat) (x1 : Int32) (x2 : Int32) (x3 : Int32) {r : (Int32) ⊕ ((Unit) ⊕ (Unit))} (hm : mX4_cameInstead_b2 n FR AI AN x1 x2 x3 = some r) (hk : ∀ v : Int32, r = .inl v → oX G 1 iX4_cameInstead 2 [(0, vR (some (1, 0))), (1, vI x1), (2, vI x2), (3, vI v)] [] (FI, FL, FR, GR, AI, AL, AR, BR, AN, C) k Φ Ψ) (hx1 : ∀ v : Unit, r = .inr (.inl v) → oX G 1 iX4_cameInstead 65 [] [] (FI, FL, FR, GR, AI, AL, AR, BR, AN, C) k Φ Ψ) (hx2 : ∀ v : Unit, r = .inr (.inr v) → oX G 1 iX4_cameInstead 57 [] [] (FI, FL, FR, GR, AI, AL, AR, BR, AN, C) k Φ Ψ) : oX G 1 iX4_cameInstead 2 [(0, vR (some (1, 0))), (1, vI x1), (2, vI x2), (3, vI x3)] [] (FI, FL, FR, GR, AI, AL, AR, BR, AN, C) k Φ Ψ := by
  unfold mX4_cameInstead_b2 at hm
  refine oX_iload_n dX4_cameInstead_2 rfl rfl ?_
  refine oX_aload_n dX4_cameInstead_3 rfl rfl ?_
  refine oX_getF fX4_26 rfl oDs1 dX4_cameInstead_4 (ohF111 hM) ?_
  refine oX_aload_n dX4_cameInstead_7 rfl rfl ?_
  refine oX_getF fX4_148 rfl oDs1 dX4_cameInstead_8 (ohF164 hM) ?_
  refine oX_iload_n dX4_cameInstead_11 rfl rfl ?_
  obtain ⟨g1, hm⟩ := gd_s hm
  refine oX_iald oDs164 (oIn (ohN164 hM) g1) dX4_cameInstead_12 ?_
  obtain ⟨g2, hm⟩ := gd_s hm
  refine oX_iald oDs111 (oIn (ohN111 hM) g2) dX4_cameInstead_13 ?_
  refine oX_icmp_ge (tgt := 65) dX4_cameInstead_14 (by decide) (fun c3 => ?_) (fun c3 => ?_)
  · have hm := ifp c3 hm
    exact oX_sub [] rfl (hx1 () (Option.some.inj hm).symm)
  · have hm := ifn c3 hm
    refine oX_bipush (v := (8 : Int32)) dX4_cameInstead_17 (by decide) ?_
    refine oX_iload_n dX4_cameInstead_19 rfl rfl ?_
    refine oX_imul dX4_cameInstead_20 ?_
    refine oX_iload_n dX4_cameInstead_21 rfl rfl ?_
    refine oX_iadd dX4_cameInstead_22 ?_
    refine oX_istore (ls' := [(4, vI (((8 : Int32) * x2) + x3)), (0, vR (some (1, 0))), (1, vI x1), (2, vI x2), (3, vI x3)]) dX4_cameInstead_23 (by decide) rfl ?_
    refine oX_aload_n dX4_cameInstead_25 rfl rfl ?_
    refine oX_getF fX4_157 rfl oDs1 dX4_cameInstead_26 (ohF172 hM) ?_
    refine oX_iload dX4_cameInstead_29 rfl ?_
    obtain ⟨g4, hm⟩ := gd_s hm
    refine oX_iald oDs172 (oIn (ohN172 hM) g4) dX4_cameInstead_31 ?_
    refine oX_iload_n dX4_cameInstead_32 rfl rfl ?_
    refine oX_icmp_ne (tgt := 59) dX4_cameInstead_33 (by decide) (fun c5 => ?_) (fun c5 => ?_)
    · have hm := ifp c5 hm
      refine oX_aload_n dX4_cameInstead_36 rfl rfl ?_
      refine oX_getF fX4_163 rfl oDs1 dX4_cameInstead_37 (ohF174 hM) ?_
      refine oX_iload dX4_cameInstead_40 rfl ?_
      obtain ⟨g6, hm⟩ := gd_s hm
      refine oX_iald oDs174 (oIn (ohN174 hM) g6) dX4_cameInstead_42 ?_
      refine oX_if_lt (tgt := 59) dX4_cameInstead_43 (by decide) (fun c7 => ?_) (fun c7 => ?_)
      · have hm := ifp c7 hm
        refine oX_iinc (v := x3 + (1 : Int32)) (ls' := [(3, vI (x3 + (1 : Int32))), (4, vI (((8 : Int32) * x2) + x3)), (0, vR (some (1, 0))), (1, vI x1), (2, vI x2)]) dX4_cameInstead_59 rfl rfl (by decide) rfl ?_
        refine oX_goto (tgt := 2) dX4_cameInstead_62 (by decide) ?_
        exact oX_sub [2, 3, 4, 0] rfl (hk (x3 + (1 : Int32)) (Option.some.inj hm).symm)
      · have hm := ifn c7 hm
        refine oX_aload_n dX4_cameInstead_46 rfl rfl ?_
        refine oX_getF fX4_163 rfl oDs1 dX4_cameInstead_47 (ohF174 hM) ?_
        refine oX_iload dX4_cameInstead_50 rfl ?_
        obtain ⟨g8, hm⟩ := gd_s hm
        refine oX_iald oDs174 (oIn (ohN174 hM) g8) dX4_cameInstead_52 ?_
        refine oX_iload_n dX4_cameInstead_53 rfl rfl ?_
        refine oX_icmp_eq (tgt := 59) dX4_cameInstead_54 (by decide) (fun c9 => ?_) (fun c9 => ?_)
        · have hm := ifp c9 hm
          refine oX_iinc (v := x3 + (1 : Int32)) (ls' := [(3, vI (x3 + (1 : Int32))), (4, vI (((8 : Int32) * x2) + x3)), (0, vR (some (1, 0))), (1, vI x1), (2, vI x2)]) dX4_cameInstead_59 rfl rfl (by decide) rfl ?_
          refine oX_goto (tgt := 2) dX4_cameInstead_62 (by decide) ?_
          exact oX_sub [2, 3, 4, 0] rfl (hk (x3 + (1 : Int32)) (Option.some.inj hm).symm)
        · have hm := ifn c9 hm
          exact oX_sub [] rfl (hx2 () (Option.some.inj hm).symm)
    · have hm := ifn c5 hm
      refine oX_iinc (v := x3 + (1 : Int32)) (ls' := [(3, vI (x3 + (1 : Int32))), (4, vI (((8 : Int32) * x2) + x3)), (0, vR (some (1, 0))), (1, vI x1), (2, vI x2)]) dX4_cameInstead_59 rfl rfl (by decide) rfl ?_
      refine oX_goto (tgt := 2) dX4_cameInstead_62 (by decide) ?_
      exact oX_sub [2, 3, 4, 0] rfl (hk (x3 + (1 : Int32)) (Option.some.inj hm).symm)
theorem l_mX4_cameInstead_b2 {G : OhG} {FI : OhI} {FL : OhL} {FR : OhQ} {GR : OhQ} {AI : OhI} {AL : OhL} {AR : OhQ} {BR : OhQ} {AN : OhN} {C : OhC} {k : Nat × Nat} {Φ : OhP} {Ψ : OhX} (hM : ohShM FR AN) (n : Nat) (x1 : Int32) (x2 : Int32) : ∀ (f : Nat) (x3 : Int32) (b : ((Unit) ⊕ (Unit))), lpF (fun v => mX4_cameInstead_b2 n FR AI AN x1 x2 v) f x3 = some b → (∀ v : Unit, b = (.inl v) → oX G 1 iX4_cameInstead 65 [] [] (FI, FL, FR, GR, AI, AL, AR, BR, AN, C) k Φ Ψ) → (∀ v : Unit, b = (.inr v) → oX G 1 iX4_cameInstead 57 [] [] (FI, FL, FR, GR, AI, AL, AR, BR, AN, C) k Φ Ψ) → oX G 1 iX4_cameInstead 2 [(0, vR (some (1, 0))), (1, vI x1), (2, vI x2), (3, vI x3)] [] (FI, FL, FR, GR, AI, AL, AR, BR, AN, C) k Φ Ψ := by
  intro f
  induction f with
  | zero =>
    intro x3 b hm
    cases hm
  | succ f ih =>
    intro x3 b hm hx1 hx2
    obtain ⟨r, hr, hm⟩ := lp_s hm
    refine x_mX4_cameInstead_b2 hM n x1 x2 x3 hr (fun v e => ?_) (fun v e => ?_) (fun v e => ?_)
    · subst e; exact ih v _ hm hx1 hx2
    · subst e; exact hx1 v hm.symm
    · subst e; exact hx2 v hm.symm
noncomputable def mX4_cameInstead (n : Nat) (FR : OhQ) (AI : OhI) (AN : OhN) (x1 : Int32) (x2 : Int32) : Option (Int32) :=
  (lpF (fun v => mX4_cameInstead_b2 n FR AI AN x1 x2 v) n (0 : Int32)).bind (Sum.elim (fun v10 => some (0 : Int32)) (fun v10 => some (1 : Int32)))
theorem x_mX4_cameInstead {G : OhG} {FI AI : OhI} {FL AL : OhL} {FR GR AR BR : OhQ} {AN : OhN} {C : OhC} {k : Nat × Nat} {Φ : OhP} {Ψ : OhX} (hM : ohShM FR AN) (n : Nat) (x1 : Int32) (x2 : Int32) {r : Int32} (hm : mX4_cameInstead n FR AI AN x1 x2 = some r) (hK : Φ (some (vI r)) (FI, FL, FR, GR, AI, AL, AR, BR, AN, C)) : oX G 1 iX4_cameInstead 0 [(0, vR (some (1, 0))), (1, vI x1), (2, vI x2)] [] (FI, FL, FR, GR, AI, AL, AR, BR, AN, C) k Φ Ψ := by
  unfold mX4_cameInstead at hm
  refine oX_iconst (v := (0 : Int32)) dX4_cameInstead_0 (by decide) ?_
  refine oX_istore_n (ls' := [(3, vI (0 : Int32)), (0, vR (some (1, 0))), (1, vI x1), (2, vI x2)]) dX4_cameInstead_1 rfl (by decide) rfl ?_
  obtain ⟨b10, g10, hm⟩ := bd_s hm
  refine oX_sub [1, 2, 3, 0] rfl (l_mX4_cameInstead_b2 hM n x1 x2 n (0 : Int32) _ g10 (fun v10 e10 => ?_) (fun v10 e10 => ?_))
  · subst e10
    have hm := el1 hm
    refine oX_iconst (v := (0 : Int32)) dX4_cameInstead_65 (by decide) ?_
    obtain rfl := Option.some.inj hm
    exact oX_iret dX4_cameInstead_66 rfl (by decide) hK
  · subst e10
    have hm := el2 hm
    refine oX_iconst (v := (1 : Int32)) dX4_cameInstead_57 (by decide) ?_
    obtain rfl := Option.some.inj hm
    exact oX_iret dX4_cameInstead_58 rfl (by decide) hK
theorem t_X4_cameInstead {G : OhG} {FI AI : OhI} {FL AL : OhL} {FR GR AR BR : OhQ} {AN : OhN} {C : OhC} (hM : ohShM FR AN) (n : Nat) (x1 : Int32) (x2 : Int32) {o : Int32} (hm : mX4_cameInstead n FR AI AN x1 x2 = some o) : oT G 1 iX4_cameInstead [vR (some (1, 0)), vI x1, vI x2] (FI, FL, FR, GR, AI, AL, AR, BR, AN, C) (0, 0) (fun v h => v = (some (vI o)) ∧ h = (FI, FL, FR, GR, AI, AL, AR, BR, AN, C)) ohNo :=
  oT_of (by decide) rfl (Nat.le_of_ble_eq_true rfl) (x_mX4_cameInstead hM n x1 x2 hm ⟨rfl, rfl⟩)
abbrev iX4_asks : OhM := (yX4_asks, cX4_asks, 5, (some .boolean), [])
theorem ok_X4_asks : oOk iX4_asks 4 := ⟨by decide, by decide, by decide +kernel⟩

noncomputable def mX4_asks (n : Nat) (FR : OhQ) (AI : OhI) (AN : OhN) (x1 : Int32) (x2 : Int32) (x3 : Int32) (x4 : Int32) : Option (Int32) :=
  (if (3 : Int32) < x3 then
  (if x3 = (4 : Int32) then
    gd (vp_in x2 66) <|
      gd (vp_in x2 66) <|
      (if (AI 162 0 x2.toNatClampNeg) ≤ (((24 : Int32) * (AI 160 0 x2.toNatClampNeg)) + (22 : Int32)) then
      some (0 : Int32)
    else
      some (1 : Int32))
  else
    (if x3 = (5 : Int32) then
      (mX4_isCover n FR AI AN x1 x2).bind fun r7 =>
        gd (r7 = 0 ∨ r7 = 1) <|
        some r7
    else
      (if x4 = 0 then
        some (0 : Int32)
      else
        (mX4_cameInstead n FR AI AN x1 x2).bind fun r10 =>
          (if r10 = 0 then
          some (0 : Int32)
        else
          some (1 : Int32)))))
else
  gd (vp_in x2 66) <|
    (if (AI 163 0 x2.toNatClampNeg) = x3 then
    some (1 : Int32)
  else
    some (0 : Int32)))
theorem x_mX4_asks {G : OhG} {FI AI : OhI} {FL AL : OhL} {FR GR AR BR : OhQ} {AN : OhN} {C : OhC} {k : Nat × Nat} {Φ : OhP} {Ψ : OhX} (hM : ohShM FR AN) (n : Nat) (x1 : Int32) (x2 : Int32) (x3 : Int32) (x4 : Int32) {r : Int32} (hm : mX4_asks n FR AI AN x1 x2 x3 x4 = some r) (hK : Φ (some (vI r)) (FI, FL, FR, GR, AI, AL, AR, BR, AN, C)) : oX G 2 iX4_asks 0 [(0, vR (some (1, 0))), (1, vI x1), (2, vI x2), (3, vI x3), (4, vI x4)] [] (FI, FL, FR, GR, AI, AL, AR, BR, AN, C) k Φ Ψ := by
  unfold mX4_asks at hm
  refine oX_iload_n dX4_asks_0 rfl rfl ?_
  refine oX_iconst (v := (3 : Int32)) dX4_asks_1 (by decide) ?_
  refine oX_icmp_gt (tgt := 21) dX4_asks_2 (by decide) (fun c1 => ?_) (fun c1 => ?_)
  · have hm := ifp c1 hm
    refine oX_iload_n dX4_asks_21 rfl rfl ?_
    refine oX_iconst (v := (4 : Int32)) dX4_asks_22 (by decide) ?_
    refine oX_icmp_ne (tgt := 53) dX4_asks_23 (by decide) (fun c2 => ?_) (fun c2 => ?_)
    · have hm := ifp c2 hm
      refine oX_aload_n dX4_asks_26 rfl rfl ?_
      refine oX_getF fX4_142 rfl oDs1 dX4_asks_27 (ohF162 hM) ?_
      refine oX_iload_n dX4_asks_30 rfl rfl ?_
      obtain ⟨g3, hm⟩ := gd_s hm
      refine oX_iald oDs162 (oIn (ohN162 hM) g3) dX4_asks_31 ?_
      refine oX_bipush (v := (24 : Int32)) dX4_asks_32 (by decide) ?_
      refine oX_aload_n dX4_asks_34 rfl rfl ?_
      refine oX_getF fX4_136 rfl oDs1 dX4_asks_35 (ohF160 hM) ?_
      refine oX_iload_n dX4_asks_38 rfl rfl ?_
      obtain ⟨g4, hm⟩ := gd_s hm
      refine oX_iald oDs160 (oIn (ohN160 hM) g4) dX4_asks_39 ?_
      refine oX_imul dX4_asks_40 ?_
      refine oX_bipush (v := (22 : Int32)) dX4_asks_41 (by decide) ?_
      refine oX_iadd dX4_asks_43 ?_
      refine oX_icmp_le (tgt := 51) dX4_asks_44 (by decide) (fun c5 => ?_) (fun c5 => ?_)
      · have hm := ifp c5 hm
        refine oX_iconst (v := (0 : Int32)) dX4_asks_51 (by decide) ?_
        obtain rfl := Option.some.inj hm
        exact oX_iret dX4_asks_52 rfl (by decide) hK
      · have hm := ifn c5 hm
        refine oX_iconst (v := (1 : Int32)) dX4_asks_47 (by decide) ?_
        refine oX_goto (tgt := 52) dX4_asks_48 (by decide) ?_
        obtain rfl := Option.some.inj hm
        exact oX_iret dX4_asks_52 rfl (by decide) hK
    · have hm := ifn c2 hm
      refine oX_iload_n dX4_asks_53 rfl rfl ?_
      refine oX_iconst (v := (5 : Int32)) dX4_asks_54 (by decide) ?_
      refine oX_icmp_ne (tgt := 67) dX4_asks_55 (by decide) (fun c6 => ?_) (fun c6 => ?_)
      · have hm := ifp c6 hm
        refine oX_aload_n dX4_asks_58 rfl rfl ?_
        refine oX_iload_n dX4_asks_59 rfl rfl ?_
        refine oX_iload_n dX4_asks_60 rfl rfl ?_
        obtain ⟨r7, g7, hm⟩ := bd_s hm
        refine oX_cV (as := [vI x1, vI x2]) dX4_asks_61 rfl oDs1 rfl (by decide) rfl ok_X4_isCover rfl rfl q2253 q2255 qs93 q136 q2256 (by decide) (Nat.le_of_ble_eq_true rfl) (t_X4_isCover hM n x1 x2 g7) ?_
        refine oX_goto (tgt := 86) dX4_asks_64 (by decide) ?_
        obtain ⟨g8, hm⟩ := gd_s hm
        obtain rfl := Option.some.inj hm
        exact oX_iret dX4_asks_86 rfl (oNz g8) hK
      · have hm := ifn c6 hm
        refine oX_iload dX4_asks_67 rfl ?_
        refine oX_if_eq (tgt := 85) dX4_asks_69 (by decide) (fun c9 => ?_) (fun c9 => ?_)
        · have hm := ifp c9 hm
          refine oX_iconst (v := (0 : Int32)) dX4_asks_85 (by decide) ?_
          obtain rfl := Option.some.inj hm
          exact oX_iret dX4_asks_86 rfl (by decide) hK
        · have hm := ifn c9 hm
          refine oX_aload_n dX4_asks_72 rfl rfl ?_
          refine oX_iload_n dX4_asks_73 rfl rfl ?_
          refine oX_iload_n dX4_asks_74 rfl rfl ?_
          obtain ⟨r10, g10, hm⟩ := bd_s hm
          refine oX_cV (as := [vI x1, vI x2]) dX4_asks_75 rfl oDs1 rfl (by decide) rfl ok_X4_cameInstead rfl rfl q2269 q2271 qs97 q136 q2272 (by decide) (Nat.le_of_ble_eq_true rfl) (t_X4_cameInstead hM n x1 x2 g10) ?_
          refine oX_if_eq (tgt := 85) dX4_asks_78 (by decide) (fun c11 => ?_) (fun c11 => ?_)
          · have hm := ifp c11 hm
            refine oX_iconst (v := (0 : Int32)) dX4_asks_85 (by decide) ?_
            obtain rfl := Option.some.inj hm
            exact oX_iret dX4_asks_86 rfl (by decide) hK
          · have hm := ifn c11 hm
            refine oX_iconst (v := (1 : Int32)) dX4_asks_81 (by decide) ?_
            refine oX_goto (tgt := 86) dX4_asks_82 (by decide) ?_
            obtain rfl := Option.some.inj hm
            exact oX_iret dX4_asks_86 rfl (by decide) hK
  · have hm := ifn c1 hm
    refine oX_aload_n dX4_asks_5 rfl rfl ?_
    refine oX_getF fX4_145 rfl oDs1 dX4_asks_6 (ohF163 hM) ?_
    refine oX_iload_n dX4_asks_9 rfl rfl ?_
    obtain ⟨g12, hm⟩ := gd_s hm
    refine oX_iald oDs163 (oIn (ohN163 hM) g12) dX4_asks_10 ?_
    refine oX_iload_n dX4_asks_11 rfl rfl ?_
    refine oX_icmp_ne (tgt := 19) dX4_asks_12 (by decide) (fun c13 => ?_) (fun c13 => ?_)
    · have hm := ifp c13 hm
      refine oX_iconst (v := (1 : Int32)) dX4_asks_15 (by decide) ?_
      refine oX_goto (tgt := 20) dX4_asks_16 (by decide) ?_
      obtain rfl := Option.some.inj hm
      exact oX_iret dX4_asks_20 rfl (by decide) hK
    · have hm := ifn c13 hm
      refine oX_iconst (v := (0 : Int32)) dX4_asks_19 (by decide) ?_
      obtain rfl := Option.some.inj hm
      exact oX_iret dX4_asks_20 rfl (by decide) hK
theorem t_X4_asks {G : OhG} {FI AI : OhI} {FL AL : OhL} {FR GR AR BR : OhQ} {AN : OhN} {C : OhC} (hM : ohShM FR AN) (n : Nat) (x1 : Int32) (x2 : Int32) (x3 : Int32) (x4 : Int32) {o : Int32} (hm : mX4_asks n FR AI AN x1 x2 x3 x4 = some o) : oT G 2 iX4_asks [vR (some (1, 0)), vI x1, vI x2, vI x3, vI x4] (FI, FL, FR, GR, AI, AL, AR, BR, AN, C) (0, 0) (fun v h => v = (some (vI o)) ∧ h = (FI, FL, FR, GR, AI, AL, AR, BR, AN, C)) ohNo :=
  oT_of (by decide) rfl (Nat.le_of_ble_eq_true rfl) (x_mX4_asks hM n x1 x2 x3 x4 hm ⟨rfl, rfl⟩)
abbrev iX4_nights : OhM := (yX4_nights, cX4_nights, 6, (some .int), [])
theorem ok_X4_nights : oOk iX4_nights 3 := ⟨by decide, by decide, by decide +kernel⟩

noncomputable def mX4_nights_b6 (n : Nat) (FR : OhQ) (AI : OhI) (AN : OhN) (x1 : Int32) (x2 : Int32) (x3 : Int32) (x4 : Int32) (x5 : Int32) : Option ((Int32 × Int32) ⊕ (Int32)) :=
  gd (vp_in x2 66) <|
  (if (AI 176 0 x2.toNatClampNeg) < x5 then
  some (.inr x4)
else
  gd (vp_in x5 66) <|
    gd (vp_in (AI 175 0 x5.toNatClampNeg) 66) <|
    (if (AI 163 0 (AI 175 0 x5.toNatClampNeg).toNatClampNeg) = (3 : Int32) then
    gd (vp_in x5 66) <|
      gd (vp_in (AI 175 0 x5.toNatClampNeg) 66) <|
      gd (vp_in x2 66) <|
      (if (AI 160 0 (AI 175 0 x5.toNatClampNeg).toNatClampNeg) ≤ ((AI 160 0 x2.toNatClampNeg) - x3) then
      some (.inl (x4 + (0 : Int32), x5 + (1 : Int32)))
    else
      gd (vp_in x5 66) <|
        (mX4_isIn_2 FR AI AN x1 (AI 175 0 x5.toNatClampNeg)).bind fun r11 =>
        (if r11 = 0 then
        some (.inl (x4 + (0 : Int32), x5 + (1 : Int32)))
      else
        some (.inl (x4 + (1 : Int32), x5 + (1 : Int32)))))
  else
    some (.inl (x4 + (0 : Int32), x5 + (1 : Int32)))))
theorem x_mX4_nights_b6 {G : OhG} {FI AI : OhI} {FL AL : OhL} {FR GR AR BR : OhQ} {AN : OhN} {C : OhC} {k : Nat × Nat} {Φ : OhP} {Ψ : OhX} (hM : ohShM FR AN) (n : Nat) (x1 : Int32) (x2 : Int32) (x3 : Int32) (x4 : Int32) (x5 : Int32) {r : (Int32 × Int32) ⊕ (Int32)} (hm : mX4_nights_b6 n FR AI AN x1 x2 x3 x4 x5 = some r) (hk : ∀ v : Int32 × Int32, r = .inl v → oX G 2 iX4_nights 6 [(0, vR (some (1, 0))), (1, vI x1), (2, vI x2), (3, vI x3), (4, vI v.1), (5, vI v.2)] [] (FI, FL, FR, GR, AI, AL, AR, BR, AN, C) k Φ Ψ) (hx1 : ∀ v : Int32, r = .inr v → oX G 2 iX4_nights 87 [(4, vI v)] [] (FI, FL, FR, GR, AI, AL, AR, BR, AN, C) k Φ Ψ) : oX G 2 iX4_nights 6 [(0, vR (some (1, 0))), (1, vI x1), (2, vI x2), (3, vI x3), (4, vI x4), (5, vI x5)] [] (FI, FL, FR, GR, AI, AL, AR, BR, AN, C) k Φ Ψ := by
  unfold mX4_nights_b6 at hm
  refine oX_iload dX4_nights_6 rfl ?_
  refine oX_aload_n dX4_nights_8 rfl rfl ?_
  refine oX_getF fX4_169 rfl oDs1 dX4_nights_9 (ohF176 hM) ?_
  refine oX_iload_n dX4_nights_12 rfl rfl ?_
  obtain ⟨g1, hm⟩ := gd_s hm
  refine oX_iald oDs176 (oIn (ohN176 hM) g1) dX4_nights_13 ?_
  refine oX_icmp_gt (tgt := 87) dX4_nights_14 (by decide) (fun c2 => ?_) (fun c2 => ?_)
  · have hm := ifp c2 hm
    exact oX_sub [4] rfl (hx1 x4 (Option.some.inj hm).symm)
  · have hm := ifn c2 hm
    refine oX_iload dX4_nights_17 rfl ?_
    refine oX_aload_n dX4_nights_19 rfl rfl ?_
    refine oX_getF fX4_145 rfl oDs1 dX4_nights_20 (ohF163 hM) ?_
    refine oX_aload_n dX4_nights_23 rfl rfl ?_
    refine oX_getF fX4_166 rfl oDs1 dX4_nights_24 (ohF175 hM) ?_
    refine oX_iload dX4_nights_27 rfl ?_
    obtain ⟨g3, hm⟩ := gd_s hm
    refine oX_iald oDs175 (oIn (ohN175 hM) g3) dX4_nights_29 ?_
    obtain ⟨g4, hm⟩ := gd_s hm
    refine oX_iald oDs163 (oIn (ohN163 hM) g4) dX4_nights_30 ?_
    refine oX_iconst (v := (3 : Int32)) dX4_nights_31 (by decide) ?_
    refine oX_icmp_ne (tgt := 77) dX4_nights_32 (by decide) (fun c5 => ?_) (fun c5 => ?_)
    · have hm := ifp c5 hm
      refine oX_aload_n dX4_nights_35 rfl rfl ?_
      refine oX_getF fX4_136 rfl oDs1 dX4_nights_36 (ohF160 hM) ?_
      refine oX_aload_n dX4_nights_39 rfl rfl ?_
      refine oX_getF fX4_166 rfl oDs1 dX4_nights_40 (ohF175 hM) ?_
      refine oX_iload dX4_nights_43 rfl ?_
      obtain ⟨g6, hm⟩ := gd_s hm
      refine oX_iald oDs175 (oIn (ohN175 hM) g6) dX4_nights_45 ?_
      obtain ⟨g7, hm⟩ := gd_s hm
      refine oX_iald oDs160 (oIn (ohN160 hM) g7) dX4_nights_46 ?_
      refine oX_aload_n dX4_nights_47 rfl rfl ?_
      refine oX_getF fX4_136 rfl oDs1 dX4_nights_48 (ohF160 hM) ?_
      refine oX_iload_n dX4_nights_51 rfl rfl ?_
      obtain ⟨g8, hm⟩ := gd_s hm
      refine oX_iald oDs160 (oIn (ohN160 hM) g8) dX4_nights_52 ?_
      refine oX_iload_n dX4_nights_53 rfl rfl ?_
      refine oX_isub dX4_nights_54 ?_
      refine oX_icmp_le (tgt := 77) dX4_nights_55 (by decide) (fun c9 => ?_) (fun c9 => ?_)
      · have hm := ifp c9 hm
        refine oX_iconst (v := (0 : Int32)) dX4_nights_77 (by decide) ?_
        refine oX_iadd dX4_nights_78 ?_
        refine oX_istore (ls' := [(4, vI (x4 + (0 : Int32))), (0, vR (some (1, 0))), (1, vI x1), (2, vI x2), (3, vI x3), (5, vI x5)]) dX4_nights_79 (by decide) rfl ?_
        refine oX_iinc (v := x5 + (1 : Int32)) (ls' := [(5, vI (x5 + (1 : Int32))), (4, vI (x4 + (0 : Int32))), (0, vR (some (1, 0))), (1, vI x1), (2, vI x2), (3, vI x3)]) dX4_nights_81 rfl rfl (by decide) rfl ?_
        refine oX_goto (tgt := 6) dX4_nights_84 (by decide) ?_
        exact oX_sub [2, 3, 4, 5, 1, 0] rfl (hk (x4 + (0 : Int32), x5 + (1 : Int32)) (Option.some.inj hm).symm)
      · have hm := ifn c9 hm
        refine oX_aload_n dX4_nights_58 rfl rfl ?_
        refine oX_iload_n dX4_nights_59 rfl rfl ?_
        refine oX_aload_n dX4_nights_60 rfl rfl ?_
        refine oX_getF fX4_166 rfl oDs1 dX4_nights_61 (ohF175 hM) ?_
        refine oX_iload dX4_nights_64 rfl ?_
        obtain ⟨g10, hm⟩ := gd_s hm
        refine oX_iald oDs175 (oIn (ohN175 hM) g10) dX4_nights_66 ?_
        obtain ⟨r11, g11, hm⟩ := bd_s hm
        refine oX_cV (as := [vI x1, vI (AI 175 0 x5.toNatClampNeg)]) dX4_nights_67 rfl oDs1 rfl (by decide) rfl ok_X4_isIn_2 rfl rfl q2241 q2243 qs91 q136 q2244 (by decide) (Nat.le_of_ble_eq_true rfl) (t_X4_isIn_2 hM x1 (AI 175 0 x5.toNatClampNeg) g11) ?_
        refine oX_if_eq (tgt := 77) dX4_nights_70 (by decide) (fun c12 => ?_) (fun c12 => ?_)
        · have hm := ifp c12 hm
          refine oX_iconst (v := (0 : Int32)) dX4_nights_77 (by decide) ?_
          refine oX_iadd dX4_nights_78 ?_
          refine oX_istore (ls' := [(4, vI (x4 + (0 : Int32))), (0, vR (some (1, 0))), (1, vI x1), (2, vI x2), (3, vI x3), (5, vI x5)]) dX4_nights_79 (by decide) rfl ?_
          refine oX_iinc (v := x5 + (1 : Int32)) (ls' := [(5, vI (x5 + (1 : Int32))), (4, vI (x4 + (0 : Int32))), (0, vR (some (1, 0))), (1, vI x1), (2, vI x2), (3, vI x3)]) dX4_nights_81 rfl rfl (by decide) rfl ?_
          refine oX_goto (tgt := 6) dX4_nights_84 (by decide) ?_
          exact oX_sub [2, 3, 4, 5, 1, 0] rfl (hk (x4 + (0 : Int32), x5 + (1 : Int32)) (Option.some.inj hm).symm)
        · have hm := ifn c12 hm
          refine oX_iconst (v := (1 : Int32)) dX4_nights_73 (by decide) ?_
          refine oX_goto (tgt := 78) dX4_nights_74 (by decide) ?_
          refine oX_iadd dX4_nights_78 ?_
          refine oX_istore (ls' := [(4, vI (x4 + (1 : Int32))), (0, vR (some (1, 0))), (1, vI x1), (2, vI x2), (3, vI x3), (5, vI x5)]) dX4_nights_79 (by decide) rfl ?_
          refine oX_iinc (v := x5 + (1 : Int32)) (ls' := [(5, vI (x5 + (1 : Int32))), (4, vI (x4 + (1 : Int32))), (0, vR (some (1, 0))), (1, vI x1), (2, vI x2), (3, vI x3)]) dX4_nights_81 rfl rfl (by decide) rfl ?_
          refine oX_goto (tgt := 6) dX4_nights_84 (by decide) ?_
          exact oX_sub [2, 3, 4, 5, 1, 0] rfl (hk (x4 + (1 : Int32), x5 + (1 : Int32)) (Option.some.inj hm).symm)
    · have hm := ifn c5 hm
      refine oX_iconst (v := (0 : Int32)) dX4_nights_77 (by decide) ?_
      refine oX_iadd dX4_nights_78 ?_
      refine oX_istore (ls' := [(4, vI (x4 + (0 : Int32))), (0, vR (some (1, 0))), (1, vI x1), (2, vI x2), (3, vI x3), (5, vI x5)]) dX4_nights_79 (by decide) rfl ?_
      refine oX_iinc (v := x5 + (1 : Int32)) (ls' := [(5, vI (x5 + (1 : Int32))), (4, vI (x4 + (0 : Int32))), (0, vR (some (1, 0))), (1, vI x1), (2, vI x2), (3, vI x3)]) dX4_nights_81 rfl rfl (by decide) rfl ?_
      refine oX_goto (tgt := 6) dX4_nights_84 (by decide) ?_
      exact oX_sub [2, 3, 4, 5, 1, 0] rfl (hk (x4 + (0 : Int32), x5 + (1 : Int32)) (Option.some.inj hm).symm)
theorem l_mX4_nights_b6 {G : OhG} {FI : OhI} {FL : OhL} {FR : OhQ} {GR : OhQ} {AI : OhI} {AL : OhL} {AR : OhQ} {BR : OhQ} {AN : OhN} {C : OhC} {k : Nat × Nat} {Φ : OhP} {Ψ : OhX} (hM : ohShM FR AN) (n : Nat) (x1 : Int32) (x2 : Int32) (x3 : Int32) : ∀ (f : Nat) (x4 : Int32) (x5 : Int32) (b : (Int32)), lpF (fun v => mX4_nights_b6 n FR AI AN x1 x2 x3 v.1 v.2) f (x4, x5) = some b → (oX G 2 iX4_nights 87 [(4, vI b)] [] (FI, FL, FR, GR, AI, AL, AR, BR, AN, C) k Φ Ψ) → oX G 2 iX4_nights 6 [(0, vR (some (1, 0))), (1, vI x1), (2, vI x2), (3, vI x3), (4, vI x4), (5, vI x5)] [] (FI, FL, FR, GR, AI, AL, AR, BR, AN, C) k Φ Ψ := by
  intro f
  induction f with
  | zero =>
    intro x4 x5 b hm
    cases hm
  | succ f ih =>
    intro x4 x5 b hm hx1
    obtain ⟨r, hr, hm⟩ := lp_s hm
    refine x_mX4_nights_b6 hM n x1 x2 x3 x4 x5 hr (fun v e => ?_) (fun v e => ?_)
    · subst e; exact ih v.1 v.2 _ hm hx1
    · subst e; cases (show v = b from hm); exact hx1
noncomputable def mX4_nights (n : Nat) (FR : OhQ) (AI : OhI) (AN : OhN) (x1 : Int32) (x2 : Int32) (x3 : Int32) : Option (Int32) :=
  (lpF (fun v => mX4_nights_b6 n FR AI AN x1 x2 x3 v.1 v.2) n ((0 : Int32), (0 : Int32))).bind fun v13 =>
  some v13
theorem x_mX4_nights {G : OhG} {FI AI : OhI} {FL AL : OhL} {FR GR AR BR : OhQ} {AN : OhN} {C : OhC} {k : Nat × Nat} {Φ : OhP} {Ψ : OhX} (hM : ohShM FR AN) (n : Nat) (x1 : Int32) (x2 : Int32) (x3 : Int32) {r : Int32} (hm : mX4_nights n FR AI AN x1 x2 x3 = some r) (hK : Φ (some (vI r)) (FI, FL, FR, GR, AI, AL, AR, BR, AN, C)) : oX G 2 iX4_nights 0 [(0, vR (some (1, 0))), (1, vI x1), (2, vI x2), (3, vI x3)] [] (FI, FL, FR, GR, AI, AL, AR, BR, AN, C) k Φ Ψ := by
  unfold mX4_nights at hm
  refine oX_iconst (v := (0 : Int32)) dX4_nights_0 (by decide) ?_
  refine oX_istore (ls' := [(4, vI (0 : Int32)), (0, vR (some (1, 0))), (1, vI x1), (2, vI x2), (3, vI x3)]) dX4_nights_1 (by decide) rfl ?_
  refine oX_iconst (v := (0 : Int32)) dX4_nights_3 (by decide) ?_
  refine oX_istore (ls' := [(5, vI (0 : Int32)), (4, vI (0 : Int32)), (0, vR (some (1, 0))), (1, vI x1), (2, vI x2), (3, vI x3)]) dX4_nights_4 (by decide) rfl ?_
  obtain ⟨v13, g13, hm⟩ := bd_s hm
  refine oX_sub [2, 3, 4, 5, 1, 0] rfl (l_mX4_nights_b6 hM n x1 x2 x3 n (0 : Int32) (0 : Int32) _ g13 ?_)
  refine oX_iload dX4_nights_87 rfl ?_
  obtain rfl := Option.some.inj hm
  exact oX_iret dX4_nights_89 rfl rfl hK
theorem t_X4_nights {G : OhG} {FI AI : OhI} {FL AL : OhL} {FR GR AR BR : OhQ} {AN : OhN} {C : OhC} (hM : ohShM FR AN) (n : Nat) (x1 : Int32) (x2 : Int32) (x3 : Int32) {o : Int32} (hm : mX4_nights n FR AI AN x1 x2 x3 = some o) : oT G 2 iX4_nights [vR (some (1, 0)), vI x1, vI x2, vI x3] (FI, FL, FR, GR, AI, AL, AR, BR, AN, C) (0, 0) (fun v h => v = (some (vI o)) ∧ h = (FI, FL, FR, GR, AI, AL, AR, BR, AN, C)) ohNo :=
  oT_of (by decide) rfl (Nat.le_of_ble_eq_true rfl) (x_mX4_nights hM n x1 x2 x3 hm ⟨rfl, rfl⟩)
abbrev iX4_dayHours : OhM := (yX4_dayHours, cX4_dayHours, 5, (some .int), [])
theorem ok_X4_dayHours : oOk iX4_dayHours 2 := ⟨by decide, by decide, by decide +kernel⟩

noncomputable def mX4_dayHours_b5 (n : Nat) (FR : OhQ) (AI : OhI) (AN : OhN) (x1 : Int32) (x2 : Int32) (x3 : Int32) (x4 : Int32) : Option ((Int32 × Int32) ⊕ (Int32)) :=
  gd (vp_in x2 66) <|
  (if (AI 176 0 x2.toNatClampNeg) < x4 then
  some (.inr x3)
else
  gd (vp_in x4 66) <|
    gd (vp_in (AI 175 0 x4.toNatClampNeg) 66) <|
    gd (vp_in x2 66) <|
    (if (AI 160 0 (AI 175 0 x4.toNatClampNeg).toNatClampNeg) = (AI 160 0 x2.toNatClampNeg) then
    gd (vp_in x4 66) <|
      (mX4_isIn_2 FR AI AN x1 (AI 175 0 x4.toNatClampNeg)).bind fun r8 =>
      (if r8 = 0 then
      some (.inl (x3 + (0 : Int32), x4 + (1 : Int32)))
    else
      gd (vp_in x4 66) <|
        (mX4_longOf FR AI AN (AI 175 0 x4.toNatClampNeg)).bind fun r11 =>
        some (.inl (x3 + r11, x4 + (1 : Int32))))
  else
    some (.inl (x3 + (0 : Int32), x4 + (1 : Int32)))))
theorem x_mX4_dayHours_b5 {G : OhG} {FI AI : OhI} {FL AL : OhL} {FR GR AR BR : OhQ} {AN : OhN} {C : OhC} {k : Nat × Nat} {Φ : OhP} {Ψ : OhX} (hM : ohShM FR AN) (n : Nat) (x1 : Int32) (x2 : Int32) (x3 : Int32) (x4 : Int32) {r : (Int32 × Int32) ⊕ (Int32)} (hm : mX4_dayHours_b5 n FR AI AN x1 x2 x3 x4 = some r) (hk : ∀ v : Int32 × Int32, r = .inl v → oX G 2 iX4_dayHours 5 [(0, vR (some (1, 0))), (1, vI x1), (2, vI x2), (3, vI v.1), (4, vI v.2)] [] (FI, FL, FR, GR, AI, AL, AR, BR, AN, C) k Φ Ψ) (hx1 : ∀ v : Int32, r = .inr v → oX G 2 iX4_dayHours 76 [(3, vI v)] [] (FI, FL, FR, GR, AI, AL, AR, BR, AN, C) k Φ Ψ) : oX G 2 iX4_dayHours 5 [(0, vR (some (1, 0))), (1, vI x1), (2, vI x2), (3, vI x3), (4, vI x4)] [] (FI, FL, FR, GR, AI, AL, AR, BR, AN, C) k Φ Ψ := by
  unfold mX4_dayHours_b5 at hm
  refine oX_iload dX4_dayHours_5 rfl ?_
  refine oX_aload_n dX4_dayHours_7 rfl rfl ?_
  refine oX_getF fX4_169 rfl oDs1 dX4_dayHours_8 (ohF176 hM) ?_
  refine oX_iload_n dX4_dayHours_11 rfl rfl ?_
  obtain ⟨g1, hm⟩ := gd_s hm
  refine oX_iald oDs176 (oIn (ohN176 hM) g1) dX4_dayHours_12 ?_
  refine oX_icmp_gt (tgt := 76) dX4_dayHours_13 (by decide) (fun c2 => ?_) (fun c2 => ?_)
  · have hm := ifp c2 hm
    exact oX_sub [3] rfl (hx1 x3 (Option.some.inj hm).symm)
  · have hm := ifn c2 hm
    refine oX_iload_n dX4_dayHours_16 rfl rfl ?_
    refine oX_aload_n dX4_dayHours_17 rfl rfl ?_
    refine oX_getF fX4_136 rfl oDs1 dX4_dayHours_18 (ohF160 hM) ?_
    refine oX_aload_n dX4_dayHours_21 rfl rfl ?_
    refine oX_getF fX4_166 rfl oDs1 dX4_dayHours_22 (ohF175 hM) ?_
    refine oX_iload dX4_dayHours_25 rfl ?_
    obtain ⟨g3, hm⟩ := gd_s hm
    refine oX_iald oDs175 (oIn (ohN175 hM) g3) dX4_dayHours_27 ?_
    obtain ⟨g4, hm⟩ := gd_s hm
    refine oX_iald oDs160 (oIn (ohN160 hM) g4) dX4_dayHours_28 ?_
    refine oX_aload_n dX4_dayHours_29 rfl rfl ?_
    refine oX_getF fX4_136 rfl oDs1 dX4_dayHours_30 (ohF160 hM) ?_
    refine oX_iload_n dX4_dayHours_33 rfl rfl ?_
    obtain ⟨g5, hm⟩ := gd_s hm
    refine oX_iald oDs160 (oIn (ohN160 hM) g5) dX4_dayHours_34 ?_
    refine oX_icmp_ne (tgt := 67) dX4_dayHours_35 (by decide) (fun c6 => ?_) (fun c6 => ?_)
    · have hm := ifp c6 hm
      refine oX_aload_n dX4_dayHours_38 rfl rfl ?_
      refine oX_iload_n dX4_dayHours_39 rfl rfl ?_
      refine oX_aload_n dX4_dayHours_40 rfl rfl ?_
      refine oX_getF fX4_166 rfl oDs1 dX4_dayHours_41 (ohF175 hM) ?_
      refine oX_iload dX4_dayHours_44 rfl ?_
      obtain ⟨g7, hm⟩ := gd_s hm
      refine oX_iald oDs175 (oIn (ohN175 hM) g7) dX4_dayHours_46 ?_
      obtain ⟨r8, g8, hm⟩ := bd_s hm
      refine oX_cV (as := [vI x1, vI (AI 175 0 x4.toNatClampNeg)]) dX4_dayHours_47 rfl oDs1 rfl (by decide) rfl ok_X4_isIn_2 rfl rfl q2241 q2243 qs91 q136 q2244 (by decide) (Nat.le_of_ble_eq_true rfl) (t_X4_isIn_2 hM x1 (AI 175 0 x4.toNatClampNeg) g8) ?_
      refine oX_if_eq (tgt := 67) dX4_dayHours_50 (by decide) (fun c9 => ?_) (fun c9 => ?_)
      · have hm := ifp c9 hm
        refine oX_iconst (v := (0 : Int32)) dX4_dayHours_67 (by decide) ?_
        refine oX_iadd dX4_dayHours_68 ?_
        refine oX_istore_n (ls' := [(3, vI (x3 + (0 : Int32))), (0, vR (some (1, 0))), (1, vI x1), (2, vI x2), (4, vI x4)]) dX4_dayHours_69 rfl (by decide) rfl ?_
        refine oX_iinc (v := x4 + (1 : Int32)) (ls' := [(4, vI (x4 + (1 : Int32))), (3, vI (x3 + (0 : Int32))), (0, vR (some (1, 0))), (1, vI x1), (2, vI x2)]) dX4_dayHours_70 rfl rfl (by decide) rfl ?_
        refine oX_goto (tgt := 5) dX4_dayHours_73 (by decide) ?_
        exact oX_sub [2, 3, 4, 1, 0] rfl (hk (x3 + (0 : Int32), x4 + (1 : Int32)) (Option.some.inj hm).symm)
      · have hm := ifn c9 hm
        refine oX_aload_n dX4_dayHours_53 rfl rfl ?_
        refine oX_aload_n dX4_dayHours_54 rfl rfl ?_
        refine oX_getF fX4_166 rfl oDs1 dX4_dayHours_55 (ohF175 hM) ?_
        refine oX_iload dX4_dayHours_58 rfl ?_
        obtain ⟨g10, hm⟩ := gd_s hm
        refine oX_iald oDs175 (oIn (ohN175 hM) g10) dX4_dayHours_60 ?_
        obtain ⟨r11, g11, hm⟩ := bd_s hm
        refine oX_cV (as := [vI (AI 175 0 x4.toNatClampNeg)]) dX4_dayHours_61 rfl oDs1 rfl (by decide) rfl ok_X4_longOf rfl rfl q2229 q2231 qs89 q136 q2232 (by decide) (Nat.le_of_ble_eq_true rfl) (t_X4_longOf hM (AI 175 0 x4.toNatClampNeg) g11) ?_
        refine oX_goto (tgt := 68) dX4_dayHours_64 (by decide) ?_
        refine oX_iadd dX4_dayHours_68 ?_
        refine oX_istore_n (ls' := [(3, vI (x3 + r11)), (0, vR (some (1, 0))), (1, vI x1), (2, vI x2), (4, vI x4)]) dX4_dayHours_69 rfl (by decide) rfl ?_
        refine oX_iinc (v := x4 + (1 : Int32)) (ls' := [(4, vI (x4 + (1 : Int32))), (3, vI (x3 + r11)), (0, vR (some (1, 0))), (1, vI x1), (2, vI x2)]) dX4_dayHours_70 rfl rfl (by decide) rfl ?_
        refine oX_goto (tgt := 5) dX4_dayHours_73 (by decide) ?_
        exact oX_sub [2, 3, 4, 1, 0] rfl (hk (x3 + r11, x4 + (1 : Int32)) (Option.some.inj hm).symm)
    · have hm := ifn c6 hm
      refine oX_iconst (v := (0 : Int32)) dX4_dayHours_67 (by decide) ?_
      refine oX_iadd dX4_dayHours_68 ?_
      refine oX_istore_n (ls' := [(3, vI (x3 + (0 : Int32))), (0, vR (some (1, 0))), (1, vI x1), (2, vI x2), (4, vI x4)]) dX4_dayHours_69 rfl (by decide) rfl ?_
      refine oX_iinc (v := x4 + (1 : Int32)) (ls' := [(4, vI (x4 + (1 : Int32))), (3, vI (x3 + (0 : Int32))), (0, vR (some (1, 0))), (1, vI x1), (2, vI x2)]) dX4_dayHours_70 rfl rfl (by decide) rfl ?_
      refine oX_goto (tgt := 5) dX4_dayHours_73 (by decide) ?_
      exact oX_sub [2, 3, 4, 1, 0] rfl (hk (x3 + (0 : Int32), x4 + (1 : Int32)) (Option.some.inj hm).symm)
theorem l_mX4_dayHours_b5 {G : OhG} {FI : OhI} {FL : OhL} {FR : OhQ} {GR : OhQ} {AI : OhI} {AL : OhL} {AR : OhQ} {BR : OhQ} {AN : OhN} {C : OhC} {k : Nat × Nat} {Φ : OhP} {Ψ : OhX} (hM : ohShM FR AN) (n : Nat) (x1 : Int32) (x2 : Int32) : ∀ (f : Nat) (x3 : Int32) (x4 : Int32) (b : (Int32)), lpF (fun v => mX4_dayHours_b5 n FR AI AN x1 x2 v.1 v.2) f (x3, x4) = some b → (oX G 2 iX4_dayHours 76 [(3, vI b)] [] (FI, FL, FR, GR, AI, AL, AR, BR, AN, C) k Φ Ψ) → oX G 2 iX4_dayHours 5 [(0, vR (some (1, 0))), (1, vI x1), (2, vI x2), (3, vI x3), (4, vI x4)] [] (FI, FL, FR, GR, AI, AL, AR, BR, AN, C) k Φ Ψ := by
  intro f
  induction f with
  | zero =>
    intro x3 x4 b hm
    cases hm
  | succ f ih =>
    intro x3 x4 b hm hx1
    obtain ⟨r, hr, hm⟩ := lp_s hm
    refine x_mX4_dayHours_b5 hM n x1 x2 x3 x4 hr (fun v e => ?_) (fun v e => ?_)
    · subst e; exact ih v.1 v.2 _ hm hx1
    · subst e; cases (show v = b from hm); exact hx1
noncomputable def mX4_dayHours (n : Nat) (FR : OhQ) (AI : OhI) (AN : OhN) (x1 : Int32) (x2 : Int32) : Option (Int32) :=
  (lpF (fun v => mX4_dayHours_b5 n FR AI AN x1 x2 v.1 v.2) n ((0 : Int32), (0 : Int32))).bind fun v12 =>
  some v12
theorem x_mX4_dayHours {G : OhG} {FI AI : OhI} {FL AL : OhL} {FR GR AR BR : OhQ} {AN : OhN} {C : OhC} {k : Nat × Nat} {Φ : OhP} {Ψ : OhX} (hM : ohShM FR AN) (n : Nat) (x1 : Int32) (x2 : Int32) {r : Int32} (hm : mX4_dayHours n FR AI AN x1 x2 = some r) (hK : Φ (some (vI r)) (FI, FL, FR, GR, AI, AL, AR, BR, AN, C)) : oX G 2 iX4_dayHours 0 [(0, vR (some (1, 0))), (1, vI x1), (2, vI x2)] [] (FI, FL, FR, GR, AI, AL, AR, BR, AN, C) k Φ Ψ := by
  unfold mX4_dayHours at hm
  refine oX_iconst (v := (0 : Int32)) dX4_dayHours_0 (by decide) ?_
  refine oX_istore_n (ls' := [(3, vI (0 : Int32)), (0, vR (some (1, 0))), (1, vI x1), (2, vI x2)]) dX4_dayHours_1 rfl (by decide) rfl ?_
  refine oX_iconst (v := (0 : Int32)) dX4_dayHours_2 (by decide) ?_
  refine oX_istore (ls' := [(4, vI (0 : Int32)), (3, vI (0 : Int32)), (0, vR (some (1, 0))), (1, vI x1), (2, vI x2)]) dX4_dayHours_3 (by decide) rfl ?_
  obtain ⟨v12, g12, hm⟩ := bd_s hm
  refine oX_sub [2, 3, 4, 1, 0] rfl (l_mX4_dayHours_b5 hM n x1 x2 n (0 : Int32) (0 : Int32) _ g12 ?_)
  refine oX_iload_n dX4_dayHours_76 rfl rfl ?_
  obtain rfl := Option.some.inj hm
  exact oX_iret dX4_dayHours_77 rfl rfl hK
theorem t_X4_dayHours {G : OhG} {FI AI : OhI} {FL AL : OhL} {FR GR AR BR : OhQ} {AN : OhN} {C : OhC} (hM : ohShM FR AN) (n : Nat) (x1 : Int32) (x2 : Int32) {o : Int32} (hm : mX4_dayHours n FR AI AN x1 x2 = some o) : oT G 2 iX4_dayHours [vR (some (1, 0)), vI x1, vI x2] (FI, FL, FR, GR, AI, AL, AR, BR, AN, C) (0, 0) (fun v h => v = (some (vI o)) ∧ h = (FI, FL, FR, GR, AI, AL, AR, BR, AN, C)) ohNo :=
  oT_of (by decide) rfl (Nat.le_of_ble_eq_true rfl) (x_mX4_dayHours hM n x1 x2 hm ⟨rfl, rfl⟩)
