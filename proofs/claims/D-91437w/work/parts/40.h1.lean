/-! MIRRORS of the component and what it calls, 0 to 45: printed by gen/mk_house.py -/
abbrev iX1_isIn : OhM := (yX1_isIn, cX1_isIn, 3, (some .boolean), [])
theorem ok_X1_isIn : oOk iX1_isIn 3 := ⟨by decide, by decide, by decide +kernel⟩
noncomputable def mX1_isIn (x0 : Int32) (x1 : Int32) (x2 : Int32) : Option (Int32) :=
  (if x0 < x1 then
  some (0 : Int32)
else
  (if x2 < x0 then
    some (0 : Int32)
  else
    some (1 : Int32)))
theorem x_mX1_isIn {G : OhG} {FI AI : OhI} {FL AL : OhL} {FR GR AR BR : OhQ} {AN : OhN} {C : OhC} {k : Nat × Nat} {Φ : OhP} {Ψ : OhX} (x0 : Int32) (x1 : Int32) (x2 : Int32) {r : Int32} (hm : mX1_isIn x0 x1 x2 = some r) (hK : Φ (some (vI r)) (FI, FL, FR, GR, AI, AL, AR, BR, AN, C)) : oX G 1 iX1_isIn 0 [(0, vI x0), (1, vI x1), (2, vI x2)] [] (FI, FL, FR, GR, AI, AL, AR, BR, AN, C) k Φ Ψ := by
  unfold mX1_isIn at hm
  refine oX_iload_n dX1_isIn_0 rfl rfl ?_
  refine oX_iload_n dX1_isIn_1 rfl rfl ?_
  refine oX_icmp_lt (tgt := 14) dX1_isIn_2 (by decide) (fun c1 => ?_) (fun c1 => ?_)
  · have hm := ifp c1 hm
    refine oX_iconst (v := (0 : Int32)) dX1_isIn_14 (by decide) ?_
    obtain rfl := Option.some.inj hm
    exact oX_iret dX1_isIn_15 rfl (by decide) hK
  · have hm := ifn c1 hm
    refine oX_iload_n dX1_isIn_5 rfl rfl ?_
    refine oX_iload_n dX1_isIn_6 rfl rfl ?_
    refine oX_icmp_gt (tgt := 14) dX1_isIn_7 (by decide) (fun c2 => ?_) (fun c2 => ?_)
    · have hm := ifp c2 hm
      refine oX_iconst (v := (0 : Int32)) dX1_isIn_14 (by decide) ?_
      obtain rfl := Option.some.inj hm
      exact oX_iret dX1_isIn_15 rfl (by decide) hK
    · have hm := ifn c2 hm
      refine oX_iconst (v := (1 : Int32)) dX1_isIn_10 (by decide) ?_
      refine oX_goto (tgt := 15) dX1_isIn_11 (by decide) ?_
      obtain rfl := Option.some.inj hm
      exact oX_iret dX1_isIn_15 rfl (by decide) hK
theorem t_X1_isIn {G : OhG} {FI AI : OhI} {FL AL : OhL} {FR GR AR BR : OhQ} {AN : OhN} {C : OhC} (x0 : Int32) (x1 : Int32) (x2 : Int32) {o : Int32} (hm : mX1_isIn x0 x1 x2 = some o) : oT G 1 iX1_isIn [vI x0, vI x1, vI x2] (FI, FL, FR, GR, AI, AL, AR, BR, AN, C) (0, 0) (fun v h => v = (some (vI o)) ∧ h = (FI, FL, FR, GR, AI, AL, AR, BR, AN, C)) ohNo :=
  oT_of (by decide) rfl (Nat.le_of_ble_eq_true rfl) (x_mX1_isIn x0 x1 x2 hm ⟨rfl, rfl⟩)
abbrev iX2_code : OhM := (yX2_code, cX2_code, 5, (some .int), [])
theorem ok_X2_code : oOk iX2_code 5 := ⟨by decide, by decide, by decide +kernel⟩
noncomputable def mX2_code (x0 : Int32) (x1 : Int32) (x2 : Int32) (x3 : Int32) (x4 : Int32) : Option (Int32) :=
  some ((((x0 ||| (x1 <<< ((3 : Int32) &&& 31))) ||| (x2 <<< ((6 : Int32) &&& 31))) ||| (x3 <<< ((9 : Int32) &&& 31))) ||| (x4 <<< ((12 : Int32) &&& 31)))
theorem x_mX2_code {G : OhG} {FI AI : OhI} {FL AL : OhL} {FR GR AR BR : OhQ} {AN : OhN} {C : OhC} {k : Nat × Nat} {Φ : OhP} {Ψ : OhX} (x0 : Int32) (x1 : Int32) (x2 : Int32) (x3 : Int32) (x4 : Int32) {r : Int32} (hm : mX2_code x0 x1 x2 x3 x4 = some r) (hK : Φ (some (vI r)) (FI, FL, FR, GR, AI, AL, AR, BR, AN, C)) : oX G 1 iX2_code 0 [(0, vI x0), (1, vI x1), (2, vI x2), (3, vI x3), (4, vI x4)] [] (FI, FL, FR, GR, AI, AL, AR, BR, AN, C) k Φ Ψ := by
  unfold mX2_code at hm
  refine oX_iload_n dX2_code_0 rfl rfl ?_
  refine oX_iload_n dX2_code_1 rfl rfl ?_
  refine oX_iconst (v := (3 : Int32)) dX2_code_2 (by decide) ?_
  refine oX_ishl dX2_code_3 ?_
  refine oX_ior dX2_code_4 ?_
  refine oX_iload_n dX2_code_5 rfl rfl ?_
  refine oX_bipush (v := (6 : Int32)) dX2_code_6 (by decide) ?_
  refine oX_ishl dX2_code_8 ?_
  refine oX_ior dX2_code_9 ?_
  refine oX_iload_n dX2_code_10 rfl rfl ?_
  refine oX_bipush (v := (9 : Int32)) dX2_code_11 (by decide) ?_
  refine oX_ishl dX2_code_13 ?_
  refine oX_ior dX2_code_14 ?_
  refine oX_iload dX2_code_15 rfl ?_
  refine oX_bipush (v := (12 : Int32)) dX2_code_17 (by decide) ?_
  refine oX_ishl dX2_code_19 ?_
  refine oX_ior dX2_code_20 ?_
  obtain rfl := Option.some.inj hm
  exact oX_iret dX2_code_21 rfl rfl hK
theorem t_X2_code {G : OhG} {FI AI : OhI} {FL AL : OhL} {FR GR AR BR : OhQ} {AN : OhN} {C : OhC} (x0 : Int32) (x1 : Int32) (x2 : Int32) (x3 : Int32) (x4 : Int32) {o : Int32} (hm : mX2_code x0 x1 x2 x3 x4 = some o) : oT G 1 iX2_code [vI x0, vI x1, vI x2, vI x3, vI x4] (FI, FL, FR, GR, AI, AL, AR, BR, AN, C) (0, 0) (fun v h => v = (some (vI o)) ∧ h = (FI, FL, FR, GR, AI, AL, AR, BR, AN, C)) ohNo :=
  oT_of (by decide) rfl (Nat.le_of_ble_eq_true rfl) (x_mX2_code x0 x1 x2 x3 x4 hm ⟨rfl, rfl⟩)
abbrev iX2_at : OhM := (yX2_at, cX2_at, 2, (some .int), [])
theorem ok_X2_at : oOk iX2_at 2 := ⟨by decide, by decide, by decide +kernel⟩
noncomputable def mX2_at (x0 : Int32) (x1 : Int32) : Option (Int32) :=
  some ((x0 >>> (((3 : Int32) * x1) &&& 31)) &&& (7 : Int32))
theorem x_mX2_at {G : OhG} {FI AI : OhI} {FL AL : OhL} {FR GR AR BR : OhQ} {AN : OhN} {C : OhC} {k : Nat × Nat} {Φ : OhP} {Ψ : OhX} (x0 : Int32) (x1 : Int32) {r : Int32} (hm : mX2_at x0 x1 = some r) (hK : Φ (some (vI r)) (FI, FL, FR, GR, AI, AL, AR, BR, AN, C)) : oX G 1 iX2_at 0 [(0, vI x0), (1, vI x1)] [] (FI, FL, FR, GR, AI, AL, AR, BR, AN, C) k Φ Ψ := by
  unfold mX2_at at hm
  refine oX_iload_n dX2_at_0 rfl rfl ?_
  refine oX_iconst (v := (3 : Int32)) dX2_at_1 (by decide) ?_
  refine oX_iload_n dX2_at_2 rfl rfl ?_
  refine oX_imul dX2_at_3 ?_
  refine oX_ishr dX2_at_4 ?_
  refine oX_bipush (v := (7 : Int32)) dX2_at_5 (by decide) ?_
  refine oX_iand dX2_at_7 ?_
  obtain rfl := Option.some.inj hm
  exact oX_iret dX2_at_8 rfl rfl hK
theorem t_X2_at {G : OhG} {FI AI : OhI} {FL AL : OhL} {FR GR AR BR : OhQ} {AN : OhN} {C : OhC} (x0 : Int32) (x1 : Int32) {o : Int32} (hm : mX2_at x0 x1 = some o) : oT G 1 iX2_at [vI x0, vI x1] (FI, FL, FR, GR, AI, AL, AR, BR, AN, C) (0, 0) (fun v h => v = (some (vI o)) ∧ h = (FI, FL, FR, GR, AI, AL, AR, BR, AN, C)) ohNo :=
  oT_of (by decide) rfl (Nat.le_of_ble_eq_true rfl) (x_mX2_at x0 x1 hm ⟨rfl, rfl⟩)
abbrev iX2_add : OhM := (yX2_add, cX2_add, 3, (some .int), [])
theorem ok_X2_add : oOk iX2_add 1 := ⟨by decide, by decide, by decide +kernel⟩
noncomputable def mX2_add_b2 (n : Nat) (FI : OhI) (FR : OhQ) (AI : OhI) (AN : OhN) (x1 : Int32) (x2 : Int32) : Option ((Int32) ⊕ ((Unit) ⊕ (Int32))) :=
  (if (FI 315 0 3) ≤ x2 then
  some (.inr (.inl ()))
else
  gd (vp_in x2 120) <|
    (if (AI 60 0 x2.toNatClampNeg) = x1 then
    some (.inr (.inr x2))
  else
    some (.inl (x2 + (1 : Int32)))))
theorem x_mX2_add_b2 {G : OhG} {FI AI : OhI} {FL AL : OhL} {FR GR AR BR : OhQ} {AN : OhN} {C : OhC} {k : Nat × Nat} {Φ : OhP} {Ψ : OhX} (hW : ohShW FR AR AN) (n : Nat) (x1 : Int32) (x2 : Int32) {r : (Int32) ⊕ ((Unit) ⊕ (Int32))} (hm : mX2_add_b2 n FI FR AI AN x1 x2 = some r) (hk : ∀ v : Int32, r = .inl v → oX G 2 iX2_add 2 [(0, vR (some (315, 0))), (1, vI x1), (2, vI v)] [] (FI, FL, FR, GR, AI, AL, AR, BR, AN, C) k Φ Ψ) (hx1 : ∀ v : Unit, r = .inr (.inl v) → oX G 2 iX2_add 28 [(0, vR (some (315, 0))), (1, vI x1)] [] (FI, FL, FR, GR, AI, AL, AR, BR, AN, C) k Φ Ψ) (hx2 : ∀ v : Int32, r = .inr (.inr v) → oX G 2 iX2_add 20 [(2, vI v)] [] (FI, FL, FR, GR, AI, AL, AR, BR, AN, C) k Φ Ψ) : oX G 2 iX2_add 2 [(0, vR (some (315, 0))), (1, vI x1), (2, vI x2)] [] (FI, FL, FR, GR, AI, AL, AR, BR, AN, C) k Φ Ψ := by
  unfold mX2_add_b2 at hm
  refine oX_iload_n dX2_add_2 rfl rfl ?_
  refine oX_aload_n dX2_add_3 rfl rfl ?_
  refine oX_getI fX2_30 rfl oDs315 dX2_add_4 ?_
  refine oX_icmp_ge (tgt := 28) dX2_add_7 (by decide) (fun c1 => ?_) (fun c1 => ?_)
  · have hm := ifp c1 hm
    exact oX_sub [0, 1] rfl (hx1 () (Option.some.inj hm).symm)
  · have hm := ifn c1 hm
    refine oX_aload_n dX2_add_10 rfl rfl ?_
    refine oX_getF fX2_11 rfl oDs315 dX2_add_11 (ohF60 hW) ?_
    refine oX_iload_n dX2_add_14 rfl rfl ?_
    obtain ⟨g2, hm⟩ := gd_s hm
    refine oX_iald oDs60 (oIn (ohN60 hW) g2) dX2_add_15 ?_
    refine oX_iload_n dX2_add_16 rfl rfl ?_
    refine oX_icmp_ne (tgt := 22) dX2_add_17 (by decide) (fun c3 => ?_) (fun c3 => ?_)
    · have hm := ifp c3 hm
      exact oX_sub [2] rfl (hx2 x2 (Option.some.inj hm).symm)
    · have hm := ifn c3 hm
      refine oX_iinc (v := x2 + (1 : Int32)) (ls' := [(2, vI (x2 + (1 : Int32))), (0, vR (some (315, 0))), (1, vI x1)]) dX2_add_22 rfl rfl (by decide) rfl ?_
      refine oX_goto (tgt := 2) dX2_add_25 (by decide) ?_
      exact oX_sub [1, 2, 0] rfl (hk (x2 + (1 : Int32)) (Option.some.inj hm).symm)
theorem l_mX2_add_b2 {G : OhG} {FI : OhI} {FL : OhL} {FR : OhQ} {GR : OhQ} {AI : OhI} {AL : OhL} {AR : OhQ} {BR : OhQ} {AN : OhN} {C : OhC} {k : Nat × Nat} {Φ : OhP} {Ψ : OhX} (hW : ohShW FR AR AN) (n : Nat) (x1 : Int32) : ∀ (f : Nat) (x2 : Int32) (b : ((Unit) ⊕ (Int32))), lpF (fun v => mX2_add_b2 n FI FR AI AN x1 v) f x2 = some b → (∀ v : Unit, b = (.inl v) → oX G 2 iX2_add 28 [(0, vR (some (315, 0))), (1, vI x1)] [] (FI, FL, FR, GR, AI, AL, AR, BR, AN, C) k Φ Ψ) → (∀ v : Int32, b = (.inr v) → oX G 2 iX2_add 20 [(2, vI v)] [] (FI, FL, FR, GR, AI, AL, AR, BR, AN, C) k Φ Ψ) → oX G 2 iX2_add 2 [(0, vR (some (315, 0))), (1, vI x1), (2, vI x2)] [] (FI, FL, FR, GR, AI, AL, AR, BR, AN, C) k Φ Ψ := by
  intro f
  induction f with
  | zero =>
    intro x2 b hm
    cases hm
  | succ f ih =>
    intro x2 b hm hx1 hx2
    obtain ⟨r, hr, hm⟩ := lp_s hm
    refine x_mX2_add_b2 hW n x1 x2 hr (fun v e => ?_) (fun v e => ?_) (fun v e => ?_)
    · subst e; exact ih v _ hm hx1 hx2
    · subst e; exact hx1 v hm.symm
    · subst e; exact hx2 v hm.symm
noncomputable def mX2_add (n : Nat) (FI : OhI) (FR : OhQ) (AI : OhI) (AN : OhN) (x1 : Int32) : Option (Int32 × OhI × OhI) :=
  (lpF (fun v => mX2_add_b2 n FI FR AI AN x1 v) n (0 : Int32)).bind (Sum.elim (fun v4 => gd (vp_in (FI 315 0 3) 120) <|
  oLet (sA AI 60 0 (uA (AI 60 0) (FI 315 0 3).toNatClampNeg x1)) fun AI5 =>
  (mX2_at x1 (0 : Int32)).bind fun r6 =>
  gd (vp_in (FI 315 0 3) 120) <|
  oLet (sA AI5 61 0 (uA (AI5 61 0) (FI 315 0 3).toNatClampNeg r6)) fun AI7 =>
  oLet (sA FI 315 0 (uA (FI 315 0) 3 ((FI 315 0 3) + (1 : Int32)))) fun FI8 =>
  some ((FI8 315 0 3) - (1 : Int32), FI8, AI7)) (fun v4 => some (v4, FI, AI)))
theorem x_mX2_add {G : OhG} {FI AI : OhI} {FL AL : OhL} {FR GR AR BR : OhQ} {AN : OhN} {C : OhC} {k : Nat × Nat} {Φ : OhP} {Ψ : OhX} (hW : ohShW FR AR AN) (n : Nat) (x1 : Int32) {r : Int32 × OhI × OhI} (hm : mX2_add n FI FR AI AN x1 = some r) (hK : Φ (some (vI r.1)) (r.2.1, FL, FR, GR, r.2.2, AL, AR, BR, AN, C)) : oX G 2 iX2_add 0 [(0, vR (some (315, 0))), (1, vI x1)] [] (FI, FL, FR, GR, AI, AL, AR, BR, AN, C) k Φ Ψ := by
  unfold mX2_add at hm
  refine oX_iconst (v := (0 : Int32)) dX2_add_0 (by decide) ?_
  refine oX_istore_n (ls' := [(2, vI (0 : Int32)), (0, vR (some (315, 0))), (1, vI x1)]) dX2_add_1 rfl (by decide) rfl ?_
  obtain ⟨b4, g4, hm⟩ := bd_s hm
  refine oX_sub [1, 2, 0] rfl (l_mX2_add_b2 hW n x1 n (0 : Int32) _ g4 (fun v4 e4 => ?_) (fun v4 e4 => ?_))
  · subst e4
    have hm := el1 hm
    refine oX_aload_n dX2_add_28 rfl rfl ?_
    refine oX_getF fX2_11 rfl oDs315 dX2_add_29 (ohF60 hW) ?_
    refine oX_aload_n dX2_add_32 rfl rfl ?_
    refine oX_getI fX2_30 rfl oDs315 dX2_add_33 ?_
    refine oX_iload_n dX2_add_36 rfl rfl ?_
    obtain ⟨g5, hm⟩ := gd_s hm
    obtain ⟨AI5, hAI5, hm⟩ := oLs hm
    refine oX_iast oDs60 (oIn (ohN60 hW) g5) dX2_add_37 hAI5 ?_
    refine oX_aload_n dX2_add_38 rfl rfl ?_
    refine oX_getF fX2_15 rfl oDs315 dX2_add_39 (ohF61 hW) ?_
    refine oX_aload_n dX2_add_42 rfl rfl ?_
    refine oX_getI fX2_30 rfl oDs315 dX2_add_43 ?_
    refine oX_iload_n dX2_add_46 rfl rfl ?_
    refine oX_iconst (v := (0 : Int32)) dX2_add_47 (by decide) ?_
    obtain ⟨r6, g6, hm⟩ := bd_s hm
    refine oX_cS (as := [vI x1, vI (0 : Int32)]) dX2_add_48 rfl ok_X2_at rfl rfl q221 q222 q133 q223 (by decide) (Nat.le_of_ble_eq_true rfl) (t_X2_at x1 (0 : Int32) g6) ?_
    obtain ⟨g7, hm⟩ := gd_s hm
    obtain ⟨AI7, hAI7, hm⟩ := oLs hm
    refine oX_iast oDs61 (oIn (ohN61 hW) g7) dX2_add_51 hAI7 ?_
    refine oX_aload_n dX2_add_52 rfl rfl ?_
    refine oX_dup dX2_add_53 trivial ?_
    refine oX_getI fX2_30 rfl oDs315 dX2_add_54 ?_
    refine oX_iconst (v := (1 : Int32)) dX2_add_57 (by decide) ?_
    refine oX_iadd dX2_add_58 ?_
    obtain ⟨FI8, hFI8, hm⟩ := oLs hm
    refine oX_putI fX2_30 rfl (fun h9 => by cases h9) oDs315 dX2_add_59 ⟨rfl, rfl⟩ hFI8 ?_
    refine oX_aload_n dX2_add_62 rfl rfl ?_
    refine oX_getI fX2_30 rfl oDs315 dX2_add_63 ?_
    refine oX_iconst (v := (1 : Int32)) dX2_add_66 (by decide) ?_
    refine oX_isub dX2_add_67 ?_
    obtain rfl := Option.some.inj hm
    exact oX_iret dX2_add_68 rfl rfl hK
  · subst e4
    have hm := el2 hm
    refine oX_iload_n dX2_add_20 rfl rfl ?_
    obtain rfl := Option.some.inj hm
    exact oX_iret dX2_add_21 rfl rfl hK
theorem t_X2_add {G : OhG} {FI AI : OhI} {FL AL : OhL} {FR GR AR BR : OhQ} {AN : OhN} {C : OhC} (hW : ohShW FR AR AN) (n : Nat) (x1 : Int32) {o : Int32 × OhI × OhI} (hm : mX2_add n FI FR AI AN x1 = some o) : oT G 2 iX2_add [vR (some (315, 0)), vI x1] (FI, FL, FR, GR, AI, AL, AR, BR, AN, C) (0, 0) (fun v h => v = (some (vI o.1)) ∧ h = (o.2.1, FL, FR, GR, o.2.2, AL, AR, BR, AN, C)) ohNo :=
  oT_of (by decide) rfl (Nat.le_of_ble_eq_true rfl) (x_mX2_add hW n x1 hm ⟨rfl, rfl⟩)
abbrev iJ3_min : OhM := (yJ3_min, cJ3_min, 2, (some .int), [])
theorem ok_J3_min : oOk iJ3_min 2 := ⟨by decide, by decide, by decide +kernel⟩
noncomputable def mJ3_min (x0 : Int32) (x1 : Int32) : Option (Int32) :=
  (if x1 < x0 then
  some x1
else
  some x0)
theorem x_mJ3_min {G : OhG} {FI AI : OhI} {FL AL : OhL} {FR GR AR BR : OhQ} {AN : OhN} {C : OhC} {k : Nat × Nat} {Φ : OhP} {Ψ : OhX} (x0 : Int32) (x1 : Int32) {r : Int32} (hm : mJ3_min x0 x1 = some r) (hK : Φ (some (vI r)) (FI, FL, FR, GR, AI, AL, AR, BR, AN, C)) : oX G 1 iJ3_min 0 [(0, vI x0), (1, vI x1)] [] (FI, FL, FR, GR, AI, AL, AR, BR, AN, C) k Φ Ψ := by
  unfold mJ3_min at hm
  refine oX_iload_n dJ3_min_0 rfl rfl ?_
  refine oX_iload_n dJ3_min_1 rfl rfl ?_
  refine oX_icmp_gt (tgt := 9) dJ3_min_2 (by decide) (fun c1 => ?_) (fun c1 => ?_)
  · have hm := ifp c1 hm
    refine oX_iload_n dJ3_min_9 rfl rfl ?_
    obtain rfl := Option.some.inj hm
    exact oX_iret dJ3_min_10 rfl rfl hK
  · have hm := ifn c1 hm
    refine oX_iload_n dJ3_min_5 rfl rfl ?_
    refine oX_goto (tgt := 10) dJ3_min_6 (by decide) ?_
    obtain rfl := Option.some.inj hm
    exact oX_iret dJ3_min_10 rfl rfl hK
theorem t_J3_min {G : OhG} {FI AI : OhI} {FL AL : OhL} {FR GR AR BR : OhQ} {AN : OhN} {C : OhC} (x0 : Int32) (x1 : Int32) {o : Int32} (hm : mJ3_min x0 x1 = some o) : oT G 1 iJ3_min [vI x0, vI x1] (FI, FL, FR, GR, AI, AL, AR, BR, AN, C) (0, 0) (fun v h => v = (some (vI o)) ∧ h = (FI, FL, FR, GR, AI, AL, AR, BR, AN, C)) ohNo :=
  oT_ofM (by decide +kernel) rfl (Nat.le_of_ble_eq_true rfl) (x_mJ3_min x0 x1 hm ⟨rfl, rfl⟩)
abbrev iJ3_max : OhM := (yJ3_max, cJ3_max, 2, (some .int), [])
theorem ok_J3_max : oOk iJ3_max 2 := ⟨by decide, by decide, by decide +kernel⟩
noncomputable def mJ3_max (x0 : Int32) (x1 : Int32) : Option (Int32) :=
  (if x0 < x1 then
  some x1
else
  some x0)
theorem x_mJ3_max {G : OhG} {FI AI : OhI} {FL AL : OhL} {FR GR AR BR : OhQ} {AN : OhN} {C : OhC} {k : Nat × Nat} {Φ : OhP} {Ψ : OhX} (x0 : Int32) (x1 : Int32) {r : Int32} (hm : mJ3_max x0 x1 = some r) (hK : Φ (some (vI r)) (FI, FL, FR, GR, AI, AL, AR, BR, AN, C)) : oX G 1 iJ3_max 0 [(0, vI x0), (1, vI x1)] [] (FI, FL, FR, GR, AI, AL, AR, BR, AN, C) k Φ Ψ := by
  unfold mJ3_max at hm
  refine oX_iload_n dJ3_max_0 rfl rfl ?_
  refine oX_iload_n dJ3_max_1 rfl rfl ?_
  refine oX_icmp_lt (tgt := 9) dJ3_max_2 (by decide) (fun c1 => ?_) (fun c1 => ?_)
  · have hm := ifp c1 hm
    refine oX_iload_n dJ3_max_9 rfl rfl ?_
    obtain rfl := Option.some.inj hm
    exact oX_iret dJ3_max_10 rfl rfl hK
  · have hm := ifn c1 hm
    refine oX_iload_n dJ3_max_5 rfl rfl ?_
    refine oX_goto (tgt := 10) dJ3_max_6 (by decide) ?_
    obtain rfl := Option.some.inj hm
    exact oX_iret dJ3_max_10 rfl rfl hK
theorem t_J3_max {G : OhG} {FI AI : OhI} {FL AL : OhL} {FR GR AR BR : OhQ} {AN : OhN} {C : OhC} (x0 : Int32) (x1 : Int32) {o : Int32} (hm : mJ3_max x0 x1 = some o) : oT G 1 iJ3_max [vI x0, vI x1] (FI, FL, FR, GR, AI, AL, AR, BR, AN, C) (0, 0) (fun v h => v = (some (vI o)) ∧ h = (FI, FL, FR, GR, AI, AL, AR, BR, AN, C)) ohNo :=
  oT_ofM (by decide +kernel) rfl (Nat.le_of_ble_eq_true rfl) (x_mJ3_max x0 x1 hm ⟨rfl, rfl⟩)
abbrev iX2_areNext : OhM := (yX2_areNext, cX2_areNext, 4, (some .boolean), [])
theorem ok_X2_areNext : oOk iX2_areNext 2 := ⟨by decide, by decide, by decide +kernel⟩
noncomputable def mX2_areNext_j25 (x2 : Int32) (x3 : Int32) : Option (Int32) :=
  (if x3 = (4 : Int32) then
  (if x2 = (1 : Int32) then
    some (1 : Int32)
  else
    (if x2 = (3 : Int32) then
      some (1 : Int32)
    else
      some (0 : Int32)))
else
  some (0 : Int32))
theorem x_mX2_areNext_j25 {G : OhG} {FI AI : OhI} {FL AL : OhL} {FR GR AR BR : OhQ} {AN : OhN} {C : OhC} {k : Nat × Nat} {Φ : OhP} {Ψ : OhX} (x2 : Int32) (x3 : Int32) {r : Int32} (hm : mX2_areNext_j25 x2 x3 = some r) (hK : Φ (some (vI r)) (FI, FL, FR, GR, AI, AL, AR, BR, AN, C)) : oX G 2 iX2_areNext 25 [(2, vI x2), (3, vI x3)] [] (FI, FL, FR, GR, AI, AL, AR, BR, AN, C) k Φ Ψ := by
  unfold mX2_areNext_j25 at hm
  refine oX_iload_n dX2_areNext_25 rfl rfl ?_
  refine oX_iconst (v := (4 : Int32)) dX2_areNext_26 (by decide) ?_
  refine oX_icmp_ne (tgt := 44) dX2_areNext_27 (by decide) (fun c6 => ?_) (fun c6 => ?_)
  · have hm := ifp c6 hm
    refine oX_iload_n dX2_areNext_30 rfl rfl ?_
    refine oX_iconst (v := (1 : Int32)) dX2_areNext_31 (by decide) ?_
    refine oX_icmp_eq (tgt := 40) dX2_areNext_32 (by decide) (fun c7 => ?_) (fun c7 => ?_)
    · have hm := ifp c7 hm
      refine oX_iconst (v := (1 : Int32)) dX2_areNext_40 (by decide) ?_
      refine oX_goto (tgt := 45) dX2_areNext_41 (by decide) ?_
      obtain rfl := Option.some.inj hm
      exact oX_iret dX2_areNext_45 rfl (by decide) hK
    · have hm := ifn c7 hm
      refine oX_iload_n dX2_areNext_35 rfl rfl ?_
      refine oX_iconst (v := (3 : Int32)) dX2_areNext_36 (by decide) ?_
      refine oX_icmp_ne (tgt := 44) dX2_areNext_37 (by decide) (fun c8 => ?_) (fun c8 => ?_)
      · have hm := ifp c8 hm
        refine oX_iconst (v := (1 : Int32)) dX2_areNext_40 (by decide) ?_
        refine oX_goto (tgt := 45) dX2_areNext_41 (by decide) ?_
        obtain rfl := Option.some.inj hm
        exact oX_iret dX2_areNext_45 rfl (by decide) hK
      · have hm := ifn c8 hm
        refine oX_iconst (v := (0 : Int32)) dX2_areNext_44 (by decide) ?_
        obtain rfl := Option.some.inj hm
        exact oX_iret dX2_areNext_45 rfl (by decide) hK
  · have hm := ifn c6 hm
    refine oX_iconst (v := (0 : Int32)) dX2_areNext_44 (by decide) ?_
    obtain rfl := Option.some.inj hm
    exact oX_iret dX2_areNext_45 rfl (by decide) hK
noncomputable def mX2_areNext (x0 : Int32) (x1 : Int32) : Option (Int32) :=
  (mJ3_min x0 x1).bind fun r1 =>
  (mJ3_max x0 x1).bind fun r2 =>
  (if r1 = 0 then
  (mX1_isIn r2 (1 : Int32) (3 : Int32)).bind fun r4 =>
    (if r4 = 0 then
    mX2_areNext_j25 r1 r2
  else
    some (1 : Int32))
else
  mX2_areNext_j25 r1 r2)
theorem x_mX2_areNext {G : OhG} {FI AI : OhI} {FL AL : OhL} {FR GR AR BR : OhQ} {AN : OhN} {C : OhC} {k : Nat × Nat} {Φ : OhP} {Ψ : OhX} (x0 : Int32) (x1 : Int32) {r : Int32} (hm : mX2_areNext x0 x1 = some r) (hK : Φ (some (vI r)) (FI, FL, FR, GR, AI, AL, AR, BR, AN, C)) : oX G 2 iX2_areNext 0 [(0, vI x0), (1, vI x1)] [] (FI, FL, FR, GR, AI, AL, AR, BR, AN, C) k Φ Ψ := by
  unfold mX2_areNext at hm
  refine oX_iload_n dX2_areNext_0 rfl rfl ?_
  refine oX_iload_n dX2_areNext_1 rfl rfl ?_
  obtain ⟨r1, g1, hm⟩ := bd_s hm
  refine oX_cS (as := [vI x0, vI x1]) dX2_areNext_2 rfl ok_J3_min rfl rfl q231 q232 q134 q233 (by decide) (Nat.le_of_ble_eq_true rfl) (t_J3_min x0 x1 g1) ?_
  refine oX_istore_n (ls' := [(2, vI r1), (0, vI x0), (1, vI x1)]) dX2_areNext_5 rfl (by decide) rfl ?_
  refine oX_iload_n dX2_areNext_6 rfl rfl ?_
  refine oX_iload_n dX2_areNext_7 rfl rfl ?_
  obtain ⟨r2, g2, hm⟩ := bd_s hm
  refine oX_cS (as := [vI x0, vI x1]) dX2_areNext_8 rfl ok_J3_max rfl rfl q234 q235 q134 q236 (by decide) (Nat.le_of_ble_eq_true rfl) (t_J3_max x0 x1 g2) ?_
  refine oX_istore_n (ls' := [(3, vI r2), (2, vI r1), (0, vI x0), (1, vI x1)]) dX2_areNext_11 rfl (by decide) rfl ?_
  refine oX_iload_n dX2_areNext_12 rfl rfl ?_
  refine oX_if_ne (tgt := 25) dX2_areNext_13 (by decide) (fun c3 => ?_) (fun c3 => ?_)
  · have hm := ifp c3 hm
    refine oX_iload_n dX2_areNext_16 rfl rfl ?_
    refine oX_iconst (v := (1 : Int32)) dX2_areNext_17 (by decide) ?_
    refine oX_iconst (v := (3 : Int32)) dX2_areNext_18 (by decide) ?_
    obtain ⟨r4, g4, hm⟩ := bd_s hm
    refine oX_cSN (as := [vI r2, vI (1 : Int32), vI (3 : Int32)]) dX2_areNext_19 rfl ok_X1_isIn rfl rfl q237 q238 q129 q239 (by decide) (Nat.le_of_ble_eq_true rfl) (t_X1_isIn r2 (1 : Int32) (3 : Int32) g4) ?_
    refine oX_if_ne (tgt := 40) dX2_areNext_22 (by decide) (fun c5 => ?_) (fun c5 => ?_)
    · have hm := ifp c5 hm
      exact oX_sub [1, 0] rfl (x_mX2_areNext_j25 r1 r2 hm hK)
    · have hm := ifn c5 hm
      refine oX_iconst (v := (1 : Int32)) dX2_areNext_40 (by decide) ?_
      refine oX_goto (tgt := 45) dX2_areNext_41 (by decide) ?_
      obtain rfl := Option.some.inj hm
      exact oX_iret dX2_areNext_45 rfl (by decide) hK
  · have hm := ifn c3 hm
    exact oX_sub [1, 0] rfl (x_mX2_areNext_j25 r1 r2 hm hK)
theorem t_X2_areNext {G : OhG} {FI AI : OhI} {FL AL : OhL} {FR GR AR BR : OhQ} {AN : OhN} {C : OhC} (x0 : Int32) (x1 : Int32) {o : Int32} (hm : mX2_areNext x0 x1 = some o) : oT G 2 iX2_areNext [vI x0, vI x1] (FI, FL, FR, GR, AI, AL, AR, BR, AN, C) (0, 0) (fun v h => v = (some (vI o)) ∧ h = (FI, FL, FR, GR, AI, AL, AR, BR, AN, C)) ohNo :=
  oT_of (by decide) rfl (Nat.le_of_ble_eq_true rfl) (x_mX2_areNext x0 x1 hm ⟨rfl, rfl⟩)
abbrev iX2_lead : OhM := (yX2_lead, cX2_lead, 6, none, [])
theorem ok_X2_lead : oOk iX2_lead 1 := ⟨by decide, by decide, by decide +kernel⟩
noncomputable def mX2_lead_b2 (n : Nat) (FI : OhI) (FR : OhQ) (AI : OhI) (AR : OhQ) (BR : OhQ) (AN : OhN) (x1 : Int32) (x2 : Int32) : Option ((Int32) ⊕ (Int32)) :=
  gd (vp_in x1 120) <|
  (mX2_at (AI 60 0 x1.toNatClampNeg) x2).bind fun r2 =>
  (if r2 = (4 : Int32) then
  some (.inr x2)
else
  some (.inl (x2 + (1 : Int32))))
theorem x_mX2_lead_b2 {G : OhG} {FI AI : OhI} {FL AL : OhL} {FR GR AR BR : OhQ} {AN : OhN} {C : OhC} {k : Nat × Nat} {Φ : OhP} {Ψ : OhX} (hW : ohShW FR AR AN) (n : Nat) (x1 : Int32) (x2 : Int32) {r : (Int32) ⊕ (Int32)} (hm : mX2_lead_b2 n FI FR AI AR BR AN x1 x2 = some r) (hk : ∀ v : Int32, r = .inl v → oX G 3 iX2_lead 2 [(0, vR (some (315, 0))), (1, vI x1), (2, vI v)] [] (FI, FL, FR, GR, AI, AL, AR, BR, AN, C) k Φ Ψ) (hx1 : ∀ v : Int32, r = .inr v → oX G 3 iX2_lead 22 [(0, vR (some (315, 0))), (1, vI x1), (2, vI v)] [] (FI, FL, FR, GR, AI, AL, AR, BR, AN, C) k Φ Ψ) : oX G 3 iX2_lead 2 [(0, vR (some (315, 0))), (1, vI x1), (2, vI x2)] [] (FI, FL, FR, GR, AI, AL, AR, BR, AN, C) k Φ Ψ := by
  unfold mX2_lead_b2 at hm
  refine oX_aload_n dX2_lead_2 rfl rfl ?_
  refine oX_getF fX2_11 rfl oDs315 dX2_lead_3 (ohF60 hW) ?_
  refine oX_iload_n dX2_lead_6 rfl rfl ?_
  obtain ⟨g1, hm⟩ := gd_s hm
  refine oX_iald oDs60 (oIn (ohN60 hW) g1) dX2_lead_7 ?_
  refine oX_iload_n dX2_lead_8 rfl rfl ?_
  obtain ⟨r2, g2, hm⟩ := bd_s hm
  refine oX_cS (as := [vI (AI 60 0 x1.toNatClampNeg), vI x2]) dX2_lead_9 rfl ok_X2_at rfl rfl q221 q222 q133 q223 (by decide) (Nat.le_of_ble_eq_true rfl) (t_X2_at (AI 60 0 x1.toNatClampNeg) x2 g2) ?_
  refine oX_iconst (v := (4 : Int32)) dX2_lead_12 (by decide) ?_
  refine oX_icmp_eq (tgt := 22) dX2_lead_13 (by decide) (fun c3 => ?_) (fun c3 => ?_)
  · have hm := ifp c3 hm
    exact oX_sub [0, 1, 2] rfl (hx1 x2 (Option.some.inj hm).symm)
  · have hm := ifn c3 hm
    refine oX_iinc (v := x2 + (1 : Int32)) (ls' := [(2, vI (x2 + (1 : Int32))), (0, vR (some (315, 0))), (1, vI x1)]) dX2_lead_16 rfl rfl (by decide) rfl ?_
    refine oX_goto (tgt := 2) dX2_lead_19 (by decide) ?_
    exact oX_sub [1, 2, 0] rfl (hk (x2 + (1 : Int32)) (Option.some.inj hm).symm)
theorem l_mX2_lead_b2 {G : OhG} {FI : OhI} {FL : OhL} {FR : OhQ} {GR : OhQ} {AI : OhI} {AL : OhL} {AR : OhQ} {BR : OhQ} {AN : OhN} {C : OhC} {k : Nat × Nat} {Φ : OhP} {Ψ : OhX} (hW : ohShW FR AR AN) (n : Nat) (x1 : Int32) : ∀ (f : Nat) (x2 : Int32) (b : (Int32)), lpF (fun v => mX2_lead_b2 n FI FR AI AR BR AN x1 v) f x2 = some b → (oX G 3 iX2_lead 22 [(0, vR (some (315, 0))), (1, vI x1), (2, vI b)] [] (FI, FL, FR, GR, AI, AL, AR, BR, AN, C) k Φ Ψ) → oX G 3 iX2_lead 2 [(0, vR (some (315, 0))), (1, vI x1), (2, vI x2)] [] (FI, FL, FR, GR, AI, AL, AR, BR, AN, C) k Φ Ψ := by
  intro f
  induction f with
  | zero =>
    intro x2 b hm
    cases hm
  | succ f ih =>
    intro x2 b hm hx1
    obtain ⟨r, hr, hm⟩ := lp_s hm
    refine x_mX2_lead_b2 hW n x1 x2 hr (fun v e => ?_) (fun v e => ?_)
    · subst e; exact ih v _ hm hx1
    · subst e; cases (show v = b from hm); exact hx1
noncomputable def mX2_lead_b27 (n : Nat) (FI : OhI) (FR : OhQ) (AI : OhI) (AR : OhQ) (BR : OhQ) (AN : OhN) (x1 : Int32) (x2 : Int32) (x3 : Int32) (x4 : Int32) : Option ((Int32 × Int32 × OhI × OhI) ⊕ (OhI × OhI)) :=
  (if (5 : Int32) ≤ x4 then
  some (.inr (FI, AI))
else
  (mX2_areNext x4 x2).bind fun r6 =>
    (if r6 = 0 then
    some (.inl (x3, x4 + (1 : Int32), FI, AI))
  else
    gd (vp_in x1 120) <|
      (mX2_at (AI 60 0 x1.toNatClampNeg) x4).bind fun r9 =>
      gd (vp_in x1 120) <|
      gd (vp_in x1 120) <|
      (mX2_add n FI FR AI AN (((((AI 60 0 x1.toNatClampNeg) &&& (((7 : Int32) <<< (((3 : Int32) * x4) &&& 31)) ^^^ (-1 : Int32))) &&& (((7 : Int32) <<< (((3 : Int32) * x2) &&& 31)) ^^^ (-1 : Int32))) ||| ((4 : Int32) <<< (((3 : Int32) * x4) &&& 31))) ||| (r9 <<< (((3 : Int32) * x2) &&& 31)))).bind fun r12 =>
      gd (vp_in x3 3) <|
      oLet (sA r12.2.2 63 x1.toNatClampNeg (uA (r12.2.2 63 x1.toNatClampNeg) x3.toNatClampNeg r12.1)) fun AI13 =>
      some (.inl (x3 + (1 : Int32), x4 + (1 : Int32), r12.2.1, AI13))))
theorem x_mX2_lead_b27 {G : OhG} {FI AI : OhI} {FL AL : OhL} {FR GR AR BR : OhQ} {AN : OhN} {C : OhC} {k : Nat × Nat} {Φ : OhP} {Ψ : OhX} (hW : ohShW FR AR AN) (n : Nat) (x1 : Int32) (x2 : Int32) (x3 : Int32) (x4 : Int32) {r : (Int32 × Int32 × OhI × OhI) ⊕ (OhI × OhI)} (hm : mX2_lead_b27 n FI FR AI AR BR AN x1 x2 x3 x4 = some r) (hk : ∀ v : Int32 × Int32 × OhI × OhI, r = .inl v → oX G 3 iX2_lead 27 [(0, vR (some (315, 0))), (1, vI x1), (2, vI x2), (3, vI v.1), (4, vI v.2.1)] [] (v.2.2.1, FL, FR, GR, v.2.2.2, AL, AR, BR, AN, C) k Φ Ψ) (hx1 : ∀ v : OhI × OhI, r = .inr v → oX G 3 iX2_lead 118 [] [] (v.1, FL, FR, GR, v.2, AL, AR, BR, AN, C) k Φ Ψ) : oX G 3 iX2_lead 27 [(0, vR (some (315, 0))), (1, vI x1), (2, vI x2), (3, vI x3), (4, vI x4)] [] (FI, FL, FR, GR, AI, AL, AR, BR, AN, C) k Φ Ψ := by
  unfold mX2_lead_b27 at hm
  refine oX_iload dX2_lead_27 rfl ?_
  refine oX_iconst (v := (5 : Int32)) dX2_lead_29 (by decide) ?_
  refine oX_icmp_ge (tgt := 118) dX2_lead_30 (by decide) (fun c5 => ?_) (fun c5 => ?_)
  · have hm := ifp c5 hm
    exact oX_sub [] rfl (hx1 (FI, AI) (Option.some.inj hm).symm)
  · have hm := ifn c5 hm
    refine oX_iload dX2_lead_33 rfl ?_
    refine oX_iload_n dX2_lead_35 rfl rfl ?_
    obtain ⟨r6, g6, hm⟩ := bd_s hm
    refine oX_cS (as := [vI x4, vI x2]) dX2_lead_36 rfl ok_X2_areNext rfl rfl q228 q229 q133 q230 (by decide) (Nat.le_of_ble_eq_true rfl) (t_X2_areNext x4 x2 g6) ?_
    refine oX_if_ne (tgt := 45) dX2_lead_39 (by decide) (fun c7 => ?_) (fun c7 => ?_)
    · have hm := ifp c7 hm
      refine oX_goto (tgt := 112) dX2_lead_42 (by decide) ?_
      refine oX_iinc (v := x4 + (1 : Int32)) (ls' := [(4, vI (x4 + (1 : Int32))), (0, vR (some (315, 0))), (1, vI x1), (2, vI x2), (3, vI x3)]) dX2_lead_112 rfl rfl (by decide) rfl ?_
      refine oX_goto (tgt := 27) dX2_lead_115 (by decide) ?_
      exact oX_sub [1, 2, 3, 4, 0] rfl (hk (x3, x4 + (1 : Int32), FI, AI) (Option.some.inj hm).symm)
    · have hm := ifn c7 hm
      refine oX_aload_n dX2_lead_45 rfl rfl ?_
      refine oX_getF fX2_11 rfl oDs315 dX2_lead_46 (ohF60 hW) ?_
      refine oX_iload_n dX2_lead_49 rfl rfl ?_
      obtain ⟨g8, hm⟩ := gd_s hm
      refine oX_iald oDs60 (oIn (ohN60 hW) g8) dX2_lead_50 ?_
      refine oX_iload dX2_lead_51 rfl ?_
      obtain ⟨r9, g9, hm⟩ := bd_s hm
      refine oX_cS (as := [vI (AI 60 0 x1.toNatClampNeg), vI x4]) dX2_lead_53 rfl ok_X2_at rfl rfl q221 q222 q133 q223 (by decide) (Nat.le_of_ble_eq_true rfl) (t_X2_at (AI 60 0 x1.toNatClampNeg) x4 g9) ?_
      refine oX_istore (ls' := [(5, vI r9), (0, vR (some (315, 0))), (1, vI x1), (2, vI x2), (3, vI x3), (4, vI x4)]) dX2_lead_56 (by decide) rfl ?_
      refine oX_aload_n dX2_lead_58 rfl rfl ?_
      refine oX_getF fX2_20 rfl oDs315 dX2_lead_59 (ohF62 hW) ?_
      refine oX_iload_n dX2_lead_62 rfl rfl ?_
      obtain ⟨g10, hm⟩ := gd_s hm
      refine oX_aaldR oDs62 (oIn (ohN62 hW) g10) dX2_lead_63 (ohA62 hW (oLt g10)) ?_
      refine oX_iload_n dX2_lead_64 rfl rfl ?_
      refine oX_aload_n dX2_lead_65 rfl rfl ?_
      refine oX_aload_n dX2_lead_66 rfl rfl ?_
      refine oX_getF fX2_11 rfl oDs315 dX2_lead_67 (ohF60 hW) ?_
      refine oX_iload_n dX2_lead_70 rfl rfl ?_
      obtain ⟨g11, hm⟩ := gd_s hm
      refine oX_iald oDs60 (oIn (ohN60 hW) g11) dX2_lead_71 ?_
      refine oX_bipush (v := (7 : Int32)) dX2_lead_72 (by decide) ?_
      refine oX_iconst (v := (3 : Int32)) dX2_lead_74 (by decide) ?_
      refine oX_iload dX2_lead_75 rfl ?_
      refine oX_imul dX2_lead_77 ?_
      refine oX_ishl dX2_lead_78 ?_
      refine oX_iconst (v := (-1 : Int32)) dX2_lead_79 (by decide) ?_
      refine oX_ixor dX2_lead_80 ?_
      refine oX_iand dX2_lead_81 ?_
      refine oX_bipush (v := (7 : Int32)) dX2_lead_82 (by decide) ?_
      refine oX_iconst (v := (3 : Int32)) dX2_lead_84 (by decide) ?_
      refine oX_iload_n dX2_lead_85 rfl rfl ?_
      refine oX_imul dX2_lead_86 ?_
      refine oX_ishl dX2_lead_87 ?_
      refine oX_iconst (v := (-1 : Int32)) dX2_lead_88 (by decide) ?_
      refine oX_ixor dX2_lead_89 ?_
      refine oX_iand dX2_lead_90 ?_
      refine oX_iconst (v := (4 : Int32)) dX2_lead_91 (by decide) ?_
      refine oX_iconst (v := (3 : Int32)) dX2_lead_92 (by decide) ?_
      refine oX_iload dX2_lead_93 rfl ?_
      refine oX_imul dX2_lead_95 ?_
      refine oX_ishl dX2_lead_96 ?_
      refine oX_ior dX2_lead_97 ?_
      refine oX_iload dX2_lead_98 rfl ?_
      refine oX_iconst (v := (3 : Int32)) dX2_lead_100 (by decide) ?_
      refine oX_iload_n dX2_lead_101 rfl rfl ?_
      refine oX_imul dX2_lead_102 ?_
      refine oX_ishl dX2_lead_103 ?_
      refine oX_ior dX2_lead_104 ?_
      obtain ⟨r12, g12, hm⟩ := bd_s hm
      refine oX_cV (as := [vI (((((AI 60 0 x1.toNatClampNeg) &&& (((7 : Int32) <<< (((3 : Int32) * x4) &&& 31)) ^^^ (-1 : Int32))) &&& (((7 : Int32) <<< (((3 : Int32) * x2) &&& 31)) ^^^ (-1 : Int32))) ||| ((4 : Int32) <<< (((3 : Int32) * x4) &&& 31))) ||| (r9 <<< (((3 : Int32) * x2) &&& 31)))]) dX2_lead_105 rfl oDs315 rfl (by decide) rfl ok_X2_add rfl rfl q217 q219 qs0 q133 q220 (by decide) (Nat.le_of_ble_eq_true rfl) (t_X2_add hW n (((((AI 60 0 x1.toNatClampNeg) &&& (((7 : Int32) <<< (((3 : Int32) * x4) &&& 31)) ^^^ (-1 : Int32))) &&& (((7 : Int32) <<< (((3 : Int32) * x2) &&& 31)) ^^^ (-1 : Int32))) ||| ((4 : Int32) <<< (((3 : Int32) * x4) &&& 31))) ||| (r9 <<< (((3 : Int32) * x2) &&& 31))) g12) ?_
      obtain ⟨g13, hm⟩ := gd_s hm
      obtain ⟨AI13, hAI13, hm⟩ := oLs hm
      refine oX_iast oDs63 (oIn (ohM63 hW (oLt g10)) g13) dX2_lead_108 hAI13 ?_
      refine oX_iinc (v := x3 + (1 : Int32)) (ls' := [(3, vI (x3 + (1 : Int32))), (5, vI r9), (0, vR (some (315, 0))), (1, vI x1), (2, vI x2), (4, vI x4)]) dX2_lead_109 rfl rfl (by decide) rfl ?_
      refine oX_iinc (v := x4 + (1 : Int32)) (ls' := [(4, vI (x4 + (1 : Int32))), (3, vI (x3 + (1 : Int32))), (5, vI r9), (0, vR (some (315, 0))), (1, vI x1), (2, vI x2)]) dX2_lead_112 rfl rfl (by decide) rfl ?_
      refine oX_goto (tgt := 27) dX2_lead_115 (by decide) ?_
      exact oX_sub [3, 4, 5, 1, 0] rfl (hk (x3 + (1 : Int32), x4 + (1 : Int32), r12.2.1, AI13) (Option.some.inj hm).symm)
theorem l_mX2_lead_b27 {G : OhG} {FL : OhL} {FR : OhQ} {GR : OhQ} {AL : OhL} {AR : OhQ} {BR : OhQ} {AN : OhN} {C : OhC} {k : Nat × Nat} {Φ : OhP} {Ψ : OhX} (hW : ohShW FR AR AN) (n : Nat) (x1 : Int32) (x2 : Int32) : ∀ (f : Nat) (x3 : Int32) (x4 : Int32) (FI : OhI) (AI : OhI) (b : (OhI × OhI)), lpF (fun v => mX2_lead_b27 n v.2.2.1 FR v.2.2.2 AR BR AN x1 x2 v.1 v.2.1) f (x3, x4, FI, AI) = some b → (oX G 3 iX2_lead 118 [] [] (b.1, FL, FR, GR, b.2, AL, AR, BR, AN, C) k Φ Ψ) → oX G 3 iX2_lead 27 [(0, vR (some (315, 0))), (1, vI x1), (2, vI x2), (3, vI x3), (4, vI x4)] [] (FI, FL, FR, GR, AI, AL, AR, BR, AN, C) k Φ Ψ := by
  intro f
  induction f with
  | zero =>
    intro x3 x4 FI AI b hm
    cases hm
  | succ f ih =>
    intro x3 x4 FI AI b hm hx1
    obtain ⟨r, hr, hm⟩ := lp_s hm
    refine x_mX2_lead_b27 hW n x1 x2 x3 x4 hr (fun v e => ?_) (fun v e => ?_)
    · subst e; exact ih v.1 v.2.1 v.2.2.1 v.2.2.2 _ hm hx1
    · subst e; cases (show v = b from hm); exact hx1
noncomputable def mX2_lead (n : Nat) (FI : OhI) (FR : OhQ) (AI : OhI) (AR : OhQ) (BR : OhQ) (AN : OhN) (x1 : Int32) : Option (OhI × OhI) :=
  (lpF (fun v => mX2_lead_b2 n FI FR AI AR BR AN x1 v) n (0 : Int32)).bind fun v4 =>
  (lpF (fun v => mX2_lead_b27 n v.2.2.1 FR v.2.2.2 AR BR AN x1 v4 v.1 v.2.1) n ((0 : Int32), (0 : Int32), FI, AI)).bind fun v14 =>
  some (v14.1, v14.2)
theorem x_mX2_lead {G : OhG} {FI AI : OhI} {FL AL : OhL} {FR GR AR BR : OhQ} {AN : OhN} {C : OhC} {k : Nat × Nat} {Φ : OhP} {Ψ : OhX} (hW : ohShW FR AR AN) (n : Nat) (x1 : Int32) {r : OhI × OhI} (hm : mX2_lead n FI FR AI AR BR AN x1 = some r) (hK : Φ none (r.1, FL, FR, GR, r.2, AL, AR, BR, AN, C)) : oX G 3 iX2_lead 0 [(0, vR (some (315, 0))), (1, vI x1)] [] (FI, FL, FR, GR, AI, AL, AR, BR, AN, C) k Φ Ψ := by
  unfold mX2_lead at hm
  refine oX_iconst (v := (0 : Int32)) dX2_lead_0 (by decide) ?_
  refine oX_istore_n (ls' := [(2, vI (0 : Int32)), (0, vR (some (315, 0))), (1, vI x1)]) dX2_lead_1 rfl (by decide) rfl ?_
  obtain ⟨v4, g4, hm⟩ := bd_s hm
  refine oX_sub [1, 2, 0] rfl (l_mX2_lead_b2 hW n x1 n (0 : Int32) _ g4 ?_)
  refine oX_iconst (v := (0 : Int32)) dX2_lead_22 (by decide) ?_
  refine oX_istore_n (ls' := [(3, vI (0 : Int32)), (0, vR (some (315, 0))), (1, vI x1), (2, vI v4)]) dX2_lead_23 rfl (by decide) rfl ?_
  refine oX_iconst (v := (0 : Int32)) dX2_lead_24 (by decide) ?_
  refine oX_istore (ls' := [(4, vI (0 : Int32)), (3, vI (0 : Int32)), (0, vR (some (315, 0))), (1, vI x1), (2, vI v4)]) dX2_lead_25 (by decide) rfl ?_
  obtain ⟨v14, g14, hm⟩ := bd_s hm
  refine oX_sub [2, 3, 4, 1, 0] rfl (l_mX2_lead_b27 hW n x1 v4 n (0 : Int32) (0 : Int32) FI AI _ g14 ?_)
  obtain rfl := Option.some.inj hm
  exact oX_vret dX2_lead_118 rfl hK
theorem t_X2_lead {G : OhG} {FI AI : OhI} {FL AL : OhL} {FR GR AR BR : OhQ} {AN : OhN} {C : OhC} (hW : ohShW FR AR AN) (n : Nat) (x1 : Int32) {o : OhI × OhI} (hm : mX2_lead n FI FR AI AR BR AN x1 = some o) : oT G 3 iX2_lead [vR (some (315, 0)), vI x1] (FI, FL, FR, GR, AI, AL, AR, BR, AN, C) (0, 0) (fun v h => v = none ∧ h = (o.1, FL, FR, GR, o.2, AL, AR, BR, AN, C)) ohNo :=
  oT_of (by decide) rfl (Nat.le_of_ble_eq_true rfl) (x_mX2_lead hW n x1 hm ⟨rfl, rfl⟩)
abbrev iX2_spread : OhM := (yX2_spread, cX2_spread, 7, (some .boolean), [])
theorem ok_X2_spread : oOk iX2_spread 2 := ⟨by decide, by decide, by decide +kernel⟩
noncomputable def mX2_spread_b5 (n : Nat) (FI : OhI) (FR : OhQ) (AI : OhI) (AR : OhQ) (BR : OhQ) (AN : OhN) (x1 : OhR) (x2 : OhR) (x3 : Int32) (x4 : Int32) : Option ((Int32 × OhI) ⊕ (OhI)) :=
  (if (FI 315 0 3) ≤ x4 then
  some (.inr AI)
else
  (oD 101 x1).bind fun a2 =>
    gd (vp_in x4 (AN a2.1 a2.2)) <|
    (oD 101 x2).bind fun a4 =>
    gd (vp_in x4 (AN a4.1 a4.2)) <|
    oLet (sA AI a4.1 a4.2 (uA (AI a4.1 a4.2) x4.toNatClampNeg (vp_nar .boolean (AI a2.1 a2.2 x4.toNatClampNeg)))) fun AI5 =>
    some (.inl (x4 + (1 : Int32), AI5)))
theorem x_mX2_spread_b5 {G : OhG} {FI AI : OhI} {FL AL : OhL} {FR GR AR BR : OhQ} {AN : OhN} {C : OhC} {k : Nat × Nat} {Φ : OhP} {Ψ : OhX} (hW : ohShW FR AR AN) (n : Nat) (x1 : OhR) (x2 : OhR) (x3 : Int32) (x4 : Int32) {r : (Int32 × OhI) ⊕ (OhI)} (hm : mX2_spread_b5 n FI FR AI AR BR AN x1 x2 x3 x4 = some r) (hk : ∀ v : Int32 × OhI, r = .inl v → oX G 1 iX2_spread 5 [(0, vR (some (315, 0))), (1, vR x1), (2, vR x2), (3, vI x3), (4, vI v.1)] [] (FI, FL, FR, GR, v.2, AL, AR, BR, AN, C) k Φ Ψ) (hx1 : ∀ v : OhI, r = .inr v → oX G 1 iX2_spread 28 [(0, vR (some (315, 0))), (1, vR x1), (2, vR x2), (3, vI x3)] [] (FI, FL, FR, GR, v, AL, AR, BR, AN, C) k Φ Ψ) : oX G 1 iX2_spread 5 [(0, vR (some (315, 0))), (1, vR x1), (2, vR x2), (3, vI x3), (4, vI x4)] [] (FI, FL, FR, GR, AI, AL, AR, BR, AN, C) k Φ Ψ := by
  unfold mX2_spread_b5 at hm
  refine oX_iload dX2_spread_5 rfl ?_
  refine oX_aload_n dX2_spread_7 rfl rfl ?_
  refine oX_getI fX2_30 rfl oDs315 dX2_spread_8 ?_
  refine oX_icmp_ge (tgt := 28) dX2_spread_11 (by decide) (fun c1 => ?_) (fun c1 => ?_)
  · have hm := ifp c1 hm
    exact oX_sub [0, 1, 2, 3] rfl (hx1 AI (Option.some.inj hm).symm)
  · have hm := ifn c1 hm
    refine oX_aload_n dX2_spread_14 rfl rfl ?_
    refine oX_iload dX2_spread_15 rfl ?_
    refine oX_aload_n dX2_spread_17 rfl rfl ?_
    refine oX_iload dX2_spread_18 rfl ?_
    obtain ⟨a2, e2, hm⟩ := bd_s hm
    obtain ⟨g3, hm⟩ := gd_s hm
    refine oX_zald e2 g3 dX2_spread_20 ?_
    obtain ⟨a4, e4, hm⟩ := bd_s hm
    obtain ⟨g5, hm⟩ := gd_s hm
    obtain ⟨AI5, hAI5, hm⟩ := oLs hm
    refine oX_zast e4 g5 dX2_spread_21 hAI5 ?_
    refine oX_iinc (v := x4 + (1 : Int32)) (ls' := [(4, vI (x4 + (1 : Int32))), (0, vR (some (315, 0))), (1, vR x1), (2, vR x2), (3, vI x3)]) dX2_spread_22 rfl rfl (by decide) rfl ?_
    refine oX_goto (tgt := 5) dX2_spread_25 (by decide) ?_
    exact oX_sub [1, 2, 3, 4, 0] rfl (hk (x4 + (1 : Int32), AI5) (Option.some.inj hm).symm)
theorem l_mX2_spread_b5 {G : OhG} {FI : OhI} {FL : OhL} {FR : OhQ} {GR : OhQ} {AL : OhL} {AR : OhQ} {BR : OhQ} {AN : OhN} {C : OhC} {k : Nat × Nat} {Φ : OhP} {Ψ : OhX} (hW : ohShW FR AR AN) (n : Nat) (x1 : OhR) (x2 : OhR) (x3 : Int32) : ∀ (f : Nat) (x4 : Int32) (AI : OhI) (b : (OhI)), lpF (fun v => mX2_spread_b5 n FI FR v.2 AR BR AN x1 x2 x3 v.1) f (x4, AI) = some b → (oX G 1 iX2_spread 28 [(0, vR (some (315, 0))), (1, vR x1), (2, vR x2), (3, vI x3)] [] (FI, FL, FR, GR, b, AL, AR, BR, AN, C) k Φ Ψ) → oX G 1 iX2_spread 5 [(0, vR (some (315, 0))), (1, vR x1), (2, vR x2), (3, vI x3), (4, vI x4)] [] (FI, FL, FR, GR, AI, AL, AR, BR, AN, C) k Φ Ψ := by
  intro f
  induction f with
  | zero =>
    intro x4 AI b hm
    cases hm
  | succ f ih =>
    intro x4 AI b hm hx1
    obtain ⟨r, hr, hm⟩ := lp_s hm
    refine x_mX2_spread_b5 hW n x1 x2 x3 x4 hr (fun v e => ?_) (fun v e => ?_)
    · subst e; exact ih v.1 v.2 _ hm hx1
    · subst e; cases (show v = b from hm); exact hx1
noncomputable def mX2_spread_b43 (n : Nat) (FI : OhI) (FR : OhQ) (AI : OhI) (AR : OhQ) (BR : OhQ) (AN : OhN) (x1 : OhR) (x2 : OhR) (x3 : Int32) (x4 : Int32) (x5 : Int32) : Option ((Int32 × Int32 × OhI) ⊕ (Int32 × OhI)) :=
  (if (3 : Int32) ≤ x5 then
  some (.inr (x3, AI))
else
  (oD 101 x2).bind fun a9 =>
    gd (vp_in x4 (AN a9.1 a9.2)) <|
    (if (AI a9.1 a9.2 x4.toNatClampNeg) = 0 then
    some (.inr (x3, AI))
  else
    gd (vp_in x4 120) <|
      gd (vp_in x5 3) <|
      (if (AI 63 x4.toNatClampNeg x5.toNatClampNeg) = (-1 : Int32) then
      some (.inl (x3, x5 + (1 : Int32), AI))
    else
      (oD 101 x1).bind fun a15 =>
        gd (vp_in (AI 63 x4.toNatClampNeg x5.toNatClampNeg) (AN a15.1 a15.2)) <|
        (if (AI a15.1 a15.2 (AI 63 x4.toNatClampNeg x5.toNatClampNeg).toNatClampNeg) = 0 then
        gd (vp_in (AI 63 x4.toNatClampNeg x5.toNatClampNeg) (AN a15.1 a15.2)) <|
          oLet (sA AI a15.1 a15.2 (uA (AI a15.1 a15.2) (AI 63 x4.toNatClampNeg x5.toNatClampNeg).toNatClampNeg (vp_nar .boolean (1 : Int32)))) fun AI18 =>
          some (.inl ((1 : Int32), x5 + (1 : Int32), AI18))
      else
        some (.inl (x3, x5 + (1 : Int32), AI))))))
theorem x_mX2_spread_b43 {G : OhG} {FI AI : OhI} {FL AL : OhL} {FR GR AR BR : OhQ} {AN : OhN} {C : OhC} {k : Nat × Nat} {Φ : OhP} {Ψ : OhX} (hW : ohShW FR AR AN) (n : Nat) (x1 : OhR) (x2 : OhR) (x3 : Int32) (x4 : Int32) (x5 : Int32) {r : (Int32 × Int32 × OhI) ⊕ (Int32 × OhI)} (hm : mX2_spread_b43 n FI FR AI AR BR AN x1 x2 x3 x4 x5 = some r) (hk : ∀ v : Int32 × Int32 × OhI, r = .inl v → oX G 1 iX2_spread 43 [(0, vR (some (315, 0))), (1, vR x1), (2, vR x2), (3, vI v.1), (4, vI x4), (5, vI v.2.1)] [] (FI, FL, FR, GR, v.2.2, AL, AR, BR, AN, C) k Φ Ψ) (hx1 : ∀ v : Int32 × OhI, r = .inr v → oX G 1 iX2_spread 97 [(0, vR (some (315, 0))), (1, vR x1), (2, vR x2), (3, vI v.1), (4, vI x4)] [] (FI, FL, FR, GR, v.2, AL, AR, BR, AN, C) k Φ Ψ) : oX G 1 iX2_spread 43 [(0, vR (some (315, 0))), (1, vR x1), (2, vR x2), (3, vI x3), (4, vI x4), (5, vI x5)] [] (FI, FL, FR, GR, AI, AL, AR, BR, AN, C) k Φ Ψ := by
  unfold mX2_spread_b43 at hm
  refine oX_iload dX2_spread_43 rfl ?_
  refine oX_iconst (v := (3 : Int32)) dX2_spread_45 (by decide) ?_
  refine oX_icmp_ge (tgt := 97) dX2_spread_46 (by decide) (fun c8 => ?_) (fun c8 => ?_)
  · have hm := ifp c8 hm
    exact oX_sub [0, 1, 2, 3, 4] rfl (hx1 (x3, AI) (Option.some.inj hm).symm)
  · have hm := ifn c8 hm
    refine oX_aload_n dX2_spread_49 rfl rfl ?_
    refine oX_iload dX2_spread_50 rfl ?_
    obtain ⟨a9, e9, hm⟩ := bd_s hm
    obtain ⟨g10, hm⟩ := gd_s hm
    refine oX_zald e9 g10 dX2_spread_52 ?_
    refine oX_if_eq (tgt := 97) dX2_spread_53 (by decide) (fun c11 => ?_) (fun c11 => ?_)
    · have hm := ifp c11 hm
      exact oX_sub [0, 1, 2, 3, 4] rfl (hx1 (x3, AI) (Option.some.inj hm).symm)
    · have hm := ifn c11 hm
      refine oX_aload_n dX2_spread_56 rfl rfl ?_
      refine oX_getF fX2_20 rfl oDs315 dX2_spread_57 (ohF62 hW) ?_
      refine oX_iload dX2_spread_60 rfl ?_
      obtain ⟨g12, hm⟩ := gd_s hm
      refine oX_aaldR oDs62 (oIn (ohN62 hW) g12) dX2_spread_62 (ohA62 hW (oLt g12)) ?_
      refine oX_iload dX2_spread_63 rfl ?_
      obtain ⟨g13, hm⟩ := gd_s hm
      refine oX_iald oDs63 (oIn (ohM63 hW (oLt g12)) g13) dX2_spread_65 ?_
      refine oX_istore (ls' := [(6, vI (AI 63 x4.toNatClampNeg x5.toNatClampNeg)), (0, vR (some (315, 0))), (1, vR x1), (2, vR x2), (3, vI x3), (4, vI x4), (5, vI x5)]) dX2_spread_66 (by decide) rfl ?_
      refine oX_iload dX2_spread_68 rfl ?_
      refine oX_iconst (v := (-1 : Int32)) dX2_spread_70 (by decide) ?_
      refine oX_icmp_eq (tgt := 91) dX2_spread_71 (by decide) (fun c14 => ?_) (fun c14 => ?_)
      · have hm := ifp c14 hm
        refine oX_iinc (v := x5 + (1 : Int32)) (ls' := [(5, vI (x5 + (1 : Int32))), (6, vI (AI 63 x4.toNatClampNeg x5.toNatClampNeg)), (0, vR (some (315, 0))), (1, vR x1), (2, vR x2), (3, vI x3), (4, vI x4)]) dX2_spread_91 rfl rfl (by decide) rfl ?_
        refine oX_goto (tgt := 43) dX2_spread_94 (by decide) ?_
        exact oX_sub [2, 3, 4, 5, 6, 0] rfl (hk (x3, x5 + (1 : Int32), AI) (Option.some.inj hm).symm)
      · have hm := ifn c14 hm
        refine oX_aload_n dX2_spread_74 rfl rfl ?_
        refine oX_iload dX2_spread_75 rfl ?_
        obtain ⟨a15, e15, hm⟩ := bd_s hm
        obtain ⟨g16, hm⟩ := gd_s hm
        refine oX_zald e15 g16 dX2_spread_77 ?_
        refine oX_if_eq (tgt := 84) dX2_spread_78 (by decide) (fun c17 => ?_) (fun c17 => ?_)
        · have hm := ifp c17 hm
          refine oX_aload_n dX2_spread_84 rfl rfl ?_
          refine oX_iload dX2_spread_85 rfl ?_
          refine oX_iconst (v := (1 : Int32)) dX2_spread_87 (by decide) ?_
          obtain ⟨g18, hm⟩ := gd_s hm
          obtain ⟨AI18, hAI18, hm⟩ := oLs hm
          refine oX_zast e15 g18 dX2_spread_88 hAI18 ?_
          refine oX_iconst (v := (1 : Int32)) dX2_spread_89 (by decide) ?_
          refine oX_istore_n (ls' := [(3, vI (1 : Int32)), (6, vI (AI 63 x4.toNatClampNeg x5.toNatClampNeg)), (0, vR (some (315, 0))), (1, vR x1), (2, vR x2), (4, vI x4), (5, vI x5)]) dX2_spread_90 rfl (by decide) rfl ?_
          refine oX_iinc (v := x5 + (1 : Int32)) (ls' := [(5, vI (x5 + (1 : Int32))), (3, vI (1 : Int32)), (6, vI (AI 63 x4.toNatClampNeg x5.toNatClampNeg)), (0, vR (some (315, 0))), (1, vR x1), (2, vR x2), (4, vI x4)]) dX2_spread_91 rfl rfl (by decide) rfl ?_
          refine oX_goto (tgt := 43) dX2_spread_94 (by decide) ?_
          exact oX_sub [3, 4, 5, 1, 6, 0] rfl (hk ((1 : Int32), x5 + (1 : Int32), AI18) (Option.some.inj hm).symm)
        · have hm := ifn c17 hm
          refine oX_goto (tgt := 91) dX2_spread_81 (by decide) ?_
          refine oX_iinc (v := x5 + (1 : Int32)) (ls' := [(5, vI (x5 + (1 : Int32))), (6, vI (AI 63 x4.toNatClampNeg x5.toNatClampNeg)), (0, vR (some (315, 0))), (1, vR x1), (2, vR x2), (3, vI x3), (4, vI x4)]) dX2_spread_91 rfl rfl (by decide) rfl ?_
          refine oX_goto (tgt := 43) dX2_spread_94 (by decide) ?_
          exact oX_sub [2, 3, 4, 5, 6, 0] rfl (hk (x3, x5 + (1 : Int32), AI) (Option.some.inj hm).symm)
theorem l_mX2_spread_b43 {G : OhG} {FI : OhI} {FL : OhL} {FR : OhQ} {GR : OhQ} {AL : OhL} {AR : OhQ} {BR : OhQ} {AN : OhN} {C : OhC} {k : Nat × Nat} {Φ : OhP} {Ψ : OhX} (hW : ohShW FR AR AN) (n : Nat) (x1 : OhR) (x2 : OhR) (x4 : Int32) : ∀ (f : Nat) (x3 : Int32) (x5 : Int32) (AI : OhI) (b : (Int32 × OhI)), lpF (fun v => mX2_spread_b43 n FI FR v.2.2 AR BR AN x1 x2 v.1 x4 v.2.1) f (x3, x5, AI) = some b → (oX G 1 iX2_spread 97 [(0, vR (some (315, 0))), (1, vR x1), (2, vR x2), (3, vI b.1), (4, vI x4)] [] (FI, FL, FR, GR, b.2, AL, AR, BR, AN, C) k Φ Ψ) → oX G 1 iX2_spread 43 [(0, vR (some (315, 0))), (1, vR x1), (2, vR x2), (3, vI x3), (4, vI x4), (5, vI x5)] [] (FI, FL, FR, GR, AI, AL, AR, BR, AN, C) k Φ Ψ := by
  intro f
  induction f with
  | zero =>
    intro x3 x5 AI b hm
    cases hm
  | succ f ih =>
    intro x3 x5 AI b hm hx1
    obtain ⟨r, hr, hm⟩ := lp_s hm
    refine x_mX2_spread_b43 hW n x1 x2 x3 x4 x5 hr (fun v e => ?_) (fun v e => ?_)
    · subst e; exact ih v.1 v.2.1 v.2.2 _ hm hx1
    · subst e; cases (show v = b from hm); exact hx1
noncomputable def mX2_spread_b31 (n : Nat) (FI : OhI) (FR : OhQ) (AI : OhI) (AR : OhQ) (BR : OhQ) (AN : OhN) (x1 : OhR) (x2 : OhR) (x3 : Int32) (x4 : Int32) : Option ((Int32 × Int32 × OhI) ⊕ (Int32 × OhI)) :=
  (if (FI 315 0 3) ≤ x4 then
  some (.inr (x3, AI))
else
  (lpF (fun v => mX2_spread_b43 n FI FR v.2.2 AR BR AN x1 x2 v.1 x4 v.2.1) n (x3, (0 : Int32), AI)).bind fun v19 =>
    some (.inl (v19.1, x4 + (1 : Int32), v19.2)))
theorem x_mX2_spread_b31 {G : OhG} {FI AI : OhI} {FL AL : OhL} {FR GR AR BR : OhQ} {AN : OhN} {C : OhC} {k : Nat × Nat} {Φ : OhP} {Ψ : OhX} (hW : ohShW FR AR AN) (n : Nat) (x1 : OhR) (x2 : OhR) (x3 : Int32) (x4 : Int32) {r : (Int32 × Int32 × OhI) ⊕ (Int32 × OhI)} (hm : mX2_spread_b31 n FI FR AI AR BR AN x1 x2 x3 x4 = some r) (hk : ∀ v : Int32 × Int32 × OhI, r = .inl v → oX G 1 iX2_spread 31 [(0, vR (some (315, 0))), (1, vR x1), (2, vR x2), (3, vI v.1), (4, vI v.2.1)] [] (FI, FL, FR, GR, v.2.2, AL, AR, BR, AN, C) k Φ Ψ) (hx1 : ∀ v : Int32 × OhI, r = .inr v → oX G 1 iX2_spread 103 [(3, vI v.1)] [] (FI, FL, FR, GR, v.2, AL, AR, BR, AN, C) k Φ Ψ) : oX G 1 iX2_spread 31 [(0, vR (some (315, 0))), (1, vR x1), (2, vR x2), (3, vI x3), (4, vI x4)] [] (FI, FL, FR, GR, AI, AL, AR, BR, AN, C) k Φ Ψ := by
  unfold mX2_spread_b31 at hm
  refine oX_iload dX2_spread_31 rfl ?_
  refine oX_aload_n dX2_spread_33 rfl rfl ?_
  refine oX_getI fX2_30 rfl oDs315 dX2_spread_34 ?_
  refine oX_icmp_ge (tgt := 103) dX2_spread_37 (by decide) (fun c7 => ?_) (fun c7 => ?_)
  · have hm := ifp c7 hm
    exact oX_sub [3] rfl (hx1 (x3, AI) (Option.some.inj hm).symm)
  · have hm := ifn c7 hm
    refine oX_iconst (v := (0 : Int32)) dX2_spread_40 (by decide) ?_
    refine oX_istore (ls' := [(5, vI (0 : Int32)), (0, vR (some (315, 0))), (1, vR x1), (2, vR x2), (3, vI x3), (4, vI x4)]) dX2_spread_41 (by decide) rfl ?_
    obtain ⟨v19, g19, hm⟩ := bd_s hm
    refine oX_sub [1, 2, 3, 4, 5, 0] rfl (l_mX2_spread_b43 hW n x1 x2 x4 n x3 (0 : Int32) AI _ g19 ?_)
    refine oX_iinc (v := x4 + (1 : Int32)) (ls' := [(4, vI (x4 + (1 : Int32))), (0, vR (some (315, 0))), (1, vR x1), (2, vR x2), (3, vI v19.1)]) dX2_spread_97 rfl rfl (by decide) rfl ?_
    refine oX_goto (tgt := 31) dX2_spread_100 (by decide) ?_
    exact oX_sub [1, 2, 3, 4, 0] rfl (hk (v19.1, x4 + (1 : Int32), v19.2) (Option.some.inj hm).symm)
theorem l_mX2_spread_b31 {G : OhG} {FI : OhI} {FL : OhL} {FR : OhQ} {GR : OhQ} {AL : OhL} {AR : OhQ} {BR : OhQ} {AN : OhN} {C : OhC} {k : Nat × Nat} {Φ : OhP} {Ψ : OhX} (hW : ohShW FR AR AN) (n : Nat) (x1 : OhR) (x2 : OhR) : ∀ (f : Nat) (x3 : Int32) (x4 : Int32) (AI : OhI) (b : (Int32 × OhI)), lpF (fun v => mX2_spread_b31 n FI FR v.2.2 AR BR AN x1 x2 v.1 v.2.1) f (x3, x4, AI) = some b → (oX G 1 iX2_spread 103 [(3, vI b.1)] [] (FI, FL, FR, GR, b.2, AL, AR, BR, AN, C) k Φ Ψ) → oX G 1 iX2_spread 31 [(0, vR (some (315, 0))), (1, vR x1), (2, vR x2), (3, vI x3), (4, vI x4)] [] (FI, FL, FR, GR, AI, AL, AR, BR, AN, C) k Φ Ψ := by
  intro f
  induction f with
  | zero =>
    intro x3 x4 AI b hm
    cases hm
  | succ f ih =>
    intro x3 x4 AI b hm hx1
    obtain ⟨r, hr, hm⟩ := lp_s hm
    refine x_mX2_spread_b31 hW n x1 x2 x3 x4 hr (fun v e => ?_) (fun v e => ?_)
    · subst e; exact ih v.1 v.2.1 v.2.2 _ hm hx1
    · subst e; cases (show v = b from hm); exact hx1
noncomputable def mX2_spread (n : Nat) (FI : OhI) (FR : OhQ) (AI : OhI) (AR : OhQ) (BR : OhQ) (AN : OhN) (x1 : OhR) (x2 : OhR) : Option (Int32 × OhI) :=
  (lpF (fun v => mX2_spread_b5 n FI FR v.2 AR BR AN x1 x2 (0 : Int32) v.1) n ((0 : Int32), AI)).bind fun v6 =>
  (lpF (fun v => mX2_spread_b31 n FI FR v.2.2 AR BR AN x1 x2 v.1 v.2.1) n ((0 : Int32), (0 : Int32), v6)).bind fun v20 =>
  gd (v20.1 = 0 ∨ v20.1 = 1) <|
  some (v20.1, v20.2)
theorem x_mX2_spread {G : OhG} {FI AI : OhI} {FL AL : OhL} {FR GR AR BR : OhQ} {AN : OhN} {C : OhC} {k : Nat × Nat} {Φ : OhP} {Ψ : OhX} (hW : ohShW FR AR AN) (n : Nat) (x1 : OhR) (x2 : OhR) {r : Int32 × OhI} (hm : mX2_spread n FI FR AI AR BR AN x1 x2 = some r) (hK : Φ (some (vI r.1)) (FI, FL, FR, GR, r.2, AL, AR, BR, AN, C)) : oX G 1 iX2_spread 0 [(0, vR (some (315, 0))), (1, vR x1), (2, vR x2)] [] (FI, FL, FR, GR, AI, AL, AR, BR, AN, C) k Φ Ψ := by
  unfold mX2_spread at hm
  refine oX_iconst (v := (0 : Int32)) dX2_spread_0 (by decide) ?_
  refine oX_istore_n (ls' := [(3, vI (0 : Int32)), (0, vR (some (315, 0))), (1, vR x1), (2, vR x2)]) dX2_spread_1 rfl (by decide) rfl ?_
  refine oX_iconst (v := (0 : Int32)) dX2_spread_2 (by decide) ?_
  refine oX_istore (ls' := [(4, vI (0 : Int32)), (3, vI (0 : Int32)), (0, vR (some (315, 0))), (1, vR x1), (2, vR x2)]) dX2_spread_3 (by decide) rfl ?_
  obtain ⟨v6, g6, hm⟩ := bd_s hm
  refine oX_sub [2, 3, 4, 1, 0] rfl (l_mX2_spread_b5 hW n x1 x2 (0 : Int32) n (0 : Int32) AI _ g6 ?_)
  refine oX_iconst (v := (0 : Int32)) dX2_spread_28 (by decide) ?_
  refine oX_istore (ls' := [(4, vI (0 : Int32)), (0, vR (some (315, 0))), (1, vR x1), (2, vR x2), (3, vI (0 : Int32))]) dX2_spread_29 (by decide) rfl ?_
  obtain ⟨v20, g20, hm⟩ := bd_s hm
  refine oX_sub [1, 2, 3, 4, 0] rfl (l_mX2_spread_b31 hW n x1 x2 n (0 : Int32) (0 : Int32) v6 _ g20 ?_)
  refine oX_iload_n dX2_spread_103 rfl rfl ?_
  obtain ⟨g21, hm⟩ := gd_s hm
  obtain rfl := Option.some.inj hm
  exact oX_iret dX2_spread_104 rfl (oNz g21) hK
theorem t_X2_spread {G : OhG} {FI AI : OhI} {FL AL : OhL} {FR GR AR BR : OhQ} {AN : OhN} {C : OhC} (hW : ohShW FR AR AN) (n : Nat) (x1 : OhR) (x2 : OhR) {o : Int32 × OhI} (hm : mX2_spread n FI FR AI AR BR AN x1 x2 = some o) : oT G 1 iX2_spread [vR (some (315, 0)), vR x1, vR x2] (FI, FL, FR, GR, AI, AL, AR, BR, AN, C) (0, 0) (fun v h => v = (some (vI o.1)) ∧ h = (FI, FL, FR, GR, o.2, AL, AR, BR, AN, C)) ohNo :=
  oT_of (by decide) rfl (Nat.le_of_ble_eq_true rfl) (x_mX2_spread hW n x1 x2 hm ⟨rfl, rfl⟩)
abbrev iX3_init : OhM := (yX3_init, cX3_init, 1, none, [])
theorem ok_X3_init : oOk iX3_init 0 := ⟨by decide, by decide, by decide +kernel⟩
noncomputable def mX3_init : Option (Unit) :=
  some ()
theorem x_mX3_init {G : OhG} {FI AI : OhI} {FL AL : OhL} {FR GR AR BR : OhQ} {AN : OhN} {C : OhC} {k : Nat × Nat} {Φ : OhP} {Ψ : OhX} {r : Unit} (hm : mX3_init = some r) (hK : Φ none (FI, FL, FR, GR, AI, AL, AR, BR, AN, C)) : oX G 1 iX3_init 0 [(0, vR (some (327, 0)))] [] (FI, FL, FR, GR, AI, AL, AR, BR, AN, C) k Φ Ψ := by
  unfold mX3_init at hm
  refine oX_aload_n dX3_init_0 rfl rfl ?_
  refine oX_objInit (a := (327, 0)) rfl q262 q176 q177 dX3_init_1 (by decide) (Nat.le_of_ble_eq_true rfl) ?_
  obtain rfl := Option.some.inj hm
  exact oX_vret dX3_init_4 rfl hK
theorem t_X3_init {G : OhG} {FI AI : OhI} {FL AL : OhL} {FR GR AR BR : OhQ} {AN : OhN} {C : OhC} {o : Unit} (hm : mX3_init = some o) : oT G 1 iX3_init [vR (some (327, 0))] (FI, FL, FR, GR, AI, AL, AR, BR, AN, C) (0, 0) (fun v h => v = none ∧ h = (FI, FL, FR, GR, AI, AL, AR, BR, AN, C)) ohNo :=
  oT_of (by decide) rfl (Nat.le_of_ble_eq_true rfl) (x_mX3_init hm ⟨rfl, rfl⟩)
abbrev iJ0_init : OhM := (yJ0_init, cJ0_init, 1, none, [])
theorem ok_J0_init : oOk iJ0_init 0 := ⟨by decide, by decide, by decide +kernel⟩
noncomputable def mJ0_init (t : Nat × Nat) : Option (Unit) :=
  some ()
theorem x_mJ0_init {G : OhG} {FI AI : OhI} {FL AL : OhL} {FR GR AR BR : OhQ} {AN : OhN} {C : OhC} {k : Nat × Nat} {Φ : OhP} {Ψ : OhX} (t : Nat × Nat) (ht : ohKd t.1 = 17) {r : Unit} (hm : mJ0_init t = some r) (hK : Φ none (FI, FL, FR, GR, AI, AL, AR, BR, AN, C)) : oX G 1 iJ0_init 0 [(0, vR (some t))] [] (FI, FL, FR, GR, AI, AL, AR, BR, AN, C) k Φ Ψ := by
  unfold mJ0_init at hm
  refine oX_aload_n dJ0_init_0 rfl rfl ?_
  refine oX_objInit (a := t) rfl q189 q176 q177 dJ0_init_1 (by decide) (Nat.le_of_ble_eq_true rfl) ?_
  obtain rfl := Option.some.inj hm
  exact oX_vret dJ0_init_4 rfl hK
theorem t_J0_init {G : OhG} {FI AI : OhI} {FL AL : OhL} {FR GR AR BR : OhQ} {AN : OhN} {C : OhC} (t : Nat × Nat) (ht : ohKd t.1 = 17) {o : Unit} (hm : mJ0_init t = some o) : oT G 1 iJ0_init [vR (some t)] (FI, FL, FR, GR, AI, AL, AR, BR, AN, C) (0, 0) (fun v h => v = none ∧ h = (FI, FL, FR, GR, AI, AL, AR, BR, AN, C)) ohNo :=
  oT_of (by decide) rfl (Nat.le_of_ble_eq_true rfl) (x_mJ0_init t ht hm ⟨rfl, rfl⟩)
abbrev iJ1_init : OhM := (yJ1_init, cJ1_init, 1, none, [])
theorem ok_J1_init : oOk iJ1_init 0 := ⟨by decide, by decide, by decide +kernel⟩
noncomputable def mJ1_init (FI : OhI) (t : Nat × Nat) : Option (OhI) :=
  (mJ0_init t).bind fun r1 =>
  oLet (sA FI t.1 t.2 (uA (FI t.1 t.2) 0 (0 : Int32))) fun FI2 =>
  some FI2
theorem x_mJ1_init {G : OhG} {FI AI : OhI} {FL AL : OhL} {FR GR AR BR : OhQ} {AN : OhN} {C : OhC} {k : Nat × Nat} {Φ : OhP} {Ψ : OhX} (t : Nat × Nat) (ht : ohKd t.1 = 17) {r : OhI} (hm : mJ1_init FI t = some r) (hK : Φ none (r, FL, FR, GR, AI, AL, AR, BR, AN, C)) : oX G 2 iJ1_init 0 [(0, vR (some t))] [] (FI, FL, FR, GR, AI, AL, AR, BR, AN, C) k Φ Ψ := by
  unfold mJ1_init at hm
  refine oX_aload_n dJ1_init_0 rfl rfl ?_
  obtain ⟨r1, g1, hm⟩ := bd_s hm
  refine oX_cI (as := []) dJ1_init_1 rfl ok_J0_init rfl rfl rfl q186 q187 q130 q188 (by decide) (Nat.le_of_ble_eq_true rfl) (t_J0_init t ht g1) ?_
  refine oX_aload_n dJ1_init_4 rfl rfl ?_
  refine oX_iconst (v := (0 : Int32)) dJ1_init_5 (by decide) ?_
  obtain ⟨FI2, hFI2, hm⟩ := oLs hm
  refine oX_putI fJ1_7 rfl (fun _ => rfl) (oD_t ht) dJ1_init_6 ⟨rfl, rfl⟩ hFI2 ?_
  obtain rfl := Option.some.inj hm
  exact oX_vret dJ1_init_9 rfl hK
theorem t_J1_init {G : OhG} {FI AI : OhI} {FL AL : OhL} {FR GR AR BR : OhQ} {AN : OhN} {C : OhC} (t : Nat × Nat) (ht : ohKd t.1 = 17) {o : OhI} (hm : mJ1_init FI t = some o) : oT G 2 iJ1_init [vR (some t)] (FI, FL, FR, GR, AI, AL, AR, BR, AN, C) (0, 0) (fun v h => v = none ∧ h = (o, FL, FR, GR, AI, AL, AR, BR, AN, C)) ohNo :=
  oT_of (by decide) rfl (Nat.le_of_ble_eq_true rfl) (x_mJ1_init t ht hm ⟨rfl, rfl⟩)
abbrev iJ2_init : OhM := (yJ2_init, cJ2_init, 1, none, [])
theorem ok_J2_init : oOk iJ2_init 0 := ⟨by decide, by decide, by decide +kernel⟩
noncomputable def mJ2_init (FI : OhI) (GR : OhQ) (C : OhC) (t : Nat × Nat) : Option (OhI × OhQ) :=
  (mJ1_init FI t).bind fun r1 =>
  gd (0 < C 40) <|
  oLet (sA GR t.1 t.2 (uA (GR t.1 t.2) 1 (some (40, 0)))) fun GR3 =>
  some (r1, GR3)
theorem x_mJ2_init {G : OhG} {FI AI : OhI} {FL AL : OhL} {FR GR AR BR : OhQ} {AN : OhN} {C : OhC} {k : Nat × Nat} {Φ : OhP} {Ψ : OhX} (t : Nat × Nat) (ht : ohKd t.1 = 17) {r : OhI × OhQ} (hm : mJ2_init FI GR C t = some r) (hK : Φ none (r.1, FL, FR, r.2, AI, AL, AR, BR, AN, C)) : oX G 3 iJ2_init 0 [(0, vR (some t))] [] (FI, FL, FR, GR, AI, AL, AR, BR, AN, C) k Φ Ψ := by
  unfold mJ2_init at hm
  refine oX_aload_n dJ2_init_0 rfl rfl ?_
  obtain ⟨r1, g1, hm⟩ := bd_s hm
  refine oX_cI (as := []) dJ2_init_1 rfl ok_J1_init rfl rfl rfl q183 q184 q131 q185 (by decide) (Nat.le_of_ble_eq_true rfl) (t_J1_init t ht g1) ?_
  refine oX_aload_n dJ2_init_4 rfl rfl ?_
  obtain ⟨g2, hm⟩ := gd_s hm
  refine oX_getsE g2 q190 dJ2_init_5 ?_
  obtain ⟨GR3, hGR3, hm⟩ := oLs hm
  refine oX_putG fJ2_9 rfl (fun _ => rfl) (oD_t ht) dJ2_init_8 (by first | exact Or.inl ⟨_, rfl⟩ | exact Or.inr ⟨_, rfl⟩) hGR3 ?_
  obtain rfl := Option.some.inj hm
  exact oX_vret dJ2_init_11 rfl hK
theorem t_J2_init {G : OhG} {FI AI : OhI} {FL AL : OhL} {FR GR AR BR : OhQ} {AN : OhN} {C : OhC} (t : Nat × Nat) (ht : ohKd t.1 = 17) {o : OhI × OhQ} (hm : mJ2_init FI GR C t = some o) : oT G 3 iJ2_init [vR (some t)] (FI, FL, FR, GR, AI, AL, AR, BR, AN, C) (0, 0) (fun v h => v = none ∧ h = (o.1, FL, FR, o.2, AI, AL, AR, BR, AN, C)) ohNo :=
  oT_of (by decide) rfl (Nat.le_of_ble_eq_true rfl) (x_mJ2_init t ht hm ⟨rfl, rfl⟩)
abbrev iX6_init : OhM := (yX6_init, cX6_init, 5, none, [])
theorem ok_X6_init : oOk iX6_init 4 := ⟨by decide, by decide, by decide +kernel⟩
noncomputable def mX6_init (FI : OhI) (t : Nat × Nat) (x1 : Int32) (x2 : Int32) (x3 : Int32) (x4 : Int32) : Option (OhI) :=
  oLet (sA FI t.1 t.2 (uA (FI t.1 t.2) 0 x1)) fun FI1 =>
  oLet (sA FI1 t.1 t.2 (uA (FI1 t.1 t.2) 1 x2)) fun FI2 =>
  oLet (sA FI2 t.1 t.2 (uA (FI2 t.1 t.2) 2 x3)) fun FI3 =>
  oLet (sA FI3 t.1 t.2 (uA (FI3 t.1 t.2) 3 x4)) fun FI4 =>
  some FI4
theorem x_mX6_init {G : OhG} {FI AI : OhI} {FL AL : OhL} {FR GR AR BR : OhQ} {AN : OhN} {C : OhC} {k : Nat × Nat} {Φ : OhP} {Ψ : OhX} (t : Nat × Nat) (ht : ohKd t.1 = 5) (x1 : Int32) (x2 : Int32) (x3 : Int32) (x4 : Int32) {r : OhI} (hm : mX6_init FI t x1 x2 x3 x4 = some r) (hK : Φ none (r, FL, FR, GR, AI, AL, AR, BR, AN, C)) : oX G 1 iX6_init 0 [(0, vR (some t)), (1, vI x1), (2, vI x2), (3, vI x3), (4, vI x4)] [] (FI, FL, FR, GR, AI, AL, AR, BR, AN, C) k Φ Ψ := by
  unfold mX6_init at hm
  refine oX_aload_n dX6_init_0 rfl rfl ?_
  refine oX_objInit (a := t) rfl q477 q176 q177 dX6_init_1 (by decide) (Nat.le_of_ble_eq_true rfl) ?_
  refine oX_aload_n dX6_init_4 rfl rfl ?_
  refine oX_iload_n dX6_init_5 rfl rfl ?_
  obtain ⟨FI1, hFI1, hm⟩ := oLs hm
  refine oX_putI fX6_7 rfl (fun _ => rfl) (oD_t ht) dX6_init_6 ⟨rfl, rfl⟩ hFI1 ?_
  refine oX_aload_n dX6_init_9 rfl rfl ?_
  refine oX_iload_n dX6_init_10 rfl rfl ?_
  obtain ⟨FI2, hFI2, hm⟩ := oLs hm
  refine oX_putI fX6_13 rfl (fun _ => rfl) (oD_t ht) dX6_init_11 ⟨rfl, rfl⟩ hFI2 ?_
  refine oX_aload_n dX6_init_14 rfl rfl ?_
  refine oX_iload_n dX6_init_15 rfl rfl ?_
  obtain ⟨FI3, hFI3, hm⟩ := oLs hm
  refine oX_putI fX6_16 rfl (fun _ => rfl) (oD_t ht) dX6_init_16 ⟨rfl, rfl⟩ hFI3 ?_
  refine oX_aload_n dX6_init_19 rfl rfl ?_
  refine oX_iload dX6_init_20 rfl ?_
  obtain ⟨FI4, hFI4, hm⟩ := oLs hm
  refine oX_putI fX6_19 rfl (fun _ => rfl) (oD_t ht) dX6_init_22 ⟨rfl, rfl⟩ hFI4 ?_
  obtain rfl := Option.some.inj hm
  exact oX_vret dX6_init_25 rfl hK
theorem t_X6_init {G : OhG} {FI AI : OhI} {FL AL : OhL} {FR GR AR BR : OhQ} {AN : OhN} {C : OhC} (t : Nat × Nat) (ht : ohKd t.1 = 5) (x1 : Int32) (x2 : Int32) (x3 : Int32) (x4 : Int32) {o : OhI} (hm : mX6_init FI t x1 x2 x3 x4 = some o) : oT G 1 iX6_init [vR (some t), vI x1, vI x2, vI x3, vI x4] (FI, FL, FR, GR, AI, AL, AR, BR, AN, C) (0, 0) (fun v h => v = none ∧ h = (o, FL, FR, GR, AI, AL, AR, BR, AN, C)) ohNo :=
  oT_of (by decide) rfl (Nat.le_of_ble_eq_true rfl) (x_mX6_init t ht x1 x2 x3 x4 hm ⟨rfl, rfl⟩)
abbrev iJ3_abs : OhM := (yJ3_abs, cJ3_abs, 1, (some .int), [])
theorem ok_J3_abs : oOk iJ3_abs 1 := ⟨by decide, by decide, by decide +kernel⟩
noncomputable def mJ3_abs (x0 : Int32) : Option (Int32) :=
  (if 0 ≤ x0 then
  some x0
else
  some (-x0))
theorem x_mJ3_abs {G : OhG} {FI AI : OhI} {FL AL : OhL} {FR GR AR BR : OhQ} {AN : OhN} {C : OhC} {k : Nat × Nat} {Φ : OhP} {Ψ : OhX} (x0 : Int32) {r : Int32} (hm : mJ3_abs x0 = some r) (hK : Φ (some (vI r)) (FI, FL, FR, GR, AI, AL, AR, BR, AN, C)) : oX G 1 iJ3_abs 0 [(0, vI x0)] [] (FI, FL, FR, GR, AI, AL, AR, BR, AN, C) k Φ Ψ := by
  unfold mJ3_abs at hm
  refine oX_iload_n dJ3_abs_0 rfl rfl ?_
  refine oX_if_ge (tgt := 9) dJ3_abs_1 (by decide) (fun c1 => ?_) (fun c1 => ?_)
  · have hm := ifp c1 hm
    refine oX_iload_n dJ3_abs_9 rfl rfl ?_
    obtain rfl := Option.some.inj hm
    exact oX_iret dJ3_abs_10 rfl rfl hK
  · have hm := ifn c1 hm
    refine oX_iload_n dJ3_abs_4 rfl rfl ?_
    refine oX_ineg dJ3_abs_5 ?_
    refine oX_goto (tgt := 10) dJ3_abs_6 (by decide) ?_
    obtain rfl := Option.some.inj hm
    exact oX_iret dJ3_abs_10 rfl rfl hK
theorem t_J3_abs {G : OhG} {FI AI : OhI} {FL AL : OhL} {FR GR AR BR : OhQ} {AN : OhN} {C : OhC} (x0 : Int32) {o : Int32} (hm : mJ3_abs x0 = some o) : oT G 1 iJ3_abs [vI x0] (FI, FL, FR, GR, AI, AL, AR, BR, AN, C) (0, 0) (fun v h => v = (some (vI o)) ∧ h = (FI, FL, FR, GR, AI, AL, AR, BR, AN, C)) ohNo :=
  oT_ofM (by decide +kernel) rfl (Nat.le_of_ble_eq_true rfl) (x_mJ3_abs x0 hm ⟨rfl, rfl⟩)
abbrev iX7_suits : OhM := (yX7_suits, cX7_suits, 2, (some .boolean), [])
theorem ok_X7_suits : oOk iX7_suits 1 := ⟨by decide, by decide, by decide +kernel⟩
noncomputable def mX7_suits (FI : OhI) (t : Nat × Nat) (x1 : OhR) : Option (Int32) :=
  (oD 5 x1).bind fun a1 =>
  (if (((FI t.1 t.2 1) >>> ((FI a1.1 a1.2 0) &&& 31)) &&& (1 : Int32)) = (1 : Int32) then
  (if (((FI t.1 t.2 2) >>> ((FI a1.1 a1.2 2) &&& 31)) &&& (1 : Int32)) = (1 : Int32) then
    (mJ3_abs ((FI t.1 t.2 3) - (FI a1.1 a1.2 3))).bind fun r4 =>
      (if (1 : Int32) < r4 then
      some (0 : Int32)
    else
      some (1 : Int32))
  else
    some (0 : Int32))
else
  some (0 : Int32))
theorem x_mX7_suits {G : OhG} {FI AI : OhI} {FL AL : OhL} {FR GR AR BR : OhQ} {AN : OhN} {C : OhC} {k : Nat × Nat} {Φ : OhP} {Ψ : OhX} (t : Nat × Nat) (ht : ohKd t.1 = 6) (x1 : OhR) {r : Int32} (hm : mX7_suits FI t x1 = some r) (hK : Φ (some (vI r)) (FI, FL, FR, GR, AI, AL, AR, BR, AN, C)) : oX G 2 iX7_suits 0 [(0, vR (some t)), (1, vR x1)] [] (FI, FL, FR, GR, AI, AL, AR, BR, AN, C) k Φ Ψ := by
  unfold mX7_suits at hm
  refine oX_aload_n dX7_suits_0 rfl rfl ?_
  refine oX_getI fX7_20 rfl (oD_t ht) dX7_suits_1 ?_
  refine oX_aload_n dX7_suits_4 rfl rfl ?_
  obtain ⟨a1, e1, hm⟩ := bd_s hm
  refine oX_getI fX7_29 rfl e1 dX7_suits_5 ?_
  refine oX_ishr dX7_suits_8 ?_
  refine oX_iconst (v := (1 : Int32)) dX7_suits_9 (by decide) ?_
  refine oX_iand dX7_suits_10 ?_
  refine oX_iconst (v := (1 : Int32)) dX7_suits_11 (by decide) ?_
  refine oX_icmp_ne (tgt := 50) dX7_suits_12 (by decide) (fun c2 => ?_) (fun c2 => ?_)
  · have hm := ifp c2 hm
    refine oX_aload_n dX7_suits_15 rfl rfl ?_
    refine oX_getI fX7_23 rfl (oD_t ht) dX7_suits_16 ?_
    refine oX_aload_n dX7_suits_19 rfl rfl ?_
    refine oX_getI fX7_34 rfl e1 dX7_suits_20 ?_
    refine oX_ishr dX7_suits_23 ?_
    refine oX_iconst (v := (1 : Int32)) dX7_suits_24 (by decide) ?_
    refine oX_iand dX7_suits_25 ?_
    refine oX_iconst (v := (1 : Int32)) dX7_suits_26 (by decide) ?_
    refine oX_icmp_ne (tgt := 50) dX7_suits_27 (by decide) (fun c3 => ?_) (fun c3 => ?_)
    · have hm := ifp c3 hm
      refine oX_aload_n dX7_suits_30 rfl rfl ?_
      refine oX_getI fX7_26 rfl (oD_t ht) dX7_suits_31 ?_
      refine oX_aload_n dX7_suits_34 rfl rfl ?_
      refine oX_getI fX7_37 rfl e1 dX7_suits_35 ?_
      refine oX_isub dX7_suits_38 ?_
      obtain ⟨r4, g4, hm⟩ := bd_s hm
      refine oX_cS (as := [vI ((FI t.1 t.2 3) - (FI a1.1 a1.2 3))]) dX7_suits_39 rfl ok_J3_abs rfl rfl q1500 q1501 q134 q1502 (by decide) (Nat.le_of_ble_eq_true rfl) (t_J3_abs ((FI t.1 t.2 3) - (FI a1.1 a1.2 3)) g4) ?_
      refine oX_iconst (v := (1 : Int32)) dX7_suits_42 (by decide) ?_
      refine oX_icmp_gt (tgt := 50) dX7_suits_43 (by decide) (fun c5 => ?_) (fun c5 => ?_)
      · have hm := ifp c5 hm
        refine oX_iconst (v := (0 : Int32)) dX7_suits_50 (by decide) ?_
        obtain rfl := Option.some.inj hm
        exact oX_iret dX7_suits_51 rfl (by decide) hK
      · have hm := ifn c5 hm
        refine oX_iconst (v := (1 : Int32)) dX7_suits_46 (by decide) ?_
        refine oX_goto (tgt := 51) dX7_suits_47 (by decide) ?_
        obtain rfl := Option.some.inj hm
        exact oX_iret dX7_suits_51 rfl (by decide) hK
    · have hm := ifn c3 hm
      refine oX_iconst (v := (0 : Int32)) dX7_suits_50 (by decide) ?_
      obtain rfl := Option.some.inj hm
      exact oX_iret dX7_suits_51 rfl (by decide) hK
  · have hm := ifn c2 hm
    refine oX_iconst (v := (0 : Int32)) dX7_suits_50 (by decide) ?_
    obtain rfl := Option.some.inj hm
    exact oX_iret dX7_suits_51 rfl (by decide) hK
theorem t_X7_suits {G : OhG} {FI AI : OhI} {FL AL : OhL} {FR GR AR BR : OhQ} {AN : OhN} {C : OhC} (t : Nat × Nat) (ht : ohKd t.1 = 6) (x1 : OhR) {o : Int32} (hm : mX7_suits FI t x1 = some o) : oT G 2 iX7_suits [vR (some t), vR x1] (FI, FL, FR, GR, AI, AL, AR, BR, AN, C) (0, 0) (fun v h => v = (some (vI o)) ∧ h = (FI, FL, FR, GR, AI, AL, AR, BR, AN, C)) ohNo :=
  oT_of (by decide) rfl (Nat.le_of_ble_eq_true rfl) (x_mX7_suits t ht x1 hm ⟨rfl, rfl⟩)
abbrev iJ2_size : OhM := (yJ2_size, cJ2_size, 1, (some .int), [])
theorem ok_J2_size : oOk iJ2_size 0 := ⟨by decide, by decide, by decide +kernel⟩
noncomputable def mJ2_size (FI : OhI) (t : Nat × Nat) : Option (Int32) :=
  some (FI t.1 t.2 2)
theorem x_mJ2_size {G : OhG} {FI AI : OhI} {FL AL : OhL} {FR GR AR BR : OhQ} {AN : OhN} {C : OhC} {k : Nat × Nat} {Φ : OhP} {Ψ : OhX} (t : Nat × Nat) (ht : ohKd t.1 = 17) {r : Int32} (hm : mJ2_size FI t = some r) (hK : Φ (some (vI r)) (FI, FL, FR, GR, AI, AL, AR, BR, AN, C)) : oX G 1 iJ2_size 0 [(0, vR (some t))] [] (FI, FL, FR, GR, AI, AL, AR, BR, AN, C) k Φ Ψ := by
  unfold mJ2_size at hm
  refine oX_aload_n dJ2_size_0 rfl rfl ?_
  refine oX_getI fJ2_48 rfl (oD_t ht) dJ2_size_1 ?_
  obtain rfl := Option.some.inj hm
  exact oX_iret dJ2_size_4 rfl rfl hK
theorem t_J2_size {G : OhG} {FI AI : OhI} {FL AL : OhL} {FR GR AR BR : OhQ} {AN : OhN} {C : OhC} (t : Nat × Nat) (ht : ohKd t.1 = 17) {o : Int32} (hm : mJ2_size FI t = some o) : oT G 1 iJ2_size [vR (some t)] (FI, FL, FR, GR, AI, AL, AR, BR, AN, C) (0, 0) (fun v h => v = (some (vI o)) ∧ h = (FI, FL, FR, GR, AI, AL, AR, BR, AN, C)) ohNo :=
  oT_of (by decide) rfl (Nat.le_of_ble_eq_true rfl) (x_mJ2_size t ht hm ⟨rfl, rfl⟩)
abbrev iJ7_checkIndex : OhM := (yJ7_checkIndex, cJ7_checkIndex, 3, (some .int), [])
theorem ok_J7_checkIndex : oOk iJ7_checkIndex 3 := ⟨by decide, by decide, by decide +kernel⟩
noncomputable def mJ7_checkIndex_j9 (x0 : Int32) (x1 : Int32) (x2 : OhR) : Option (Int32) :=
  none
theorem x_mJ7_checkIndex_j9 {G : OhG} {FI AI : OhI} {FL AL : OhL} {FR GR AR BR : OhQ} {AN : OhN} {C : OhC} {k : Nat × Nat} {Φ : OhP} {Ψ : OhX} (x0 : Int32) (x1 : Int32) (x2 : OhR) {r : Int32} (hm : mJ7_checkIndex_j9 x0 x1 x2 = some r) (hK : Φ (some (vI r)) (FI, FL, FR, GR, AI, AL, AR, BR, AN, C)) : oX G 1 iJ7_checkIndex 9 [(0, vI x0), (1, vI x1), (2, vR x2)] [] (FI, FL, FR, GR, AI, AL, AR, BR, AN, C) k Φ Ψ := by
  unfold mJ7_checkIndex_j9 at hm
  refine oX_aload_n dJ7_checkIndex_9 rfl rfl ?_
  refine oX_iload_n dJ7_checkIndex_10 rfl rfl ?_
  refine oX_iload_n dJ7_checkIndex_11 rfl rfl ?_
  cases hm
noncomputable def mJ7_checkIndex (x0 : Int32) (x1 : Int32) (x2 : OhR) : Option (Int32) :=
  (if x0 < 0 then
  mJ7_checkIndex_j9 x0 x1 x2
else
  (if x0 < x1 then
    some x0
  else
    mJ7_checkIndex_j9 x0 x1 x2))
theorem x_mJ7_checkIndex {G : OhG} {FI AI : OhI} {FL AL : OhL} {FR GR AR BR : OhQ} {AN : OhN} {C : OhC} {k : Nat × Nat} {Φ : OhP} {Ψ : OhX} (x0 : Int32) (x1 : Int32) (x2 : OhR) {r : Int32} (hm : mJ7_checkIndex x0 x1 x2 = some r) (hK : Φ (some (vI r)) (FI, FL, FR, GR, AI, AL, AR, BR, AN, C)) : oX G 1 iJ7_checkIndex 0 [(0, vI x0), (1, vI x1), (2, vR x2)] [] (FI, FL, FR, GR, AI, AL, AR, BR, AN, C) k Φ Ψ := by
  unfold mJ7_checkIndex at hm
  refine oX_iload_n dJ7_checkIndex_0 rfl rfl ?_
  refine oX_if_lt (tgt := 9) dJ7_checkIndex_1 (by decide) (fun c1 => ?_) (fun c1 => ?_)
  · have hm := ifp c1 hm
    exact oX_sub [0, 1, 2] rfl (x_mJ7_checkIndex_j9 x0 x1 x2 hm hK)
  · have hm := ifn c1 hm
    refine oX_iload_n dJ7_checkIndex_4 rfl rfl ?_
    refine oX_iload_n dJ7_checkIndex_5 rfl rfl ?_
    refine oX_icmp_lt (tgt := 16) dJ7_checkIndex_6 (by decide) (fun c2 => ?_) (fun c2 => ?_)
    · have hm := ifp c2 hm
      refine oX_iload_n dJ7_checkIndex_16 rfl rfl ?_
      obtain rfl := Option.some.inj hm
      exact oX_iret dJ7_checkIndex_17 rfl rfl hK
    · have hm := ifn c2 hm
      exact oX_sub [0, 1, 2] rfl (x_mJ7_checkIndex_j9 x0 x1 x2 hm hK)
theorem t_J7_checkIndex {G : OhG} {FI AI : OhI} {FL AL : OhL} {FR GR AR BR : OhQ} {AN : OhN} {C : OhC} (x0 : Int32) (x1 : Int32) (x2 : OhR) {o : Int32} (hm : mJ7_checkIndex x0 x1 x2 = some o) : oT G 1 iJ7_checkIndex [vI x0, vI x1, vR x2] (FI, FL, FR, GR, AI, AL, AR, BR, AN, C) (0, 0) (fun v h => v = (some (vI o)) ∧ h = (FI, FL, FR, GR, AI, AL, AR, BR, AN, C)) ohNo :=
  oT_of (by decide) rfl (Nat.le_of_ble_eq_true rfl) (x_mJ7_checkIndex x0 x1 x2 hm ⟨rfl, rfl⟩)
abbrev iJ6_checkIndex : OhM := (yJ6_checkIndex, cJ6_checkIndex, 2, (some .int), [])
theorem ok_J6_checkIndex : oOk iJ6_checkIndex 2 := ⟨by decide, by decide, by decide +kernel⟩
noncomputable def mJ6_checkIndex (x0 : Int32) (x1 : Int32) : Option (Int32) :=
  (mJ7_checkIndex x0 x1 none).bind fun r1 =>
  some r1
theorem x_mJ6_checkIndex {G : OhG} {FI AI : OhI} {FL AL : OhL} {FR GR AR BR : OhQ} {AN : OhN} {C : OhC} {k : Nat × Nat} {Φ : OhP} {Ψ : OhX} (x0 : Int32) (x1 : Int32) {r : Int32} (hm : mJ6_checkIndex x0 x1 = some r) (hK : Φ (some (vI r)) (FI, FL, FR, GR, AI, AL, AR, BR, AN, C)) : oX G 2 iJ6_checkIndex 0 [(0, vI x0), (1, vI x1)] [] (FI, FL, FR, GR, AI, AL, AR, BR, AN, C) k Φ Ψ := by
  unfold mJ6_checkIndex at hm
  refine oX_iload_n dJ6_checkIndex_0 rfl rfl ?_
  refine oX_iload_n dJ6_checkIndex_1 rfl rfl ?_
  refine oX_null dJ6_checkIndex_2 ?_
  obtain ⟨r1, g1, hm⟩ := bd_s hm
  refine oX_cS (as := [vI x0, vI x1, vR none]) dJ6_checkIndex_3 rfl ok_J7_checkIndex rfl rfl q655 q656 q145 q657 (by decide) (Nat.le_of_ble_eq_true rfl) (t_J7_checkIndex x0 x1 none g1) ?_
  obtain rfl := Option.some.inj hm
  exact oX_iret dJ6_checkIndex_6 rfl rfl hK
theorem t_J6_checkIndex {G : OhG} {FI AI : OhI} {FL AL : OhL} {FR GR AR BR : OhQ} {AN : OhN} {C : OhC} (x0 : Int32) (x1 : Int32) {o : Int32} (hm : mJ6_checkIndex x0 x1 = some o) : oT G 2 iJ6_checkIndex [vI x0, vI x1] (FI, FL, FR, GR, AI, AL, AR, BR, AN, C) (0, 0) (fun v h => v = (some (vI o)) ∧ h = (FI, FL, FR, GR, AI, AL, AR, BR, AN, C)) ohNo :=
  oT_of (by decide) rfl (Nat.le_of_ble_eq_true rfl) (x_mJ6_checkIndex x0 x1 hm ⟨rfl, rfl⟩)
abbrev iJ2_elementData : OhM := (yJ2_elementData, cJ2_elementData, 2, (some (FieldType.object "java/lang/Object")), [])
theorem ok_J2_elementData : oOk iJ2_elementData 1 := ⟨by decide, by decide, by decide +kernel⟩
noncomputable def mJ2_elementData (GR : OhQ) (AR : OhQ) (BR : OhQ) (AN : OhN) (t : Nat × Nat) (x1 : Int32) : Option (OhR) :=
  (oD 106 (GR t.1 t.2 1)).bind fun a1 =>
  gd (vp_in x1 (AN a1.1 a1.2)) <|
  some (BR a1.1 a1.2 x1.toNatClampNeg)
theorem x_mJ2_elementData {G : OhG} {FI AI : OhI} {FL AL : OhL} {FR GR AR BR : OhQ} {AN : OhN} {C : OhC} {k : Nat × Nat} {Φ : OhP} {Ψ : OhX} (t : Nat × Nat) (ht : ohKd t.1 = 17) (x1 : Int32) {r : OhR} (hm : mJ2_elementData GR AR BR AN t x1 = some r) (hK : Φ (some (vR r)) (FI, FL, FR, GR, AI, AL, AR, BR, AN, C)) : oX G 1 iJ2_elementData 0 [(0, vR (some t)), (1, vI x1)] [] (FI, FL, FR, GR, AI, AL, AR, BR, AN, C) k Φ Ψ := by
  unfold mJ2_elementData at hm
  refine oX_aload_n dJ2_elementData_0 rfl rfl ?_
  refine oX_getG fJ2_9 rfl (oD_t ht) dJ2_elementData_1 ?_
  refine oX_iload_n dJ2_elementData_4 rfl rfl ?_
  obtain ⟨a1, e1, hm⟩ := bd_s hm
  obtain ⟨g2, hm⟩ := gd_s hm
  refine oX_aaldO e1 g2 dJ2_elementData_5 rfl ?_
  obtain rfl := Option.some.inj hm
  exact oX_aret dJ2_elementData_6 rfl (by first | exact Or.inl ⟨_, rfl⟩ | exact Or.inr ⟨_, rfl⟩) hK
theorem t_J2_elementData {G : OhG} {FI AI : OhI} {FL AL : OhL} {FR GR AR BR : OhQ} {AN : OhN} {C : OhC} (t : Nat × Nat) (ht : ohKd t.1 = 17) (x1 : Int32) {o : OhR} (hm : mJ2_elementData GR AR BR AN t x1 = some o) : oT G 1 iJ2_elementData [vR (some t), vI x1] (FI, FL, FR, GR, AI, AL, AR, BR, AN, C) (0, 0) (fun v h => v = (some (vR o)) ∧ h = (FI, FL, FR, GR, AI, AL, AR, BR, AN, C)) ohNo :=
  oT_of (by decide) rfl (Nat.le_of_ble_eq_true rfl) (x_mJ2_elementData t ht x1 hm ⟨rfl, rfl⟩)
abbrev iJ2_get : OhM := (yJ2_get, cJ2_get, 2, (some (FieldType.object "java/lang/Object")), [])
theorem ok_J2_get : oOk iJ2_get 1 := ⟨by decide, by decide, by decide +kernel⟩
noncomputable def mJ2_get (FI : OhI) (GR : OhQ) (AR : OhQ) (BR : OhQ) (AN : OhN) (t : Nat × Nat) (x1 : Int32) : Option (OhR) :=
  (mJ6_checkIndex x1 (FI t.1 t.2 2)).bind fun r1 =>
  (mJ2_elementData GR AR BR AN t x1).bind fun r2 =>
  some r2
theorem x_mJ2_get {G : OhG} {FI AI : OhI} {FL AL : OhL} {FR GR AR BR : OhQ} {AN : OhN} {C : OhC} {k : Nat × Nat} {Φ : OhP} {Ψ : OhX} (t : Nat × Nat) (ht : ohKd t.1 = 17) (x1 : Int32) {r : OhR} (hm : mJ2_get FI GR AR BR AN t x1 = some r) (hK : Φ (some (vR r)) (FI, FL, FR, GR, AI, AL, AR, BR, AN, C)) : oX G 3 iJ2_get 0 [(0, vR (some t)), (1, vI x1)] [] (FI, FL, FR, GR, AI, AL, AR, BR, AN, C) k Φ Ψ := by
  unfold mJ2_get at hm
  refine oX_iload_n dJ2_get_0 rfl rfl ?_
  refine oX_aload_n dJ2_get_1 rfl rfl ?_
  refine oX_getI fJ2_48 rfl (oD_t ht) dJ2_get_2 ?_
  obtain ⟨r1, g1, hm⟩ := bd_s hm
  refine oX_cS (as := [vI x1, vI (FI t.1 t.2 2)]) dJ2_get_5 rfl ok_J6_checkIndex rfl rfl q652 q653 q144 q654 (by decide) (Nat.le_of_ble_eq_true rfl) (t_J6_checkIndex x1 (FI t.1 t.2 2) g1) ?_
  refine oX_pop dJ2_get_8 trivial ?_
  refine oX_aload_n dJ2_get_9 rfl rfl ?_
  refine oX_iload_n dJ2_get_10 rfl rfl ?_
  obtain ⟨r2, g2, hm⟩ := bd_s hm
  refine oX_cV (as := [vI x1]) dJ2_get_11 rfl (oD_t ht) rfl (by decide) rfl ok_J2_elementData rfl rfl q658 q659 q660 q132 q661 (by decide) (Nat.le_of_ble_eq_true rfl) (t_J2_elementData t ht x1 g2) ?_
  obtain rfl := Option.some.inj hm
  exact oX_aret dJ2_get_14 rfl (by first | exact Or.inl ⟨_, rfl⟩ | exact Or.inr ⟨_, rfl⟩) hK
theorem t_J2_get {G : OhG} {FI AI : OhI} {FL AL : OhL} {FR GR AR BR : OhQ} {AN : OhN} {C : OhC} (t : Nat × Nat) (ht : ohKd t.1 = 17) (x1 : Int32) {o : OhR} (hm : mJ2_get FI GR AR BR AN t x1 = some o) : oT G 3 iJ2_get [vR (some t), vI x1] (FI, FL, FR, GR, AI, AL, AR, BR, AN, C) (0, 0) (fun v h => v = (some (vR o)) ∧ h = (FI, FL, FR, GR, AI, AL, AR, BR, AN, C)) ohNo :=
  oT_of (by decide) rfl (Nat.le_of_ble_eq_true rfl) (x_mJ2_get t ht x1 hm ⟨rfl, rfl⟩)
abbrev iX8_isAway : OhM := (yX8_isAway, cX8_isAway, 3, (some .boolean), [])
theorem ok_X8_isAway : oOk iX8_isAway 1 := ⟨by decide, by decide, by decide +kernel⟩
noncomputable def mX8_isAway_b2 (n : Nat) (FI : OhI) (FR : OhQ) (GR : OhQ) (AR : OhQ) (BR : OhQ) (AN : OhN) (t : Nat × Nat) (x1 : Int32) (x2 : Int32) : Option ((Int32) ⊕ ((Unit) ⊕ (Unit))) :=
  (oD 17 (FR t.1 t.2 5)).bind fun a1 =>
  (mJ2_size FI a1).bind fun r2 =>
  (if r2 ≤ x2 then
  some (.inr (.inl ()))
else
  (mJ2_get FI GR AR BR AN a1 x2).bind fun r4 =>
    (oD 10 r4).bind fun a5 =>
    (mJ2_get FI GR AR BR AN a1 x2).bind fun r6 =>
    (oD 10 r6).bind fun a7 =>
    (mX1_isIn x1 (FI a5.1 a5.2 0) (FI a7.1 a7.2 1)).bind fun r8 =>
    (if r8 = 0 then
    some (.inl (x2 + (1 : Int32)))
  else
    some (.inr (.inr ()))))
theorem x_mX8_isAway_b2 {G : OhG} {FI AI : OhI} {FL AL : OhL} {FR GR AR BR : OhQ} {AN : OhN} {C : OhC} {k : Nat × Nat} {Φ : OhP} {Ψ : OhX} (n : Nat) (t : Nat × Nat) (ht : ohKd t.1 = 7) (x1 : Int32) (x2 : Int32) {r : (Int32) ⊕ ((Unit) ⊕ (Unit))} (hm : mX8_isAway_b2 n FI FR GR AR BR AN t x1 x2 = some r) (hk : ∀ v : Int32, r = .inl v → oX G 4 iX8_isAway 2 [(0, vR (some t)), (1, vI x1), (2, vI v)] [] (FI, FL, FR, GR, AI, AL, AR, BR, AN, C) k Φ Ψ) (hx1 : ∀ v : Unit, r = .inr (.inl v) → oX G 4 iX8_isAway 56 [] [] (FI, FL, FR, GR, AI, AL, AR, BR, AN, C) k Φ Ψ) (hx2 : ∀ v : Unit, r = .inr (.inr v) → oX G 4 iX8_isAway 48 [] [] (FI, FL, FR, GR, AI, AL, AR, BR, AN, C) k Φ Ψ) : oX G 4 iX8_isAway 2 [(0, vR (some t)), (1, vI x1), (2, vI x2)] [] (FI, FL, FR, GR, AI, AL, AR, BR, AN, C) k Φ Ψ := by
  unfold mX8_isAway_b2 at hm
  refine oX_iload_n dX8_isAway_2 rfl rfl ?_
  refine oX_aload_n dX8_isAway_3 rfl rfl ?_
  refine oX_getF fX8_25 rfl (oD_t ht) dX8_isAway_4 rfl ?_
  obtain ⟨a1, e1, hm⟩ := bd_s hm
  obtain ⟨r2, g2, hm⟩ := bd_s hm
  refine oX_cV (as := []) dX8_isAway_7 rfl e1 rfl (by decide) rfl ok_J2_size rfl rfl q1511 q431 q432 q132 q433 (by decide) (Nat.le_of_ble_eq_true rfl) (t_J2_size a1 ((oD_some e1).2) g2) ?_
  refine oX_icmp_ge (tgt := 56) dX8_isAway_10 (by decide) (fun c3 => ?_) (fun c3 => ?_)
  · have hm := ifp c3 hm
    exact oX_sub [] rfl (hx1 () (Option.some.inj hm).symm)
  · have hm := ifn c3 hm
    refine oX_iload_n dX8_isAway_13 rfl rfl ?_
    refine oX_aload_n dX8_isAway_14 rfl rfl ?_
    refine oX_getF fX8_25 rfl (oD_t ht) dX8_isAway_15 rfl ?_
    refine oX_iload_n dX8_isAway_18 rfl rfl ?_
    obtain ⟨r4, g4, hm⟩ := bd_s hm
    refine oX_cV (as := [vI x2]) dX8_isAway_19 rfl e1 rfl (by decide) rfl ok_J2_get rfl rfl q1512 q649 q650 q132 q651 (by decide) (Nat.le_of_ble_eq_true rfl) (t_J2_get a1 ((oD_some e1).2) x2 g4) ?_
    obtain ⟨a5, e5, hm⟩ := bd_s hm
    refine oX_cast e5 rfl (by decide) q1513 dX8_isAway_22 ?_
    refine oX_getI fX8_42 rfl (oD_self e5) dX8_isAway_25 ?_
    refine oX_aload_n dX8_isAway_28 rfl rfl ?_
    refine oX_getF fX8_25 rfl (oD_t ht) dX8_isAway_29 rfl ?_
    refine oX_iload_n dX8_isAway_32 rfl rfl ?_
    obtain ⟨r6, g6, hm⟩ := bd_s hm
    refine oX_cV (as := [vI x2]) dX8_isAway_33 rfl e1 rfl (by decide) rfl ok_J2_get rfl rfl q1512 q649 q650 q132 q651 (by decide) (Nat.le_of_ble_eq_true rfl) (t_J2_get a1 ((oD_some e1).2) x2 g6) ?_
    obtain ⟨a7, e7, hm⟩ := bd_s hm
    refine oX_cast e7 rfl (by decide) q1513 dX8_isAway_36 ?_
    refine oX_getI fX8_45 rfl (oD_self e7) dX8_isAway_39 ?_
    obtain ⟨r8, g8, hm⟩ := bd_s hm
    refine oX_cSN (as := [vI x1, vI (FI a5.1 a5.2 0), vI (FI a7.1 a7.2 1)]) dX8_isAway_42 rfl ok_X1_isIn rfl rfl q1514 q238 q129 q239 (by decide) (Nat.le_of_ble_eq_true rfl) (t_X1_isIn x1 (FI a5.1 a5.2 0) (FI a7.1 a7.2 1) g8) ?_
    refine oX_if_eq (tgt := 50) dX8_isAway_45 (by decide) (fun c9 => ?_) (fun c9 => ?_)
    · have hm := ifp c9 hm
      refine oX_iinc (v := x2 + (1 : Int32)) (ls' := [(2, vI (x2 + (1 : Int32))), (0, vR (some t)), (1, vI x1)]) dX8_isAway_50 rfl rfl (by decide) rfl ?_
      refine oX_goto (tgt := 2) dX8_isAway_53 (by decide) ?_
      exact oX_sub [1, 2, 0] rfl (hk (x2 + (1 : Int32)) (Option.some.inj hm).symm)
    · have hm := ifn c9 hm
      exact oX_sub [] rfl (hx2 () (Option.some.inj hm).symm)
theorem l_mX8_isAway_b2 {G : OhG} {FI : OhI} {FL : OhL} {FR : OhQ} {GR : OhQ} {AI : OhI} {AL : OhL} {AR : OhQ} {BR : OhQ} {AN : OhN} {C : OhC} {k : Nat × Nat} {Φ : OhP} {Ψ : OhX} (n : Nat) (t : Nat × Nat) (ht : ohKd t.1 = 7) (x1 : Int32) : ∀ (f : Nat) (x2 : Int32) (b : ((Unit) ⊕ (Unit))), lpF (fun v => mX8_isAway_b2 n FI FR GR AR BR AN t x1 v) f x2 = some b → (∀ v : Unit, b = (.inl v) → oX G 4 iX8_isAway 56 [] [] (FI, FL, FR, GR, AI, AL, AR, BR, AN, C) k Φ Ψ) → (∀ v : Unit, b = (.inr v) → oX G 4 iX8_isAway 48 [] [] (FI, FL, FR, GR, AI, AL, AR, BR, AN, C) k Φ Ψ) → oX G 4 iX8_isAway 2 [(0, vR (some t)), (1, vI x1), (2, vI x2)] [] (FI, FL, FR, GR, AI, AL, AR, BR, AN, C) k Φ Ψ := by
  intro f
  induction f with
  | zero =>
    intro x2 b hm
    cases hm
  | succ f ih =>
    intro x2 b hm hx1 hx2
    obtain ⟨r, hr, hm⟩ := lp_s hm
    refine x_mX8_isAway_b2 n t ht x1 x2 hr (fun v e => ?_) (fun v e => ?_) (fun v e => ?_)
    · subst e; exact ih v _ hm hx1 hx2
    · subst e; exact hx1 v hm.symm
    · subst e; exact hx2 v hm.symm
noncomputable def mX8_isAway (n : Nat) (FI : OhI) (FR : OhQ) (GR : OhQ) (AR : OhQ) (BR : OhQ) (AN : OhN) (t : Nat × Nat) (x1 : Int32) : Option (Int32) :=
  (lpF (fun v => mX8_isAway_b2 n FI FR GR AR BR AN t x1 v) n (0 : Int32)).bind (Sum.elim (fun v10 => some (0 : Int32)) (fun v10 => some (1 : Int32)))
theorem x_mX8_isAway {G : OhG} {FI AI : OhI} {FL AL : OhL} {FR GR AR BR : OhQ} {AN : OhN} {C : OhC} {k : Nat × Nat} {Φ : OhP} {Ψ : OhX} (n : Nat) (t : Nat × Nat) (ht : ohKd t.1 = 7) (x1 : Int32) {r : Int32} (hm : mX8_isAway n FI FR GR AR BR AN t x1 = some r) (hK : Φ (some (vI r)) (FI, FL, FR, GR, AI, AL, AR, BR, AN, C)) : oX G 4 iX8_isAway 0 [(0, vR (some t)), (1, vI x1)] [] (FI, FL, FR, GR, AI, AL, AR, BR, AN, C) k Φ Ψ := by
  unfold mX8_isAway at hm
  refine oX_iconst (v := (0 : Int32)) dX8_isAway_0 (by decide) ?_
  refine oX_istore_n (ls' := [(2, vI (0 : Int32)), (0, vR (some t)), (1, vI x1)]) dX8_isAway_1 rfl (by decide) rfl ?_
  obtain ⟨b10, g10, hm⟩ := bd_s hm
  refine oX_sub [1, 2, 0] rfl (l_mX8_isAway_b2 n t ht x1 n (0 : Int32) _ g10 (fun v10 e10 => ?_) (fun v10 e10 => ?_))
  · subst e10
    have hm := el1 hm
    refine oX_iconst (v := (0 : Int32)) dX8_isAway_56 (by decide) ?_
    obtain rfl := Option.some.inj hm
    exact oX_iret dX8_isAway_57 rfl (by decide) hK
  · subst e10
    have hm := el2 hm
    refine oX_iconst (v := (1 : Int32)) dX8_isAway_48 (by decide) ?_
    obtain rfl := Option.some.inj hm
    exact oX_iret dX8_isAway_49 rfl (by decide) hK
theorem t_X8_isAway {G : OhG} {FI AI : OhI} {FL AL : OhL} {FR GR AR BR : OhQ} {AN : OhN} {C : OhC} (n : Nat) (t : Nat × Nat) (ht : ohKd t.1 = 7) (x1 : Int32) {o : Int32} (hm : mX8_isAway n FI FR GR AR BR AN t x1 = some o) : oT G 4 iX8_isAway [vR (some t), vI x1] (FI, FL, FR, GR, AI, AL, AR, BR, AN, C) (0, 0) (fun v h => v = (some (vI o)) ∧ h = (FI, FL, FR, GR, AI, AL, AR, BR, AN, C)) ohNo :=
  oT_of (by decide) rfl (Nat.le_of_ble_eq_true rfl) (x_mX8_isAway n t ht x1 hm ⟨rfl, rfl⟩)
abbrev iX13_measures : OhM := (yX13_measures, cX13_measures, 2, (some .boolean), [])
theorem ok_X13_measures : oOk iX13_measures 1 := ⟨by decide, by decide, by decide +kernel⟩
noncomputable def mX13_measures (FI : OhI) (t : Nat × Nat) (x1 : Int32) : Option (Int32) :=
  (if (FI t.1 t.2 1) = (60 : Int32) then
  (if (FI t.1 t.2 2) ≤ x1 then
    some (0 : Int32)
  else
    some (1 : Int32))
else
  (if (FI t.1 t.2 1) = (61 : Int32) then
    (if x1 = (FI t.1 t.2 2) then
      some (1 : Int32)
    else
      some (0 : Int32))
  else
    (if x1 ≤ (FI t.1 t.2 2) then
      some (0 : Int32)
    else
      some (1 : Int32))))
theorem x_mX13_measures {G : OhG} {FI AI : OhI} {FL AL : OhL} {FR GR AR BR : OhQ} {AN : OhN} {C : OhC} {k : Nat × Nat} {Φ : OhP} {Ψ : OhX} (t : Nat × Nat) (ht : ohKd t.1 = 12) (x1 : Int32) {r : Int32} (hm : mX13_measures FI t x1 = some r) (hK : Φ (some (vI r)) (FI, FL, FR, GR, AI, AL, AR, BR, AN, C)) : oX G 1 iX13_measures 0 [(0, vR (some t)), (1, vI x1)] [] (FI, FL, FR, GR, AI, AL, AR, BR, AN, C) k Φ Ψ := by
  unfold mX13_measures at hm
  refine oX_aload_n dX13_measures_0 rfl rfl ?_
  refine oX_getI fX13_15 rfl (oD_t ht) dX13_measures_1 ?_
  refine oX_bipush (v := (60 : Int32)) dX13_measures_4 (by decide) ?_
  refine oX_icmp_ne (tgt := 25) dX13_measures_6 (by decide) (fun c1 => ?_) (fun c1 => ?_)
  · have hm := ifp c1 hm
    refine oX_iload_n dX13_measures_9 rfl rfl ?_
    refine oX_aload_n dX13_measures_10 rfl rfl ?_
    refine oX_getI fX13_18 rfl (oD_t ht) dX13_measures_11 ?_
    refine oX_icmp_ge (tgt := 21) dX13_measures_14 (by decide) (fun c2 => ?_) (fun c2 => ?_)
    · have hm := ifp c2 hm
      refine oX_iconst (v := (0 : Int32)) dX13_measures_21 (by decide) ?_
      refine oX_goto (tgt := 63) dX13_measures_22 (by decide) ?_
      obtain rfl := Option.some.inj hm
      exact oX_iret dX13_measures_63 rfl (by decide) hK
    · have hm := ifn c2 hm
      refine oX_iconst (v := (1 : Int32)) dX13_measures_17 (by decide) ?_
      refine oX_goto (tgt := 63) dX13_measures_18 (by decide) ?_
      obtain rfl := Option.some.inj hm
      exact oX_iret dX13_measures_63 rfl (by decide) hK
  · have hm := ifn c1 hm
    refine oX_aload_n dX13_measures_25 rfl rfl ?_
    refine oX_getI fX13_15 rfl (oD_t ht) dX13_measures_26 ?_
    refine oX_bipush (v := (61 : Int32)) dX13_measures_29 (by decide) ?_
    refine oX_icmp_ne (tgt := 50) dX13_measures_31 (by decide) (fun c3 => ?_) (fun c3 => ?_)
    · have hm := ifp c3 hm
      refine oX_iload_n dX13_measures_34 rfl rfl ?_
      refine oX_aload_n dX13_measures_35 rfl rfl ?_
      refine oX_getI fX13_18 rfl (oD_t ht) dX13_measures_36 ?_
      refine oX_icmp_ne (tgt := 46) dX13_measures_39 (by decide) (fun c4 => ?_) (fun c4 => ?_)
      · have hm := ifp c4 hm
        refine oX_iconst (v := (1 : Int32)) dX13_measures_42 (by decide) ?_
        refine oX_goto (tgt := 63) dX13_measures_43 (by decide) ?_
        obtain rfl := Option.some.inj hm
        exact oX_iret dX13_measures_63 rfl (by decide) hK
      · have hm := ifn c4 hm
        refine oX_iconst (v := (0 : Int32)) dX13_measures_46 (by decide) ?_
        refine oX_goto (tgt := 63) dX13_measures_47 (by decide) ?_
        obtain rfl := Option.some.inj hm
        exact oX_iret dX13_measures_63 rfl (by decide) hK
    · have hm := ifn c3 hm
      refine oX_iload_n dX13_measures_50 rfl rfl ?_
      refine oX_aload_n dX13_measures_51 rfl rfl ?_
      refine oX_getI fX13_18 rfl (oD_t ht) dX13_measures_52 ?_
      refine oX_icmp_le (tgt := 62) dX13_measures_55 (by decide) (fun c5 => ?_) (fun c5 => ?_)
      · have hm := ifp c5 hm
        refine oX_iconst (v := (0 : Int32)) dX13_measures_62 (by decide) ?_
        obtain rfl := Option.some.inj hm
        exact oX_iret dX13_measures_63 rfl (by decide) hK
      · have hm := ifn c5 hm
        refine oX_iconst (v := (1 : Int32)) dX13_measures_58 (by decide) ?_
        refine oX_goto (tgt := 63) dX13_measures_59 (by decide) ?_
        obtain rfl := Option.some.inj hm
        exact oX_iret dX13_measures_63 rfl (by decide) hK
theorem t_X13_measures {G : OhG} {FI AI : OhI} {FL AL : OhL} {FR GR AR BR : OhQ} {AN : OhN} {C : OhC} (t : Nat × Nat) (ht : ohKd t.1 = 12) (x1 : Int32) {o : Int32} (hm : mX13_measures FI t x1 = some o) : oT G 1 iX13_measures [vR (some t), vI x1] (FI, FL, FR, GR, AI, AL, AR, BR, AN, C) (0, 0) (fun v h => v = (some (vI o)) ∧ h = (FI, FL, FR, GR, AI, AL, AR, BR, AN, C)) ohNo :=
  oT_of (by decide) rfl (Nat.le_of_ble_eq_true rfl) (x_mX13_measures t ht x1 hm ⟨rfl, rfl⟩)
abbrev iX11_init : OhM := (yX11_init, cX11_init, 3, none, [])
theorem ok_X11_init : oOk iX11_init 2 := ⟨by decide, by decide, by decide +kernel⟩
noncomputable def mX11_init (FI : OhI) (t : Nat × Nat) (x1 : Int32) (x2 : Int32) : Option (OhI) :=
  oLet (sA FI t.1 t.2 (uA (FI t.1 t.2) 0 x1)) fun FI1 =>
  oLet (sA FI1 t.1 t.2 (uA (FI1 t.1 t.2) 1 x2)) fun FI2 =>
  some FI2
theorem x_mX11_init {G : OhG} {FI AI : OhI} {FL AL : OhL} {FR GR AR BR : OhQ} {AN : OhN} {C : OhC} {k : Nat × Nat} {Φ : OhP} {Ψ : OhX} (t : Nat × Nat) (ht : ohKd t.1 = 10) (x1 : Int32) (x2 : Int32) {r : OhI} (hm : mX11_init FI t x1 x2 = some r) (hK : Φ none (r, FL, FR, GR, AI, AL, AR, BR, AN, C)) : oX G 1 iX11_init 0 [(0, vR (some t)), (1, vI x1), (2, vI x2)] [] (FI, FL, FR, GR, AI, AL, AR, BR, AN, C) k Φ Ψ := by
  unfold mX11_init at hm
  refine oX_aload_n dX11_init_0 rfl rfl ?_
  refine oX_objInit (a := t) rfl q1069 q176 q177 dX11_init_1 (by decide) (Nat.le_of_ble_eq_true rfl) ?_
  refine oX_aload_n dX11_init_4 rfl rfl ?_
  refine oX_iload_n dX11_init_5 rfl rfl ?_
  obtain ⟨FI1, hFI1, hm⟩ := oLs hm
  refine oX_putI fX11_7 rfl (fun _ => rfl) (oD_t ht) dX11_init_6 ⟨rfl, rfl⟩ hFI1 ?_
  refine oX_aload_n dX11_init_9 rfl rfl ?_
  refine oX_iload_n dX11_init_10 rfl rfl ?_
  obtain ⟨FI2, hFI2, hm⟩ := oLs hm
  refine oX_putI fX11_13 rfl (fun _ => rfl) (oD_t ht) dX11_init_11 ⟨rfl, rfl⟩ hFI2 ?_
  obtain rfl := Option.some.inj hm
  exact oX_vret dX11_init_14 rfl hK
theorem t_X11_init {G : OhG} {FI AI : OhI} {FL AL : OhL} {FR GR AR BR : OhQ} {AN : OhN} {C : OhC} (t : Nat × Nat) (ht : ohKd t.1 = 10) (x1 : Int32) (x2 : Int32) {o : OhI} (hm : mX11_init FI t x1 x2 = some o) : oT G 1 iX11_init [vR (some t), vI x1, vI x2] (FI, FL, FR, GR, AI, AL, AR, BR, AN, C) (0, 0) (fun v h => v = none ∧ h = (o, FL, FR, GR, AI, AL, AR, BR, AN, C)) ohNo :=
  oT_of (by decide) rfl (Nat.le_of_ble_eq_true rfl) (x_mX11_init t ht x1 x2 hm ⟨rfl, rfl⟩)
abbrev iJ4_newLength : OhM := (yJ4_newLength, cJ4_newLength, 4, (some .int), [])
theorem ok_J4_newLength : oOk iJ4_newLength 3 := ⟨by decide, by decide, by decide +kernel⟩
noncomputable def mJ4_newLength_j21 (x0 : Int32) (x1 : Int32) : Option (Int32) :=
  none
theorem x_mJ4_newLength_j21 {G : OhG} {FI AI : OhI} {FL AL : OhL} {FR GR AR BR : OhQ} {AN : OhN} {C : OhC} {k : Nat × Nat} {Φ : OhP} {Ψ : OhX} (x0 : Int32) (x1 : Int32) {r : Int32} (hm : mJ4_newLength_j21 x0 x1 = some r) (hK : Φ (some (vI r)) (FI, FL, FR, GR, AI, AL, AR, BR, AN, C)) : oX G 2 iJ4_newLength 21 [(0, vI x0), (1, vI x1)] [] (FI, FL, FR, GR, AI, AL, AR, BR, AN, C) k Φ Ψ := by
  unfold mJ4_newLength_j21 at hm
  refine oX_iload_n dJ4_newLength_21 rfl rfl ?_
  refine oX_iload_n dJ4_newLength_22 rfl rfl ?_
  cases hm
noncomputable def mJ4_newLength (x0 : Int32) (x1 : Int32) (x2 : Int32) : Option (Int32) :=
  (mJ3_max x1 x2).bind fun r1 =>
  (if (x0 + r1) ≤ (0 : Int32) then
  mJ4_newLength_j21 x0 x1
else
  (if (2147483639 : Int32) < (x0 + r1) then
    mJ4_newLength_j21 x0 x1
  else
    some (x0 + r1)))
theorem x_mJ4_newLength {G : OhG} {FI AI : OhI} {FL AL : OhL} {FR GR AR BR : OhQ} {AN : OhN} {C : OhC} {k : Nat × Nat} {Φ : OhP} {Ψ : OhX} (x0 : Int32) (x1 : Int32) (x2 : Int32) {r : Int32} (hm : mJ4_newLength x0 x1 x2 = some r) (hK : Φ (some (vI r)) (FI, FL, FR, GR, AI, AL, AR, BR, AN, C)) : oX G 2 iJ4_newLength 0 [(0, vI x0), (1, vI x1), (2, vI x2)] [] (FI, FL, FR, GR, AI, AL, AR, BR, AN, C) k Φ Ψ := by
  unfold mJ4_newLength at hm
  refine oX_iload_n dJ4_newLength_0 rfl rfl ?_
  refine oX_iload_n dJ4_newLength_1 rfl rfl ?_
  refine oX_iload_n dJ4_newLength_2 rfl rfl ?_
  obtain ⟨r1, g1, hm⟩ := bd_s hm
  refine oX_cS (as := [vI x1, vI x2]) dJ4_newLength_3 rfl ok_J3_max rfl rfl q515 q235 q134 q236 (by decide) (Nat.le_of_ble_eq_true rfl) (t_J3_max x1 x2 g1) ?_
  refine oX_iadd dJ4_newLength_6 ?_
  refine oX_istore_n (ls' := [(3, vI (x0 + r1)), (0, vI x0), (1, vI x1), (2, vI x2)]) dJ4_newLength_7 rfl (by decide) rfl ?_
  refine oX_iconst (v := (0 : Int32)) dJ4_newLength_8 (by decide) ?_
  refine oX_iload_n dJ4_newLength_9 rfl rfl ?_
  refine oX_icmp_ge (tgt := 21) dJ4_newLength_10 (by decide) (fun c2 => ?_) (fun c2 => ?_)
  · have hm := ifp c2 hm
    exact oX_sub [1, 2] rfl (x_mJ4_newLength_j21 x0 x1 hm hK)
  · have hm := ifn c2 hm
    refine oX_iload_n dJ4_newLength_13 rfl rfl ?_
    refine oX_ldc q516 dJ4_newLength_14 ?_
    refine oX_icmp_gt (tgt := 21) dJ4_newLength_16 (by decide) (fun c3 => ?_) (fun c3 => ?_)
    · have hm := ifp c3 hm
      exact oX_sub [1, 2] rfl (x_mJ4_newLength_j21 x0 x1 hm hK)
    · have hm := ifn c3 hm
      refine oX_iload_n dJ4_newLength_19 rfl rfl ?_
      obtain rfl := Option.some.inj hm
      exact oX_iret dJ4_newLength_20 rfl rfl hK
theorem t_J4_newLength {G : OhG} {FI AI : OhI} {FL AL : OhL} {FR GR AR BR : OhQ} {AN : OhN} {C : OhC} (x0 : Int32) (x1 : Int32) (x2 : Int32) {o : Int32} (hm : mJ4_newLength x0 x1 x2 = some o) : oT G 2 iJ4_newLength [vI x0, vI x1, vI x2] (FI, FL, FR, GR, AI, AL, AR, BR, AN, C) (0, 0) (fun v h => v = (some (vI o)) ∧ h = (FI, FL, FR, GR, AI, AL, AR, BR, AN, C)) ohNo :=
  oT_of (by decide) rfl (Nat.le_of_ble_eq_true rfl) (x_mJ4_newLength x0 x1 x2 hm ⟨rfl, rfl⟩)
abbrev iX13_init : OhM := (yX13_init, cX13_init, 6, none, [])
theorem ok_X13_init : oOk iX13_init 5 := ⟨by decide, by decide, by decide +kernel⟩
noncomputable def mX13_init (FI : OhI) (FR : OhQ) (t : Nat × Nat) (x1 : Int32) (x2 : Int32) (x3 : Int32) (x4 : OhR) (x5 : OhR) : Option (OhI × OhQ) :=
  oLet (sA FI t.1 t.2 (uA (FI t.1 t.2) 0 x1)) fun FI1 =>
  oLet (sA FI1 t.1 t.2 (uA (FI1 t.1 t.2) 1 x2)) fun FI2 =>
  oLet (sA FI2 t.1 t.2 (uA (FI2 t.1 t.2) 2 x3)) fun FI3 =>
  oLet (sA FR t.1 t.2 (uA (FR t.1 t.2) 3 x4)) fun FR4 =>
  oLet (sA FR4 t.1 t.2 (uA (FR4 t.1 t.2) 4 x5)) fun FR5 =>
  some (FI3, FR5)
theorem x_mX13_init {G : OhG} {FI AI : OhI} {FL AL : OhL} {FR GR AR BR : OhQ} {AN : OhN} {C : OhC} {k : Nat × Nat} {Φ : OhP} {Ψ : OhX} (t : Nat × Nat) (ht : ohKd t.1 = 12) (x1 : Int32) (x2 : Int32) (x3 : Int32) (x4 : OhR) (x5 : OhR) {r : OhI × OhQ} (hm : mX13_init FI FR t x1 x2 x3 x4 x5 = some r) (hK : Φ none (r.1, FL, r.2, GR, AI, AL, AR, BR, AN, C)) : oX G 1 iX13_init 0 [(0, vR (some t)), (1, vI x1), (2, vI x2), (3, vI x3), (4, vR x4), (5, vR x5)] [] (FI, FL, FR, GR, AI, AL, AR, BR, AN, C) k Φ Ψ := by
  unfold mX13_init at hm
  refine oX_aload_n dX13_init_0 rfl rfl ?_
  refine oX_objInit (a := t) rfl q1227 q176 q177 dX13_init_1 (by decide) (Nat.le_of_ble_eq_true rfl) ?_
  refine oX_aload_n dX13_init_4 rfl rfl ?_
  refine oX_iload_n dX13_init_5 rfl rfl ?_
  obtain ⟨FI1, hFI1, hm⟩ := oLs hm
  refine oX_putI fX13_9 rfl (fun _ => rfl) (oD_t ht) dX13_init_6 ⟨rfl, rfl⟩ hFI1 ?_
  refine oX_aload_n dX13_init_9 rfl rfl ?_
  refine oX_iload_n dX13_init_10 rfl rfl ?_
  obtain ⟨FI2, hFI2, hm⟩ := oLs hm
  refine oX_putI fX13_15 rfl (fun _ => rfl) (oD_t ht) dX13_init_11 ⟨rfl, rfl⟩ hFI2 ?_
  refine oX_aload_n dX13_init_14 rfl rfl ?_
  refine oX_iload_n dX13_init_15 rfl rfl ?_
  obtain ⟨FI3, hFI3, hm⟩ := oLs hm
  refine oX_putI fX13_18 rfl (fun _ => rfl) (oD_t ht) dX13_init_16 ⟨rfl, rfl⟩ hFI3 ?_
  refine oX_aload_n dX13_init_19 rfl rfl ?_
  refine oX_aload dX13_init_20 rfl ?_
  obtain ⟨FR4, hFR4, hm⟩ := oLs hm
  refine oX_putF fX13_21 rfl (fun _ => rfl) (oD_t ht) dX13_init_22 (by first | exact Or.inl ⟨_, rfl⟩ | exact Or.inr ⟨_, rfl⟩) hFR4 ?_
  refine oX_aload_n dX13_init_25 rfl rfl ?_
  refine oX_aload dX13_init_26 rfl ?_
  obtain ⟨FR5, hFR5, hm⟩ := oLs hm
  refine oX_putF fX13_25 rfl (fun _ => rfl) (oD_t ht) dX13_init_28 (by first | exact Or.inl ⟨_, rfl⟩ | exact Or.inr ⟨_, rfl⟩) hFR5 ?_
  obtain rfl := Option.some.inj hm
  exact oX_vret dX13_init_31 rfl hK
theorem t_X13_init {G : OhG} {FI AI : OhI} {FL AL : OhL} {FR GR AR BR : OhQ} {AN : OhN} {C : OhC} (t : Nat × Nat) (ht : ohKd t.1 = 12) (x1 : Int32) (x2 : Int32) (x3 : Int32) (x4 : OhR) (x5 : OhR) {o : OhI × OhQ} (hm : mX13_init FI FR t x1 x2 x3 x4 x5 = some o) : oT G 1 iX13_init [vR (some t), vI x1, vI x2, vI x3, vR x4, vR x5] (FI, FL, FR, GR, AI, AL, AR, BR, AN, C) (0, 0) (fun v h => v = none ∧ h = (o.1, FL, o.2, GR, AI, AL, AR, BR, AN, C)) ohNo :=
  oT_of (by decide) rfl (Nat.le_of_ble_eq_true rfl) (x_mX13_init t ht x1 x2 x3 x4 x5 hm ⟨rfl, rfl⟩)
abbrev iX12_init : OhM := (yX12_init, cX12_init, 3, none, [])
theorem ok_X12_init : oOk iX12_init 2 := ⟨by decide, by decide, by decide +kernel⟩
noncomputable def mX12_init (FI : OhI) (FR : OhQ) (t : Nat × Nat) (x1 : Int32) (x2 : OhR) : Option (OhI × OhQ) :=
  oLet (sA FI t.1 t.2 (uA (FI t.1 t.2) 0 x1)) fun FI1 =>
  oLet (sA FR t.1 t.2 (uA (FR t.1 t.2) 1 x2)) fun FR2 =>
  some (FI1, FR2)
theorem x_mX12_init {G : OhG} {FI AI : OhI} {FL AL : OhL} {FR GR AR BR : OhQ} {AN : OhN} {C : OhC} {k : Nat × Nat} {Φ : OhP} {Ψ : OhX} (t : Nat × Nat) (ht : ohKd t.1 = 11) (x1 : Int32) (x2 : OhR) {r : OhI × OhQ} (hm : mX12_init FI FR t x1 x2 = some r) (hK : Φ none (r.1, FL, r.2, GR, AI, AL, AR, BR, AN, C)) : oX G 1 iX12_init 0 [(0, vR (some t)), (1, vI x1), (2, vR x2)] [] (FI, FL, FR, GR, AI, AL, AR, BR, AN, C) k Φ Ψ := by
  unfold mX12_init at hm
  refine oX_aload_n dX12_init_0 rfl rfl ?_
  refine oX_objInit (a := t) rfl q1253 q176 q177 dX12_init_1 (by decide) (Nat.le_of_ble_eq_true rfl) ?_
  refine oX_aload_n dX12_init_4 rfl rfl ?_
  refine oX_iload_n dX12_init_5 rfl rfl ?_
  obtain ⟨FI1, hFI1, hm⟩ := oLs hm
  refine oX_putI fX12_7 rfl (fun _ => rfl) (oD_t ht) dX12_init_6 ⟨rfl, rfl⟩ hFI1 ?_
  refine oX_aload_n dX12_init_9 rfl rfl ?_
  refine oX_aload_n dX12_init_10 rfl rfl ?_
  obtain ⟨FR2, hFR2, hm⟩ := oLs hm
  refine oX_putF fX12_13 rfl (fun _ => rfl) (oD_t ht) dX12_init_11 (by first | exact Or.inl ⟨_, rfl⟩ | exact Or.inr ⟨_, rfl⟩) hFR2 ?_
  obtain rfl := Option.some.inj hm
  exact oX_vret dX12_init_14 rfl hK
theorem t_X12_init {G : OhG} {FI AI : OhI} {FL AL : OhL} {FR GR AR BR : OhQ} {AN : OhN} {C : OhC} (t : Nat × Nat) (ht : ohKd t.1 = 11) (x1 : Int32) (x2 : OhR) {o : OhI × OhQ} (hm : mX12_init FI FR t x1 x2 = some o) : oT G 1 iX12_init [vR (some t), vI x1, vR x2] (FI, FL, FR, GR, AI, AL, AR, BR, AN, C) (0, 0) (fun v h => v = none ∧ h = (o.1, FL, o.2, GR, AI, AL, AR, BR, AN, C)) ohNo :=
  oT_of (by decide) rfl (Nat.le_of_ble_eq_true rfl) (x_mX12_init t ht x1 x2 hm ⟨rfl, rfl⟩)
abbrev iX14_init : OhM := (yX14_init, cX14_init, 6, none, [])
theorem ok_X14_init : oOk iX14_init 5 := ⟨by decide, by decide, by decide +kernel⟩
noncomputable def mX14_init (FI : OhI) (t : Nat × Nat) (x1 : Int32) (x2 : Int32) (x3 : Int32) (x4 : Int32) (x5 : Int32) : Option (OhI) :=
  oLet (sA FI t.1 t.2 (uA (FI t.1 t.2) 0 x1)) fun FI1 =>
  oLet (sA FI1 t.1 t.2 (uA (FI1 t.1 t.2) 1 x2)) fun FI2 =>
  oLet (sA FI2 t.1 t.2 (uA (FI2 t.1 t.2) 2 x3)) fun FI3 =>
  oLet (sA FI3 t.1 t.2 (uA (FI3 t.1 t.2) 3 x4)) fun FI4 =>
  oLet (sA FI4 t.1 t.2 (uA (FI4 t.1 t.2) 4 x5)) fun FI5 =>
  some FI5
theorem x_mX14_init {G : OhG} {FI AI : OhI} {FL AL : OhL} {FR GR AR BR : OhQ} {AN : OhN} {C : OhC} {k : Nat × Nat} {Φ : OhP} {Ψ : OhX} (t : Nat × Nat) (ht : ohKd t.1 = 13) (x1 : Int32) (x2 : Int32) (x3 : Int32) (x4 : Int32) (x5 : Int32) {r : OhI} (hm : mX14_init FI t x1 x2 x3 x4 x5 = some r) (hK : Φ none (r, FL, FR, GR, AI, AL, AR, BR, AN, C)) : oX G 1 iX14_init 0 [(0, vR (some t)), (1, vI x1), (2, vI x2), (3, vI x3), (4, vI x4), (5, vI x5)] [] (FI, FL, FR, GR, AI, AL, AR, BR, AN, C) k Φ Ψ := by
  unfold mX14_init at hm
  refine oX_aload_n dX14_init_0 rfl rfl ?_
  refine oX_objInit (a := t) rfl q1276 q176 q177 dX14_init_1 (by decide) (Nat.le_of_ble_eq_true rfl) ?_
  refine oX_aload_n dX14_init_4 rfl rfl ?_
  refine oX_iload_n dX14_init_5 rfl rfl ?_
  obtain ⟨FI1, hFI1, hm⟩ := oLs hm
  refine oX_putI fX14_7 rfl (fun _ => rfl) (oD_t ht) dX14_init_6 ⟨rfl, rfl⟩ hFI1 ?_
  refine oX_aload_n dX14_init_9 rfl rfl ?_
  refine oX_iload_n dX14_init_10 rfl rfl ?_
  obtain ⟨FI2, hFI2, hm⟩ := oLs hm
  refine oX_putI fX14_13 rfl (fun _ => rfl) (oD_t ht) dX14_init_11 ⟨rfl, rfl⟩ hFI2 ?_
  refine oX_aload_n dX14_init_14 rfl rfl ?_
  refine oX_iload_n dX14_init_15 rfl rfl ?_
  obtain ⟨FI3, hFI3, hm⟩ := oLs hm
  refine oX_putI fX14_16 rfl (fun _ => rfl) (oD_t ht) dX14_init_16 ⟨rfl, rfl⟩ hFI3 ?_
  refine oX_aload_n dX14_init_19 rfl rfl ?_
  refine oX_iload dX14_init_20 rfl ?_
  obtain ⟨FI4, hFI4, hm⟩ := oLs hm
  refine oX_putI fX14_19 rfl (fun _ => rfl) (oD_t ht) dX14_init_22 ⟨rfl, rfl⟩ hFI4 ?_
  refine oX_aload_n dX14_init_25 rfl rfl ?_
  refine oX_iload dX14_init_26 rfl ?_
  obtain ⟨FI5, hFI5, hm⟩ := oLs hm
  refine oX_putI fX14_22 rfl (fun _ => rfl) (oD_t ht) dX14_init_28 ⟨rfl, rfl⟩ hFI5 ?_
  obtain rfl := Option.some.inj hm
  exact oX_vret dX14_init_31 rfl hK
theorem t_X14_init {G : OhG} {FI AI : OhI} {FL AL : OhL} {FR GR AR BR : OhQ} {AN : OhN} {C : OhC} (t : Nat × Nat) (ht : ohKd t.1 = 13) (x1 : Int32) (x2 : Int32) (x3 : Int32) (x4 : Int32) (x5 : Int32) {o : OhI} (hm : mX14_init FI t x1 x2 x3 x4 x5 = some o) : oT G 1 iX14_init [vR (some t), vI x1, vI x2, vI x3, vI x4, vI x5] (FI, FL, FR, GR, AI, AL, AR, BR, AN, C) (0, 0) (fun v h => v = none ∧ h = (o, FL, FR, GR, AI, AL, AR, BR, AN, C)) ohNo :=
  oT_of (by decide) rfl (Nat.le_of_ble_eq_true rfl) (x_mX14_init t ht x1 x2 x3 x4 x5 hm ⟨rfl, rfl⟩)
abbrev iX15_hoursOf : OhM := (yX15_hoursOf, cX15_hoursOf, 2, (some .int), [])
theorem ok_X15_hoursOf : oOk iX15_hoursOf 2 := ⟨by decide, by decide, by decide +kernel⟩
noncomputable def mX15_hoursOf (FI : OhI) (x0 : Int32) (x1 : OhR) : Option (Int32) :=
  (if x0 = 0 then
  some (2 : Int32)
else
  (if x0 = (1 : Int32) then
    some (3 : Int32)
  else
    (oD 4 x1).bind fun a3 =>
      some (FI a3.1 a3.2 1)))
theorem x_mX15_hoursOf {G : OhG} {FI AI : OhI} {FL AL : OhL} {FR GR AR BR : OhQ} {AN : OhN} {C : OhC} {k : Nat × Nat} {Φ : OhP} {Ψ : OhX} (x0 : Int32) (x1 : OhR) {r : Int32} (hm : mX15_hoursOf FI x0 x1 = some r) (hK : Φ (some (vI r)) (FI, FL, FR, GR, AI, AL, AR, BR, AN, C)) : oX G 1 iX15_hoursOf 0 [(0, vI x0), (1, vR x1)] [] (FI, FL, FR, GR, AI, AL, AR, BR, AN, C) k Φ Ψ := by
  unfold mX15_hoursOf at hm
  refine oX_iload_n dX15_hoursOf_0 rfl rfl ?_
  refine oX_if_ne (tgt := 8) dX15_hoursOf_1 (by decide) (fun c1 => ?_) (fun c1 => ?_)
  · have hm := ifp c1 hm
    refine oX_iconst (v := (2 : Int32)) dX15_hoursOf_4 (by decide) ?_
    refine oX_goto (tgt := 21) dX15_hoursOf_5 (by decide) ?_
    obtain rfl := Option.some.inj hm
    exact oX_iret dX15_hoursOf_21 rfl rfl hK
  · have hm := ifn c1 hm
    refine oX_iload_n dX15_hoursOf_8 rfl rfl ?_
    refine oX_iconst (v := (1 : Int32)) dX15_hoursOf_9 (by decide) ?_
    refine oX_icmp_ne (tgt := 17) dX15_hoursOf_10 (by decide) (fun c2 => ?_) (fun c2 => ?_)
    · have hm := ifp c2 hm
      refine oX_iconst (v := (3 : Int32)) dX15_hoursOf_13 (by decide) ?_
      refine oX_goto (tgt := 21) dX15_hoursOf_14 (by decide) ?_
      obtain rfl := Option.some.inj hm
      exact oX_iret dX15_hoursOf_21 rfl rfl hK
    · have hm := ifn c2 hm
      refine oX_aload_n dX15_hoursOf_17 rfl rfl ?_
      obtain ⟨a3, e3, hm⟩ := bd_s hm
      refine oX_getI fX15_38 rfl e3 dX15_hoursOf_18 ?_
      obtain rfl := Option.some.inj hm
      exact oX_iret dX15_hoursOf_21 rfl rfl hK
theorem t_X15_hoursOf {G : OhG} {FI AI : OhI} {FL AL : OhL} {FR GR AR BR : OhQ} {AN : OhN} {C : OhC} (x0 : Int32) (x1 : OhR) {o : Int32} (hm : mX15_hoursOf FI x0 x1 = some o) : oT G 1 iX15_hoursOf [vI x0, vR x1] (FI, FL, FR, GR, AI, AL, AR, BR, AN, C) (0, 0) (fun v h => v = (some (vI o)) ∧ h = (FI, FL, FR, GR, AI, AL, AR, BR, AN, C)) ohNo :=
  oT_of (by decide) rfl (Nat.le_of_ble_eq_true rfl) (x_mX15_hoursOf x0 x1 hm ⟨rfl, rfl⟩)
abbrev iX15_init : OhM := (yX15_init, cX15_init, 7, none, [])
theorem ok_X15_init : oOk iX15_init 6 := ⟨by decide, by decide, by decide +kernel⟩
noncomputable def mX15_init (FI : OhI) (FR : OhQ) (t : Nat × Nat) (x1 : Int32) (x2 : Int32) (x3 : Int32) (x4 : Int32) (x5 : OhR) (x6 : Int32) : Option (OhI × OhQ) :=
  oLet (sA FI t.1 t.2 (uA (FI t.1 t.2) 0 x1)) fun FI1 =>
  oLet (sA FI1 t.1 t.2 (uA (FI1 t.1 t.2) 1 x2)) fun FI2 =>
  oLet (sA FI2 t.1 t.2 (uA (FI2 t.1 t.2) 2 x4)) fun FI3 =>
  oLet (sA FR t.1 t.2 (uA (FR t.1 t.2) 6 x5)) fun FR4 =>
  oLet (sA FI3 t.1 t.2 (uA (FI3 t.1 t.2) 3 x6)) fun FI5 =>
  oLet (sA FI5 t.1 t.2 (uA (FI5 t.1 t.2) 4 (((24 : Int32) * x2) + x3))) fun FI6 =>
  (mX15_hoursOf FI6 x4 x5).bind fun r7 =>
  oLet (sA FI6 t.1 t.2 (uA (FI6 t.1 t.2) 5 ((FI6 t.1 t.2 4) + r7))) fun FI8 =>
  some (FI8, FR4)
theorem x_mX15_init {G : OhG} {FI AI : OhI} {FL AL : OhL} {FR GR AR BR : OhQ} {AN : OhN} {C : OhC} {k : Nat × Nat} {Φ : OhP} {Ψ : OhX} (t : Nat × Nat) (ht : ohKd t.1 = 14) (x1 : Int32) (x2 : Int32) (x3 : Int32) (x4 : Int32) (x5 : OhR) (x6 : Int32) {r : OhI × OhQ} (hm : mX15_init FI FR t x1 x2 x3 x4 x5 x6 = some r) (hK : Φ none (r.1, FL, r.2, GR, AI, AL, AR, BR, AN, C)) : oX G 2 iX15_init 0 [(0, vR (some t)), (1, vI x1), (2, vI x2), (3, vI x3), (4, vI x4), (5, vR x5), (6, vI x6)] [] (FI, FL, FR, GR, AI, AL, AR, BR, AN, C) k Φ Ψ := by
  unfold mX15_init at hm
  refine oX_aload_n dX15_init_0 rfl rfl ?_
  refine oX_objInit (a := t) rfl q1313 q176 q177 dX15_init_1 (by decide) (Nat.le_of_ble_eq_true rfl) ?_
  refine oX_aload_n dX15_init_4 rfl rfl ?_
  refine oX_iload_n dX15_init_5 rfl rfl ?_
  obtain ⟨FI1, hFI1, hm⟩ := oLs hm
  refine oX_putI fX15_9 rfl (fun _ => rfl) (oD_t ht) dX15_init_6 ⟨rfl, rfl⟩ hFI1 ?_
  refine oX_aload_n dX15_init_9 rfl rfl ?_
  refine oX_iload_n dX15_init_10 rfl rfl ?_
  obtain ⟨FI2, hFI2, hm⟩ := oLs hm
  refine oX_putI fX15_15 rfl (fun _ => rfl) (oD_t ht) dX15_init_11 ⟨rfl, rfl⟩ hFI2 ?_
  refine oX_aload_n dX15_init_14 rfl rfl ?_
  refine oX_iload dX15_init_15 rfl ?_
  obtain ⟨FI3, hFI3, hm⟩ := oLs hm
  refine oX_putI fX15_18 rfl (fun _ => rfl) (oD_t ht) dX15_init_17 ⟨rfl, rfl⟩ hFI3 ?_
  refine oX_aload_n dX15_init_20 rfl rfl ?_
  refine oX_aload dX15_init_21 rfl ?_
  obtain ⟨FR4, hFR4, hm⟩ := oLs hm
  refine oX_putF fX15_21 rfl (fun _ => rfl) (oD_t ht) dX15_init_23 (by first | exact Or.inl ⟨_, rfl⟩ | exact Or.inr ⟨_, rfl⟩) hFR4 ?_
  refine oX_aload_n dX15_init_26 rfl rfl ?_
  refine oX_iload dX15_init_27 rfl ?_
  obtain ⟨FI5, hFI5, hm⟩ := oLs hm
  refine oX_putI fX15_25 rfl (fun _ => rfl) (oD_t ht) dX15_init_29 ⟨rfl, rfl⟩ hFI5 ?_
  refine oX_aload_n dX15_init_32 rfl rfl ?_
  refine oX_bipush (v := (24 : Int32)) dX15_init_33 (by decide) ?_
  refine oX_iload_n dX15_init_35 rfl rfl ?_
  refine oX_imul dX15_init_36 ?_
  refine oX_iload_n dX15_init_37 rfl rfl ?_
  refine oX_iadd dX15_init_38 ?_
  obtain ⟨FI6, hFI6, hm⟩ := oLs hm
  refine oX_putI fX15_28 rfl (fun _ => rfl) (oD_t ht) dX15_init_39 ⟨rfl, rfl⟩ hFI6 ?_
  refine oX_aload_n dX15_init_42 rfl rfl ?_
  refine oX_aload_n dX15_init_43 rfl rfl ?_
  refine oX_getI fX15_28 rfl (oD_t ht) dX15_init_44 ?_
  refine oX_iload dX15_init_47 rfl ?_
  refine oX_aload dX15_init_49 rfl ?_
  obtain ⟨r7, g7, hm⟩ := bd_s hm
  refine oX_cS (as := [vI x4, vR x5]) dX15_init_51 rfl ok_X15_hoursOf rfl rfl q1314 q1307 q165 q1308 (by decide) (Nat.le_of_ble_eq_true rfl) (t_X15_hoursOf x4 x5 g7) ?_
  refine oX_iadd dX15_init_54 ?_
  obtain ⟨FI8, hFI8, hm⟩ := oLs hm
  refine oX_putI fX15_35 rfl (fun _ => rfl) (oD_t ht) dX15_init_55 ⟨rfl, rfl⟩ hFI8 ?_
  obtain rfl := Option.some.inj hm
  exact oX_vret dX15_init_58 rfl hK
theorem t_X15_init {G : OhG} {FI AI : OhI} {FL AL : OhL} {FR GR AR BR : OhQ} {AN : OhN} {C : OhC} (t : Nat × Nat) (ht : ohKd t.1 = 14) (x1 : Int32) (x2 : Int32) (x3 : Int32) (x4 : Int32) (x5 : OhR) (x6 : Int32) {o : OhI × OhQ} (hm : mX15_init FI FR t x1 x2 x3 x4 x5 x6 = some o) : oT G 2 iX15_init [vR (some t), vI x1, vI x2, vI x3, vI x4, vR x5, vI x6] (FI, FL, FR, GR, AI, AL, AR, BR, AN, C) (0, 0) (fun v h => v = none ∧ h = (o.1, FL, o.2, GR, AI, AL, AR, BR, AN, C)) ohNo :=
  oT_of (by decide) rfl (Nat.le_of_ble_eq_true rfl) (x_mX15_init t ht x1 x2 x3 x4 x5 x6 hm ⟨rfl, rfl⟩)
abbrev iX15_roles : OhM := (yX15_roles, cX15_roles, 1, (some .int), [])
theorem ok_X15_roles : oOk iX15_roles 0 := ⟨by decide, by decide, by decide +kernel⟩
noncomputable def mX15_roles (FI : OhI) (FR : OhQ) (t : Nat × Nat) : Option (Int32) :=
  (oD 4 (FR t.1 t.2 6)).bind fun a1 =>
  (oD 17 (FR a1.1 a1.2 6)).bind fun a2 =>
  (mJ2_size FI a2).bind fun r3 =>
  some r3
theorem x_mX15_roles {G : OhG} {FI AI : OhI} {FL AL : OhL} {FR GR AR BR : OhQ} {AN : OhN} {C : OhC} {k : Nat × Nat} {Φ : OhP} {Ψ : OhX} (t : Nat × Nat) (ht : ohKd t.1 = 14) {r : Int32} (hm : mX15_roles FI FR t = some r) (hK : Φ (some (vI r)) (FI, FL, FR, GR, AI, AL, AR, BR, AN, C)) : oX G 2 iX15_roles 0 [(0, vR (some t))] [] (FI, FL, FR, GR, AI, AL, AR, BR, AN, C) k Φ Ψ := by
  unfold mX15_roles at hm
  refine oX_aload_n dX15_roles_0 rfl rfl ?_
  refine oX_getF fX15_21 rfl (oD_t ht) dX15_roles_1 rfl ?_
  obtain ⟨a1, e1, hm⟩ := bd_s hm
  refine oX_getF fX15_47 rfl e1 dX15_roles_4 rfl ?_
  obtain ⟨a2, e2, hm⟩ := bd_s hm
  obtain ⟨r3, g3, hm⟩ := bd_s hm
  refine oX_cV (as := []) dX15_roles_7 rfl e2 rfl (by decide) rfl ok_J2_size rfl rfl q1356 q431 q432 q132 q433 (by decide) (Nat.le_of_ble_eq_true rfl) (t_J2_size a2 ((oD_some e2).2) g3) ?_
  obtain rfl := Option.some.inj hm
  exact oX_iret dX15_roles_10 rfl rfl hK
theorem t_X15_roles {G : OhG} {FI AI : OhI} {FL AL : OhL} {FR GR AR BR : OhQ} {AN : OhN} {C : OhC} (t : Nat × Nat) (ht : ohKd t.1 = 14) {o : Int32} (hm : mX15_roles FI FR t = some o) : oT G 2 iX15_roles [vR (some t)] (FI, FL, FR, GR, AI, AL, AR, BR, AN, C) (0, 0) (fun v h => v = (some (vI o)) ∧ h = (FI, FL, FR, GR, AI, AL, AR, BR, AN, C)) ohNo :=
  oT_of (by decide) rfl (Nat.le_of_ble_eq_true rfl) (x_mX15_roles t ht hm ⟨rfl, rfl⟩)
abbrev iX15_isOnStage : OhM := (yX15_isOnStage, cX15_isOnStage, 1, (some .boolean), [])
theorem ok_X15_isOnStage : oOk iX15_isOnStage 0 := ⟨by decide, by decide, by decide +kernel⟩
noncomputable def mX15_isOnStage (FI : OhI) (t : Nat × Nat) : Option (Int32) :=
  (if (FI t.1 t.2 2) = 0 then
  some (0 : Int32)
else
  some (1 : Int32))
theorem x_mX15_isOnStage {G : OhG} {FI AI : OhI} {FL AL : OhL} {FR GR AR BR : OhQ} {AN : OhN} {C : OhC} {k : Nat × Nat} {Φ : OhP} {Ψ : OhX} (t : Nat × Nat) (ht : ohKd t.1 = 14) {r : Int32} (hm : mX15_isOnStage FI t = some r) (hK : Φ (some (vI r)) (FI, FL, FR, GR, AI, AL, AR, BR, AN, C)) : oX G 1 iX15_isOnStage 0 [(0, vR (some t))] [] (FI, FL, FR, GR, AI, AL, AR, BR, AN, C) k Φ Ψ := by
  unfold mX15_isOnStage at hm
  refine oX_aload_n dX15_isOnStage_0 rfl rfl ?_
  refine oX_getI fX15_18 rfl (oD_t ht) dX15_isOnStage_1 ?_
  refine oX_if_eq (tgt := 11) dX15_isOnStage_4 (by decide) (fun c1 => ?_) (fun c1 => ?_)
  · have hm := ifp c1 hm
    refine oX_iconst (v := (0 : Int32)) dX15_isOnStage_11 (by decide) ?_
    obtain rfl := Option.some.inj hm
    exact oX_iret dX15_isOnStage_12 rfl (by decide) hK
  · have hm := ifn c1 hm
    refine oX_iconst (v := (1 : Int32)) dX15_isOnStage_7 (by decide) ?_
    refine oX_goto (tgt := 12) dX15_isOnStage_8 (by decide) ?_
    obtain rfl := Option.some.inj hm
    exact oX_iret dX15_isOnStage_12 rfl (by decide) hK
theorem t_X15_isOnStage {G : OhG} {FI AI : OhI} {FL AL : OhL} {FR GR AR BR : OhQ} {AN : OhN} {C : OhC} (t : Nat × Nat) (ht : ohKd t.1 = 14) {o : Int32} (hm : mX15_isOnStage FI t = some o) : oT G 1 iX15_isOnStage [vR (some t)] (FI, FL, FR, GR, AI, AL, AR, BR, AN, C) (0, 0) (fun v h => v = (some (vI o)) ∧ h = (FI, FL, FR, GR, AI, AL, AR, BR, AN, C)) ohNo :=
  oT_of (by decide) rfl (Nat.le_of_ble_eq_true rfl) (x_mX15_isOnStage t ht hm ⟨rfl, rfl⟩)
abbrev iX15_hasSet : OhM := (yX15_hasSet, cX15_hasSet, 1, (some .boolean), [])
theorem ok_X15_hasSet : oOk iX15_hasSet 0 := ⟨by decide, by decide, by decide +kernel⟩
noncomputable def mX15_hasSet (FI : OhI) (t : Nat × Nat) : Option (Int32) :=
  (if (FI t.1 t.2 2) < (2 : Int32) then
  some (0 : Int32)
else
  some (1 : Int32))
theorem x_mX15_hasSet {G : OhG} {FI AI : OhI} {FL AL : OhL} {FR GR AR BR : OhQ} {AN : OhN} {C : OhC} {k : Nat × Nat} {Φ : OhP} {Ψ : OhX} (t : Nat × Nat) (ht : ohKd t.1 = 14) {r : Int32} (hm : mX15_hasSet FI t = some r) (hK : Φ (some (vI r)) (FI, FL, FR, GR, AI, AL, AR, BR, AN, C)) : oX G 1 iX15_hasSet 0 [(0, vR (some t))] [] (FI, FL, FR, GR, AI, AL, AR, BR, AN, C) k Φ Ψ := by
  unfold mX15_hasSet at hm
  refine oX_aload_n dX15_hasSet_0 rfl rfl ?_
  refine oX_getI fX15_18 rfl (oD_t ht) dX15_hasSet_1 ?_
  refine oX_iconst (v := (2 : Int32)) dX15_hasSet_4 (by decide) ?_
  refine oX_icmp_lt (tgt := 12) dX15_hasSet_5 (by decide) (fun c1 => ?_) (fun c1 => ?_)
  · have hm := ifp c1 hm
    refine oX_iconst (v := (0 : Int32)) dX15_hasSet_12 (by decide) ?_
    obtain rfl := Option.some.inj hm
    exact oX_iret dX15_hasSet_13 rfl (by decide) hK
  · have hm := ifn c1 hm
    refine oX_iconst (v := (1 : Int32)) dX15_hasSet_8 (by decide) ?_
    refine oX_goto (tgt := 13) dX15_hasSet_9 (by decide) ?_
    obtain rfl := Option.some.inj hm
    exact oX_iret dX15_hasSet_13 rfl (by decide) hK
theorem t_X15_hasSet {G : OhG} {FI AI : OhI} {FL AL : OhL} {FR GR AR BR : OhQ} {AN : OhN} {C : OhC} (t : Nat × Nat) (ht : ohKd t.1 = 14) {o : Int32} (hm : mX15_hasSet FI t = some o) : oT G 1 iX15_hasSet [vR (some t)] (FI, FL, FR, GR, AI, AL, AR, BR, AN, C) (0, 0) (fun v h => v = (some (vI o)) ∧ h = (FI, FL, FR, GR, AI, AL, AR, BR, AN, C)) ohNo :=
  oT_of (by decide) rfl (Nat.le_of_ble_eq_true rfl) (x_mX15_hasSet t ht hm ⟨rfl, rfl⟩)
abbrev iX15_isOn : OhM := (yX15_isOn, cX15_isOn, 2, (some .boolean), [])
theorem ok_X15_isOn : oOk iX15_isOn 1 := ⟨by decide, by decide, by decide +kernel⟩
noncomputable def mX15_isOn (FI : OhI) (t : Nat × Nat) (x1 : Int32) : Option (Int32) :=
  (if x1 < (FI t.1 t.2 4) then
  some (0 : Int32)
else
  (if (FI t.1 t.2 5) ≤ x1 then
    some (0 : Int32)
  else
    some (1 : Int32)))
theorem x_mX15_isOn {G : OhG} {FI AI : OhI} {FL AL : OhL} {FR GR AR BR : OhQ} {AN : OhN} {C : OhC} {k : Nat × Nat} {Φ : OhP} {Ψ : OhX} (t : Nat × Nat) (ht : ohKd t.1 = 14) (x1 : Int32) {r : Int32} (hm : mX15_isOn FI t x1 = some r) (hK : Φ (some (vI r)) (FI, FL, FR, GR, AI, AL, AR, BR, AN, C)) : oX G 1 iX15_isOn 0 [(0, vR (some t)), (1, vI x1)] [] (FI, FL, FR, GR, AI, AL, AR, BR, AN, C) k Φ Ψ := by
  unfold mX15_isOn at hm
  refine oX_aload_n dX15_isOn_0 rfl rfl ?_
  refine oX_getI fX15_28 rfl (oD_t ht) dX15_isOn_1 ?_
  refine oX_iload_n dX15_isOn_4 rfl rfl ?_
  refine oX_icmp_gt (tgt := 20) dX15_isOn_5 (by decide) (fun c1 => ?_) (fun c1 => ?_)
  · have hm := ifp c1 hm
    refine oX_iconst (v := (0 : Int32)) dX15_isOn_20 (by decide) ?_
    obtain rfl := Option.some.inj hm
    exact oX_iret dX15_isOn_21 rfl (by decide) hK
  · have hm := ifn c1 hm
    refine oX_iload_n dX15_isOn_8 rfl rfl ?_
    refine oX_aload_n dX15_isOn_9 rfl rfl ?_
    refine oX_getI fX15_35 rfl (oD_t ht) dX15_isOn_10 ?_
    refine oX_icmp_ge (tgt := 20) dX15_isOn_13 (by decide) (fun c2 => ?_) (fun c2 => ?_)
    · have hm := ifp c2 hm
      refine oX_iconst (v := (0 : Int32)) dX15_isOn_20 (by decide) ?_
      obtain rfl := Option.some.inj hm
      exact oX_iret dX15_isOn_21 rfl (by decide) hK
    · have hm := ifn c2 hm
      refine oX_iconst (v := (1 : Int32)) dX15_isOn_16 (by decide) ?_
      refine oX_goto (tgt := 21) dX15_isOn_17 (by decide) ?_
      obtain rfl := Option.some.inj hm
      exact oX_iret dX15_isOn_21 rfl (by decide) hK
theorem t_X15_isOn {G : OhG} {FI AI : OhI} {FL AL : OhL} {FR GR AR BR : OhQ} {AN : OhN} {C : OhC} (t : Nat × Nat) (ht : ohKd t.1 = 14) (x1 : Int32) {o : Int32} (hm : mX15_isOn FI t x1 = some o) : oT G 1 iX15_isOn [vR (some t), vI x1] (FI, FL, FR, GR, AI, AL, AR, BR, AN, C) (0, 0) (fun v h => v = (some (vI o)) ∧ h = (FI, FL, FR, GR, AI, AL, AR, BR, AN, C)) ohNo :=
  oT_of (by decide) rfl (Nat.le_of_ble_eq_true rfl) (x_mX15_isOn t ht x1 hm ⟨rfl, rfl⟩)
abbrev iX15_hasChorus : OhM := (yX15_hasChorus, cX15_hasChorus, 1, (some .boolean), [])
theorem ok_X15_hasChorus : oOk iX15_hasChorus 0 := ⟨by decide, by decide, by decide +kernel⟩
noncomputable def mX15_hasChorus (FI : OhI) (FR : OhQ) (t : Nat × Nat) : Option (Int32) :=
  (if (FI t.1 t.2 2) = 0 then
  some (0 : Int32)
else
  (oD 4 (FR t.1 t.2 6)).bind fun a2 =>
    (if (FI a2.1 a2.2 4) = 0 then
    some (0 : Int32)
  else
    some (1 : Int32)))
theorem x_mX15_hasChorus {G : OhG} {FI AI : OhI} {FL AL : OhL} {FR GR AR BR : OhQ} {AN : OhN} {C : OhC} {k : Nat × Nat} {Φ : OhP} {Ψ : OhX} (t : Nat × Nat) (ht : ohKd t.1 = 14) {r : Int32} (hm : mX15_hasChorus FI FR t = some r) (hK : Φ (some (vI r)) (FI, FL, FR, GR, AI, AL, AR, BR, AN, C)) : oX G 1 iX15_hasChorus 0 [(0, vR (some t))] [] (FI, FL, FR, GR, AI, AL, AR, BR, AN, C) k Φ Ψ := by
  unfold mX15_hasChorus at hm
  refine oX_aload_n dX15_hasChorus_0 rfl rfl ?_
  refine oX_getI fX15_18 rfl (oD_t ht) dX15_hasChorus_1 ?_
  refine oX_if_eq (tgt := 21) dX15_hasChorus_4 (by decide) (fun c1 => ?_) (fun c1 => ?_)
  · have hm := ifp c1 hm
    refine oX_iconst (v := (0 : Int32)) dX15_hasChorus_21 (by decide) ?_
    obtain rfl := Option.some.inj hm
    exact oX_iret dX15_hasChorus_22 rfl (by decide) hK
  · have hm := ifn c1 hm
    refine oX_aload_n dX15_hasChorus_7 rfl rfl ?_
    refine oX_getF fX15_21 rfl (oD_t ht) dX15_hasChorus_8 rfl ?_
    obtain ⟨a2, e2, hm⟩ := bd_s hm
    refine oX_getI fX15_43 rfl e2 dX15_hasChorus_11 ?_
    refine oX_if_eq (tgt := 21) dX15_hasChorus_14 (by decide) (fun c3 => ?_) (fun c3 => ?_)
    · have hm := ifp c3 hm
      refine oX_iconst (v := (0 : Int32)) dX15_hasChorus_21 (by decide) ?_
      obtain rfl := Option.some.inj hm
      exact oX_iret dX15_hasChorus_22 rfl (by decide) hK
    · have hm := ifn c3 hm
      refine oX_iconst (v := (1 : Int32)) dX15_hasChorus_17 (by decide) ?_
      refine oX_goto (tgt := 22) dX15_hasChorus_18 (by decide) ?_
      obtain rfl := Option.some.inj hm
      exact oX_iret dX15_hasChorus_22 rfl (by decide) hK
theorem t_X15_hasChorus {G : OhG} {FI AI : OhI} {FL AL : OhL} {FR GR AR BR : OhQ} {AN : OhN} {C : OhC} (t : Nat × Nat) (ht : ohKd t.1 = 14) {o : Int32} (hm : mX15_hasChorus FI FR t = some o) : oT G 1 iX15_hasChorus [vR (some t)] (FI, FL, FR, GR, AI, AL, AR, BR, AN, C) (0, 0) (fun v h => v = (some (vI o)) ∧ h = (FI, FL, FR, GR, AI, AL, AR, BR, AN, C)) ohNo :=
  oT_of (by decide) rfl (Nat.le_of_ble_eq_true rfl) (x_mX15_hasChorus t ht hm ⟨rfl, rfl⟩)
abbrev iX15_hours : OhM := (yX15_hours, cX15_hours, 1, (some .int), [])
theorem ok_X15_hours : oOk iX15_hours 0 := ⟨by decide, by decide, by decide +kernel⟩
noncomputable def mX15_hours (FI : OhI) (t : Nat × Nat) : Option (Int32) :=
  some ((FI t.1 t.2 5) - (FI t.1 t.2 4))
theorem x_mX15_hours {G : OhG} {FI AI : OhI} {FL AL : OhL} {FR GR AR BR : OhQ} {AN : OhN} {C : OhC} {k : Nat × Nat} {Φ : OhP} {Ψ : OhX} (t : Nat × Nat) (ht : ohKd t.1 = 14) {r : Int32} (hm : mX15_hours FI t = some r) (hK : Φ (some (vI r)) (FI, FL, FR, GR, AI, AL, AR, BR, AN, C)) : oX G 1 iX15_hours 0 [(0, vR (some t))] [] (FI, FL, FR, GR, AI, AL, AR, BR, AN, C) k Φ Ψ := by
  unfold mX15_hours at hm
  refine oX_aload_n dX15_hours_0 rfl rfl ?_
  refine oX_getI fX15_35 rfl (oD_t ht) dX15_hours_1 ?_
  refine oX_aload_n dX15_hours_4 rfl rfl ?_
  refine oX_getI fX15_28 rfl (oD_t ht) dX15_hours_5 ?_
  refine oX_isub dX15_hours_8 ?_
  obtain rfl := Option.some.inj hm
  exact oX_iret dX15_hours_9 rfl rfl hK
theorem t_X15_hours {G : OhG} {FI AI : OhI} {FL AL : OhL} {FR GR AR BR : OhQ} {AN : OhN} {C : OhC} (t : Nat × Nat) (ht : ohKd t.1 = 14) {o : Int32} (hm : mX15_hours FI t = some o) : oT G 1 iX15_hours [vR (some t)] (FI, FL, FR, GR, AI, AL, AR, BR, AN, C) (0, 0) (fun v h => v = (some (vI o)) ∧ h = (FI, FL, FR, GR, AI, AL, AR, BR, AN, C)) ohNo :=
  oT_of (by decide) rfl (Nat.le_of_ble_eq_true rfl) (x_mX15_hours t ht hm ⟨rfl, rfl⟩)
abbrev iX15_isSung : OhM := (yX15_isSung, cX15_isSung, 1, (some .boolean), [])
theorem ok_X15_isSung : oOk iX15_isSung 0 := ⟨by decide, by decide, by decide +kernel⟩
noncomputable def mX15_isSung (FI : OhI) (t : Nat × Nat) : Option (Int32) :=
  (if (FI t.1 t.2 2) < (2 : Int32) then
  some (0 : Int32)
else
  some (1 : Int32))
theorem x_mX15_isSung {G : OhG} {FI AI : OhI} {FL AL : OhL} {FR GR AR BR : OhQ} {AN : OhN} {C : OhC} {k : Nat × Nat} {Φ : OhP} {Ψ : OhX} (t : Nat × Nat) (ht : ohKd t.1 = 14) {r : Int32} (hm : mX15_isSung FI t = some r) (hK : Φ (some (vI r)) (FI, FL, FR, GR, AI, AL, AR, BR, AN, C)) : oX G 1 iX15_isSung 0 [(0, vR (some t))] [] (FI, FL, FR, GR, AI, AL, AR, BR, AN, C) k Φ Ψ := by
  unfold mX15_isSung at hm
  refine oX_aload_n dX15_isSung_0 rfl rfl ?_
  refine oX_getI fX15_18 rfl (oD_t ht) dX15_isSung_1 ?_
  refine oX_iconst (v := (2 : Int32)) dX15_isSung_4 (by decide) ?_
  refine oX_icmp_lt (tgt := 12) dX15_isSung_5 (by decide) (fun c1 => ?_) (fun c1 => ?_)
  · have hm := ifp c1 hm
    refine oX_iconst (v := (0 : Int32)) dX15_isSung_12 (by decide) ?_
    obtain rfl := Option.some.inj hm
    exact oX_iret dX15_isSung_13 rfl (by decide) hK
  · have hm := ifn c1 hm
    refine oX_iconst (v := (1 : Int32)) dX15_isSung_8 (by decide) ?_
    refine oX_goto (tgt := 13) dX15_isSung_9 (by decide) ?_
    obtain rfl := Option.some.inj hm
    exact oX_iret dX15_isSung_13 rfl (by decide) hK
theorem t_X15_isSung {G : OhG} {FI AI : OhI} {FL AL : OhL} {FR GR AR BR : OhQ} {AN : OhN} {C : OhC} (t : Nat × Nat) (ht : ohKd t.1 = 14) {o : Int32} (hm : mX15_isSung FI t = some o) : oT G 1 iX15_isSung [vR (some t)] (FI, FL, FR, GR, AI, AL, AR, BR, AN, C) (0, 0) (fun v h => v = (some (vI o)) ∧ h = (FI, FL, FR, GR, AI, AL, AR, BR, AN, C)) ohNo :=
  oT_of (by decide) rfl (Nat.le_of_ble_eq_true rfl) (x_mX15_isSung t ht hm ⟨rfl, rfl⟩)
abbrev iX15_weight : OhM := (yX15_weight, cX15_weight, 1, (some .int), [])
theorem ok_X15_weight : oOk iX15_weight 0 := ⟨by decide, by decide, by decide +kernel⟩
noncomputable def mX15_weight (FI : OhI) (t : Nat × Nat) : Option (Int32) :=
  (if (FI t.1 t.2 2) = (3 : Int32) then
  some (2 : Int32)
else
  (if (FI t.1 t.2 2) = (2 : Int32) then
    some (1 : Int32)
  else
    some (0 : Int32)))
theorem x_mX15_weight {G : OhG} {FI AI : OhI} {FL AL : OhL} {FR GR AR BR : OhQ} {AN : OhN} {C : OhC} {k : Nat × Nat} {Φ : OhP} {Ψ : OhX} (t : Nat × Nat) (ht : ohKd t.1 = 14) {r : Int32} (hm : mX15_weight FI t = some r) (hK : Φ (some (vI r)) (FI, FL, FR, GR, AI, AL, AR, BR, AN, C)) : oX G 1 iX15_weight 0 [(0, vR (some t))] [] (FI, FL, FR, GR, AI, AL, AR, BR, AN, C) k Φ Ψ := by
  unfold mX15_weight at hm
  refine oX_aload_n dX15_weight_0 rfl rfl ?_
  refine oX_getI fX15_18 rfl (oD_t ht) dX15_weight_1 ?_
  refine oX_iconst (v := (3 : Int32)) dX15_weight_4 (by decide) ?_
  refine oX_icmp_ne (tgt := 12) dX15_weight_5 (by decide) (fun c1 => ?_) (fun c1 => ?_)
  · have hm := ifp c1 hm
    refine oX_iconst (v := (2 : Int32)) dX15_weight_8 (by decide) ?_
    refine oX_goto (tgt := 25) dX15_weight_9 (by decide) ?_
    obtain rfl := Option.some.inj hm
    exact oX_iret dX15_weight_25 rfl rfl hK
  · have hm := ifn c1 hm
    refine oX_aload_n dX15_weight_12 rfl rfl ?_
    refine oX_getI fX15_18 rfl (oD_t ht) dX15_weight_13 ?_
    refine oX_iconst (v := (2 : Int32)) dX15_weight_16 (by decide) ?_
    refine oX_icmp_ne (tgt := 24) dX15_weight_17 (by decide) (fun c2 => ?_) (fun c2 => ?_)
    · have hm := ifp c2 hm
      refine oX_iconst (v := (1 : Int32)) dX15_weight_20 (by decide) ?_
      refine oX_goto (tgt := 25) dX15_weight_21 (by decide) ?_
      obtain rfl := Option.some.inj hm
      exact oX_iret dX15_weight_25 rfl rfl hK
    · have hm := ifn c2 hm
      refine oX_iconst (v := (0 : Int32)) dX15_weight_24 (by decide) ?_
      obtain rfl := Option.some.inj hm
      exact oX_iret dX15_weight_25 rfl rfl hK
theorem t_X15_weight {G : OhG} {FI AI : OhI} {FL AL : OhL} {FR GR AR BR : OhQ} {AN : OhN} {C : OhC} (t : Nat × Nat) (ht : ohKd t.1 = 14) {o : Int32} (hm : mX15_weight FI t = some o) : oT G 1 iX15_weight [vR (some t)] (FI, FL, FR, GR, AI, AL, AR, BR, AN, C) (0, 0) (fun v h => v = (some (vI o)) ∧ h = (FI, FL, FR, GR, AI, AL, AR, BR, AN, C)) ohNo :=
  oT_of (by decide) rfl (Nat.le_of_ble_eq_true rfl) (x_mX15_weight t ht hm ⟨rfl, rfl⟩)
abbrev iX16_init : OhM := (yX16_init, cX16_init, 6, none, [])
theorem ok_X16_init : oOk iX16_init 5 := ⟨by decide, by decide, by decide +kernel⟩
noncomputable def mX16_init (FI : OhI) (t : Nat × Nat) (x1 : Int32) (x2 : Int32) (x3 : Int32) (x4 : Int32) (x5 : Int32) : Option (OhI) :=
  oLet (sA FI t.1 t.2 (uA (FI t.1 t.2) 0 x1)) fun FI1 =>
  oLet (sA FI1 t.1 t.2 (uA (FI1 t.1 t.2) 1 x2)) fun FI2 =>
  oLet (sA FI2 t.1 t.2 (uA (FI2 t.1 t.2) 2 x3)) fun FI3 =>
  gd (x4 = 0 ∨ x4 = 1) <|
  oLet (sA FI3 t.1 t.2 (uA (FI3 t.1 t.2) 4 x4)) fun FI4 =>
  oLet (sA FI4 t.1 t.2 (uA (FI4 t.1 t.2) 3 x5)) fun FI5 =>
  some FI5
theorem x_mX16_init {G : OhG} {FI AI : OhI} {FL AL : OhL} {FR GR AR BR : OhQ} {AN : OhN} {C : OhC} {k : Nat × Nat} {Φ : OhP} {Ψ : OhX} (t : Nat × Nat) (ht : ohKd t.1 = 15) (x1 : Int32) (x2 : Int32) (x3 : Int32) (x4 : Int32) (x5 : Int32) {r : OhI} (hm : mX16_init FI t x1 x2 x3 x4 x5 = some r) (hK : Φ none (r, FL, FR, GR, AI, AL, AR, BR, AN, C)) : oX G 1 iX16_init 0 [(0, vR (some t)), (1, vI x1), (2, vI x2), (3, vI x3), (4, vI x4), (5, vI x5)] [] (FI, FL, FR, GR, AI, AL, AR, BR, AN, C) k Φ Ψ := by
  unfold mX16_init at hm
  refine oX_aload_n dX16_init_0 rfl rfl ?_
  refine oX_objInit (a := t) rfl q1362 q176 q177 dX16_init_1 (by decide) (Nat.le_of_ble_eq_true rfl) ?_
  refine oX_aload_n dX16_init_4 rfl rfl ?_
  refine oX_iload_n dX16_init_5 rfl rfl ?_
  obtain ⟨FI1, hFI1, hm⟩ := oLs hm
  refine oX_putI fX16_7 rfl (fun _ => rfl) (oD_t ht) dX16_init_6 ⟨rfl, rfl⟩ hFI1 ?_
  refine oX_aload_n dX16_init_9 rfl rfl ?_
  refine oX_iload_n dX16_init_10 rfl rfl ?_
  obtain ⟨FI2, hFI2, hm⟩ := oLs hm
  refine oX_putI fX16_13 rfl (fun _ => rfl) (oD_t ht) dX16_init_11 ⟨rfl, rfl⟩ hFI2 ?_
  refine oX_aload_n dX16_init_14 rfl rfl ?_
  refine oX_iload_n dX16_init_15 rfl rfl ?_
  obtain ⟨FI3, hFI3, hm⟩ := oLs hm
  refine oX_putI fX16_16 rfl (fun _ => rfl) (oD_t ht) dX16_init_16 ⟨rfl, rfl⟩ hFI3 ?_
  refine oX_aload_n dX16_init_19 rfl rfl ?_
  refine oX_iload dX16_init_20 rfl ?_
  obtain ⟨g4, hm⟩ := gd_s hm
  obtain ⟨FI4, hFI4, hm⟩ := oLs hm
  refine oX_putI fX16_19 rfl (fun _ => rfl) (oD_t ht) dX16_init_22 (oNf g4) hFI4 ?_
  refine oX_aload_n dX16_init_25 rfl rfl ?_
  refine oX_iload dX16_init_26 rfl ?_
  obtain ⟨FI5, hFI5, hm⟩ := oLs hm
  refine oX_putI fX16_23 rfl (fun _ => rfl) (oD_t ht) dX16_init_28 ⟨rfl, rfl⟩ hFI5 ?_
  obtain rfl := Option.some.inj hm
  exact oX_vret dX16_init_31 rfl hK
theorem t_X16_init {G : OhG} {FI AI : OhI} {FL AL : OhL} {FR GR AR BR : OhQ} {AN : OhN} {C : OhC} (t : Nat × Nat) (ht : ohKd t.1 = 15) (x1 : Int32) (x2 : Int32) (x3 : Int32) (x4 : Int32) (x5 : Int32) {o : OhI} (hm : mX16_init FI t x1 x2 x3 x4 x5 = some o) : oT G 1 iX16_init [vR (some t), vI x1, vI x2, vI x3, vI x4, vI x5] (FI, FL, FR, GR, AI, AL, AR, BR, AN, C) (0, 0) (fun v h => v = none ∧ h = (o, FL, FR, GR, AI, AL, AR, BR, AN, C)) ohNo :=
  oT_of (by decide) rfl (Nat.le_of_ble_eq_true rfl) (x_mX16_init t ht x1 x2 x3 x4 x5 hm ⟨rfl, rfl⟩)
abbrev iX17_init : OhM := (yX17_init, cX17_init, 5, none, [])
theorem ok_X17_init : oOk iX17_init 4 := ⟨by decide, by decide, by decide +kernel⟩
noncomputable def mX17_init (FI : OhI) (t : Nat × Nat) (x1 : Int32) (x2 : Int32) (x3 : Int32) (x4 : Int32) : Option (OhI) :=
  oLet (sA FI t.1 t.2 (uA (FI t.1 t.2) 0 x1)) fun FI1 =>
  oLet (sA FI1 t.1 t.2 (uA (FI1 t.1 t.2) 1 x2)) fun FI2 =>
  oLet (sA FI2 t.1 t.2 (uA (FI2 t.1 t.2) 2 x3)) fun FI3 =>
  oLet (sA FI3 t.1 t.2 (uA (FI3 t.1 t.2) 3 x4)) fun FI4 =>
  some FI4
theorem x_mX17_init {G : OhG} {FI AI : OhI} {FL AL : OhL} {FR GR AR BR : OhQ} {AN : OhN} {C : OhC} {k : Nat × Nat} {Φ : OhP} {Ψ : OhX} (t : Nat × Nat) (ht : ohKd t.1 = 16) (x1 : Int32) (x2 : Int32) (x3 : Int32) (x4 : Int32) {r : OhI} (hm : mX17_init FI t x1 x2 x3 x4 = some r) (hK : Φ none (r, FL, FR, GR, AI, AL, AR, BR, AN, C)) : oX G 1 iX17_init 0 [(0, vR (some t)), (1, vI x1), (2, vI x2), (3, vI x3), (4, vI x4)] [] (FI, FL, FR, GR, AI, AL, AR, BR, AN, C) k Φ Ψ := by
  unfold mX17_init at hm
  refine oX_aload_n dX17_init_0 rfl rfl ?_
  refine oX_objInit (a := t) rfl q1396 q176 q177 dX17_init_1 (by decide) (Nat.le_of_ble_eq_true rfl) ?_
  refine oX_aload_n dX17_init_4 rfl rfl ?_
  refine oX_iload_n dX17_init_5 rfl rfl ?_
  obtain ⟨FI1, hFI1, hm⟩ := oLs hm
  refine oX_putI fX17_7 rfl (fun _ => rfl) (oD_t ht) dX17_init_6 ⟨rfl, rfl⟩ hFI1 ?_
  refine oX_aload_n dX17_init_9 rfl rfl ?_
  refine oX_iload_n dX17_init_10 rfl rfl ?_
  obtain ⟨FI2, hFI2, hm⟩ := oLs hm
  refine oX_putI fX17_13 rfl (fun _ => rfl) (oD_t ht) dX17_init_11 ⟨rfl, rfl⟩ hFI2 ?_
  refine oX_aload_n dX17_init_14 rfl rfl ?_
  refine oX_iload_n dX17_init_15 rfl rfl ?_
  obtain ⟨FI3, hFI3, hm⟩ := oLs hm
  refine oX_putI fX17_16 rfl (fun _ => rfl) (oD_t ht) dX17_init_16 ⟨rfl, rfl⟩ hFI3 ?_
  refine oX_aload_n dX17_init_19 rfl rfl ?_
  refine oX_iload dX17_init_20 rfl ?_
  obtain ⟨FI4, hFI4, hm⟩ := oLs hm
  refine oX_putI fX17_19 rfl (fun _ => rfl) (oD_t ht) dX17_init_22 ⟨rfl, rfl⟩ hFI4 ?_
  obtain rfl := Option.some.inj hm
  exact oX_vret dX17_init_25 rfl hK
theorem t_X17_init {G : OhG} {FI AI : OhI} {FL AL : OhL} {FR GR AR BR : OhQ} {AN : OhN} {C : OhC} (t : Nat × Nat) (ht : ohKd t.1 = 16) (x1 : Int32) (x2 : Int32) (x3 : Int32) (x4 : Int32) {o : OhI} (hm : mX17_init FI t x1 x2 x3 x4 = some o) : oT G 1 iX17_init [vR (some t), vI x1, vI x2, vI x3, vI x4] (FI, FL, FR, GR, AI, AL, AR, BR, AN, C) (0, 0) (fun v h => v = none ∧ h = (o, FL, FR, GR, AI, AL, AR, BR, AN, C)) ohNo :=
  oT_of (by decide) rfl (Nat.le_of_ble_eq_true rfl) (x_mX17_init t ht x1 x2 x3 x4 hm ⟨rfl, rfl⟩)
abbrev iX1_come : OhM := (yX1_come, cX1_come, 3, none, [])
theorem ok_X1_come : oOk iX1_come 1 := ⟨by decide, by decide, by decide +kernel⟩
noncomputable def mX1_come_b3 (n : Nat) (FI : OhI) (FR : OhQ) (AI : OhI) (AN : OhN) (x1 : Int32) (x2 : Int32) : Option ((Int32 × OhI × OhI) ⊕ (OhI × OhI)) :=
  (if x2 < 0 then
  some (.inr (FI, AI))
else
  gd (vp_in (FI 0 0 1) 340) <|
    oLet (sA AI 300 0 (uA (AI 300 0) (FI 0 0 1).toNatClampNeg (vp_nar .byte ((x1 >>> (x2 &&& 31)).toInt8.toInt32)))) fun AI2 =>
    oLet (sA FI 0 0 (uA (FI 0 0) 1 ((FI 0 0 1) + (1 : Int32)))) fun FI3 =>
    some (.inl (x2 + (-8 : Int32), FI3, AI2)))
theorem x_mX1_come_b3 {G : OhG} {FI AI : OhI} {FL AL : OhL} {FR GR AR BR : OhQ} {AN : OhN} {C : OhC} {k : Nat × Nat} {Φ : OhP} {Ψ : OhX} (hH : ohShH FR AR AN) (n : Nat) (x1 : Int32) (x2 : Int32) {r : (Int32 × OhI × OhI) ⊕ (OhI × OhI)} (hm : mX1_come_b3 n FI FR AI AN x1 x2 = some r) (hk : ∀ v : Int32 × OhI × OhI, r = .inl v → oX G 1 iX1_come 3 [(0, vR (some (0, 0))), (1, vI x1), (2, vI v.1)] [] (v.2.1, FL, FR, GR, v.2.2, AL, AR, BR, AN, C) k Φ Ψ) (hx1 : ∀ v : OhI × OhI, r = .inr v → oX G 1 iX1_come 36 [] [] (v.1, FL, FR, GR, v.2, AL, AR, BR, AN, C) k Φ Ψ) : oX G 1 iX1_come 3 [(0, vR (some (0, 0))), (1, vI x1), (2, vI x2)] [] (FI, FL, FR, GR, AI, AL, AR, BR, AN, C) k Φ Ψ := by
  unfold mX1_come_b3 at hm
  refine oX_iload_n dX1_come_3 rfl rfl ?_
  refine oX_if_lt (tgt := 36) dX1_come_4 (by decide) (fun c1 => ?_) (fun c1 => ?_)
  · have hm := ifp c1 hm
    exact oX_sub [] rfl (hx1 (FI, AI) (Option.some.inj hm).symm)
  · have hm := ifn c1 hm
    refine oX_aload_n dX1_come_7 rfl rfl ?_
    refine oX_getF fX1_9 rfl oDs0 dX1_come_8 (ohF300 hH) ?_
    refine oX_aload_n dX1_come_11 rfl rfl ?_
    refine oX_getI fX1_105 rfl oDs0 dX1_come_12 ?_
    refine oX_iload_n dX1_come_15 rfl rfl ?_
    refine oX_iload_n dX1_come_16 rfl rfl ?_
    refine oX_ishr dX1_come_17 ?_
    refine oX_i2b dX1_come_18 ?_
    obtain ⟨g2, hm⟩ := gd_s hm
    obtain ⟨AI2, hAI2, hm⟩ := oLs hm
    refine oX_bast oDs300 (oIn (ohN300 hH) g2) dX1_come_19 hAI2 ?_
    refine oX_aload_n dX1_come_20 rfl rfl ?_
    refine oX_dup dX1_come_21 trivial ?_
    refine oX_getI fX1_105 rfl oDs0 dX1_come_22 ?_
    refine oX_iconst (v := (1 : Int32)) dX1_come_25 (by decide) ?_
    refine oX_iadd dX1_come_26 ?_
    obtain ⟨FI3, hFI3, hm⟩ := oLs hm
    refine oX_putI fX1_105 rfl (fun h9 => by cases h9) oDs0 dX1_come_27 ⟨rfl, rfl⟩ hFI3 ?_
    refine oX_iinc (v := x2 + (-8 : Int32)) (ls' := [(2, vI (x2 + (-8 : Int32))), (0, vR (some (0, 0))), (1, vI x1)]) dX1_come_30 rfl rfl (by decide) rfl ?_
    refine oX_goto (tgt := 3) dX1_come_33 (by decide) ?_
    exact oX_sub [1, 2, 0] rfl (hk (x2 + (-8 : Int32), FI3, AI2) (Option.some.inj hm).symm)
theorem l_mX1_come_b3 {G : OhG} {FL : OhL} {FR : OhQ} {GR : OhQ} {AL : OhL} {AR : OhQ} {BR : OhQ} {AN : OhN} {C : OhC} {k : Nat × Nat} {Φ : OhP} {Ψ : OhX} (hH : ohShH FR AR AN) (n : Nat) (x1 : Int32) : ∀ (f : Nat) (x2 : Int32) (FI : OhI) (AI : OhI) (b : (OhI × OhI)), lpF (fun v => mX1_come_b3 n v.2.1 FR v.2.2 AN x1 v.1) f (x2, FI, AI) = some b → (oX G 1 iX1_come 36 [] [] (b.1, FL, FR, GR, b.2, AL, AR, BR, AN, C) k Φ Ψ) → oX G 1 iX1_come 3 [(0, vR (some (0, 0))), (1, vI x1), (2, vI x2)] [] (FI, FL, FR, GR, AI, AL, AR, BR, AN, C) k Φ Ψ := by
  intro f
  induction f with
  | zero =>
    intro x2 FI AI b hm
    cases hm
  | succ f ih =>
    intro x2 FI AI b hm hx1
    obtain ⟨r, hr, hm⟩ := lp_s hm
    refine x_mX1_come_b3 hH n x1 x2 hr (fun v e => ?_) (fun v e => ?_)
    · subst e; exact ih v.1 v.2.1 v.2.2 _ hm hx1
    · subst e; cases (show v = b from hm); exact hx1
noncomputable def mX1_come (n : Nat) (FI : OhI) (FR : OhQ) (AI : OhI) (AN : OhN) (x1 : Int32) : Option (OhI × OhI) :=
  (lpF (fun v => mX1_come_b3 n v.2.1 FR v.2.2 AN x1 v.1) n ((24 : Int32), FI, AI)).bind fun v4 =>
  some (v4.1, v4.2)
theorem x_mX1_come {G : OhG} {FI AI : OhI} {FL AL : OhL} {FR GR AR BR : OhQ} {AN : OhN} {C : OhC} {k : Nat × Nat} {Φ : OhP} {Ψ : OhX} (hH : ohShH FR AR AN) (n : Nat) (x1 : Int32) {r : OhI × OhI} (hm : mX1_come n FI FR AI AN x1 = some r) (hK : Φ none (r.1, FL, FR, GR, r.2, AL, AR, BR, AN, C)) : oX G 1 iX1_come 0 [(0, vR (some (0, 0))), (1, vI x1)] [] (FI, FL, FR, GR, AI, AL, AR, BR, AN, C) k Φ Ψ := by
  unfold mX1_come at hm
  refine oX_bipush (v := (24 : Int32)) dX1_come_0 (by decide) ?_
  refine oX_istore_n (ls' := [(2, vI (24 : Int32)), (0, vR (some (0, 0))), (1, vI x1)]) dX1_come_2 rfl (by decide) rfl ?_
  obtain ⟨v4, g4, hm⟩ := bd_s hm
  refine oX_sub [1, 2, 0] rfl (l_mX1_come_b3 hH n x1 n (24 : Int32) FI AI _ g4 ?_)
  obtain rfl := Option.some.inj hm
  exact oX_vret dX1_come_36 rfl hK
theorem t_X1_come {G : OhG} {FI AI : OhI} {FL AL : OhL} {FR GR AR BR : OhQ} {AN : OhN} {C : OhC} (hH : ohShH FR AR AN) (n : Nat) (x1 : Int32) {o : OhI × OhI} (hm : mX1_come n FI FR AI AN x1 = some o) : oT G 1 iX1_come [vR (some (0, 0)), vI x1] (FI, FL, FR, GR, AI, AL, AR, BR, AN, C) (0, 0) (fun v h => v = none ∧ h = (o.1, FL, FR, GR, o.2, AL, AR, BR, AN, C)) ohNo :=
  oT_of (by decide) rfl (Nat.le_of_ble_eq_true rfl) (x_mX1_come hH n x1 hm ⟨rfl, rfl⟩)
abbrev iX1_feed : OhM := (yX1_feed, cX1_feed, 6, (some .int), [])
theorem ok_X1_feed : oOk iX1_feed 5 := ⟨by decide, by decide, by decide +kernel⟩
noncomputable def mX1_feed (n : Nat) (FI : OhI) (FR : OhQ) (AI : OhI) (AN : OhN) (x1 : Int32) (x2 : Int32) (x3 : Int32) (x4 : Int32) (x5 : Int32) : Option (Int32 × OhI × OhI) :=
  (if ((FI 0 0 1) + (20 : Int32)) ≤ (340 : Int32) then
  (mX1_come n FI FR AI AN x1).bind fun r2 =>
    (mX1_come n r2.1 FR r2.2 AN x2).bind fun r3 =>
    (mX1_come n r3.1 FR r3.2 AN x3).bind fun r4 =>
    (mX1_come n r4.1 FR r4.2 AN x4).bind fun r5 =>
    (mX1_come n r5.1 FR r5.2 AN x5).bind fun r6 =>
    some (r6.1 0 0 1, r6.1, r6.2)
else
  some ((-1 : Int32), FI, AI))
theorem x_mX1_feed {G : OhG} {FI AI : OhI} {FL AL : OhL} {FR GR AR BR : OhQ} {AN : OhN} {C : OhC} {k : Nat × Nat} {Φ : OhP} {Ψ : OhX} (hH : ohShH FR AR AN) (n : Nat) (x1 : Int32) (x2 : Int32) (x3 : Int32) (x4 : Int32) (x5 : Int32) {r : Int32 × OhI × OhI} (hm : mX1_feed n FI FR AI AN x1 x2 x3 x4 x5 = some r) (hK : Φ (some (vI r.1)) (r.2.1, FL, FR, GR, r.2.2, AL, AR, BR, AN, C)) : oX G 2 iX1_feed 0 [(0, vR (some (0, 0))), (1, vI x1), (2, vI x2), (3, vI x3), (4, vI x4), (5, vI x5)] [] (FI, FL, FR, GR, AI, AL, AR, BR, AN, C) k Φ Ψ := by
  unfold mX1_feed at hm
  refine oX_aload_n dX1_feed_0 rfl rfl ?_
  refine oX_getI fX1_105 rfl oDs0 dX1_feed_1 ?_
  refine oX_bipush (v := (20 : Int32)) dX1_feed_4 (by decide) ?_
  refine oX_iadd dX1_feed_6 ?_
  refine oX_sipush (v := (340 : Int32)) dX1_feed_7 (by decide) ?_
  refine oX_icmp_le (tgt := 15) dX1_feed_10 (by decide) (fun c1 => ?_) (fun c1 => ?_)
  · have hm := ifp c1 hm
    refine oX_aload_n dX1_feed_15 rfl rfl ?_
    refine oX_iload_n dX1_feed_16 rfl rfl ?_
    obtain ⟨r2, g2, hm⟩ := bd_s hm
    refine oX_cV_ (as := [vI x1]) dX1_feed_17 rfl oDs0 rfl (by decide) rfl ok_X1_come rfl rfl q409 q411 qs2 q129 q412 (by decide) (Nat.le_of_ble_eq_true rfl) (t_X1_come hH n x1 g2) ?_
    refine oX_aload_n dX1_feed_20 rfl rfl ?_
    refine oX_iload_n dX1_feed_21 rfl rfl ?_
    obtain ⟨r3, g3, hm⟩ := bd_s hm
    refine oX_cV_ (as := [vI x2]) dX1_feed_22 rfl oDs0 rfl (by decide) rfl ok_X1_come rfl rfl q409 q411 qs2 q129 q412 (by decide) (Nat.le_of_ble_eq_true rfl) (t_X1_come hH n x2 g3) ?_
    refine oX_aload_n dX1_feed_25 rfl rfl ?_
    refine oX_iload_n dX1_feed_26 rfl rfl ?_
    obtain ⟨r4, g4, hm⟩ := bd_s hm
    refine oX_cV_ (as := [vI x3]) dX1_feed_27 rfl oDs0 rfl (by decide) rfl ok_X1_come rfl rfl q409 q411 qs2 q129 q412 (by decide) (Nat.le_of_ble_eq_true rfl) (t_X1_come hH n x3 g4) ?_
    refine oX_aload_n dX1_feed_30 rfl rfl ?_
    refine oX_iload dX1_feed_31 rfl ?_
    obtain ⟨r5, g5, hm⟩ := bd_s hm
    refine oX_cV_ (as := [vI x4]) dX1_feed_33 rfl oDs0 rfl (by decide) rfl ok_X1_come rfl rfl q409 q411 qs2 q129 q412 (by decide) (Nat.le_of_ble_eq_true rfl) (t_X1_come hH n x4 g5) ?_
    refine oX_aload_n dX1_feed_36 rfl rfl ?_
    refine oX_iload dX1_feed_37 rfl ?_
    obtain ⟨r6, g6, hm⟩ := bd_s hm
    refine oX_cV_ (as := [vI x5]) dX1_feed_39 rfl oDs0 rfl (by decide) rfl ok_X1_come rfl rfl q409 q411 qs2 q129 q412 (by decide) (Nat.le_of_ble_eq_true rfl) (t_X1_come hH n x5 g6) ?_
    refine oX_aload_n dX1_feed_42 rfl rfl ?_
    refine oX_getI fX1_105 rfl oDs0 dX1_feed_43 ?_
    obtain rfl := Option.some.inj hm
    exact oX_iret dX1_feed_46 rfl rfl hK
  · have hm := ifn c1 hm
    refine oX_iconst (v := (-1 : Int32)) dX1_feed_13 (by decide) ?_
    obtain rfl := Option.some.inj hm
    exact oX_iret dX1_feed_14 rfl rfl hK
theorem t_X1_feed {G : OhG} {FI AI : OhI} {FL AL : OhL} {FR GR AR BR : OhQ} {AN : OhN} {C : OhC} (hH : ohShH FR AR AN) (n : Nat) (x1 : Int32) (x2 : Int32) (x3 : Int32) (x4 : Int32) (x5 : Int32) {o : Int32 × OhI × OhI} (hm : mX1_feed n FI FR AI AN x1 x2 x3 x4 x5 = some o) : oT G 2 iX1_feed [vR (some (0, 0)), vI x1, vI x2, vI x3, vI x4, vI x5] (FI, FL, FR, GR, AI, AL, AR, BR, AN, C) (0, 0) (fun v h => v = (some (vI o.1)) ∧ h = (o.2.1, FL, FR, GR, o.2.2, AL, AR, BR, AN, C)) ohNo :=
  oT_of (by decide) rfl (Nat.le_of_ble_eq_true rfl) (x_mX1_feed hH n x1 x2 x3 x4 x5 hm ⟨rfl, rfl⟩)
abbrev iX1_end : OhM := (yX1_end, cX1_end, 2, (some .boolean), [])
theorem ok_X1_end : oOk iX1_end 1 := ⟨by decide, by decide, by decide +kernel⟩
noncomputable def mX1_end (FI : OhI) (x1 : Int32) : Option (Int32 × OhI) :=
  (if x1 < 0 then
  some ((0 : Int32), FI)
else
  (if x1 ≤ (FI 0 0 1) then
    oLet (sA FI 0 0 (uA (FI 0 0) 1 x1)) fun FI3 =>
      some ((1 : Int32), FI3)
  else
    some ((0 : Int32), FI)))
theorem x_mX1_end {G : OhG} {FI AI : OhI} {FL AL : OhL} {FR GR AR BR : OhQ} {AN : OhN} {C : OhC} {k : Nat × Nat} {Φ : OhP} {Ψ : OhX} (x1 : Int32) {r : Int32 × OhI} (hm : mX1_end FI x1 = some r) (hK : Φ (some (vI r.1)) (r.2, FL, FR, GR, AI, AL, AR, BR, AN, C)) : oX G 1 iX1_end 0 [(0, vR (some (0, 0))), (1, vI x1)] [] (FI, FL, FR, GR, AI, AL, AR, BR, AN, C) k Φ Ψ := by
  unfold mX1_end at hm
  refine oX_iload_n dX1_end_0 rfl rfl ?_
  refine oX_if_lt (tgt := 12) dX1_end_1 (by decide) (fun c1 => ?_) (fun c1 => ?_)
  · have hm := ifp c1 hm
    refine oX_iconst (v := (0 : Int32)) dX1_end_12 (by decide) ?_
    obtain rfl := Option.some.inj hm
    exact oX_iret dX1_end_13 rfl (by decide) hK
  · have hm := ifn c1 hm
    refine oX_iload_n dX1_end_4 rfl rfl ?_
    refine oX_aload_n dX1_end_5 rfl rfl ?_
    refine oX_getI fX1_105 rfl oDs0 dX1_end_6 ?_
    refine oX_icmp_le (tgt := 14) dX1_end_9 (by decide) (fun c2 => ?_) (fun c2 => ?_)
    · have hm := ifp c2 hm
      refine oX_aload_n dX1_end_14 rfl rfl ?_
      refine oX_iload_n dX1_end_15 rfl rfl ?_
      obtain ⟨FI3, hFI3, hm⟩ := oLs hm
      refine oX_putI fX1_105 rfl (fun h9 => by cases h9) oDs0 dX1_end_16 ⟨rfl, rfl⟩ hFI3 ?_
      refine oX_iconst (v := (1 : Int32)) dX1_end_19 (by decide) ?_
      obtain rfl := Option.some.inj hm
      exact oX_iret dX1_end_20 rfl (by decide) hK
    · have hm := ifn c2 hm
      refine oX_iconst (v := (0 : Int32)) dX1_end_12 (by decide) ?_
      obtain rfl := Option.some.inj hm
      exact oX_iret dX1_end_13 rfl (by decide) hK
theorem t_X1_end {G : OhG} {FI AI : OhI} {FL AL : OhL} {FR GR AR BR : OhQ} {AN : OhN} {C : OhC} (x1 : Int32) {o : Int32 × OhI} (hm : mX1_end FI x1 = some o) : oT G 1 iX1_end [vR (some (0, 0)), vI x1] (FI, FL, FR, GR, AI, AL, AR, BR, AN, C) (0, 0) (fun v h => v = (some (vI o.1)) ∧ h = (o.2, FL, FR, GR, AI, AL, AR, BR, AN, C)) ohNo :=
  oT_of (by decide) rfl (Nat.le_of_ble_eq_true rfl) (x_mX1_end x1 hm ⟨rfl, rfl⟩)
abbrev iX1_next : OhM := (yX1_next, cX1_next, 2, (some .int), [])
theorem ok_X1_next : oOk iX1_next 1 := ⟨by decide, by decide, by decide +kernel⟩
noncomputable def mX1_next (FI : OhI) (x1 : Int32) : Option (Int32 × OhI) :=
  (mX1_isIn x1 (0 : Int32) (29 : Int32)).bind fun r1 =>
  (if r1 = 0 then
  some ((-1 : Int32), FI)
else
  (if ((FI 0 0 3) + x1) < (30 : Int32) then
    oLet (sA FI 0 0 (uA (FI 0 0) 3 ((FI 0 0 3) + x1))) fun FI4 =>
      oLet (sA FI4 0 0 (uA (FI4 0 0) 6 ((FI4 0 0 6) + (1 : Int32)))) fun FI5 =>
      some (FI5 0 0 3, FI5)
  else
    some ((-1 : Int32), FI)))
theorem x_mX1_next {G : OhG} {FI AI : OhI} {FL AL : OhL} {FR GR AR BR : OhQ} {AN : OhN} {C : OhC} {k : Nat × Nat} {Φ : OhP} {Ψ : OhX} (x1 : Int32) {r : Int32 × OhI} (hm : mX1_next FI x1 = some r) (hK : Φ (some (vI r.1)) (r.2, FL, FR, GR, AI, AL, AR, BR, AN, C)) : oX G 2 iX1_next 0 [(0, vR (some (0, 0))), (1, vI x1)] [] (FI, FL, FR, GR, AI, AL, AR, BR, AN, C) k Φ Ψ := by
  unfold mX1_next at hm
  refine oX_iload_n dX1_next_0 rfl rfl ?_
  refine oX_iconst (v := (0 : Int32)) dX1_next_1 (by decide) ?_
  refine oX_bipush (v := (29 : Int32)) dX1_next_2 (by decide) ?_
  obtain ⟨r1, g1, hm⟩ := bd_s hm
  refine oX_cS (as := [vI x1, vI (0 : Int32), vI (29 : Int32)]) dX1_next_4 rfl ok_X1_isIn rfl rfl q421 q238 q129 q239 (by decide) (Nat.le_of_ble_eq_true rfl) (t_X1_isIn x1 (0 : Int32) (29 : Int32) g1) ?_
  refine oX_if_eq (tgt := 21) dX1_next_7 (by decide) (fun c2 => ?_) (fun c2 => ?_)
  · have hm := ifp c2 hm
    refine oX_iconst (v := (-1 : Int32)) dX1_next_21 (by decide) ?_
    obtain rfl := Option.some.inj hm
    exact oX_iret dX1_next_22 rfl rfl hK
  · have hm := ifn c2 hm
    refine oX_aload_n dX1_next_10 rfl rfl ?_
    refine oX_getI fX1_116 rfl oDs0 dX1_next_11 ?_
    refine oX_iload_n dX1_next_14 rfl rfl ?_
    refine oX_iadd dX1_next_15 ?_
    refine oX_bipush (v := (30 : Int32)) dX1_next_16 (by decide) ?_
    refine oX_icmp_lt (tgt := 23) dX1_next_18 (by decide) (fun c3 => ?_) (fun c3 => ?_)
    · have hm := ifp c3 hm
      refine oX_aload_n dX1_next_23 rfl rfl ?_
      refine oX_dup dX1_next_24 trivial ?_
      refine oX_getI fX1_116 rfl oDs0 dX1_next_25 ?_
      refine oX_iload_n dX1_next_28 rfl rfl ?_
      refine oX_iadd dX1_next_29 ?_
      obtain ⟨FI4, hFI4, hm⟩ := oLs hm
      refine oX_putI fX1_116 rfl (fun h9 => by cases h9) oDs0 dX1_next_30 ⟨rfl, rfl⟩ hFI4 ?_
      refine oX_aload_n dX1_next_33 rfl rfl ?_
      refine oX_dup dX1_next_34 trivial ?_
      refine oX_getI fX1_119 rfl oDs0 dX1_next_35 ?_
      refine oX_iconst (v := (1 : Int32)) dX1_next_38 (by decide) ?_
      refine oX_iadd dX1_next_39 ?_
      obtain ⟨FI5, hFI5, hm⟩ := oLs hm
      refine oX_putI fX1_119 rfl (fun h9 => by cases h9) oDs0 dX1_next_40 ⟨rfl, rfl⟩ hFI5 ?_
      refine oX_aload_n dX1_next_43 rfl rfl ?_
      refine oX_getI fX1_116 rfl oDs0 dX1_next_44 ?_
      obtain rfl := Option.some.inj hm
      exact oX_iret dX1_next_47 rfl rfl hK
    · have hm := ifn c3 hm
      refine oX_iconst (v := (-1 : Int32)) dX1_next_21 (by decide) ?_
      obtain rfl := Option.some.inj hm
      exact oX_iret dX1_next_22 rfl rfl hK
theorem t_X1_next {G : OhG} {FI AI : OhI} {FL AL : OhL} {FR GR AR BR : OhQ} {AN : OhN} {C : OhC} (x1 : Int32) {o : Int32 × OhI} (hm : mX1_next FI x1 = some o) : oT G 2 iX1_next [vR (some (0, 0)), vI x1] (FI, FL, FR, GR, AI, AL, AR, BR, AN, C) (0, 0) (fun v h => v = (some (vI o.1)) ∧ h = (o.2, FL, FR, GR, AI, AL, AR, BR, AN, C)) ohNo :=
  oT_of (by decide) rfl (Nat.le_of_ble_eq_true rfl) (x_mX1_next x1 hm ⟨rfl, rfl⟩)
abbrev iX1_take : OhM := (yX1_take, cX1_take, 2, (some .int), [])
theorem ok_X1_take : oOk iX1_take 0 := ⟨by decide, by decide, by decide +kernel⟩
noncomputable def mX1_take (FI : OhI) : Option (Int32 × OhI) :=
  oLet (sA FI 0 0 (uA (FI 0 0) 1 (0 : Int32))) fun FI1 =>
  some (FI 0 0 1, FI1)
theorem x_mX1_take {G : OhG} {FI AI : OhI} {FL AL : OhL} {FR GR AR BR : OhQ} {AN : OhN} {C : OhC} {k : Nat × Nat} {Φ : OhP} {Ψ : OhX} {r : Int32 × OhI} (hm : mX1_take FI = some r) (hK : Φ (some (vI r.1)) (r.2, FL, FR, GR, AI, AL, AR, BR, AN, C)) : oX G 1 iX1_take 0 [(0, vR (some (0, 0)))] [] (FI, FL, FR, GR, AI, AL, AR, BR, AN, C) k Φ Ψ := by
  unfold mX1_take at hm
  refine oX_aload_n dX1_take_0 rfl rfl ?_
  refine oX_getI fX1_105 rfl oDs0 dX1_take_1 ?_
  refine oX_istore_n (ls' := [(1, vI (FI 0 0 1)), (0, vR (some (0, 0)))]) dX1_take_4 rfl (by decide) rfl ?_
  refine oX_aload_n dX1_take_5 rfl rfl ?_
  refine oX_iconst (v := (0 : Int32)) dX1_take_6 (by decide) ?_
  obtain ⟨FI1, hFI1, hm⟩ := oLs hm
  refine oX_putI fX1_105 rfl (fun h9 => by cases h9) oDs0 dX1_take_7 ⟨rfl, rfl⟩ hFI1 ?_
  refine oX_iload_n dX1_take_10 rfl rfl ?_
  obtain rfl := Option.some.inj hm
  exact oX_iret dX1_take_11 rfl rfl hK
theorem t_X1_take {G : OhG} {FI AI : OhI} {FL AL : OhL} {FR GR AR BR : OhQ} {AN : OhN} {C : OhC} {o : Int32 × OhI} (hm : mX1_take FI = some o) : oT G 1 iX1_take [vR (some (0, 0))] (FI, FL, FR, GR, AI, AL, AR, BR, AN, C) (0, 0) (fun v h => v = (some (vI o.1)) ∧ h = (o.2, FL, FR, GR, AI, AL, AR, BR, AN, C)) ohNo :=
  oT_of (by decide) rfl (Nat.le_of_ble_eq_true rfl) (x_mX1_take hm ⟨rfl, rfl⟩)
