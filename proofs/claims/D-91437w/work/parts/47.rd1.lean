/-! MIRRORS of methods that make things: printed by gen/mk_alloc.py -/
abbrev iX9_at : OhM := (yX9_at, cX9_at, 2, (some .int), [])
theorem ok_X9_at : oOk iX9_at 1 := ⟨by decide, by decide, by decide +kernel⟩
abbrev iX9_isLetter : OhM := (yX9_isLetter, cX9_isLetter, 1, (some .boolean), [])
theorem ok_X9_isLetter : oOk iX9_isLetter 1 := ⟨by decide, by decide, by decide +kernel⟩
abbrev iX9_isDigit : OhM := (yX9_isDigit, cX9_isDigit, 1, (some .boolean), [])
theorem ok_X9_isDigit : oOk iX9_isDigit 1 := ⟨by decide, by decide, by decide +kernel⟩
abbrev iX9_isSign : OhM := (yX9_isSign, cX9_isSign, 2, (some .boolean), [])
theorem ok_X9_isSign : oOk iX9_isSign 1 := ⟨by decide, by decide, by decide +kernel⟩
abbrev iX9_is : OhM := (yX9_is, cX9_is, 2, (some .boolean), [])
theorem ok_X9_is : oOk iX9_is 1 := ⟨by decide, by decide, by decide +kernel⟩
abbrev iX9_atom : OhM := (yX9_atom, cX9_atom, 4, (some .int), [])
theorem ok_X9_atom : oOk iX9_atom 0 := ⟨by decide, by decide, by decide +kernel⟩
abbrev iX9_go : OhM := (yX9_go, cX9_go, 5, none, [])
theorem ok_X9_go : oOk iX9_go 0 := ⟨by decide, by decide, by decide +kernel⟩
abbrev iX9_init : OhM := (yX9_init, cX9_init, 3, none, [])
theorem ok_X9_init : oOk iX9_init 2 := ⟨by decide, by decide, by decide +kernel⟩
noncomputable def mX9_at (FI : OhI) (FR : OhQ) (AI : OhI) (AN : OhN) (t : Nat × Nat) (x1 : Int32) : Option (Int32) :=
  (if (FI t.1 t.2 1) ≤ x1 then
  some (0 : Int32)
else
  (oD2 2 (FR t.1 t.2 0)).bind fun a2 =>
    gd (vp_in x1 (AN a2.1 a2.2)) <|
    some ((AI a2.1 a2.2 x1.toNatClampNeg) &&& (255 : Int32)))
theorem x_mX9_at {G : OhG} {FI AI : OhI} {FL AL : OhL} {FR GR AR BR : OhQ} {AN : OhN} {C : OhC} {k : Nat × Nat} {Φ : OhP} {Ψ : OhX} (t : Nat × Nat) (ht : ohKd t.1 = 8) (x1 : Int32) {r : Int32} (hm : mX9_at FI FR AI AN t x1 = some r) (hK : Φ (some (vI r)) (FI, FL, FR, GR, AI, AL, AR, BR, AN, C)) : oX G 1 iX9_at 0 [(0, vR (some t)), (1, vI x1)] [] (FI, FL, FR, GR, AI, AL, AR, BR, AN, C) k Φ Ψ := by
  unfold mX9_at at hm
  refine oX_iload_n dX9_at_0 rfl rfl ?_
  refine oX_aload_n dX9_at_1 rfl rfl ?_
  refine oX_getI fX9_28 rfl (oD_t ht) dX9_at_2 ?_
  refine oX_icmp_ge (tgt := 21) dX9_at_5 (by decide) (fun c1 => ?_) (fun c1 => ?_)
  · have hm := ifp c1 hm
    refine oX_iconst (v := (0 : Int32)) dX9_at_21 (by decide) ?_
    obtain rfl := Option.some.inj hm
    exact oX_iret dX9_at_22 rfl rfl hK
  · have hm := ifn c1 hm
    refine oX_aload_n dX9_at_8 rfl rfl ?_
    refine oX_getF fX9_24 rfl (oD_t ht) dX9_at_9 rfl ?_
    refine oX_iload_n dX9_at_12 rfl rfl ?_
    obtain ⟨a2, e2, hm⟩ := bd_s hm
    obtain ⟨g3, hm⟩ := gd_s hm
    refine oX_bald2 e2 g3 dX9_at_13 ?_
    refine oX_sipush (v := (255 : Int32)) dX9_at_14 (by decide) ?_
    refine oX_iand dX9_at_17 ?_
    refine oX_goto (tgt := 22) dX9_at_18 (by decide) ?_
    obtain rfl := Option.some.inj hm
    exact oX_iret dX9_at_22 rfl rfl hK
theorem t_X9_at {G : OhG} {FI AI : OhI} {FL AL : OhL} {FR GR AR BR : OhQ} {AN : OhN} {C : OhC} (t : Nat × Nat) (ht : ohKd t.1 = 8) (x1 : Int32) {o : Int32} (hm : mX9_at FI FR AI AN t x1 = some o) : oT G 1 iX9_at [vR (some t), vI x1] (FI, FL, FR, GR, AI, AL, AR, BR, AN, C) (0, 0) (fun v h => v = (some (vI o)) ∧ h = (FI, FL, FR, GR, AI, AL, AR, BR, AN, C)) ohNo :=
  oT_of (by decide) rfl (Nat.le_of_ble_eq_true rfl) (x_mX9_at t ht x1 hm ⟨rfl, rfl⟩)
noncomputable def mX9_isLetter (x0 : Int32) : Option (Int32) :=
  (if x0 < (97 : Int32) then
  some (0 : Int32)
else
  (if (122 : Int32) < x0 then
    some (0 : Int32)
  else
    some (1 : Int32)))
theorem x_mX9_isLetter {G : OhG} {FI AI : OhI} {FL AL : OhL} {FR GR AR BR : OhQ} {AN : OhN} {C : OhC} {k : Nat × Nat} {Φ : OhP} {Ψ : OhX} (x0 : Int32) {r : Int32} (hm : mX9_isLetter x0 = some r) (hK : Φ (some (vI r)) (FI, FL, FR, GR, AI, AL, AR, BR, AN, C)) : oX G 1 iX9_isLetter 0 [(0, vI x0)] [] (FI, FL, FR, GR, AI, AL, AR, BR, AN, C) k Φ Ψ := by
  unfold mX9_isLetter at hm
  refine oX_iload_n dX9_isLetter_0 rfl rfl ?_
  refine oX_bipush (v := (97 : Int32)) dX9_isLetter_1 (by decide) ?_
  refine oX_icmp_lt (tgt := 16) dX9_isLetter_3 (by decide) (fun c1 => ?_) (fun c1 => ?_)
  · have hm := ifp c1 hm
    refine oX_iconst (v := (0 : Int32)) dX9_isLetter_16 (by decide) ?_
    obtain rfl := Option.some.inj hm
    exact oX_iret dX9_isLetter_17 rfl (by decide) hK
  · have hm := ifn c1 hm
    refine oX_iload_n dX9_isLetter_6 rfl rfl ?_
    refine oX_bipush (v := (122 : Int32)) dX9_isLetter_7 (by decide) ?_
    refine oX_icmp_gt (tgt := 16) dX9_isLetter_9 (by decide) (fun c2 => ?_) (fun c2 => ?_)
    · have hm := ifp c2 hm
      refine oX_iconst (v := (0 : Int32)) dX9_isLetter_16 (by decide) ?_
      obtain rfl := Option.some.inj hm
      exact oX_iret dX9_isLetter_17 rfl (by decide) hK
    · have hm := ifn c2 hm
      refine oX_iconst (v := (1 : Int32)) dX9_isLetter_12 (by decide) ?_
      refine oX_goto (tgt := 17) dX9_isLetter_13 (by decide) ?_
      obtain rfl := Option.some.inj hm
      exact oX_iret dX9_isLetter_17 rfl (by decide) hK
theorem t_X9_isLetter {G : OhG} {FI AI : OhI} {FL AL : OhL} {FR GR AR BR : OhQ} {AN : OhN} {C : OhC} (x0 : Int32) {o : Int32} (hm : mX9_isLetter x0 = some o) : oT G 1 iX9_isLetter [vI x0] (FI, FL, FR, GR, AI, AL, AR, BR, AN, C) (0, 0) (fun v h => v = (some (vI o)) ∧ h = (FI, FL, FR, GR, AI, AL, AR, BR, AN, C)) ohNo :=
  oT_of (by decide) rfl (Nat.le_of_ble_eq_true rfl) (x_mX9_isLetter x0 hm ⟨rfl, rfl⟩)
noncomputable def mX9_isDigit (x0 : Int32) : Option (Int32) :=
  (if x0 < (48 : Int32) then
  some (0 : Int32)
else
  (if (57 : Int32) < x0 then
    some (0 : Int32)
  else
    some (1 : Int32)))
theorem x_mX9_isDigit {G : OhG} {FI AI : OhI} {FL AL : OhL} {FR GR AR BR : OhQ} {AN : OhN} {C : OhC} {k : Nat × Nat} {Φ : OhP} {Ψ : OhX} (x0 : Int32) {r : Int32} (hm : mX9_isDigit x0 = some r) (hK : Φ (some (vI r)) (FI, FL, FR, GR, AI, AL, AR, BR, AN, C)) : oX G 1 iX9_isDigit 0 [(0, vI x0)] [] (FI, FL, FR, GR, AI, AL, AR, BR, AN, C) k Φ Ψ := by
  unfold mX9_isDigit at hm
  refine oX_iload_n dX9_isDigit_0 rfl rfl ?_
  refine oX_bipush (v := (48 : Int32)) dX9_isDigit_1 (by decide) ?_
  refine oX_icmp_lt (tgt := 16) dX9_isDigit_3 (by decide) (fun c1 => ?_) (fun c1 => ?_)
  · have hm := ifp c1 hm
    refine oX_iconst (v := (0 : Int32)) dX9_isDigit_16 (by decide) ?_
    obtain rfl := Option.some.inj hm
    exact oX_iret dX9_isDigit_17 rfl (by decide) hK
  · have hm := ifn c1 hm
    refine oX_iload_n dX9_isDigit_6 rfl rfl ?_
    refine oX_bipush (v := (57 : Int32)) dX9_isDigit_7 (by decide) ?_
    refine oX_icmp_gt (tgt := 16) dX9_isDigit_9 (by decide) (fun c2 => ?_) (fun c2 => ?_)
    · have hm := ifp c2 hm
      refine oX_iconst (v := (0 : Int32)) dX9_isDigit_16 (by decide) ?_
      obtain rfl := Option.some.inj hm
      exact oX_iret dX9_isDigit_17 rfl (by decide) hK
    · have hm := ifn c2 hm
      refine oX_iconst (v := (1 : Int32)) dX9_isDigit_12 (by decide) ?_
      refine oX_goto (tgt := 17) dX9_isDigit_13 (by decide) ?_
      obtain rfl := Option.some.inj hm
      exact oX_iret dX9_isDigit_17 rfl (by decide) hK
theorem t_X9_isDigit {G : OhG} {FI AI : OhI} {FL AL : OhL} {FR GR AR BR : OhQ} {AN : OhN} {C : OhC} (x0 : Int32) {o : Int32} (hm : mX9_isDigit x0 = some o) : oT G 1 iX9_isDigit [vI x0] (FI, FL, FR, GR, AI, AL, AR, BR, AN, C) (0, 0) (fun v h => v = (some (vI o)) ∧ h = (FI, FL, FR, GR, AI, AL, AR, BR, AN, C)) ohNo :=
  oT_of (by decide) rfl (Nat.le_of_ble_eq_true rfl) (x_mX9_isDigit x0 hm ⟨rfl, rfl⟩)
noncomputable def mX9_isSign (FI : OhI) (t : Nat × Nat) (x1 : Int32) : Option (Int32) :=
  (if (FI t.1 t.2 3) = (4 : Int32) then
  (if (FI t.1 t.2 6) = x1 then
    some (1 : Int32)
  else
    some (0 : Int32))
else
  some (0 : Int32))
theorem x_mX9_isSign {G : OhG} {FI AI : OhI} {FL AL : OhL} {FR GR AR BR : OhQ} {AN : OhN} {C : OhC} {k : Nat × Nat} {Φ : OhP} {Ψ : OhX} (t : Nat × Nat) (ht : ohKd t.1 = 8) (x1 : Int32) {r : Int32} (hm : mX9_isSign FI t x1 = some r) (hK : Φ (some (vI r)) (FI, FL, FR, GR, AI, AL, AR, BR, AN, C)) : oX G 1 iX9_isSign 0 [(0, vR (some t)), (1, vI x1)] [] (FI, FL, FR, GR, AI, AL, AR, BR, AN, C) k Φ Ψ := by
  unfold mX9_isSign at hm
  refine oX_aload_n dX9_isSign_0 rfl rfl ?_
  refine oX_getI fX9_42 rfl (oD_t ht) dX9_isSign_1 ?_
  refine oX_iconst (v := (4 : Int32)) dX9_isSign_4 (by decide) ?_
  refine oX_icmp_ne (tgt := 20) dX9_isSign_5 (by decide) (fun c1 => ?_) (fun c1 => ?_)
  · have hm := ifp c1 hm
    refine oX_aload_n dX9_isSign_8 rfl rfl ?_
    refine oX_getI fX9_59 rfl (oD_t ht) dX9_isSign_9 ?_
    refine oX_iload_n dX9_isSign_12 rfl rfl ?_
    refine oX_icmp_ne (tgt := 20) dX9_isSign_13 (by decide) (fun c2 => ?_) (fun c2 => ?_)
    · have hm := ifp c2 hm
      refine oX_iconst (v := (1 : Int32)) dX9_isSign_16 (by decide) ?_
      refine oX_goto (tgt := 21) dX9_isSign_17 (by decide) ?_
      obtain rfl := Option.some.inj hm
      exact oX_iret dX9_isSign_21 rfl (by decide) hK
    · have hm := ifn c2 hm
      refine oX_iconst (v := (0 : Int32)) dX9_isSign_20 (by decide) ?_
      obtain rfl := Option.some.inj hm
      exact oX_iret dX9_isSign_21 rfl (by decide) hK
  · have hm := ifn c1 hm
    refine oX_iconst (v := (0 : Int32)) dX9_isSign_20 (by decide) ?_
    obtain rfl := Option.some.inj hm
    exact oX_iret dX9_isSign_21 rfl (by decide) hK
theorem t_X9_isSign {G : OhG} {FI AI : OhI} {FL AL : OhL} {FR GR AR BR : OhQ} {AN : OhN} {C : OhC} (t : Nat × Nat) (ht : ohKd t.1 = 8) (x1 : Int32) {o : Int32} (hm : mX9_isSign FI t x1 = some o) : oT G 1 iX9_isSign [vR (some t), vI x1] (FI, FL, FR, GR, AI, AL, AR, BR, AN, C) (0, 0) (fun v h => v = (some (vI o)) ∧ h = (FI, FL, FR, GR, AI, AL, AR, BR, AN, C)) ohNo :=
  oT_of (by decide) rfl (Nat.le_of_ble_eq_true rfl) (x_mX9_isSign t ht x1 hm ⟨rfl, rfl⟩)
noncomputable def mX9_is (n : Nat) (FI : OhI) (FR : OhQ) (GR : OhQ) (AI : OhI) (AN : OhN) (t : Nat × Nat) (x1 : OhR) : Option (Int32) :=
  (if (FI t.1 t.2 3) = (2 : Int32) then
  (oDS (GR t.1 t.2 10)).bind fun a2 =>
    (mJ8_equals n FI FR AI AN a2 x1).bind fun r3 =>
    (if r3 = 0 then
    some (0 : Int32)
  else
    some (1 : Int32))
else
  some (0 : Int32))
theorem x_mX9_is {G : OhG} {FI AI : OhI} {FL AL : OhL} {FR GR AR BR : OhQ} {AN : OhN} {C : OhC} {k : Nat × Nat} {Φ : OhP} {Ψ : OhX} (n : Nat) (t : Nat × Nat) (ht : ohKd t.1 = 8) (x1 : OhR) {r : Int32} (hm : mX9_is n FI FR GR AI AN t x1 = some r) (hK : Φ (some (vI r)) (FI, FL, FR, GR, AI, AL, AR, BR, AN, C)) : oX G 3 iX9_is 0 [(0, vR (some t)), (1, vR x1)] [] (FI, FL, FR, GR, AI, AL, AR, BR, AN, C) k Φ Ψ := by
  unfold mX9_is at hm
  refine oX_aload_n dX9_is_0 rfl rfl ?_
  refine oX_getI fX9_42 rfl (oD_t ht) dX9_is_1 ?_
  refine oX_iconst (v := (2 : Int32)) dX9_is_4 (by decide) ?_
  refine oX_icmp_ne (tgt := 23) dX9_is_5 (by decide) (fun c1 => ?_) (fun c1 => ?_)
  · have hm := ifp c1 hm
    refine oX_aload_n dX9_is_8 rfl rfl ?_
    refine oX_getG fX9_11 rfl (oD_t ht) dX9_is_9 ?_
    refine oX_aload_n dX9_is_12 rfl rfl ?_
    obtain ⟨a2, e2, hm⟩ := bd_s hm
    obtain ⟨r3, g3, hm⟩ := bd_s hm
    refine oX_cVS (as := [vR x1]) dX9_is_13 rfl e2 rfl ok_J8_equals rfl rfl q972 q973 q974 q147 q975 (by decide) (Nat.le_of_ble_eq_true rfl) (t_J8_equals n a2 ((oDS_some e2).2) x1 g3) ?_
    refine oX_if_eq (tgt := 23) dX9_is_16 (by decide) (fun c4 => ?_) (fun c4 => ?_)
    · have hm := ifp c4 hm
      refine oX_iconst (v := (0 : Int32)) dX9_is_23 (by decide) ?_
      obtain rfl := Option.some.inj hm
      exact oX_iret dX9_is_24 rfl (by decide) hK
    · have hm := ifn c4 hm
      refine oX_iconst (v := (1 : Int32)) dX9_is_19 (by decide) ?_
      refine oX_goto (tgt := 24) dX9_is_20 (by decide) ?_
      obtain rfl := Option.some.inj hm
      exact oX_iret dX9_is_24 rfl (by decide) hK
  · have hm := ifn c1 hm
    refine oX_iconst (v := (0 : Int32)) dX9_is_23 (by decide) ?_
    obtain rfl := Option.some.inj hm
    exact oX_iret dX9_is_24 rfl (by decide) hK
theorem t_X9_is {G : OhG} {FI AI : OhI} {FL AL : OhL} {FR GR AR BR : OhQ} {AN : OhN} {C : OhC} (n : Nat) (t : Nat × Nat) (ht : ohKd t.1 = 8) (x1 : OhR) {o : Int32} (hm : mX9_is n FI FR GR AI AN t x1 = some o) : oT G 3 iX9_is [vR (some t), vR x1] (FI, FL, FR, GR, AI, AL, AR, BR, AN, C) (0, 0) (fun v h => v = (some (vI o)) ∧ h = (FI, FL, FR, GR, AI, AL, AR, BR, AN, C)) ohNo :=
  oT_of (by decide) rfl (Nat.le_of_ble_eq_true rfl) (x_mX9_is n t ht x1 hm ⟨rfl, rfl⟩)
noncomputable def mX9_atom_b14 (n : Nat) (FI : OhI) (FR : OhQ) (GR : OhQ) (AI : OhI) (AN : OhN) (C : OhC) (t : Nat × Nat) (x1 : Int32) (x2 : Int32) : Option ((Int32 × Int32) ⊕ ((Unit) ⊕ (Int32))) :=
  (if (10 : Int32) ≤ x2 then
  some (.inr (.inl ()))
else
  gd (0 < C 53) <|
    (mJ8_indexOf_2 n FI FR AI AN (53, 0) (32 : Int32) x1).bind fun r4 =>
    (oDS (GR t.1 t.2 10)).bind fun a5 =>
    (mJ8_length FI FR AN a5).bind fun r6 =>
    (if r6 = (r4 - x1) then
    gd (0 < C 53) <|
      (mJ8_startsWith n FI FR AI AN (53, 0) (GR t.1 t.2 10) x1).bind fun r9 =>
      (if r9 = 0 then
      some (.inl (r4 + (1 : Int32), x2 + (1 : Int32)))
    else
      some (.inr (.inr x2)))
  else
    some (.inl (r4 + (1 : Int32), x2 + (1 : Int32)))))
theorem x_mX9_atom_b14 {G : OhG} {FI AI : OhI} {FL AL : OhL} {FR GR AR BR : OhQ} {AN : OhN} {C : OhC} {k : Nat × Nat} {Φ : OhP} {Ψ : OhX} (n : Nat) (t : Nat × Nat) (ht : ohKd t.1 = 8) (x1 : Int32) (x2 : Int32) {r : (Int32 × Int32) ⊕ ((Unit) ⊕ (Int32))} (hm : mX9_atom_b14 n FI FR GR AI AN C t x1 x2 = some r) (hk : ∀ v : Int32 × Int32, r = .inl v → oX G 4 iX9_atom 14 [(0, vR (some t)), (1, vI v.1), (2, vI v.2)] [] (FI, FL, FR, GR, AI, AL, AR, BR, AN, C) k Φ Ψ) (hx1 : ∀ v : Unit, r = .inr (.inl v) → oX G 4 iX9_atom 69 [] [] (FI, FL, FR, GR, AI, AL, AR, BR, AN, C) k Φ Ψ) (hx2 : ∀ v : Int32, r = .inr (.inr v) → oX G 4 iX9_atom 55 [(2, vI v)] [] (FI, FL, FR, GR, AI, AL, AR, BR, AN, C) k Φ Ψ) : oX G 4 iX9_atom 14 [(0, vR (some t)), (1, vI x1), (2, vI x2)] [] (FI, FL, FR, GR, AI, AL, AR, BR, AN, C) k Φ Ψ := by
  unfold mX9_atom_b14 at hm
  refine oX_iload_n dX9_atom_14 rfl rfl ?_
  refine oX_bipush (v := (10 : Int32)) dX9_atom_15 (by decide) ?_
  refine oX_icmp_ge (tgt := 69) dX9_atom_17 (by decide) (fun c2 => ?_) (fun c2 => ?_)
  · have hm := ifp c2 hm
    exact oX_sub [] rfl (hx1 () (Option.some.inj hm).symm)
  · have hm := ifn c2 hm
    obtain ⟨g3, hm⟩ := gd_s hm
    refine oX_ldcS (site := 53) g3 (List.mem_of_getElem? (i := 12) rfl) rfl rfl dX9_atom_20 ?_
    refine oX_bipush (v := (32 : Int32)) dX9_atom_22 (by decide) ?_
    refine oX_iload_n dX9_atom_24 rfl rfl ?_
    obtain ⟨r4, g4, hm⟩ := bd_s hm
    refine oX_cVS (as := [vI (32 : Int32), vI x1]) dX9_atom_25 rfl (oDS_t (by decide)) rfl ok_J8_indexOf_2 rfl rfl q1106 q732 q733 q147 q734 (by decide) (Nat.le_of_ble_eq_true rfl) (t_J8_indexOf_2 n (53, 0) ((oDS_some (oDS_t (by decide))).2) (32 : Int32) x1 g4) ?_
    refine oX_istore_n (ls' := [(3, vI r4), (0, vR (some t)), (1, vI x1), (2, vI x2)]) dX9_atom_28 rfl (by decide) rfl ?_
    refine oX_aload_n dX9_atom_29 rfl rfl ?_
    refine oX_getG fX9_11 rfl (oD_t ht) dX9_atom_30 ?_
    obtain ⟨a5, e5, hm⟩ := bd_s hm
    obtain ⟨r6, g6, hm⟩ := bd_s hm
    refine oX_cVS (as := []) dX9_atom_33 rfl e5 rfl ok_J8_length rfl rfl q1107 q742 q743 q147 q744 (by decide) (Nat.le_of_ble_eq_true rfl) (t_J8_length a5 ((oDS_some e5).2) g6) ?_
    refine oX_iload_n dX9_atom_36 rfl rfl ?_
    refine oX_iload_n dX9_atom_37 rfl rfl ?_
    refine oX_isub dX9_atom_38 ?_
    refine oX_icmp_ne (tgt := 59) dX9_atom_39 (by decide) (fun c7 => ?_) (fun c7 => ?_)
    · have hm := ifp c7 hm
      obtain ⟨g8, hm⟩ := gd_s hm
      refine oX_ldcS (site := 53) g8 (List.mem_of_getElem? (i := 12) rfl) rfl rfl dX9_atom_42 ?_
      refine oX_aload_n dX9_atom_44 rfl rfl ?_
      refine oX_getG fX9_11 rfl (oD_t ht) dX9_atom_45 ?_
      refine oX_iload_n dX9_atom_48 rfl rfl ?_
      obtain ⟨r9, g9, hm⟩ := bd_s hm
      refine oX_cVS (as := [vR (GR t.1 t.2 10), vI x1]) dX9_atom_49 rfl (oDS_t (by decide)) rfl ok_J8_startsWith rfl rfl q1108 q1109 q1110 q147 q1111 (by decide) (Nat.le_of_ble_eq_true rfl) (t_J8_startsWith n (53, 0) ((oDS_some (oDS_t (by decide))).2) (GR t.1 t.2 10) x1 g9) ?_
      refine oX_if_eq (tgt := 59) dX9_atom_52 (by decide) (fun c10 => ?_) (fun c10 => ?_)
      · have hm := ifp c10 hm
        refine oX_iload_n dX9_atom_59 rfl rfl ?_
        refine oX_iconst (v := (1 : Int32)) dX9_atom_60 (by decide) ?_
        refine oX_iadd dX9_atom_61 ?_
        refine oX_istore_n (ls' := [(1, vI (r4 + (1 : Int32))), (3, vI r4), (0, vR (some t)), (2, vI x2)]) dX9_atom_62 rfl (by decide) rfl ?_
        refine oX_iinc (v := x2 + (1 : Int32)) (ls' := [(2, vI (x2 + (1 : Int32))), (1, vI (r4 + (1 : Int32))), (3, vI r4), (0, vR (some t))]) dX9_atom_63 rfl rfl (by decide) rfl ?_
        refine oX_goto (tgt := 14) dX9_atom_66 (by decide) ?_
        exact oX_sub [3, 1, 0] rfl (hk (r4 + (1 : Int32), x2 + (1 : Int32)) (Option.some.inj hm).symm)
      · have hm := ifn c10 hm
        exact oX_sub [3] rfl (hx2 x2 (Option.some.inj hm).symm)
    · have hm := ifn c7 hm
      refine oX_iload_n dX9_atom_59 rfl rfl ?_
      refine oX_iconst (v := (1 : Int32)) dX9_atom_60 (by decide) ?_
      refine oX_iadd dX9_atom_61 ?_
      refine oX_istore_n (ls' := [(1, vI (r4 + (1 : Int32))), (3, vI r4), (0, vR (some t)), (2, vI x2)]) dX9_atom_62 rfl (by decide) rfl ?_
      refine oX_iinc (v := x2 + (1 : Int32)) (ls' := [(2, vI (x2 + (1 : Int32))), (1, vI (r4 + (1 : Int32))), (3, vI r4), (0, vR (some t))]) dX9_atom_63 rfl rfl (by decide) rfl ?_
      refine oX_goto (tgt := 14) dX9_atom_66 (by decide) ?_
      exact oX_sub [3, 1, 0] rfl (hk (r4 + (1 : Int32), x2 + (1 : Int32)) (Option.some.inj hm).symm)
theorem l_mX9_atom_b14 {G : OhG} {FI : OhI} {FL : OhL} {FR : OhQ} {GR : OhQ} {AI : OhI} {AL : OhL} {AR : OhQ} {BR : OhQ} {AN : OhN} {C : OhC} {k : Nat × Nat} {Φ : OhP} {Ψ : OhX} (n : Nat) (t : Nat × Nat) (ht : ohKd t.1 = 8) : ∀ (f : Nat) (x1 : Int32) (x2 : Int32) (b : ((Unit) ⊕ (Int32))), lpF (fun v => mX9_atom_b14 n FI FR GR AI AN C t v.1 v.2) f (x1, x2) = some b → (∀ v : Unit, b = (.inl v) → oX G 4 iX9_atom 69 [] [] (FI, FL, FR, GR, AI, AL, AR, BR, AN, C) k Φ Ψ) → (∀ v : Int32, b = (.inr v) → oX G 4 iX9_atom 55 [(2, vI v)] [] (FI, FL, FR, GR, AI, AL, AR, BR, AN, C) k Φ Ψ) → oX G 4 iX9_atom 14 [(0, vR (some t)), (1, vI x1), (2, vI x2)] [] (FI, FL, FR, GR, AI, AL, AR, BR, AN, C) k Φ Ψ := by
  intro f
  induction f with
  | zero =>
    intro x1 x2 b hm
    cases hm
  | succ f ih =>
    intro x1 x2 b hm hx1 hx2
    obtain ⟨r, hr, hm⟩ := lp_s hm
    refine x_mX9_atom_b14 n t ht x1 x2 hr (fun v e => ?_) (fun v e => ?_) (fun v e => ?_)
    · subst e; exact ih v.1 v.2 _ hm hx1 hx2
    · subst e; exact hx1 v hm.symm
    · subst e; exact hx2 v hm.symm
noncomputable def mX9_atom (n : Nat) (FI : OhI) (FR : OhQ) (GR : OhQ) (AI : OhI) (AN : OhN) (C : OhC) (t : Nat × Nat) : Option (Int32) :=
  (if (FI t.1 t.2 3) = (2 : Int32) then
  (lpF (fun v => mX9_atom_b14 n FI FR GR AI AN C t v.1 v.2) n ((0 : Int32), (0 : Int32))).bind (Sum.elim (fun v11 => some (-1 : Int32)) (fun v11 => some ((3 : Int32) + v11)))
else
  some (-1 : Int32))
theorem x_mX9_atom {G : OhG} {FI AI : OhI} {FL AL : OhL} {FR GR AR BR : OhQ} {AN : OhN} {C : OhC} {k : Nat × Nat} {Φ : OhP} {Ψ : OhX} (n : Nat) (t : Nat × Nat) (ht : ohKd t.1 = 8) {r : Int32} (hm : mX9_atom n FI FR GR AI AN C t = some r) (hK : Φ (some (vI r)) (FI, FL, FR, GR, AI, AL, AR, BR, AN, C)) : oX G 4 iX9_atom 0 [(0, vR (some t))] [] (FI, FL, FR, GR, AI, AL, AR, BR, AN, C) k Φ Ψ := by
  unfold mX9_atom at hm
  refine oX_aload_n dX9_atom_0 rfl rfl ?_
  refine oX_getI fX9_42 rfl (oD_t ht) dX9_atom_1 ?_
  refine oX_iconst (v := (2 : Int32)) dX9_atom_4 (by decide) ?_
  refine oX_icmp_eq (tgt := 10) dX9_atom_5 (by decide) (fun c1 => ?_) (fun c1 => ?_)
  · have hm := ifp c1 hm
    refine oX_iconst (v := (0 : Int32)) dX9_atom_10 (by decide) ?_
    refine oX_istore_n (ls' := [(1, vI (0 : Int32)), (0, vR (some t))]) dX9_atom_11 rfl (by decide) rfl ?_
    refine oX_iconst (v := (0 : Int32)) dX9_atom_12 (by decide) ?_
    refine oX_istore_n (ls' := [(2, vI (0 : Int32)), (1, vI (0 : Int32)), (0, vR (some t))]) dX9_atom_13 rfl (by decide) rfl ?_
    obtain ⟨b11, g11, hm⟩ := bd_s hm
    refine oX_sub [2, 1, 0] rfl (l_mX9_atom_b14 n t ht n (0 : Int32) (0 : Int32) _ g11 (fun v11 e11 => ?_) (fun v11 e11 => ?_))
    · subst e11
      have hm := el1 hm
      refine oX_iconst (v := (-1 : Int32)) dX9_atom_69 (by decide) ?_
      obtain rfl := Option.some.inj hm
      exact oX_iret dX9_atom_70 rfl rfl hK
    · subst e11
      have hm := el2 hm
      refine oX_iconst (v := (3 : Int32)) dX9_atom_55 (by decide) ?_
      refine oX_iload_n dX9_atom_56 rfl rfl ?_
      refine oX_iadd dX9_atom_57 ?_
      obtain rfl := Option.some.inj hm
      exact oX_iret dX9_atom_58 rfl rfl hK
  · have hm := ifn c1 hm
    refine oX_iconst (v := (-1 : Int32)) dX9_atom_8 (by decide) ?_
    obtain rfl := Option.some.inj hm
    exact oX_iret dX9_atom_9 rfl rfl hK
theorem t_X9_atom {G : OhG} {FI AI : OhI} {FL AL : OhL} {FR GR AR BR : OhQ} {AN : OhN} {C : OhC} (n : Nat) (t : Nat × Nat) (ht : ohKd t.1 = 8) {o : Int32} (hm : mX9_atom n FI FR GR AI AN C t = some o) : oT G 4 iX9_atom [vR (some t)] (FI, FL, FR, GR, AI, AL, AR, BR, AN, C) (0, 0) (fun v h => v = (some (vI o)) ∧ h = (FI, FL, FR, GR, AI, AL, AR, BR, AN, C)) ohNo :=
  oT_of (by decide) rfl (Nat.le_of_ble_eq_true rfl) (x_mX9_atom n t ht hm ⟨rfl, rfl⟩)
noncomputable def mX9_go_j37 (n : Nat) (FI : OhI) (FR : OhQ) (GR : OhQ) (AI : OhI) (AN : OhN) (C : OhC) (t : Nat × Nat) : Option (((OhI) ⊕ (OhI)) × (Nat × Nat)) :=
  oLet (sA FI t.1 t.2 (uA (FI t.1 t.2) 2 ((FI t.1 t.2 2) + (1 : Int32)))) fun FI4 =>
  some (.inl FI4, (0, 0))
theorem x_mX9_go_j37 {G : OhG} {FI AI : OhI} {FL AL : OhL} {FR GR AR BR : OhQ} {AN : OhN} {C : OhC} {k : Nat × Nat} {Φ : OhP} {Ψ : OhX} (n : Nat) (t : Nat × Nat) (ht : ohKd t.1 = 8) {r : ((OhI) ⊕ (OhI)) × (Nat × Nat)} (hm : mX9_go_j37 n FI FR GR AI AN C t = some r) (hk : ∀ v : OhI, r.1 = .inl v → oX G 7 iX9_go 0 [(0, vR (some t))] [] (v, FL, FR, GR, AI, AL, AR, BR, AN, C) k Φ Ψ) (hx1 : ∀ v : OhI, r.1 = .inr v → oX G 7 iX9_go 50 [(0, vR (some t))] [] (v, FL, FR, GR, AI, AL, AR, BR, AN, C) k Φ Ψ) : oX G 7 iX9_go 37 [(0, vR (some t))] [] (FI, FL, FR, GR, AI, AL, AR, BR, AN, C) (oPl r.2 k) Φ Ψ := by
  obtain ⟨r, q0⟩ := r
  unfold mX9_go_j37 at hm
  refine oX_aload_n dX9_go_37 rfl rfl ?_
  refine oX_dup dX9_go_38 trivial ?_
  refine oX_getI fX9_32 rfl (oD_t ht) dX9_go_39 ?_
  refine oX_iconst (v := (1 : Int32)) dX9_go_42 (by decide) ?_
  refine oX_iadd dX9_go_43 ?_
  obtain ⟨FI4, hFI4, hm⟩ := oLs hm
  refine oX_putI fX9_32 rfl (fun h9 => by cases h9) (oD_t ht) dX9_go_44 ⟨rfl, rfl⟩ hFI4 ?_
  refine oX_goto (tgt := 0) dX9_go_47 (by decide) ?_
  obtain ⟨hr, rfl⟩ := oEnd hm
  exact oX_sub [0] rfl (oX_z (hk FI4 hr))
noncomputable def mX9_go_b0 (n : Nat) (FI : OhI) (FR : OhQ) (GR : OhQ) (AI : OhI) (AN : OhN) (C : OhC) (t : Nat × Nat) : Option (((OhI) ⊕ (OhI)) × (Nat × Nat)) :=
  (if (FI t.1 t.2 1) ≤ (FI t.1 t.2 2) then
  some (.inr FI, (0, 0))
else
  (mX9_at FI FR AI AN t (FI t.1 t.2 2)).bind fun r2 =>
    (if r2 = (32 : Int32) then
    mX9_go_j37 n FI FR GR AI AN C t
  else
    (mX9_at FI FR AI AN t (FI t.1 t.2 2)).bind fun r5 =>
      (if r5 = (10 : Int32) then
      mX9_go_j37 n FI FR GR AI AN C t
    else
      some (.inr FI, (0, 0)))))
theorem x_mX9_go_b0 {G : OhG} {FI AI : OhI} {FL AL : OhL} {FR GR AR BR : OhQ} {AN : OhN} {C : OhC} {k : Nat × Nat} {Φ : OhP} {Ψ : OhX} (n : Nat) (t : Nat × Nat) (ht : ohKd t.1 = 8) {r : ((OhI) ⊕ (OhI)) × (Nat × Nat)} (hm : mX9_go_b0 n FI FR GR AI AN C t = some r) (hk : ∀ v : OhI, r.1 = .inl v → oX G 7 iX9_go 0 [(0, vR (some t))] [] (v, FL, FR, GR, AI, AL, AR, BR, AN, C) k Φ Ψ) (hx1 : ∀ v : OhI, r.1 = .inr v → oX G 7 iX9_go 50 [(0, vR (some t))] [] (v, FL, FR, GR, AI, AL, AR, BR, AN, C) k Φ Ψ) : oX G 7 iX9_go 0 [(0, vR (some t))] [] (FI, FL, FR, GR, AI, AL, AR, BR, AN, C) (oPl r.2 k) Φ Ψ := by
  obtain ⟨r, q0⟩ := r
  unfold mX9_go_b0 at hm
  refine oX_aload_n dX9_go_0 rfl rfl ?_
  refine oX_getI fX9_32 rfl (oD_t ht) dX9_go_1 ?_
  refine oX_aload_n dX9_go_4 rfl rfl ?_
  refine oX_getI fX9_28 rfl (oD_t ht) dX9_go_5 ?_
  refine oX_icmp_ge (tgt := 50) dX9_go_8 (by decide) (fun c1 => ?_) (fun c1 => ?_)
  · have hm := ifp c1 hm
    obtain ⟨hr, rfl⟩ := oEnd hm
    exact oX_sub [0] rfl (oX_z (hx1 FI hr))
  · have hm := ifn c1 hm
    refine oX_aload_n dX9_go_11 rfl rfl ?_
    refine oX_aload_n dX9_go_12 rfl rfl ?_
    refine oX_getI fX9_32 rfl (oD_t ht) dX9_go_13 ?_
    obtain ⟨r2, g2, hm⟩ := bd_s hm
    refine oX_cV (as := [vI (FI t.1 t.2 2)]) dX9_go_16 rfl (oD_t ht) rfl (by decide) rfl ok_X9_at rfl rfl q716 q718 qs9 q146 q719 (by decide) (Nat.le_of_ble_eq_true rfl) (t_X9_at t ht (FI t.1 t.2 2) g2) ?_
    refine oX_bipush (v := (32 : Int32)) dX9_go_19 (by decide) ?_
    refine oX_icmp_eq (tgt := 37) dX9_go_21 (by decide) (fun c3 => ?_) (fun c3 => ?_)
    · have hm := ifp c3 hm
      exact oX_sub [0] rfl (x_mX9_go_j37 n t ht hm hk hx1)
    · have hm := ifn c3 hm
      refine oX_aload_n dX9_go_24 rfl rfl ?_
      refine oX_aload_n dX9_go_25 rfl rfl ?_
      refine oX_getI fX9_32 rfl (oD_t ht) dX9_go_26 ?_
      obtain ⟨r5, g5, hm⟩ := bd_s hm
      refine oX_cV (as := [vI (FI t.1 t.2 2)]) dX9_go_29 rfl (oD_t ht) rfl (by decide) rfl ok_X9_at rfl rfl q716 q718 qs9 q146 q719 (by decide) (Nat.le_of_ble_eq_true rfl) (t_X9_at t ht (FI t.1 t.2 2) g5) ?_
      refine oX_bipush (v := (10 : Int32)) dX9_go_32 (by decide) ?_
      refine oX_icmp_ne (tgt := 50) dX9_go_34 (by decide) (fun c6 => ?_) (fun c6 => ?_)
      · have hm := ifp c6 hm
        exact oX_sub [0] rfl (x_mX9_go_j37 n t ht hm hk hx1)
      · have hm := ifn c6 hm
        obtain ⟨hr, rfl⟩ := oEnd hm
        exact oX_sub [0] rfl (oX_z (hx1 FI hr))
theorem l_mX9_go_b0 {G : OhG} {FL : OhL} {FR : OhQ} {GR : OhQ} {AI : OhI} {AL : OhL} {AR : OhQ} {BR : OhQ} {AN : OhN} {C : OhC} {k : Nat × Nat} {Φ : OhP} {Ψ : OhX} (n : Nat) (t : Nat × Nat) (ht : ohKd t.1 = 8) : ∀ (f : Nat) (FI : OhI) (b : ((OhI)) × (Nat × Nat)), lpK (fun v => mX9_go_b0 n v FR GR AI AN C t) f FI = some b → (oX G 7 iX9_go 50 [(0, vR (some t))] [] (b.1, FL, FR, GR, AI, AL, AR, BR, AN, C) k Φ Ψ) → oX G 7 iX9_go 0 [(0, vR (some t))] [] (FI, FL, FR, GR, AI, AL, AR, BR, AN, C) (oPl b.2 k) Φ Ψ := by
  intro f
  induction f with
  | zero =>
    intro FI b hm
    cases hm
  | succ f ih =>
    intro FI b hm hx1
    obtain ⟨⟨r, q⟩, hr, hm⟩ := lk_s hm
    rcases r with v | v
    · obtain ⟨c, hm, hb⟩ := hm
      rw [hb, oPl_assoc]
      refine x_mX9_go_b0 n t ht hr (fun v9 e => ?_) (fun v9 e => by cases e)
      cases e; exact ih v (b.1, c) hm hx1
    · cases (show b = (v, q) from hm)
      refine x_mX9_go_b0 n t ht hr (fun v9 e => by cases e) (fun v9 e => ?_)
      · cases e; exact hx1
noncomputable def mX9_go_j146 (n : Nat) (FI : OhI) (FR : OhQ) (GR : OhQ) (AI : OhI) (AN : OhN) (C : OhC) (t : Nat × Nat) (x1 : Int32) (y0 : OhR) (y1 : Int32) : Option ((OhI × OhQ × OhQ × OhI × OhN × OhC) × (Nat × Nat)) :=
  (oD 8 y0).bind fun a19 =>
  oLet (sA FI a19.1 a19.2 (uA (FI a19.1 a19.2) 3 y1)) fun FI20 =>
  oLet (sA FI20 t.1 t.2 (uA (FI20 t.1 t.2) 6 x1)) fun FI21 =>
  oLet (sA FI21 t.1 t.2 (uA (FI21 t.1 t.2) 2 ((FI21 t.1 t.2 2) + (1 : Int32)))) fun FI22 =>
  some ((FI22, FR, GR, AI, AN, C), (0, 0))
theorem x_mX9_go_j146 {G : OhG} {FI AI : OhI} {FL AL : OhL} {FR GR AR BR : OhQ} {AN : OhN} {C : OhC} {k : Nat × Nat} {Φ : OhP} {Ψ : OhX} (n : Nat) (t : Nat × Nat) (ht : ohKd t.1 = 8) (x1 : Int32) (y0 : OhR) (y1 : Int32) {r : (OhI × OhQ × OhQ × OhI × OhN × OhC) × (Nat × Nat)} (hm : mX9_go_j146 n FI FR GR AI AN C t x1 y0 y1 = some r) (hK : Φ none (r.1.1, FL, r.1.2.1, r.1.2.2.1, r.1.2.2.2.1, AL, AR, BR, r.1.2.2.2.2.1, r.1.2.2.2.2.2)) : oX G 7 iX9_go 146 [(0, vR (some t)), (1, vI x1)] [vI y1, vR y0] (FI, FL, FR, GR, AI, AL, AR, BR, AN, C) (oPl r.2 k) Φ Ψ := by
  obtain ⟨r, q0⟩ := r
  unfold mX9_go_j146 at hm
  obtain ⟨a19, e19, hm⟩ := bd_s hm
  obtain ⟨FI20, hFI20, hm⟩ := oLs hm
  refine oX_putI fX9_42 rfl (fun h9 => by cases h9) e19 dX9_go_146 ⟨rfl, rfl⟩ hFI20 ?_
  refine oX_aload_n dX9_go_149 rfl rfl ?_
  refine oX_iload_n dX9_go_150 rfl rfl ?_
  obtain ⟨FI21, hFI21, hm⟩ := oLs hm
  refine oX_putI fX9_59 rfl (fun h9 => by cases h9) (oD_t ht) dX9_go_151 ⟨rfl, rfl⟩ hFI21 ?_
  refine oX_aload_n dX9_go_154 rfl rfl ?_
  refine oX_dup dX9_go_155 trivial ?_
  refine oX_getI fX9_32 rfl (oD_t ht) dX9_go_156 ?_
  refine oX_iconst (v := (1 : Int32)) dX9_go_159 (by decide) ?_
  refine oX_iadd dX9_go_160 ?_
  obtain ⟨FI22, hFI22, hm⟩ := oLs hm
  refine oX_putI fX9_32 rfl (fun h9 => by cases h9) (oD_t ht) dX9_go_161 ⟨rfl, rfl⟩ hFI22 ?_
  obtain ⟨rfl, rfl⟩ := oEnd hm
  exact oX_vret dX9_go_164 rfl hK
noncomputable def mX9_go_j304 (n : Nat) (FI : OhI) (FR : OhQ) (GR : OhQ) (AI : OhI) (AN : OhN) (C : OhC) (t : Nat × Nat) (x2 : Int32) (x3 : Int32) (x4 : OhR) : Option (((Int32 × OhI × OhQ × OhI) ⊕ (Int32 × OhI × OhQ × OhI)) × (Nat × Nat)) :=
  oLet (sA FI t.1 t.2 (uA (FI t.1 t.2) 2 ((FI t.1 t.2 2) + (1 : Int32)))) fun FI36 =>
  some (.inl (x3, FI36, GR, AI), (0, 0))
theorem x_mX9_go_j304 {G : OhG} {FI AI : OhI} {FL AL : OhL} {FR GR AR BR : OhQ} {AN : OhN} {C : OhC} {k : Nat × Nat} {Φ : OhP} {Ψ : OhX} (n : Nat) (t : Nat × Nat) (ht : ohKd t.1 = 8) (x2 : Int32) (x3 : Int32) (x4 : OhR) {r : ((Int32 × OhI × OhQ × OhI) ⊕ (Int32 × OhI × OhQ × OhI)) × (Nat × Nat)} (hm : mX9_go_j304 n FI FR GR AI AN C t x2 x3 x4 = some r) (hk : ∀ v : Int32 × OhI × OhQ × OhI, r.1 = .inl v → oX G 7 iX9_go 186 [(0, vR (some t)), (2, vI x2), (3, vI v.1), (4, vR x4)] [] (v.2.1, FL, FR, v.2.2.1, v.2.2.2, AL, AR, BR, AN, C) k Φ Ψ) (hx1 : ∀ v : Int32 × OhI × OhQ × OhI, r.1 = .inr v → oX G 7 iX9_go 317 [(0, vR (some t)), (2, vI x2), (3, vI v.1), (4, vR x4)] [] (v.2.1, FL, FR, v.2.2.1, v.2.2.2, AL, AR, BR, AN, C) k Φ Ψ) : oX G 7 iX9_go 304 [(0, vR (some t)), (2, vI x2), (3, vI x3), (4, vR x4)] [] (FI, FL, FR, GR, AI, AL, AR, BR, AN, C) (oPl r.2 k) Φ Ψ := by
  obtain ⟨r, q0⟩ := r
  unfold mX9_go_j304 at hm
  refine oX_aload_n dX9_go_304 rfl rfl ?_
  refine oX_dup dX9_go_305 trivial ?_
  refine oX_getI fX9_32 rfl (oD_t ht) dX9_go_306 ?_
  refine oX_iconst (v := (1 : Int32)) dX9_go_309 (by decide) ?_
  refine oX_iadd dX9_go_310 ?_
  obtain ⟨FI36, hFI36, hm⟩ := oLs hm
  refine oX_putI fX9_32 rfl (fun h9 => by cases h9) (oD_t ht) dX9_go_311 ⟨rfl, rfl⟩ hFI36 ?_
  refine oX_goto (tgt := 186) dX9_go_314 (by decide) ?_
  obtain ⟨hr, rfl⟩ := oEnd hm
  exact oX_sub [0, 1, 2, 3] rfl (oX_z (hk (x3, FI36, GR, AI) hr))
noncomputable def mX9_go_j268 (n : Nat) (FI : OhI) (FR : OhQ) (GR : OhQ) (AI : OhI) (AN : OhN) (C : OhC) (t : Nat × Nat) (x2 : Int32) (x3 : Int32) (x4 : OhR) : Option (((Int32 × OhI × OhQ × OhI) ⊕ (Int32 × OhI × OhQ × OhI)) × (Nat × Nat)) :=
  (if (5 : Int32) ≤ ((FI t.1 t.2 2) - (FI t.1 t.2 4)) then
  mX9_go_j304 n FI FR GR AI AN C t x2 x3 x4
else
  (mX9_at FI FR AI AN t (FI t.1 t.2 2)).bind fun r37 =>
    oLet (sA FI t.1 t.2 (uA (FI t.1 t.2) 5 ((((10 : Int32) * (FI t.1 t.2 5)) + r37) - (48 : Int32)))) fun FI38 =>
    mX9_go_j304 n FI38 FR GR AI AN C t x2 x3 x4)
theorem x_mX9_go_j268 {G : OhG} {FI AI : OhI} {FL AL : OhL} {FR GR AR BR : OhQ} {AN : OhN} {C : OhC} {k : Nat × Nat} {Φ : OhP} {Ψ : OhX} (n : Nat) (t : Nat × Nat) (ht : ohKd t.1 = 8) (x2 : Int32) (x3 : Int32) (x4 : OhR) {r : ((Int32 × OhI × OhQ × OhI) ⊕ (Int32 × OhI × OhQ × OhI)) × (Nat × Nat)} (hm : mX9_go_j268 n FI FR GR AI AN C t x2 x3 x4 = some r) (hk : ∀ v : Int32 × OhI × OhQ × OhI, r.1 = .inl v → oX G 7 iX9_go 186 [(0, vR (some t)), (2, vI x2), (3, vI v.1), (4, vR x4)] [] (v.2.1, FL, FR, v.2.2.1, v.2.2.2, AL, AR, BR, AN, C) k Φ Ψ) (hx1 : ∀ v : Int32 × OhI × OhQ × OhI, r.1 = .inr v → oX G 7 iX9_go 317 [(0, vR (some t)), (2, vI x2), (3, vI v.1), (4, vR x4)] [] (v.2.1, FL, FR, v.2.2.1, v.2.2.2, AL, AR, BR, AN, C) k Φ Ψ) : oX G 7 iX9_go 268 [(0, vR (some t)), (2, vI x2), (3, vI x3), (4, vR x4)] [] (FI, FL, FR, GR, AI, AL, AR, BR, AN, C) (oPl r.2 k) Φ Ψ := by
  obtain ⟨r, q0⟩ := r
  unfold mX9_go_j268 at hm
  refine oX_aload_n dX9_go_268 rfl rfl ?_
  refine oX_getI fX9_32 rfl (oD_t ht) dX9_go_269 ?_
  refine oX_aload_n dX9_go_272 rfl rfl ?_
  refine oX_getI fX9_39 rfl (oD_t ht) dX9_go_273 ?_
  refine oX_isub dX9_go_276 ?_
  refine oX_iconst (v := (5 : Int32)) dX9_go_277 (by decide) ?_
  refine oX_icmp_ge (tgt := 304) dX9_go_278 (by decide) (fun c35 => ?_) (fun c35 => ?_)
  · have hm := ifp c35 hm
    exact oX_sub [0, 1, 2, 3] rfl (x_mX9_go_j304 n t ht x2 x3 x4 hm hk hx1)
  · have hm := ifn c35 hm
    refine oX_aload_n dX9_go_281 rfl rfl ?_
    refine oX_bipush (v := (10 : Int32)) dX9_go_282 (by decide) ?_
    refine oX_aload_n dX9_go_284 rfl rfl ?_
    refine oX_getI fX9_62 rfl (oD_t ht) dX9_go_285 ?_
    refine oX_imul dX9_go_288 ?_
    refine oX_aload_n dX9_go_289 rfl rfl ?_
    refine oX_aload_n dX9_go_290 rfl rfl ?_
    refine oX_getI fX9_32 rfl (oD_t ht) dX9_go_291 ?_
    obtain ⟨r37, g37, hm⟩ := bd_s hm
    refine oX_cV (as := [vI (FI t.1 t.2 2)]) dX9_go_294 rfl (oD_t ht) rfl (by decide) rfl ok_X9_at rfl rfl q716 q718 qs9 q146 q719 (by decide) (Nat.le_of_ble_eq_true rfl) (t_X9_at t ht (FI t.1 t.2 2) g37) ?_
    refine oX_iadd dX9_go_297 ?_
    refine oX_bipush (v := (48 : Int32)) dX9_go_298 (by decide) ?_
    refine oX_isub dX9_go_300 ?_
    obtain ⟨FI38, hFI38, hm⟩ := oLs hm
    refine oX_putI fX9_62 rfl (fun h9 => by cases h9) (oD_t ht) dX9_go_301 ⟨rfl, rfl⟩ hFI38 ?_
    exact oX_sub [0, 1, 2, 3] rfl (x_mX9_go_j304 n t ht x2 x3 x4 hm hk hx1)
noncomputable def mX9_go_j238 (n : Nat) (FI : OhI) (FR : OhQ) (GR : OhQ) (AI : OhI) (AN : OhN) (C : OhC) (t : Nat × Nat) (x2 : Int32) (x4 : OhR) (y0 : Int32) : Option (((Int32 × OhI × OhQ × OhI) ⊕ (Int32 × OhI × OhQ × OhI)) × (Nat × Nat)) :=
  (if (8 : Int32) ≤ ((FI t.1 t.2 2) - (FI t.1 t.2 4)) then
  mX9_go_j268 n FI FR GR AI AN C t x2 y0 x4
else
  (mX9_at FI FR AI AN t (FI t.1 t.2 2)).bind fun r39 =>
    (oD 19 x4).bind fun a40 =>
    (mJ13_append FI GR AI AN a40 ((r39.toUInt32 % 65536).toInt32)).bind fun r41 =>
    mX9_go_j268 n r41.2.1 FR r41.2.2.1 r41.2.2.2 AN C t x2 y0 x4)
theorem x_mX9_go_j238 {G : OhG} {FI AI : OhI} {FL AL : OhL} {FR GR AR BR : OhQ} {AN : OhN} {C : OhC} {k : Nat × Nat} {Φ : OhP} {Ψ : OhX} (n : Nat) (t : Nat × Nat) (ht : ohKd t.1 = 8) (x2 : Int32) (x4 : OhR) (y0 : Int32) {r : ((Int32 × OhI × OhQ × OhI) ⊕ (Int32 × OhI × OhQ × OhI)) × (Nat × Nat)} (hm : mX9_go_j238 n FI FR GR AI AN C t x2 x4 y0 = some r) (hk : ∀ v : Int32 × OhI × OhQ × OhI, r.1 = .inl v → oX G 7 iX9_go 186 [(0, vR (some t)), (2, vI x2), (3, vI v.1), (4, vR x4)] [] (v.2.1, FL, FR, v.2.2.1, v.2.2.2, AL, AR, BR, AN, C) k Φ Ψ) (hx1 : ∀ v : Int32 × OhI × OhQ × OhI, r.1 = .inr v → oX G 7 iX9_go 317 [(0, vR (some t)), (2, vI x2), (3, vI v.1), (4, vR x4)] [] (v.2.1, FL, FR, v.2.2.1, v.2.2.2, AL, AR, BR, AN, C) k Φ Ψ) : oX G 7 iX9_go 238 [(0, vR (some t)), (2, vI x2), (4, vR x4)] [vI y0] (FI, FL, FR, GR, AI, AL, AR, BR, AN, C) (oPl r.2 k) Φ Ψ := by
  obtain ⟨r, q0⟩ := r
  unfold mX9_go_j238 at hm
  refine oX_istore_n (ls' := [(3, vI y0), (0, vR (some t)), (2, vI x2), (4, vR x4)]) dX9_go_238 rfl (by decide) rfl ?_
  refine oX_aload_n dX9_go_239 rfl rfl ?_
  refine oX_getI fX9_32 rfl (oD_t ht) dX9_go_240 ?_
  refine oX_aload_n dX9_go_243 rfl rfl ?_
  refine oX_getI fX9_39 rfl (oD_t ht) dX9_go_244 ?_
  refine oX_isub dX9_go_247 ?_
  refine oX_bipush (v := (8 : Int32)) dX9_go_248 (by decide) ?_
  refine oX_icmp_ge (tgt := 268) dX9_go_250 (by decide) (fun c34 => ?_) (fun c34 => ?_)
  · have hm := ifp c34 hm
    exact oX_sub [1, 2, 0, 3] rfl (x_mX9_go_j268 n t ht x2 y0 x4 hm hk hx1)
  · have hm := ifn c34 hm
    refine oX_aload dX9_go_253 rfl ?_
    refine oX_aload_n dX9_go_255 rfl rfl ?_
    refine oX_aload_n dX9_go_256 rfl rfl ?_
    refine oX_getI fX9_32 rfl (oD_t ht) dX9_go_257 ?_
    obtain ⟨r39, g39, hm⟩ := bd_s hm
    refine oX_cV (as := [vI (FI t.1 t.2 2)]) dX9_go_260 rfl (oD_t ht) rfl (by decide) rfl ok_X9_at rfl rfl q716 q718 qs9 q146 q719 (by decide) (Nat.le_of_ble_eq_true rfl) (t_X9_at t ht (FI t.1 t.2 2) g39) ?_
    refine oX_i2c dX9_go_263 ?_
    obtain ⟨a40, e40, hm⟩ := bd_s hm
    obtain ⟨r41, g41, hm⟩ := bd_s hm
    refine oX_cV (as := [vI ((r39.toUInt32 % 65536).toInt32)]) dX9_go_264 rfl e40 rfl (by decide) rfl ok_J13_append rfl rfl q839 q840 q841 q152 q842 (by decide) (Nat.le_of_ble_eq_true rfl) (t_J13_append a40 ((oD_some e40).2) ((r39.toUInt32 % 65536).toInt32) g41) ?_
    refine oX_pop dX9_go_267 trivial ?_
    exact oX_sub [1, 2, 0, 3] rfl (x_mX9_go_j268 n t ht x2 y0 x4 hm hk hx1)
noncomputable def mX9_go_j237 (n : Nat) (FI : OhI) (FR : OhQ) (GR : OhQ) (AI : OhI) (AN : OhN) (C : OhC) (t : Nat × Nat) (x2 : Int32) (x4 : OhR) : Option (((Int32 × OhI × OhQ × OhI) ⊕ (Int32 × OhI × OhQ × OhI)) × (Nat × Nat)) :=
  mX9_go_j238 n FI FR GR AI AN C t x2 x4 (0 : Int32)
theorem x_mX9_go_j237 {G : OhG} {FI AI : OhI} {FL AL : OhL} {FR GR AR BR : OhQ} {AN : OhN} {C : OhC} {k : Nat × Nat} {Φ : OhP} {Ψ : OhX} (n : Nat) (t : Nat × Nat) (ht : ohKd t.1 = 8) (x2 : Int32) (x4 : OhR) {r : ((Int32 × OhI × OhQ × OhI) ⊕ (Int32 × OhI × OhQ × OhI)) × (Nat × Nat)} (hm : mX9_go_j237 n FI FR GR AI AN C t x2 x4 = some r) (hk : ∀ v : Int32 × OhI × OhQ × OhI, r.1 = .inl v → oX G 7 iX9_go 186 [(0, vR (some t)), (2, vI x2), (3, vI v.1), (4, vR x4)] [] (v.2.1, FL, FR, v.2.2.1, v.2.2.2, AL, AR, BR, AN, C) k Φ Ψ) (hx1 : ∀ v : Int32 × OhI × OhQ × OhI, r.1 = .inr v → oX G 7 iX9_go 317 [(0, vR (some t)), (2, vI x2), (3, vI v.1), (4, vR x4)] [] (v.2.1, FL, FR, v.2.2.1, v.2.2.2, AL, AR, BR, AN, C) k Φ Ψ) : oX G 7 iX9_go 237 [(0, vR (some t)), (2, vI x2), (4, vR x4)] [] (FI, FL, FR, GR, AI, AL, AR, BR, AN, C) (oPl r.2 k) Φ Ψ := by
  obtain ⟨r, q0⟩ := r
  unfold mX9_go_j237 at hm
  refine oX_iconst (v := (0 : Int32)) dX9_go_237 (by decide) ?_
  exact oX_sub [0, 1, 2] rfl (x_mX9_go_j238 n t ht x2 x4 (0 : Int32) hm hk hx1)
noncomputable def mX9_go_j214 (n : Nat) (FI : OhI) (FR : OhQ) (GR : OhQ) (AI : OhI) (AN : OhN) (C : OhC) (t : Nat × Nat) (x2 : Int32) (x3 : Int32) (x4 : OhR) : Option (((Int32 × OhI × OhQ × OhI) ⊕ (Int32 × OhI × OhQ × OhI)) × (Nat × Nat)) :=
  (if x3 = 0 then
  mX9_go_j237 n FI FR GR AI AN C t x2 x4
else
  (mX9_at FI FR AI AN t (FI t.1 t.2 2)).bind fun r42 =>
    (mX9_isLetter r42).bind fun r43 =>
    (if r43 = x2 then
    mX9_go_j238 n FI FR GR AI AN C t x2 x4 (1 : Int32)
  else
    mX9_go_j237 n FI FR GR AI AN C t x2 x4))
theorem x_mX9_go_j214 {G : OhG} {FI AI : OhI} {FL AL : OhL} {FR GR AR BR : OhQ} {AN : OhN} {C : OhC} {k : Nat × Nat} {Φ : OhP} {Ψ : OhX} (n : Nat) (t : Nat × Nat) (ht : ohKd t.1 = 8) (x2 : Int32) (x3 : Int32) (x4 : OhR) {r : ((Int32 × OhI × OhQ × OhI) ⊕ (Int32 × OhI × OhQ × OhI)) × (Nat × Nat)} (hm : mX9_go_j214 n FI FR GR AI AN C t x2 x3 x4 = some r) (hk : ∀ v : Int32 × OhI × OhQ × OhI, r.1 = .inl v → oX G 7 iX9_go 186 [(0, vR (some t)), (2, vI x2), (3, vI v.1), (4, vR x4)] [] (v.2.1, FL, FR, v.2.2.1, v.2.2.2, AL, AR, BR, AN, C) k Φ Ψ) (hx1 : ∀ v : Int32 × OhI × OhQ × OhI, r.1 = .inr v → oX G 7 iX9_go 317 [(0, vR (some t)), (2, vI x2), (3, vI v.1), (4, vR x4)] [] (v.2.1, FL, FR, v.2.2.1, v.2.2.2, AL, AR, BR, AN, C) k Φ Ψ) : oX G 7 iX9_go 214 [(0, vR (some t)), (2, vI x2), (3, vI x3), (4, vR x4)] [] (FI, FL, FR, GR, AI, AL, AR, BR, AN, C) (oPl r.2 k) Φ Ψ := by
  obtain ⟨r, q0⟩ := r
  unfold mX9_go_j214 at hm
  refine oX_iload_n dX9_go_214 rfl rfl ?_
  refine oX_if_eq (tgt := 237) dX9_go_215 (by decide) (fun c33 => ?_) (fun c33 => ?_)
  · have hm := ifp c33 hm
    exact oX_sub [0, 1, 3] rfl (x_mX9_go_j237 n t ht x2 x4 hm hk hx1)
  · have hm := ifn c33 hm
    refine oX_aload_n dX9_go_218 rfl rfl ?_
    refine oX_aload_n dX9_go_219 rfl rfl ?_
    refine oX_getI fX9_32 rfl (oD_t ht) dX9_go_220 ?_
    obtain ⟨r42, g42, hm⟩ := bd_s hm
    refine oX_cV (as := [vI (FI t.1 t.2 2)]) dX9_go_223 rfl (oD_t ht) rfl (by decide) rfl ok_X9_at rfl rfl q716 q718 qs9 q146 q719 (by decide) (Nat.le_of_ble_eq_true rfl) (t_X9_at t ht (FI t.1 t.2 2) g42) ?_
    obtain ⟨r43, g43, hm⟩ := bd_s hm
    refine oX_cS (as := [vI r42]) dX9_go_226 rfl ok_X9_isLetter rfl rfl q720 q721 q146 q722 (by decide) (Nat.le_of_ble_eq_true rfl) (t_X9_isLetter r42 g43) ?_
    refine oX_iload_n dX9_go_229 rfl rfl ?_
    refine oX_icmp_ne (tgt := 237) dX9_go_230 (by decide) (fun c44 => ?_) (fun c44 => ?_)
    · have hm := ifp c44 hm
      refine oX_iconst (v := (1 : Int32)) dX9_go_233 (by decide) ?_
      refine oX_goto (tgt := 238) dX9_go_234 (by decide) ?_
      exact oX_sub [0, 1, 3] rfl (x_mX9_go_j238 n t ht x2 x4 (1 : Int32) hm hk hx1)
    · have hm := ifn c44 hm
      exact oX_sub [0, 1, 3] rfl (x_mX9_go_j237 n t ht x2 x4 hm hk hx1)
noncomputable def mX9_go_b186 (n : Nat) (FI : OhI) (FR : OhQ) (GR : OhQ) (AI : OhI) (AN : OhN) (C : OhC) (t : Nat × Nat) (x2 : Int32) (x3 : Int32) (x4 : OhR) : Option (((Int32 × OhI × OhQ × OhI) ⊕ (Int32 × OhI × OhQ × OhI)) × (Nat × Nat)) :=
  (mX9_at FI FR AI AN t (FI t.1 t.2 2)).bind fun r27 =>
  (mX9_isLetter r27).bind fun r28 =>
  (if r28 = 0 then
  (mX9_at FI FR AI AN t (FI t.1 t.2 2)).bind fun r30 =>
    (mX9_isDigit r30).bind fun r31 =>
    (if r31 = 0 then
    some (.inr (x3, FI, GR, AI), (0, 0))
  else
    mX9_go_j214 n FI FR GR AI AN C t x2 x3 x4)
else
  mX9_go_j214 n FI FR GR AI AN C t x2 x3 x4)
theorem x_mX9_go_b186 {G : OhG} {FI AI : OhI} {FL AL : OhL} {FR GR AR BR : OhQ} {AN : OhN} {C : OhC} {k : Nat × Nat} {Φ : OhP} {Ψ : OhX} (n : Nat) (t : Nat × Nat) (ht : ohKd t.1 = 8) (x2 : Int32) (x3 : Int32) (x4 : OhR) {r : ((Int32 × OhI × OhQ × OhI) ⊕ (Int32 × OhI × OhQ × OhI)) × (Nat × Nat)} (hm : mX9_go_b186 n FI FR GR AI AN C t x2 x3 x4 = some r) (hk : ∀ v : Int32 × OhI × OhQ × OhI, r.1 = .inl v → oX G 7 iX9_go 186 [(0, vR (some t)), (2, vI x2), (3, vI v.1), (4, vR x4)] [] (v.2.1, FL, FR, v.2.2.1, v.2.2.2, AL, AR, BR, AN, C) k Φ Ψ) (hx1 : ∀ v : Int32 × OhI × OhQ × OhI, r.1 = .inr v → oX G 7 iX9_go 317 [(0, vR (some t)), (2, vI x2), (3, vI v.1), (4, vR x4)] [] (v.2.1, FL, FR, v.2.2.1, v.2.2.2, AL, AR, BR, AN, C) k Φ Ψ) : oX G 7 iX9_go 186 [(0, vR (some t)), (2, vI x2), (3, vI x3), (4, vR x4)] [] (FI, FL, FR, GR, AI, AL, AR, BR, AN, C) (oPl r.2 k) Φ Ψ := by
  obtain ⟨r, q0⟩ := r
  unfold mX9_go_b186 at hm
  refine oX_aload_n dX9_go_186 rfl rfl ?_
  refine oX_aload_n dX9_go_187 rfl rfl ?_
  refine oX_getI fX9_32 rfl (oD_t ht) dX9_go_188 ?_
  obtain ⟨r27, g27, hm⟩ := bd_s hm
  refine oX_cV (as := [vI (FI t.1 t.2 2)]) dX9_go_191 rfl (oD_t ht) rfl (by decide) rfl ok_X9_at rfl rfl q716 q718 qs9 q146 q719 (by decide) (Nat.le_of_ble_eq_true rfl) (t_X9_at t ht (FI t.1 t.2 2) g27) ?_
  obtain ⟨r28, g28, hm⟩ := bd_s hm
  refine oX_cS (as := [vI r27]) dX9_go_194 rfl ok_X9_isLetter rfl rfl q720 q721 q146 q722 (by decide) (Nat.le_of_ble_eq_true rfl) (t_X9_isLetter r27 g28) ?_
  refine oX_if_ne (tgt := 214) dX9_go_197 (by decide) (fun c29 => ?_) (fun c29 => ?_)
  · have hm := ifp c29 hm
    refine oX_aload_n dX9_go_200 rfl rfl ?_
    refine oX_aload_n dX9_go_201 rfl rfl ?_
    refine oX_getI fX9_32 rfl (oD_t ht) dX9_go_202 ?_
    obtain ⟨r30, g30, hm⟩ := bd_s hm
    refine oX_cV (as := [vI (FI t.1 t.2 2)]) dX9_go_205 rfl (oD_t ht) rfl (by decide) rfl ok_X9_at rfl rfl q716 q718 qs9 q146 q719 (by decide) (Nat.le_of_ble_eq_true rfl) (t_X9_at t ht (FI t.1 t.2 2) g30) ?_
    obtain ⟨r31, g31, hm⟩ := bd_s hm
    refine oX_cS (as := [vI r30]) dX9_go_208 rfl ok_X9_isDigit rfl rfl q723 q724 q146 q725 (by decide) (Nat.le_of_ble_eq_true rfl) (t_X9_isDigit r30 g31) ?_
    refine oX_if_eq (tgt := 317) dX9_go_211 (by decide) (fun c32 => ?_) (fun c32 => ?_)
    · have hm := ifp c32 hm
      obtain ⟨hr, rfl⟩ := oEnd hm
      exact oX_sub [0, 1, 2, 3] rfl (oX_z (hx1 (x3, FI, GR, AI) hr))
    · have hm := ifn c32 hm
      exact oX_sub [0, 1, 2, 3] rfl (x_mX9_go_j214 n t ht x2 x3 x4 hm hk hx1)
  · have hm := ifn c29 hm
    exact oX_sub [0, 1, 2, 3] rfl (x_mX9_go_j214 n t ht x2 x3 x4 hm hk hx1)
theorem l_mX9_go_b186 {G : OhG} {FL : OhL} {FR : OhQ} {AL : OhL} {AR : OhQ} {BR : OhQ} {AN : OhN} {C : OhC} {k : Nat × Nat} {Φ : OhP} {Ψ : OhX} (n : Nat) (t : Nat × Nat) (ht : ohKd t.1 = 8) (x2 : Int32) (x4 : OhR) : ∀ (f : Nat) (x3 : Int32) (FI : OhI) (GR : OhQ) (AI : OhI) (b : ((Int32 × OhI × OhQ × OhI)) × (Nat × Nat)), lpK (fun v => mX9_go_b186 n v.2.1 FR v.2.2.1 v.2.2.2 AN C t x2 v.1 x4) f (x3, FI, GR, AI) = some b → (oX G 7 iX9_go 317 [(0, vR (some t)), (2, vI x2), (3, vI b.1.1), (4, vR x4)] [] (b.1.2.1, FL, FR, b.1.2.2.1, b.1.2.2.2, AL, AR, BR, AN, C) k Φ Ψ) → oX G 7 iX9_go 186 [(0, vR (some t)), (2, vI x2), (3, vI x3), (4, vR x4)] [] (FI, FL, FR, GR, AI, AL, AR, BR, AN, C) (oPl b.2 k) Φ Ψ := by
  intro f
  induction f with
  | zero =>
    intro x3 FI GR AI b hm
    cases hm
  | succ f ih =>
    intro x3 FI GR AI b hm hx1
    obtain ⟨⟨r, q⟩, hr, hm⟩ := lk_s hm
    rcases r with v | v
    · obtain ⟨c, hm, hb⟩ := hm
      rw [hb, oPl_assoc]
      refine x_mX9_go_b186 n t ht x2 x3 x4 hr (fun v9 e => ?_) (fun v9 e => by cases e)
      cases e; exact ih v.1 v.2.1 v.2.2.1 v.2.2.2 (b.1, c) hm hx1
    · cases (show b = (v, q) from hm)
      refine x_mX9_go_b186 n t ht x2 x3 x4 hr (fun v9 e => by cases e) (fun v9 e => ?_)
      · cases e; exact hx1
noncomputable def mX9_go_j366 (n : Nat) (FI : OhI) (FR : OhQ) (GR : OhQ) (AI : OhI) (AN : OhN) (C : OhC) (t : Nat × Nat) (y0 : OhR) (y1 : Int32) : Option ((OhI × OhQ × OhQ × OhI × OhN × OhC) × (Nat × Nat)) :=
  (oD 8 y0).bind fun a49 =>
  oLet (sA FI a49.1 a49.2 (uA (FI a49.1 a49.2) 3 y1)) fun FI50 =>
  some ((FI50, FR, GR, AI, AN, C), (0, 0))
theorem x_mX9_go_j366 {G : OhG} {FI AI : OhI} {FL AL : OhL} {FR GR AR BR : OhQ} {AN : OhN} {C : OhC} {k : Nat × Nat} {Φ : OhP} {Ψ : OhX} (n : Nat) (t : Nat × Nat) (ht : ohKd t.1 = 8) (y0 : OhR) (y1 : Int32) {r : (OhI × OhQ × OhQ × OhI × OhN × OhC) × (Nat × Nat)} (hm : mX9_go_j366 n FI FR GR AI AN C t y0 y1 = some r) (hK : Φ none (r.1.1, FL, r.1.2.1, r.1.2.2.1, r.1.2.2.2.1, AL, AR, BR, r.1.2.2.2.2.1, r.1.2.2.2.2.2)) : oX G 7 iX9_go 366 [] [vI y1, vR y0] (FI, FL, FR, GR, AI, AL, AR, BR, AN, C) (oPl r.2 k) Φ Ψ := by
  obtain ⟨r, q0⟩ := r
  unfold mX9_go_j366 at hm
  obtain ⟨a49, e49, hm⟩ := bd_s hm
  obtain ⟨FI50, hFI50, hm⟩ := oLs hm
  refine oX_putI fX9_42 rfl (fun h9 => by cases h9) e49 dX9_go_366 ⟨rfl, rfl⟩ hFI50 ?_
  obtain ⟨rfl, rfl⟩ := oEnd hm
  exact oX_vret dX9_go_369 rfl hK
noncomputable def mX9_go_j353 (n : Nat) (FI : OhI) (FR : OhQ) (GR : OhQ) (AI : OhI) (AN : OhN) (C : OhC) (t : Nat × Nat) (y0 : OhR) : Option ((OhI × OhQ × OhQ × OhI × OhN × OhC) × (Nat × Nat)) :=
  mX9_go_j366 n FI FR GR AI AN C t y0 (1 : Int32)
theorem x_mX9_go_j353 {G : OhG} {FI AI : OhI} {FL AL : OhL} {FR GR AR BR : OhQ} {AN : OhN} {C : OhC} {k : Nat × Nat} {Φ : OhP} {Ψ : OhX} (n : Nat) (t : Nat × Nat) (ht : ohKd t.1 = 8) (y0 : OhR) {r : (OhI × OhQ × OhQ × OhI × OhN × OhC) × (Nat × Nat)} (hm : mX9_go_j353 n FI FR GR AI AN C t y0 = some r) (hK : Φ none (r.1.1, FL, r.1.2.1, r.1.2.2.1, r.1.2.2.2.1, AL, AR, BR, r.1.2.2.2.2.1, r.1.2.2.2.2.2)) : oX G 7 iX9_go 353 [] [vR y0] (FI, FL, FR, GR, AI, AL, AR, BR, AN, C) (oPl r.2 k) Φ Ψ := by
  obtain ⟨r, q0⟩ := r
  unfold mX9_go_j353 at hm
  refine oX_iconst (v := (1 : Int32)) dX9_go_353 (by decide) ?_
  refine oX_goto (tgt := 366) dX9_go_354 (by decide) ?_
  exact oX_sub [] rfl (x_mX9_go_j366 n t ht y0 (1 : Int32) hm hK)
noncomputable def mX9_go_j350 (n : Nat) (FI : OhI) (FR : OhQ) (GR : OhQ) (AI : OhI) (AN : OhN) (C : OhC) (t : Nat × Nat) (x2 : Int32) (y0 : OhR) (y1 : Int32) (y2 : Int32) : Option ((OhI × OhQ × OhQ × OhI × OhN × OhC) × (Nat × Nat)) :=
  (if y1 ≤ y2 then
  (if x2 = 0 then
    mX9_go_j366 n FI FR GR AI AN C t y0 (3 : Int32)
  else
    mX9_go_j366 n FI FR GR AI AN C t y0 (2 : Int32))
else
  mX9_go_j353 n FI FR GR AI AN C t y0)
theorem x_mX9_go_j350 {G : OhG} {FI AI : OhI} {FL AL : OhL} {FR GR AR BR : OhQ} {AN : OhN} {C : OhC} {k : Nat × Nat} {Φ : OhP} {Ψ : OhX} (n : Nat) (t : Nat × Nat) (ht : ohKd t.1 = 8) (x2 : Int32) (y0 : OhR) (y1 : Int32) (y2 : Int32) {r : (OhI × OhQ × OhQ × OhI × OhN × OhC) × (Nat × Nat)} (hm : mX9_go_j350 n FI FR GR AI AN C t x2 y0 y1 y2 = some r) (hK : Φ none (r.1.1, FL, r.1.2.1, r.1.2.2.1, r.1.2.2.2.1, AL, AR, BR, r.1.2.2.2.2.1, r.1.2.2.2.2.2)) : oX G 7 iX9_go 350 [(2, vI x2)] [vI y2, vI y1, vR y0] (FI, FL, FR, GR, AI, AL, AR, BR, AN, C) (oPl r.2 k) Φ Ψ := by
  obtain ⟨r, q0⟩ := r
  unfold mX9_go_j350 at hm
  refine oX_icmp_le (tgt := 357) dX9_go_350 (by decide) (fun c52 => ?_) (fun c52 => ?_)
  · have hm := ifp c52 hm
    refine oX_iload_n dX9_go_357 rfl rfl ?_
    refine oX_if_eq (tgt := 365) dX9_go_358 (by decide) (fun c53 => ?_) (fun c53 => ?_)
    · have hm := ifp c53 hm
      refine oX_iconst (v := (3 : Int32)) dX9_go_365 (by decide) ?_
      exact oX_sub [] rfl (x_mX9_go_j366 n t ht y0 (3 : Int32) hm hK)
    · have hm := ifn c53 hm
      refine oX_iconst (v := (2 : Int32)) dX9_go_361 (by decide) ?_
      refine oX_goto (tgt := 366) dX9_go_362 (by decide) ?_
      exact oX_sub [] rfl (x_mX9_go_j366 n t ht y0 (2 : Int32) hm hK)
  · have hm := ifn c52 hm
    exact oX_sub [] rfl (x_mX9_go_j353 n t ht y0 hm hK)
noncomputable def mX9_go_j165 (n : Nat) (FI : OhI) (FR : OhQ) (GR : OhQ) (AI : OhI) (AN : OhN) (C : OhC) (t : Nat × Nat) (x1 : Int32) : Option ((OhI × OhQ × OhQ × OhI × OhN × OhC) × (Nat × Nat)) :=
  (mX9_isLetter x1).bind fun r23 =>
  oLet (sA FI t.1 t.2 (uA (FI t.1 t.2) 5 (0 : Int32))) fun FI24 =>
  oLet (sA FI24 30 (C 30) (fun _ => 0)) fun FI25 =>
  oLet (sA GR 30 (C 30) (fun _ => none)) fun GR25 =>
  oLet (uA C 30 (C 30 + 1)) fun C25 =>
  oCost (1, 4) <|
  (mJ13_init FI25 GR25 AI AN C25 (30, C 30)).bind fun r26 =>
  oCost r26.2 <|
  (lpK (fun v => mX9_go_b186 n v.2.1 FR v.2.2.1 v.2.2.2 r26.1.2.2.2.1 r26.1.2.2.2.2 t r23 v.1 (some (30, C 30))) n ((1 : Int32), r26.1.1, r26.1.2.1, r26.1.2.2.1)).bind fun b45 => oCost b45.2 <| (fun v45 => (mJ13_toString v45.2.1 FR v45.2.2.1 v45.2.2.2 r26.1.2.2.2.1 r26.1.2.2.2.2 (30, C 30)).bind fun r46 =>
  oCost r46.2 <|
  oLet (sA v45.2.2.1 t.1 t.2 (uA (v45.2.2.1 t.1 t.2) 10 r46.1.1)) fun GR47 =>
  (if v45.1 = 0 then
  mX9_go_j353 n r46.1.2.1 r46.1.2.2.1 GR47 r46.1.2.2.2.1 r46.1.2.2.2.2.1 r46.1.2.2.2.2.2 t (some t)
else
  (if r23 = 0 then
    mX9_go_j350 n r46.1.2.1 r46.1.2.2.1 GR47 r46.1.2.2.2.1 r46.1.2.2.2.2.1 r46.1.2.2.2.2.2 t r23 (some t) ((r46.1.2.1 t.1 t.2 2) - (r46.1.2.1 t.1 t.2 4)) (5 : Int32)
  else
    mX9_go_j350 n r46.1.2.1 r46.1.2.2.1 GR47 r46.1.2.2.2.1 r46.1.2.2.2.2.1 r46.1.2.2.2.2.2 t r23 (some t) ((r46.1.2.1 t.1 t.2 2) - (r46.1.2.1 t.1 t.2 4)) (8 : Int32)))) b45.1
theorem x_mX9_go_j165 {G : OhG} {FI AI : OhI} {FL AL : OhL} {FR GR AR BR : OhQ} {AN : OhN} {C : OhC} {k : Nat × Nat} {Φ : OhP} {Ψ : OhX} (n : Nat) (t : Nat × Nat) (ht : ohKd t.1 = 8) (x1 : Int32) {r : (OhI × OhQ × OhQ × OhI × OhN × OhC) × (Nat × Nat)} (hm : mX9_go_j165 n FI FR GR AI AN C t x1 = some r) (hK : Φ none (r.1.1, FL, r.1.2.1, r.1.2.2.1, r.1.2.2.2.1, AL, AR, BR, r.1.2.2.2.2.1, r.1.2.2.2.2.2)) : oX G 7 iX9_go 165 [(0, vR (some t)), (1, vI x1)] [] (FI, FL, FR, GR, AI, AL, AR, BR, AN, C) (oPl r.2 k) Φ Ψ := by
  obtain ⟨r, q0⟩ := r
  unfold mX9_go_j165 at hm
  refine oX_iload_n dX9_go_165 rfl rfl ?_
  obtain ⟨r23, g23, hm⟩ := bd_s hm
  refine oX_cS (as := [vI x1]) dX9_go_166 rfl ok_X9_isLetter rfl rfl q720 q721 q146 q722 (by decide) (Nat.le_of_ble_eq_true rfl) (t_X9_isLetter x1 g23) ?_
  refine oX_istore_n (ls' := [(2, vI r23), (0, vR (some t)), (1, vI x1)]) dX9_go_169 rfl (by decide) rfl ?_
  refine oX_iconst (v := (1 : Int32)) dX9_go_170 (by decide) ?_
  refine oX_istore_n (ls' := [(3, vI (1 : Int32)), (2, vI r23), (0, vR (some t)), (1, vI x1)]) dX9_go_171 rfl (by decide) rfl ?_
  refine oX_aload_n dX9_go_172 rfl rfl ?_
  refine oX_iconst (v := (0 : Int32)) dX9_go_173 (by decide) ?_
  obtain ⟨FI24, hFI24, hm⟩ := oLs hm
  refine oX_putI fX9_62 rfl (fun h9 => by cases h9) (oD_t ht) dX9_go_174 ⟨rfl, rfl⟩ hFI24 ?_
  obtain ⟨FI25, hFI25, hm⟩ := oLs hm
  obtain ⟨GR25, hGR25, hm⟩ := oLs hm
  obtain ⟨C25, hC25, hm⟩ := oLs hm
  refine oX_cost hm (fun qq25 hm => ?_)
  refine oX_newIG (s9 := 30) (k := oPl qq25 k) nX9_65 rfl (by decide) dX9_go_177 hFI25 hGR25 hC25 ?_
  refine oX_dup dX9_go_180 trivial ?_
  obtain ⟨r26, g26, hm⟩ := bd_s hm
  refine oX_cost hm (fun qq26 hm => ?_)
  refine oX_cIK (as := []) dX9_go_181 rfl ok_J13_init rfl rfl rfl q811 q812 q152 q813 (by decide) (Nat.le_of_ble_eq_true rfl) (t_J13_init (30, C 30) rfl g26) (Nat.le_refl _) (Nat.le_refl _) ?_
  refine oX_astore (ls' := [(4, vR (some (30, C 30))), (3, vI (1 : Int32)), (2, vI r23), (0, vR (some t)), (1, vI x1)]) dX9_go_184 (by decide) rfl ?_
  obtain ⟨b45, g45, hm⟩ := bd_s hm
  refine oX_cost hm (fun qq45 hm => ?_)
  refine oX_sub [3, 2, 1, 0] rfl (l_mX9_go_b186 n t ht r23 (some (30, C 30)) n (1 : Int32) r26.1.1 r26.1.2.1 r26.1.2.2.1 _ g45 ?_)
  generalize b45.1 = v45 at hm ⊢
  refine oX_aload_n dX9_go_317 rfl rfl ?_
  refine oX_aload dX9_go_318 rfl ?_
  obtain ⟨r46, g46, hm⟩ := bd_s hm
  refine oX_cost hm (fun qq46 hm => ?_)
  refine oX_cVK (as := []) dX9_go_320 rfl oDs30 rfl (by decide) rfl ok_J13_toString rfl rfl q906 q907 q908 q152 q909 (by decide) (Nat.le_of_ble_eq_true rfl) (t_J13_toString (30, C 30) rfl g46) (Nat.le_refl _) (Nat.le_refl _) ?_
  obtain ⟨GR47, hGR47, hm⟩ := oLs hm
  refine oX_putG fX9_11 rfl (fun h9 => by cases h9) (oD_t ht) dX9_go_323 (by first | exact Or.inl ⟨_, rfl⟩ | exact Or.inr ⟨_, rfl⟩) hGR47 ?_
  refine oX_aload_n dX9_go_326 rfl rfl ?_
  refine oX_iload_n dX9_go_327 rfl rfl ?_
  refine oX_if_eq (tgt := 353) dX9_go_328 (by decide) (fun c48 => ?_) (fun c48 => ?_)
  · have hm := ifp c48 hm
    exact oX_sub [] rfl (x_mX9_go_j353 n t ht (some t) hm hK)
  · have hm := ifn c48 hm
    refine oX_aload_n dX9_go_331 rfl rfl ?_
    refine oX_getI fX9_32 rfl (oD_t ht) dX9_go_332 ?_
    refine oX_aload_n dX9_go_335 rfl rfl ?_
    refine oX_getI fX9_39 rfl (oD_t ht) dX9_go_336 ?_
    refine oX_isub dX9_go_339 ?_
    refine oX_iload_n dX9_go_340 rfl rfl ?_
    refine oX_if_eq (tgt := 349) dX9_go_341 (by decide) (fun c51 => ?_) (fun c51 => ?_)
    · have hm := ifp c51 hm
      refine oX_iconst (v := (5 : Int32)) dX9_go_349 (by decide) ?_
      exact oX_sub [1] rfl (x_mX9_go_j350 n t ht r23 (some t) ((r46.1.2.1 t.1 t.2 2) - (r46.1.2.1 t.1 t.2 4)) (5 : Int32) hm hK)
    · have hm := ifn c51 hm
      refine oX_bipush (v := (8 : Int32)) dX9_go_344 (by decide) ?_
      refine oX_goto (tgt := 350) dX9_go_346 (by decide) ?_
      exact oX_sub [1] rfl (x_mX9_go_j350 n t ht r23 (some t) ((r46.1.2.1 t.1 t.2 2) - (r46.1.2.1 t.1 t.2 4)) (8 : Int32) hm hK)
noncomputable def mX9_go_j91 (n : Nat) (FI : OhI) (FR : OhQ) (GR : OhQ) (AI : OhI) (AN : OhN) (C : OhC) (t : Nat × Nat) : Option ((OhI × OhQ × OhQ × OhI × OhN × OhC) × (Nat × Nat)) :=
  (if (FI t.1 t.2 2) < (FI t.1 t.2 1) then
  (mX9_at FI FR AI AN t (FI t.1 t.2 2)).bind fun r11 =>
    (mX9_isLetter r11).bind fun r12 =>
    (if r12 = 0 then
    (mX9_isDigit r11).bind fun r14 =>
      (if r14 = 0 then
      gd (0 < C 42) <|
        (mJ8_indexOf n FI FR AI AN (42, 0) r11).bind fun r17 =>
        (if r17 < 0 then
        mX9_go_j146 n FI FR GR AI AN C t r11 (some t) (1 : Int32)
      else
        mX9_go_j146 n FI FR GR AI AN C t r11 (some t) (4 : Int32))
    else
      mX9_go_j165 n FI FR GR AI AN C t r11)
  else
    mX9_go_j165 n FI FR GR AI AN C t r11)
else
  oLet (sA FI t.1 t.2 (uA (FI t.1 t.2) 3 (0 : Int32))) fun FI54 =>
    some ((FI54, FR, GR, AI, AN, C), (0, 0)))
theorem x_mX9_go_j91 {G : OhG} {FI AI : OhI} {FL AL : OhL} {FR GR AR BR : OhQ} {AN : OhN} {C : OhC} {k : Nat × Nat} {Φ : OhP} {Ψ : OhX} (n : Nat) (t : Nat × Nat) (ht : ohKd t.1 = 8) {r : (OhI × OhQ × OhQ × OhI × OhN × OhC) × (Nat × Nat)} (hm : mX9_go_j91 n FI FR GR AI AN C t = some r) (hK : Φ none (r.1.1, FL, r.1.2.1, r.1.2.2.1, r.1.2.2.2.1, AL, AR, BR, r.1.2.2.2.2.1, r.1.2.2.2.2.2)) : oX G 7 iX9_go 91 [(0, vR (some t))] [] (FI, FL, FR, GR, AI, AL, AR, BR, AN, C) (oPl r.2 k) Φ Ψ := by
  obtain ⟨r, q0⟩ := r
  unfold mX9_go_j91 at hm
  refine oX_aload_n dX9_go_91 rfl rfl ?_
  refine oX_getI fX9_32 rfl (oD_t ht) dX9_go_92 ?_
  refine oX_aload_n dX9_go_95 rfl rfl ?_
  refine oX_getI fX9_28 rfl (oD_t ht) dX9_go_96 ?_
  refine oX_icmp_lt (tgt := 108) dX9_go_99 (by decide) (fun c10 => ?_) (fun c10 => ?_)
  · have hm := ifp c10 hm
    refine oX_aload_n dX9_go_108 rfl rfl ?_
    refine oX_aload_n dX9_go_109 rfl rfl ?_
    refine oX_getI fX9_32 rfl (oD_t ht) dX9_go_110 ?_
    obtain ⟨r11, g11, hm⟩ := bd_s hm
    refine oX_cV (as := [vI (FI t.1 t.2 2)]) dX9_go_113 rfl (oD_t ht) rfl (by decide) rfl ok_X9_at rfl rfl q716 q718 qs9 q146 q719 (by decide) (Nat.le_of_ble_eq_true rfl) (t_X9_at t ht (FI t.1 t.2 2) g11) ?_
    refine oX_istore_n (ls' := [(1, vI r11), (0, vR (some t))]) dX9_go_116 rfl (by decide) rfl ?_
    refine oX_iload_n dX9_go_117 rfl rfl ?_
    obtain ⟨r12, g12, hm⟩ := bd_s hm
    refine oX_cS (as := [vI r11]) dX9_go_118 rfl ok_X9_isLetter rfl rfl q720 q721 q146 q722 (by decide) (Nat.le_of_ble_eq_true rfl) (t_X9_isLetter r11 g12) ?_
    refine oX_if_ne (tgt := 165) dX9_go_121 (by decide) (fun c13 => ?_) (fun c13 => ?_)
    · have hm := ifp c13 hm
      refine oX_iload_n dX9_go_124 rfl rfl ?_
      obtain ⟨r14, g14, hm⟩ := bd_s hm
      refine oX_cS (as := [vI r11]) dX9_go_125 rfl ok_X9_isDigit rfl rfl q723 q724 q146 q725 (by decide) (Nat.le_of_ble_eq_true rfl) (t_X9_isDigit r11 g14) ?_
      refine oX_if_ne (tgt := 165) dX9_go_128 (by decide) (fun c15 => ?_) (fun c15 => ?_)
      · have hm := ifp c15 hm
        refine oX_aload_n dX9_go_131 rfl rfl ?_
        obtain ⟨g16, hm⟩ := gd_s hm
        refine oX_ldcS (site := 42) g16 (List.mem_of_getElem? (i := 1) rfl) rfl rfl dX9_go_132 ?_
        refine oX_iload_n dX9_go_134 rfl rfl ?_
        obtain ⟨r17, g17, hm⟩ := bd_s hm
        refine oX_cVS (as := [vI r11]) dX9_go_135 rfl (oDS_t (by decide)) rfl ok_J8_indexOf rfl rfl q727 q728 q729 q147 q730 (by decide) (Nat.le_of_ble_eq_true rfl) (t_J8_indexOf n (42, 0) ((oDS_some (oDS_t (by decide))).2) r11 g17) ?_
        refine oX_if_lt (tgt := 145) dX9_go_138 (by decide) (fun c18 => ?_) (fun c18 => ?_)
        · have hm := ifp c18 hm
          refine oX_iconst (v := (1 : Int32)) dX9_go_145 (by decide) ?_
          exact oX_sub [1, 0] rfl (x_mX9_go_j146 n t ht r11 (some t) (1 : Int32) hm hK)
        · have hm := ifn c18 hm
          refine oX_iconst (v := (4 : Int32)) dX9_go_141 (by decide) ?_
          refine oX_goto (tgt := 146) dX9_go_142 (by decide) ?_
          exact oX_sub [1, 0] rfl (x_mX9_go_j146 n t ht r11 (some t) (4 : Int32) hm hK)
      · have hm := ifn c15 hm
        exact oX_sub [1, 0] rfl (x_mX9_go_j165 n t ht r11 hm hK)
    · have hm := ifn c13 hm
      exact oX_sub [1, 0] rfl (x_mX9_go_j165 n t ht r11 hm hK)
  · have hm := ifn c10 hm
    refine oX_aload_n dX9_go_102 rfl rfl ?_
    refine oX_iconst (v := (0 : Int32)) dX9_go_103 (by decide) ?_
    obtain ⟨FI54, hFI54, hm⟩ := oLs hm
    refine oX_putI fX9_42 rfl (fun h9 => by cases h9) (oD_t ht) dX9_go_104 ⟨rfl, rfl⟩ hFI54 ?_
    obtain ⟨rfl, rfl⟩ := oEnd hm
    exact oX_vret dX9_go_107 rfl hK
noncomputable def mX9_go_j50 (n : Nat) (FI : OhI) (FR : OhQ) (GR : OhQ) (AI : OhI) (AN : OhN) (C : OhC) (t : Nat × Nat) : Option ((OhI × OhQ × OhQ × OhI × OhN × OhC) × (Nat × Nat)) :=
  oLet (sA FI t.1 t.2 (uA (FI t.1 t.2) 4 (FI t.1 t.2 2))) fun FI8 =>
  (if (FI8 t.1 t.2 1) ≤ (300 : Int32) then
  mX9_go_j91 n FI8 FR GR AI AN C t
else
  (if (FI8 t.1 t.2 4) < (300 : Int32) then
    mX9_go_j91 n FI8 FR GR AI AN C t
  else
    oLet (sA FI8 t.1 t.2 (uA (FI8 t.1 t.2) 4 (300 : Int32))) fun FI56 =>
      oLet (sA FI56 t.1 t.2 (uA (FI56 t.1 t.2) 3 (5 : Int32))) fun FI57 =>
      some ((FI57, FR, GR, AI, AN, C), (0, 0))))
theorem x_mX9_go_j50 {G : OhG} {FI AI : OhI} {FL AL : OhL} {FR GR AR BR : OhQ} {AN : OhN} {C : OhC} {k : Nat × Nat} {Φ : OhP} {Ψ : OhX} (n : Nat) (t : Nat × Nat) (ht : ohKd t.1 = 8) {r : (OhI × OhQ × OhQ × OhI × OhN × OhC) × (Nat × Nat)} (hm : mX9_go_j50 n FI FR GR AI AN C t = some r) (hK : Φ none (r.1.1, FL, r.1.2.1, r.1.2.2.1, r.1.2.2.2.1, AL, AR, BR, r.1.2.2.2.2.1, r.1.2.2.2.2.2)) : oX G 7 iX9_go 50 [(0, vR (some t))] [] (FI, FL, FR, GR, AI, AL, AR, BR, AN, C) (oPl r.2 k) Φ Ψ := by
  obtain ⟨r, q0⟩ := r
  unfold mX9_go_j50 at hm
  refine oX_aload_n dX9_go_50 rfl rfl ?_
  refine oX_aload_n dX9_go_51 rfl rfl ?_
  refine oX_getI fX9_32 rfl (oD_t ht) dX9_go_52 ?_
  obtain ⟨FI8, hFI8, hm⟩ := oLs hm
  refine oX_putI fX9_39 rfl (fun h9 => by cases h9) (oD_t ht) dX9_go_55 ⟨rfl, rfl⟩ hFI8 ?_
  refine oX_aload_n dX9_go_58 rfl rfl ?_
  refine oX_getI fX9_28 rfl (oD_t ht) dX9_go_59 ?_
  refine oX_sipush (v := (300 : Int32)) dX9_go_62 (by decide) ?_
  refine oX_icmp_le (tgt := 91) dX9_go_65 (by decide) (fun c9 => ?_) (fun c9 => ?_)
  · have hm := ifp c9 hm
    exact oX_sub [0] rfl (x_mX9_go_j91 n t ht hm hK)
  · have hm := ifn c9 hm
    refine oX_aload_n dX9_go_68 rfl rfl ?_
    refine oX_getI fX9_39 rfl (oD_t ht) dX9_go_69 ?_
    refine oX_sipush (v := (300 : Int32)) dX9_go_72 (by decide) ?_
    refine oX_icmp_lt (tgt := 91) dX9_go_75 (by decide) (fun c55 => ?_) (fun c55 => ?_)
    · have hm := ifp c55 hm
      exact oX_sub [0] rfl (x_mX9_go_j91 n t ht hm hK)
    · have hm := ifn c55 hm
      refine oX_aload_n dX9_go_78 rfl rfl ?_
      refine oX_sipush (v := (300 : Int32)) dX9_go_79 (by decide) ?_
      obtain ⟨FI56, hFI56, hm⟩ := oLs hm
      refine oX_putI fX9_39 rfl (fun h9 => by cases h9) (oD_t ht) dX9_go_82 ⟨rfl, rfl⟩ hFI56 ?_
      refine oX_aload_n dX9_go_85 rfl rfl ?_
      refine oX_iconst (v := (5 : Int32)) dX9_go_86 (by decide) ?_
      obtain ⟨FI57, hFI57, hm⟩ := oLs hm
      refine oX_putI fX9_42 rfl (fun h9 => by cases h9) (oD_t ht) dX9_go_87 ⟨rfl, rfl⟩ hFI57 ?_
      obtain ⟨rfl, rfl⟩ := oEnd hm
      exact oX_vret dX9_go_90 rfl hK
noncomputable def mX9_go (n : Nat) (FI : OhI) (FR : OhQ) (GR : OhQ) (AI : OhI) (AN : OhN) (C : OhC) (t : Nat × Nat) : Option ((OhI × OhQ × OhQ × OhI × OhN × OhC) × (Nat × Nat)) :=
  (lpK (fun v => mX9_go_b0 n v FR GR AI AN C t) n FI).bind fun b7 => oCost b7.2 <| (fun v7 => mX9_go_j50 n v7 FR GR AI AN C t) b7.1
theorem x_mX9_go {G : OhG} {FI AI : OhI} {FL AL : OhL} {FR GR AR BR : OhQ} {AN : OhN} {C : OhC} {k : Nat × Nat} {Φ : OhP} {Ψ : OhX} (n : Nat) (t : Nat × Nat) (ht : ohKd t.1 = 8) {r : (OhI × OhQ × OhQ × OhI × OhN × OhC) × (Nat × Nat)} (hm : mX9_go n FI FR GR AI AN C t = some r) (hK : Φ none (r.1.1, FL, r.1.2.1, r.1.2.2.1, r.1.2.2.2.1, AL, AR, BR, r.1.2.2.2.2.1, r.1.2.2.2.2.2)) : oX G 7 iX9_go 0 [(0, vR (some t))] [] (FI, FL, FR, GR, AI, AL, AR, BR, AN, C) (oPl r.2 k) Φ Ψ := by
  obtain ⟨r, q0⟩ := r
  unfold mX9_go at hm
  obtain ⟨b7, g7, hm⟩ := bd_s hm
  refine oX_cost hm (fun qq7 hm => ?_)
  refine oX_sub [0] rfl (l_mX9_go_b0 n t ht n FI _ g7 ?_)
  generalize b7.1 = v7 at hm ⊢
  exact oX_sub [0] rfl (x_mX9_go_j50 n t ht hm hK)
theorem t_X9_go {G : OhG} {FI AI : OhI} {FL AL : OhL} {FR GR AR BR : OhQ} {AN : OhN} {C : OhC} (n : Nat) (t : Nat × Nat) (ht : ohKd t.1 = 8) {o : (OhI × OhQ × OhQ × OhI × OhN × OhC) × (Nat × Nat)} (hm : mX9_go n FI FR GR AI AN C t = some o) : oT G 7 iX9_go [vR (some t)] (FI, FL, FR, GR, AI, AL, AR, BR, AN, C) o.2 (fun v h => v = none ∧ h = (o.1.1, FL, o.1.2.1, o.1.2.2.1, o.1.2.2.2.1, AL, AR, BR, o.1.2.2.2.2.1, o.1.2.2.2.2.2)) ohNo :=
  oT_of (by decide) rfl (Nat.le_of_ble_eq_true rfl) (x_mX9_go (k := (0, 0)) n t ht hm ⟨rfl, rfl⟩)
noncomputable def mX9_init (FI : OhI) (FR : OhQ) (GR : OhQ) (C : OhC) (t : Nat × Nat) (x1 : OhR) (x2 : Int32) : Option ((OhI × OhQ × OhQ × OhC) × (Nat × Nat)) :=
  gd (0 < C 41) <|
  oLet (sA GR t.1 t.2 (uA (GR t.1 t.2) 10 (some (41, 0)))) fun GR2 =>
  oLet (sA FI 10 (C 10) (fun _ => 0)) fun FI3 =>
  oLet (sA FR 10 (C 10) (fun _ => none)) fun FR3 =>
  oLet (uA C 10 (C 10 + 1)) fun C3 =>
  oCost (1, 7) <|
  (mX8_init FI3 FR3 GR2 C3 (10, C 10)).bind fun r4 =>
  oCost r4.2 <|
  oLet (sA r4.1.2.1 t.1 t.2 (uA (r4.1.2.1 t.1 t.2) 11 (some (10, C 10)))) fun FR5 =>
  oLet (sA FR5 t.1 t.2 (uA (FR5 t.1 t.2) 0 x1)) fun FR6 =>
  oLet (sA r4.1.1 t.1 t.2 (uA (r4.1.1 t.1 t.2) 1 x2)) fun FI7 =>
  some ((FI7, FR6, r4.1.2.2.1, r4.1.2.2.2), (0, 0))
theorem x_mX9_init {G : OhG} {FI AI : OhI} {FL AL : OhL} {FR GR AR BR : OhQ} {AN : OhN} {C : OhC} {k : Nat × Nat} {Φ : OhP} {Ψ : OhX} (t : Nat × Nat) (ht : ohKd t.1 = 8) (x1 : OhR) (x2 : Int32) {r : (OhI × OhQ × OhQ × OhC) × (Nat × Nat)} (hm : mX9_init FI FR GR C t x1 x2 = some r) (hK : Φ none (r.1.1, FL, r.1.2.1, r.1.2.2.1, AI, AL, AR, BR, AN, r.1.2.2.2)) : oX G 5 iX9_init 0 [(0, vR (some t)), (1, vR x1), (2, vI x2)] [] (FI, FL, FR, GR, AI, AL, AR, BR, AN, C) (oPl r.2 k) Φ Ψ := by
  obtain ⟨r, q0⟩ := r
  unfold mX9_init at hm
  refine oX_aload_n dX9_init_0 rfl rfl ?_
  refine oX_objInit (a := t) rfl q667 q176 q177 dX9_init_1 (by decide) (Nat.le_of_ble_eq_true rfl) ?_
  refine oX_aload_n dX9_init_4 rfl rfl ?_
  obtain ⟨g1, hm⟩ := gd_s hm
  refine oX_ldcS (site := 41) g1 (List.mem_of_getElem? (i := 0) rfl) rfl rfl dX9_init_5 ?_
  obtain ⟨GR2, hGR2, hm⟩ := oLs hm
  refine oX_putG fX9_11 rfl (fun _ => rfl) (oD_t ht) dX9_init_7 (by first | exact Or.inl ⟨_, rfl⟩ | exact Or.inr ⟨_, rfl⟩) hGR2 ?_
  refine oX_aload_n dX9_init_10 rfl rfl ?_
  obtain ⟨FI3, hFI3, hm⟩ := oLs hm
  obtain ⟨FR3, hFR3, hm⟩ := oLs hm
  obtain ⟨C3, hC3, hm⟩ := oLs hm
  refine oX_cost hm (fun qq3 hm => ?_)
  refine oX_newIF (s9 := 10) (k := oPl qq3 k) nX9_17 rfl (by decide) dX9_init_11 hFI3 hFR3 hC3 ?_
  refine oX_dup dX9_init_14 trivial ?_
  obtain ⟨r4, g4, hm⟩ := bd_s hm
  refine oX_cost hm (fun qq4 hm => ?_)
  refine oX_cIKN (as := []) dX9_init_15 rfl ok_X8_init rfl rfl rfl q670 q574 q143 q575 (by decide) (Nat.le_of_ble_eq_true rfl) (t_X8_init (10, C 10) rfl g4) (Nat.le_refl _) (Nat.le_refl _) ?_
  obtain ⟨FR5, hFR5, hm⟩ := oLs hm
  refine oX_putF fX9_20 rfl (fun _ => rfl) (oD_t ht) dX9_init_18 (by first | exact Or.inl ⟨_, rfl⟩ | exact Or.inr ⟨_, rfl⟩) hFR5 ?_
  refine oX_aload_n dX9_init_21 rfl rfl ?_
  refine oX_aload_n dX9_init_22 rfl rfl ?_
  obtain ⟨FR6, hFR6, hm⟩ := oLs hm
  refine oX_putF fX9_24 rfl (fun _ => rfl) (oD_t ht) dX9_init_23 (by first | exact Or.inl ⟨_, rfl⟩ | exact Or.inr ⟨_, rfl⟩) hFR6 ?_
  refine oX_aload_n dX9_init_26 rfl rfl ?_
  refine oX_iload_n dX9_init_27 rfl rfl ?_
  obtain ⟨FI7, hFI7, hm⟩ := oLs hm
  refine oX_putI fX9_28 rfl (fun _ => rfl) (oD_t ht) dX9_init_28 ⟨rfl, rfl⟩ hFI7 ?_
  obtain ⟨rfl, rfl⟩ := oEnd hm
  exact oX_vret dX9_init_31 rfl hK
theorem t_X9_init {G : OhG} {FI AI : OhI} {FL AL : OhL} {FR GR AR BR : OhQ} {AN : OhN} {C : OhC} (t : Nat × Nat) (ht : ohKd t.1 = 8) (x1 : OhR) (x2 : Int32) {o : (OhI × OhQ × OhQ × OhC) × (Nat × Nat)} (hm : mX9_init FI FR GR C t x1 x2 = some o) : oT G 5 iX9_init [vR (some t), vR x1, vI x2] (FI, FL, FR, GR, AI, AL, AR, BR, AN, C) o.2 (fun v h => v = none ∧ h = (o.1.1, FL, o.1.2.1, o.1.2.2.1, AI, AL, AR, BR, AN, o.1.2.2.2)) ohNo :=
  oT_of (by decide) rfl (Nat.le_of_ble_eq_true rfl) (x_mX9_init (k := (0, 0)) t ht x1 x2 hm ⟨rfl, rfl⟩)
