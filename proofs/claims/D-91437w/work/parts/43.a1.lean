/-! MIRRORS of methods that make things: printed by gen/mk_alloc.py -/
abbrev iJ5_copyOf_2 : OhM := (yJ5_copyOf_2, cJ5_copyOf_2, 4, (some (FieldType.array (FieldType.object "java/lang/Object"))), [])
theorem ok_J5_copyOf_2 : oOk iJ5_copyOf_2 3 := ⟨by decide, by decide, by decide +kernel⟩
abbrev iJ5_copyOf : OhM := (yJ5_copyOf, cJ5_copyOf, 2, (some (FieldType.array (FieldType.object "java/lang/Object"))), [])
theorem ok_J5_copyOf : oOk iJ5_copyOf 2 := ⟨by decide, by decide, by decide +kernel⟩
abbrev iJ2_grow_2 : OhM := (yJ2_grow_2, cJ2_grow_2, 4, (some (FieldType.array (FieldType.object "java/lang/Object"))), [])
theorem ok_J2_grow_2 : oOk iJ2_grow_2 1 := ⟨by decide, by decide, by decide +kernel⟩
abbrev iJ2_grow : OhM := (yJ2_grow, cJ2_grow, 1, (some (FieldType.array (FieldType.object "java/lang/Object"))), [])
theorem ok_J2_grow : oOk iJ2_grow 0 := ⟨by decide, by decide, by decide +kernel⟩
abbrev iJ2_add_2 : OhM := (yJ2_add_2, cJ2_add_2, 4, none, [])
theorem ok_J2_add_2 : oOk iJ2_add_2 3 := ⟨by decide, by decide, by decide +kernel⟩
abbrev iJ2_add : OhM := (yJ2_add, cJ2_add, 2, (some .boolean), [])
theorem ok_J2_add : oOk iJ2_add 1 := ⟨by decide, by decide, by decide +kernel⟩
abbrev iX5_init : OhM := (yX5_init, cX5_init, 6, none, [])
theorem ok_X5_init : oOk iX5_init 5 := ⟨by decide, by decide, by decide +kernel⟩
abbrev iX2_init : OhM := (yX2_init, cX2_init, 2, none, [])
theorem ok_X2_init : oOk iX2_init 0 := ⟨by decide, by decide, by decide +kernel⟩
abbrev iX8_init : OhM := (yX8_init, cX8_init, 1, none, [])
theorem ok_X8_init : oOk iX8_init 0 := ⟨by decide, by decide, by decide +kernel⟩
abbrev iX7_init : OhM := (yX7_init, cX7_init, 5, none, [])
theorem ok_X7_init : oOk iX7_init 4 := ⟨by decide, by decide, by decide +kernel⟩
noncomputable def mJ5_copyOf_2_j24 (BR : OhQ) (AN : OhN) (C : OhC) (x0 : OhR) (x1 : Int32) (y0 : OhR) : Option ((OhR × OhQ × OhN × OhC) × (Nat × Nat)) :=
  (oD2 6 x0).bind fun a4 =>
  (mJ3_min (Int32.ofNat (AN a4.1 a4.2)) x1).bind fun r5 =>
  (oD 106 x0).bind fun a6 =>
  (oD 106 y0).bind fun a7 =>
  gd ((¬ (0 : Int32) < 0 ∧ ¬ (0 : Int32) < 0 ∧ ¬ r5 < 0) ∧ (0 : Int32).toNatClampNeg + r5.toNatClampNeg ≤ AN a6.1 a6.2 ∧ (0 : Int32).toNatClampNeg + r5.toNatClampNeg ≤ AN a7.1 a7.2 ∧ (∀ i : Nat, i < r5.toNatClampNeg → ∀ y, BR a6.1 a6.2 ((0 : Int32).toNatClampNeg + i) = some y → ohKd y.1 < 17)) <|
  oLet (sA BR a7.1 a7.2 (va_cpy (BR a6.1 a6.2) (BR a7.1 a7.2) (0 : Int32).toNatClampNeg (0 : Int32).toNatClampNeg r5.toNatClampNeg)) fun BR8 =>
  some ((y0, BR8, AN, C), (0, 0))
theorem x_mJ5_copyOf_2_j24 {G : OhG} {FI AI : OhI} {FL AL : OhL} {FR GR AR BR : OhQ} {AN : OhN} {C : OhC} {k : Nat × Nat} {Φ : OhP} {Ψ : OhX} (x0 : OhR) (x1 : Int32) (y0 : OhR) {r : (OhR × OhQ × OhN × OhC) × (Nat × Nat)} (hm : mJ5_copyOf_2_j24 BR AN C x0 x1 y0 = some r) (hK : Φ (some (vR r.1.1)) (FI, FL, FR, GR, AI, AL, AR, r.1.2.1, r.1.2.2.1, r.1.2.2.2)) : oX G 2 iJ5_copyOf_2 24 [(0, vR x0), (1, vI x1)] [vR y0] (FI, FL, FR, GR, AI, AL, AR, BR, AN, C) (oPl r.2 k) Φ Ψ := by
  obtain ⟨r, q0⟩ := r
  unfold mJ5_copyOf_2_j24 at hm
  refine oX_astore_n (ls' := [(3, vR y0), (0, vR x0), (1, vI x1)]) dJ5_copyOf_2_24 rfl (by decide) rfl ?_
  refine oX_aload_n dJ5_copyOf_2_25 rfl rfl ?_
  refine oX_iconst (v := (0 : Int32)) dJ5_copyOf_2_26 (by decide) ?_
  refine oX_aload_n dJ5_copyOf_2_27 rfl rfl ?_
  refine oX_iconst (v := (0 : Int32)) dJ5_copyOf_2_28 (by decide) ?_
  refine oX_aload_n dJ5_copyOf_2_29 rfl rfl ?_
  obtain ⟨a4, e4, hm⟩ := bd_s hm
  refine oX_alen2 6 (by decide) e4 dJ5_copyOf_2_30 ?_
  refine oX_iload_n dJ5_copyOf_2_31 rfl rfl ?_
  obtain ⟨r5, g5, hm⟩ := bd_s hm
  refine oX_cS (as := [vI (Int32.ofNat (AN a4.1 a4.2)), vI x1]) dJ5_copyOf_2_32 rfl ok_J3_min rfl rfl q555 q232 q134 q233 (by decide) (Nat.le_of_ble_eq_true rfl) (t_J3_min (Int32.ofNat (AN a4.1 a4.2)) x1 g5) ?_
  obtain ⟨a6, e6, hm⟩ := bd_s hm
  obtain ⟨a7, e7, hm⟩ := bd_s hm
  obtain ⟨g8, hm⟩ := gd_s hm
  obtain ⟨BR8, hBR8, hm⟩ := oLs hm
  refine oX_copyO e6 e7 g8.1.1 g8.1.2.1 g8.1.2.2 g8.2.1 g8.2.2.1 g8.2.2.2 q556 q558 q557 q141 dJ5_copyOf_2_35 (by decide) (Nat.le_of_ble_eq_true rfl) hBR8 ?_
  refine oX_aload_n dJ5_copyOf_2_38 rfl rfl ?_
  obtain ⟨rfl, rfl⟩ := oEnd hm
  exact oX_aret dJ5_copyOf_2_39 rfl (by first | exact Or.inl ⟨_, rfl⟩ | exact Or.inr ⟨_, rfl⟩) hK
noncomputable def mJ5_copyOf_2 (BR : OhQ) (AN : OhN) (C : OhC) (x0 : OhR) (x1 : Int32) (x2 : OhR) : Option ((OhR × OhQ × OhN × OhC) × (Nat × Nat)) :=
  gd (0 < C 58) <|
  gd (oNm x2 (some (58, 0))) <|
  (if x2 = (some (58, 0)) then
  gd (¬ x1 < 0 ∧ x1 ≤ 100000) <|
    oLet (sA BR 34 (C 34) (fun _ => none)) fun BR3 =>
    oLet (sA AN 34 (C 34) x1.toNatClampNeg) fun AN3 =>
    oLet (uA C 34 (C 34 + 1)) fun C3 =>
    oCost (1, x1.toNatClampNeg) <|
    mJ5_copyOf_2_j24 BR3 AN3 C3 x0 x1 (some (34, C 34))
else
  none)
theorem x_mJ5_copyOf_2 {G : OhG} {FI AI : OhI} {FL AL : OhL} {FR GR AR BR : OhQ} {AN : OhN} {C : OhC} {k : Nat × Nat} {Φ : OhP} {Ψ : OhX} (x0 : OhR) (x1 : Int32) (x2 : OhR) {r : (OhR × OhQ × OhN × OhC) × (Nat × Nat)} (hm : mJ5_copyOf_2 BR AN C x0 x1 x2 = some r) (hK : Φ (some (vR r.1.1)) (FI, FL, FR, GR, AI, AL, AR, r.1.2.1, r.1.2.2.1, r.1.2.2.2)) : oX G 2 iJ5_copyOf_2 0 [(0, vR x0), (1, vI x1), (2, vR x2)] [] (FI, FL, FR, GR, AI, AL, AR, BR, AN, C) (oPl r.2 k) Φ Ψ := by
  obtain ⟨r, q0⟩ := r
  unfold mJ5_copyOf_2 at hm
  refine oX_aload_n dJ5_copyOf_2_0 rfl rfl ?_
  obtain ⟨g1, hm⟩ := gd_s hm
  refine oX_ldcM g1 q552 dJ5_copyOf_2_1 ?_
  obtain ⟨n2, hm⟩ := gd_s hm
  refine oX_acmp_ne (tgt := 13) n2 dJ5_copyOf_2_3 (by decide) (fun c2 => ?_) (fun c2 => ?_)
  · have hm := ifp c2 hm
    refine oX_iload_n dJ5_copyOf_2_6 rfl rfl ?_
    obtain ⟨g3, hm⟩ := gd_s hm
    obtain ⟨BR3, hBR3, hm⟩ := oLs hm
    obtain ⟨AN3, hAN3, hm⟩ := oLs hm
    obtain ⟨C3, hC3, hm⟩ := oLs hm
    refine oX_cost hm (fun qq3 hm => ?_)
    refine oX_newa6 (k := oPl qq3 k) 34 rfl q554 q553 dJ5_copyOf_2_7 g3.1 g3.2 hBR3 hAN3 hC3 ?_
    refine oX_goto (tgt := 24) dJ5_copyOf_2_10 (by decide) ?_
    exact oX_sub [0, 1] rfl (x_mJ5_copyOf_2_j24 x0 x1 (some (34, C 34)) hm hK)
  · have hm := ifn c2 hm
    refine oX_aload_n dJ5_copyOf_2_13 rfl rfl ?_
    cases hm
theorem t_J5_copyOf_2 {G : OhG} {FI AI : OhI} {FL AL : OhL} {FR GR AR BR : OhQ} {AN : OhN} {C : OhC} (x0 : OhR) (x1 : Int32) (x2 : OhR) {o : (OhR × OhQ × OhN × OhC) × (Nat × Nat)} (hm : mJ5_copyOf_2 BR AN C x0 x1 x2 = some o) : oT G 2 iJ5_copyOf_2 [vR x0, vI x1, vR x2] (FI, FL, FR, GR, AI, AL, AR, BR, AN, C) o.2 (fun v h => v = (some (vR o.1.1)) ∧ h = (FI, FL, FR, GR, AI, AL, AR, o.1.2.1, o.1.2.2.1, o.1.2.2.2)) ohNo :=
  oT_of (by decide) rfl (Nat.le_of_ble_eq_true rfl) (x_mJ5_copyOf_2 (k := (0, 0)) x0 x1 x2 hm ⟨rfl, rfl⟩)
noncomputable def mJ5_copyOf (BR : OhQ) (AN : OhN) (C : OhC) (x0 : OhR) (x1 : Int32) : Option ((OhR × OhQ × OhN × OhC) × (Nat × Nat)) :=
  (oD 106 x0).bind fun a1 =>
  gd (0 < C 58) <|
  (mJ5_copyOf_2 BR AN C x0 x1 (some (58, 0))).bind fun r3 =>
  oCost r3.2 <|
  some ((r3.1.1, r3.1.2.1, r3.1.2.2.1, r3.1.2.2.2), (0, 0))
theorem x_mJ5_copyOf {G : OhG} {FI AI : OhI} {FL AL : OhL} {FR GR AR BR : OhQ} {AN : OhN} {C : OhC} {k : Nat × Nat} {Φ : OhP} {Ψ : OhX} (x0 : OhR) (x1 : Int32) {r : (OhR × OhQ × OhN × OhC) × (Nat × Nat)} (hm : mJ5_copyOf BR AN C x0 x1 = some r) (hK : Φ (some (vR r.1.1)) (FI, FL, FR, GR, AI, AL, AR, r.1.2.1, r.1.2.2.1, r.1.2.2.2)) : oX G 3 iJ5_copyOf 0 [(0, vR x0), (1, vI x1)] [] (FI, FL, FR, GR, AI, AL, AR, BR, AN, C) (oPl r.2 k) Φ Ψ := by
  obtain ⟨r, q0⟩ := r
  unfold mJ5_copyOf at hm
  refine oX_aload_n dJ5_copyOf_0 rfl rfl ?_
  refine oX_iload_n dJ5_copyOf_1 rfl rfl ?_
  refine oX_aload_n dJ5_copyOf_2 rfl rfl ?_
  obtain ⟨a1, e1, hm⟩ := bd_s hm
  obtain ⟨g2, hm⟩ := gd_s hm
  refine oX_getClassO e1 g2 q523 q2484 q524 q548 dJ5_copyOf_3 (by decide) (Nat.le_of_ble_eq_true rfl) ?_
  obtain ⟨r3, g3, hm⟩ := bd_s hm
  refine oX_cost hm (fun qq3 hm => ?_)
  refine oX_cSK (as := [vR x0, vI x1, vR (some (58, 0))]) dJ5_copyOf_6 rfl ok_J5_copyOf_2 rfl rfl q549 q550 q140 q551 (by decide) (Nat.le_of_ble_eq_true rfl) (t_J5_copyOf_2 x0 x1 (some (58, 0)) g3) (Nat.le_refl _) (Nat.le_refl _) ?_
  obtain ⟨rfl, rfl⟩ := oEnd hm
  exact oX_aret dJ5_copyOf_9 rfl (by first | exact Or.inl ⟨_, rfl⟩ | exact Or.inr ⟨_, rfl⟩) hK
theorem t_J5_copyOf {G : OhG} {FI AI : OhI} {FL AL : OhL} {FR GR AR BR : OhQ} {AN : OhN} {C : OhC} (x0 : OhR) (x1 : Int32) {o : (OhR × OhQ × OhN × OhC) × (Nat × Nat)} (hm : mJ5_copyOf BR AN C x0 x1 = some o) : oT G 3 iJ5_copyOf [vR x0, vI x1] (FI, FL, FR, GR, AI, AL, AR, BR, AN, C) o.2 (fun v h => v = (some (vR o.1.1)) ∧ h = (FI, FL, FR, GR, AI, AL, AR, o.1.2.1, o.1.2.2.1, o.1.2.2.2)) ohNo :=
  oT_of (by decide) rfl (Nat.le_of_ble_eq_true rfl) (x_mJ5_copyOf (k := (0, 0)) x0 x1 hm ⟨rfl, rfl⟩)
noncomputable def mJ2_grow_2_j20 (GR : OhQ) (BR : OhQ) (AN : OhN) (C : OhC) (t : Nat × Nat) (x1 : Int32) (x2 : Int32) : Option ((OhR × OhQ × OhQ × OhN × OhC) × (Nat × Nat)) :=
  (mJ4_newLength x2 (x1 - x2) (x2 >>> ((1 : Int32) &&& 31))).bind fun r3 =>
  (mJ5_copyOf BR AN C (GR t.1 t.2 1) r3).bind fun r4 =>
  oCost r4.2 <|
  oLet (sA GR t.1 t.2 (uA (GR t.1 t.2) 1 r4.1.1)) fun GR5 =>
  some ((r4.1.1, GR5, r4.1.2.1, r4.1.2.2.1, r4.1.2.2.2), (0, 0))
theorem x_mJ2_grow_2_j20 {G : OhG} {FI AI : OhI} {FL AL : OhL} {FR GR AR BR : OhQ} {AN : OhN} {C : OhC} {k : Nat × Nat} {Φ : OhP} {Ψ : OhX} (t : Nat × Nat) (ht : ohKd t.1 = 17) (x1 : Int32) (x2 : Int32) {r : (OhR × OhQ × OhQ × OhN × OhC) × (Nat × Nat)} (hm : mJ2_grow_2_j20 GR BR AN C t x1 x2 = some r) (hK : Φ (some (vR r.1.1)) (FI, FL, FR, r.1.2.1, AI, AL, AR, r.1.2.2.1, r.1.2.2.2.1, r.1.2.2.2.2)) : oX G 4 iJ2_grow_2 20 [(0, vR (some t)), (1, vI x1), (2, vI x2)] [] (FI, FL, FR, GR, AI, AL, AR, BR, AN, C) (oPl r.2 k) Φ Ψ := by
  obtain ⟨r, q0⟩ := r
  unfold mJ2_grow_2_j20 at hm
  refine oX_iload_n dJ2_grow_2_20 rfl rfl ?_
  refine oX_iload_n dJ2_grow_2_21 rfl rfl ?_
  refine oX_iload_n dJ2_grow_2_22 rfl rfl ?_
  refine oX_isub dJ2_grow_2_23 ?_
  refine oX_iload_n dJ2_grow_2_24 rfl rfl ?_
  refine oX_iconst (v := (1 : Int32)) dJ2_grow_2_25 (by decide) ?_
  refine oX_ishr dJ2_grow_2_26 ?_
  obtain ⟨r3, g3, hm⟩ := bd_s hm
  refine oX_cS (as := [vI x2, vI (x1 - x2), vI (x2 >>> ((1 : Int32) &&& 31))]) dJ2_grow_2_27 rfl ok_J4_newLength rfl rfl q512 q513 q139 q514 (by decide) (Nat.le_of_ble_eq_true rfl) (t_J4_newLength x2 (x1 - x2) (x2 >>> ((1 : Int32) &&& 31)) g3) ?_
  refine oX_istore_n (ls' := [(3, vI r3), (0, vR (some t)), (1, vI x1), (2, vI x2)]) dJ2_grow_2_30 rfl (by decide) rfl ?_
  refine oX_aload_n dJ2_grow_2_31 rfl rfl ?_
  refine oX_aload_n dJ2_grow_2_32 rfl rfl ?_
  refine oX_getG fJ2_9 rfl (oD_t ht) dJ2_grow_2_33 ?_
  refine oX_iload_n dJ2_grow_2_36 rfl rfl ?_
  obtain ⟨r4, g4, hm⟩ := bd_s hm
  refine oX_cost hm (fun qq4 hm => ?_)
  refine oX_cSK (as := [vR (GR t.1 t.2 1), vI r3]) dJ2_grow_2_37 rfl ok_J5_copyOf rfl rfl q520 q521 q140 q522 (by decide) (Nat.le_of_ble_eq_true rfl) (t_J5_copyOf (GR t.1 t.2 1) r3 g4) (Nat.le_refl _) (Nat.le_refl _) ?_
  refine oX_dup_x1 dJ2_grow_2_40 trivial trivial ?_
  obtain ⟨GR5, hGR5, hm⟩ := oLs hm
  refine oX_putG fJ2_9 rfl (fun h9 => by cases h9) (oD_t ht) dJ2_grow_2_41 (by first | exact Or.inl ⟨_, rfl⟩ | exact Or.inr ⟨_, rfl⟩) hGR5 ?_
  obtain ⟨rfl, rfl⟩ := oEnd hm
  exact oX_aret dJ2_grow_2_44 rfl (by first | exact Or.inl ⟨_, rfl⟩ | exact Or.inr ⟨_, rfl⟩) hK
noncomputable def mJ2_grow_2 (GR : OhQ) (BR : OhQ) (AN : OhN) (C : OhC) (t : Nat × Nat) (x1 : Int32) : Option ((OhR × OhQ × OhQ × OhN × OhC) × (Nat × Nat)) :=
  (oD2 6 (GR t.1 t.2 1)).bind fun a1 =>
  (if 0 < (Int32.ofNat (AN a1.1 a1.2)) then
  mJ2_grow_2_j20 GR BR AN C t x1 (Int32.ofNat (AN a1.1 a1.2))
else
  gd (0 < C 40) <|
    gd (oNm (GR t.1 t.2 1) (some (40, 0))) <|
    (if (GR t.1 t.2 1) = (some (40, 0)) then
    (mJ3_max (10 : Int32) x1).bind fun r8 =>
      gd (¬ r8 < 0 ∧ r8 ≤ 100000) <|
      oLet (sA BR 33 (C 33) (fun _ => none)) fun BR9 =>
      oLet (sA AN 33 (C 33) r8.toNatClampNeg) fun AN9 =>
      oLet (uA C 33 (C 33 + 1)) fun C9 =>
      oCost (1, r8.toNatClampNeg) <|
      oLet (sA GR t.1 t.2 (uA (GR t.1 t.2) 1 (some (33, C 33)))) fun GR10 =>
      some ((some (33, C 33), GR10, BR9, AN9, C9), (0, 0))
  else
    mJ2_grow_2_j20 GR BR AN C t x1 (Int32.ofNat (AN a1.1 a1.2))))
theorem x_mJ2_grow_2 {G : OhG} {FI AI : OhI} {FL AL : OhL} {FR GR AR BR : OhQ} {AN : OhN} {C : OhC} {k : Nat × Nat} {Φ : OhP} {Ψ : OhX} (t : Nat × Nat) (ht : ohKd t.1 = 17) (x1 : Int32) {r : (OhR × OhQ × OhQ × OhN × OhC) × (Nat × Nat)} (hm : mJ2_grow_2 GR BR AN C t x1 = some r) (hK : Φ (some (vR r.1.1)) (FI, FL, FR, r.1.2.1, AI, AL, AR, r.1.2.2.1, r.1.2.2.2.1, r.1.2.2.2.2)) : oX G 4 iJ2_grow_2 0 [(0, vR (some t)), (1, vI x1)] [] (FI, FL, FR, GR, AI, AL, AR, BR, AN, C) (oPl r.2 k) Φ Ψ := by
  obtain ⟨r, q0⟩ := r
  unfold mJ2_grow_2 at hm
  refine oX_aload_n dJ2_grow_2_0 rfl rfl ?_
  refine oX_getG fJ2_9 rfl (oD_t ht) dJ2_grow_2_1 ?_
  obtain ⟨a1, e1, hm⟩ := bd_s hm
  refine oX_alen2 6 (by decide) e1 dJ2_grow_2_4 ?_
  refine oX_istore_n (ls' := [(2, vI (Int32.ofNat (AN a1.1 a1.2))), (0, vR (some t)), (1, vI x1)]) dJ2_grow_2_5 rfl (by decide) rfl ?_
  refine oX_iload_n dJ2_grow_2_6 rfl rfl ?_
  refine oX_if_gt (tgt := 20) dJ2_grow_2_7 (by decide) (fun c2 => ?_) (fun c2 => ?_)
  · have hm := ifp c2 hm
    exact oX_sub [1, 2, 0] rfl (x_mJ2_grow_2_j20 t ht x1 (Int32.ofNat (AN a1.1 a1.2)) hm hK)
  · have hm := ifn c2 hm
    refine oX_aload_n dJ2_grow_2_10 rfl rfl ?_
    refine oX_getG fJ2_9 rfl (oD_t ht) dJ2_grow_2_11 ?_
    obtain ⟨g6, hm⟩ := gd_s hm
    refine oX_getsE g6 q190 dJ2_grow_2_14 ?_
    obtain ⟨n7, hm⟩ := gd_s hm
    refine oX_acmp_eq (tgt := 45) n7 dJ2_grow_2_17 (by decide) (fun c7 => ?_) (fun c7 => ?_)
    · have hm := ifp c7 hm
      refine oX_aload_n dJ2_grow_2_45 rfl rfl ?_
      refine oX_bipush (v := (10 : Int32)) dJ2_grow_2_46 (by decide) ?_
      refine oX_iload_n dJ2_grow_2_48 rfl rfl ?_
      obtain ⟨r8, g8, hm⟩ := bd_s hm
      refine oX_cS (as := [vI (10 : Int32), vI x1]) dJ2_grow_2_49 rfl ok_J3_max rfl rfl q559 q235 q134 q236 (by decide) (Nat.le_of_ble_eq_true rfl) (t_J3_max (10 : Int32) x1 g8) ?_
      obtain ⟨g9, hm⟩ := gd_s hm
      obtain ⟨BR9, hBR9, hm⟩ := oLs hm
      obtain ⟨AN9, hAN9, hm⟩ := oLs hm
      obtain ⟨C9, hC9, hm⟩ := oLs hm
      refine oX_cost hm (fun qq9 hm => ?_)
      refine oX_newa6 (k := oPl qq9 k) 33 rfl q560 q553 dJ2_grow_2_52 g9.1 g9.2 hBR9 hAN9 hC9 ?_
      refine oX_dup_x1 dJ2_grow_2_55 trivial trivial ?_
      obtain ⟨GR10, hGR10, hm⟩ := oLs hm
      refine oX_putG fJ2_9 rfl (fun h9 => by cases h9) (oD_t ht) dJ2_grow_2_56 (by first | exact Or.inl ⟨_, rfl⟩ | exact Or.inr ⟨_, rfl⟩) hGR10 ?_
      obtain ⟨rfl, rfl⟩ := oEnd hm
      exact oX_aret dJ2_grow_2_59 rfl (by first | exact Or.inl ⟨_, rfl⟩ | exact Or.inr ⟨_, rfl⟩) hK
    · have hm := ifn c7 hm
      exact oX_sub [1, 2, 0] rfl (x_mJ2_grow_2_j20 t ht x1 (Int32.ofNat (AN a1.1 a1.2)) hm hK)
theorem t_J2_grow_2 {G : OhG} {FI AI : OhI} {FL AL : OhL} {FR GR AR BR : OhQ} {AN : OhN} {C : OhC} (t : Nat × Nat) (ht : ohKd t.1 = 17) (x1 : Int32) {o : (OhR × OhQ × OhQ × OhN × OhC) × (Nat × Nat)} (hm : mJ2_grow_2 GR BR AN C t x1 = some o) : oT G 4 iJ2_grow_2 [vR (some t), vI x1] (FI, FL, FR, GR, AI, AL, AR, BR, AN, C) o.2 (fun v h => v = (some (vR o.1.1)) ∧ h = (FI, FL, FR, o.1.2.1, AI, AL, AR, o.1.2.2.1, o.1.2.2.2.1, o.1.2.2.2.2)) ohNo :=
  oT_of (by decide) rfl (Nat.le_of_ble_eq_true rfl) (x_mJ2_grow_2 (k := (0, 0)) t ht x1 hm ⟨rfl, rfl⟩)
noncomputable def mJ2_grow (FI : OhI) (GR : OhQ) (BR : OhQ) (AN : OhN) (C : OhC) (t : Nat × Nat) : Option ((OhR × OhQ × OhQ × OhN × OhC) × (Nat × Nat)) :=
  (mJ2_grow_2 GR BR AN C t ((FI t.1 t.2 2) + (1 : Int32))).bind fun r1 =>
  oCost r1.2 <|
  some ((r1.1.1, r1.1.2.1, r1.1.2.2.1, r1.1.2.2.2.1, r1.1.2.2.2.2), (0, 0))
theorem x_mJ2_grow {G : OhG} {FI AI : OhI} {FL AL : OhL} {FR GR AR BR : OhQ} {AN : OhN} {C : OhC} {k : Nat × Nat} {Φ : OhP} {Ψ : OhX} (t : Nat × Nat) (ht : ohKd t.1 = 17) {r : (OhR × OhQ × OhQ × OhN × OhC) × (Nat × Nat)} (hm : mJ2_grow FI GR BR AN C t = some r) (hK : Φ (some (vR r.1.1)) (FI, FL, FR, r.1.2.1, AI, AL, AR, r.1.2.2.1, r.1.2.2.2.1, r.1.2.2.2.2)) : oX G 5 iJ2_grow 0 [(0, vR (some t))] [] (FI, FL, FR, GR, AI, AL, AR, BR, AN, C) (oPl r.2 k) Φ Ψ := by
  obtain ⟨r, q0⟩ := r
  unfold mJ2_grow at hm
  refine oX_aload_n dJ2_grow_0 rfl rfl ?_
  refine oX_aload_n dJ2_grow_1 rfl rfl ?_
  refine oX_getI fJ2_48 rfl (oD_t ht) dJ2_grow_2 ?_
  refine oX_iconst (v := (1 : Int32)) dJ2_grow_5 (by decide) ?_
  refine oX_iadd dJ2_grow_6 ?_
  obtain ⟨r1, g1, hm⟩ := bd_s hm
  refine oX_cost hm (fun qq1 hm => ?_)
  refine oX_cVK (as := [vI ((FI t.1 t.2 2) + (1 : Int32))]) dJ2_grow_7 rfl (oD_t ht) rfl (by decide) rfl ok_J2_grow_2 rfl rfl q508 q510 qs6 q132 q511 (by decide) (Nat.le_of_ble_eq_true rfl) (t_J2_grow_2 t ht ((FI t.1 t.2 2) + (1 : Int32)) g1) (Nat.le_refl _) (Nat.le_refl _) ?_
  obtain ⟨rfl, rfl⟩ := oEnd hm
  exact oX_aret dJ2_grow_10 rfl (by first | exact Or.inl ⟨_, rfl⟩ | exact Or.inr ⟨_, rfl⟩) hK
theorem t_J2_grow {G : OhG} {FI AI : OhI} {FL AL : OhL} {FR GR AR BR : OhQ} {AN : OhN} {C : OhC} (t : Nat × Nat) (ht : ohKd t.1 = 17) {o : (OhR × OhQ × OhQ × OhN × OhC) × (Nat × Nat)} (hm : mJ2_grow FI GR BR AN C t = some o) : oT G 5 iJ2_grow [vR (some t)] (FI, FL, FR, GR, AI, AL, AR, BR, AN, C) o.2 (fun v h => v = (some (vR o.1.1)) ∧ h = (FI, FL, FR, o.1.2.1, AI, AL, AR, o.1.2.2.1, o.1.2.2.2.1, o.1.2.2.2.2)) ohNo :=
  oT_of (by decide) rfl (Nat.le_of_ble_eq_true rfl) (x_mJ2_grow (k := (0, 0)) t ht hm ⟨rfl, rfl⟩)
noncomputable def mJ2_add_2_j11 (FI : OhI) (GR : OhQ) (BR : OhQ) (AN : OhN) (C : OhC) (t : Nat × Nat) (x1 : OhR) (x2 : OhR) (x3 : Int32) : Option ((OhI × OhQ × OhQ × OhN × OhC) × (Nat × Nat)) :=
  (oD 106 x2).bind fun a4 =>
  gd (vp_in x3 (AN a4.1 a4.2)) <|
  gd (oOb x1) <|
  oLet (sA BR a4.1 a4.2 (uA (BR a4.1 a4.2) x3.toNatClampNeg x1)) fun BR5 =>
  oLet (sA FI t.1 t.2 (uA (FI t.1 t.2) 2 (x3 + (1 : Int32)))) fun FI6 =>
  some ((FI6, GR, BR5, AN, C), (0, 0))
theorem x_mJ2_add_2_j11 {G : OhG} {FI AI : OhI} {FL AL : OhL} {FR GR AR BR : OhQ} {AN : OhN} {C : OhC} {k : Nat × Nat} {Φ : OhP} {Ψ : OhX} (t : Nat × Nat) (ht : ohKd t.1 = 17) (x1 : OhR) (x2 : OhR) (x3 : Int32) {r : (OhI × OhQ × OhQ × OhN × OhC) × (Nat × Nat)} (hm : mJ2_add_2_j11 FI GR BR AN C t x1 x2 x3 = some r) (hK : Φ none (r.1.1, FL, FR, r.1.2.1, AI, AL, AR, r.1.2.2.1, r.1.2.2.2.1, r.1.2.2.2.2)) : oX G 6 iJ2_add_2 11 [(0, vR (some t)), (1, vR x1), (2, vR x2), (3, vI x3)] [] (FI, FL, FR, GR, AI, AL, AR, BR, AN, C) (oPl r.2 k) Φ Ψ := by
  obtain ⟨r, q0⟩ := r
  unfold mJ2_add_2_j11 at hm
  refine oX_aload_n dJ2_add_2_11 rfl rfl ?_
  refine oX_iload_n dJ2_add_2_12 rfl rfl ?_
  refine oX_aload_n dJ2_add_2_13 rfl rfl ?_
  obtain ⟨a4, e4, hm⟩ := bd_s hm
  obtain ⟨g5, hm⟩ := gd_s hm
  obtain ⟨h5, hm⟩ := gd_s hm
  obtain ⟨BR5, hBR5, hm⟩ := oLs hm
  refine oX_aastO e4 g5 h5 dJ2_add_2_14 hBR5 ?_
  refine oX_aload_n dJ2_add_2_15 rfl rfl ?_
  refine oX_iload_n dJ2_add_2_16 rfl rfl ?_
  refine oX_iconst (v := (1 : Int32)) dJ2_add_2_17 (by decide) ?_
  refine oX_iadd dJ2_add_2_18 ?_
  obtain ⟨FI6, hFI6, hm⟩ := oLs hm
  refine oX_putI fJ2_48 rfl (fun h9 => by cases h9) (oD_t ht) dJ2_add_2_19 ⟨rfl, rfl⟩ hFI6 ?_
  obtain ⟨rfl, rfl⟩ := oEnd hm
  exact oX_vret dJ2_add_2_22 rfl hK
noncomputable def mJ2_add_2 (FI : OhI) (GR : OhQ) (BR : OhQ) (AN : OhN) (C : OhC) (t : Nat × Nat) (x1 : OhR) (x2 : OhR) (x3 : Int32) : Option ((OhI × OhQ × OhQ × OhN × OhC) × (Nat × Nat)) :=
  (oD2 6 x2).bind fun a1 =>
  (if x3 = (Int32.ofNat (AN a1.1 a1.2)) then
  (mJ2_grow FI GR BR AN C t).bind fun r3 =>
    oCost r3.2 <|
    mJ2_add_2_j11 FI r3.1.2.1 r3.1.2.2.1 r3.1.2.2.2.1 r3.1.2.2.2.2 t x1 r3.1.1 x3
else
  mJ2_add_2_j11 FI GR BR AN C t x1 x2 x3)
theorem x_mJ2_add_2 {G : OhG} {FI AI : OhI} {FL AL : OhL} {FR GR AR BR : OhQ} {AN : OhN} {C : OhC} {k : Nat × Nat} {Φ : OhP} {Ψ : OhX} (t : Nat × Nat) (ht : ohKd t.1 = 17) (x1 : OhR) (x2 : OhR) (x3 : Int32) {r : (OhI × OhQ × OhQ × OhN × OhC) × (Nat × Nat)} (hm : mJ2_add_2 FI GR BR AN C t x1 x2 x3 = some r) (hK : Φ none (r.1.1, FL, FR, r.1.2.1, AI, AL, AR, r.1.2.2.1, r.1.2.2.2.1, r.1.2.2.2.2)) : oX G 6 iJ2_add_2 0 [(0, vR (some t)), (1, vR x1), (2, vR x2), (3, vI x3)] [] (FI, FL, FR, GR, AI, AL, AR, BR, AN, C) (oPl r.2 k) Φ Ψ := by
  obtain ⟨r, q0⟩ := r
  unfold mJ2_add_2 at hm
  refine oX_iload_n dJ2_add_2_0 rfl rfl ?_
  refine oX_aload_n dJ2_add_2_1 rfl rfl ?_
  obtain ⟨a1, e1, hm⟩ := bd_s hm
  refine oX_alen2 6 (by decide) e1 dJ2_add_2_2 ?_
  refine oX_icmp_ne (tgt := 11) dJ2_add_2_3 (by decide) (fun c2 => ?_) (fun c2 => ?_)
  · have hm := ifp c2 hm
    refine oX_aload_n dJ2_add_2_6 rfl rfl ?_
    obtain ⟨r3, g3, hm⟩ := bd_s hm
    refine oX_cost hm (fun qq3 hm => ?_)
    refine oX_cVK (as := []) dJ2_add_2_7 rfl (oD_t ht) rfl (by decide) rfl ok_J2_grow rfl rfl q504 q506 qs5 q132 q507 (by decide) (Nat.le_of_ble_eq_true rfl) (t_J2_grow t ht g3) (Nat.le_refl _) (Nat.le_refl _) ?_
    refine oX_astore_n (ls' := [(2, vR r3.1.1), (0, vR (some t)), (1, vR x1), (3, vI x3)]) dJ2_add_2_10 rfl (by decide) rfl ?_
    exact oX_sub [1, 2, 0, 3] rfl (x_mJ2_add_2_j11 t ht x1 r3.1.1 x3 hm hK)
  · have hm := ifn c2 hm
    exact oX_sub [0, 1, 2, 3] rfl (x_mJ2_add_2_j11 t ht x1 x2 x3 hm hK)
theorem t_J2_add_2 {G : OhG} {FI AI : OhI} {FL AL : OhL} {FR GR AR BR : OhQ} {AN : OhN} {C : OhC} (t : Nat × Nat) (ht : ohKd t.1 = 17) (x1 : OhR) (x2 : OhR) (x3 : Int32) {o : (OhI × OhQ × OhQ × OhN × OhC) × (Nat × Nat)} (hm : mJ2_add_2 FI GR BR AN C t x1 x2 x3 = some o) : oT G 6 iJ2_add_2 [vR (some t), vR x1, vR x2, vI x3] (FI, FL, FR, GR, AI, AL, AR, BR, AN, C) o.2 (fun v h => v = none ∧ h = (o.1.1, FL, FR, o.1.2.1, AI, AL, AR, o.1.2.2.1, o.1.2.2.2.1, o.1.2.2.2.2)) ohNo :=
  oT_of (by decide) rfl (Nat.le_of_ble_eq_true rfl) (x_mJ2_add_2 (k := (0, 0)) t ht x1 x2 x3 hm ⟨rfl, rfl⟩)
noncomputable def mJ2_add (FI : OhI) (GR : OhQ) (BR : OhQ) (AN : OhN) (C : OhC) (t : Nat × Nat) (x1 : OhR) : Option ((Int32 × OhI × OhQ × OhQ × OhN × OhC) × (Nat × Nat)) :=
  oLet (sA FI t.1 t.2 (uA (FI t.1 t.2) 0 ((FI t.1 t.2 0) + (1 : Int32)))) fun FI1 =>
  (mJ2_add_2 FI1 GR BR AN C t x1 (GR t.1 t.2 1) (FI1 t.1 t.2 2)).bind fun r2 =>
  oCost r2.2 <|
  some (((1 : Int32), r2.1.1, r2.1.2.1, r2.1.2.2.1, r2.1.2.2.2.1, r2.1.2.2.2.2), (0, 0))
theorem x_mJ2_add {G : OhG} {FI AI : OhI} {FL AL : OhL} {FR GR AR BR : OhQ} {AN : OhN} {C : OhC} {k : Nat × Nat} {Φ : OhP} {Ψ : OhX} (t : Nat × Nat) (ht : ohKd t.1 = 17) (x1 : OhR) {r : (Int32 × OhI × OhQ × OhQ × OhN × OhC) × (Nat × Nat)} (hm : mJ2_add FI GR BR AN C t x1 = some r) (hK : Φ (some (vI r.1.1)) (r.1.2.1, FL, FR, r.1.2.2.1, AI, AL, AR, r.1.2.2.2.1, r.1.2.2.2.2.1, r.1.2.2.2.2.2)) : oX G 7 iJ2_add 0 [(0, vR (some t)), (1, vR x1)] [] (FI, FL, FR, GR, AI, AL, AR, BR, AN, C) (oPl r.2 k) Φ Ψ := by
  obtain ⟨r, q0⟩ := r
  unfold mJ2_add at hm
  refine oX_aload_n dJ2_add_0 rfl rfl ?_
  refine oX_dup dJ2_add_1 trivial ?_
  refine oX_getI fJ2_63 rfl (oD_t ht) dJ2_add_2 ?_
  refine oX_iconst (v := (1 : Int32)) dJ2_add_5 (by decide) ?_
  refine oX_iadd dJ2_add_6 ?_
  obtain ⟨FI1, hFI1, hm⟩ := oLs hm
  refine oX_putI fJ2_63 rfl (fun h9 => by cases h9) (oD_t ht) dJ2_add_7 ⟨rfl, rfl⟩ hFI1 ?_
  refine oX_aload_n dJ2_add_10 rfl rfl ?_
  refine oX_aload_n dJ2_add_11 rfl rfl ?_
  refine oX_aload_n dJ2_add_12 rfl rfl ?_
  refine oX_getG fJ2_9 rfl (oD_t ht) dJ2_add_13 ?_
  refine oX_aload_n dJ2_add_16 rfl rfl ?_
  refine oX_getI fJ2_48 rfl (oD_t ht) dJ2_add_17 ?_
  obtain ⟨r2, g2, hm⟩ := bd_s hm
  refine oX_cost hm (fun qq2 hm => ?_)
  refine oX_cVK_ (as := [vR x1, vR (GR t.1 t.2 1), vI (FI1 t.1 t.2 2)]) dJ2_add_20 rfl (oD_t ht) rfl (by decide) rfl ok_J2_add_2 rfl rfl q500 q502 qs4 q132 q503 (by decide) (Nat.le_of_ble_eq_true rfl) (t_J2_add_2 t ht x1 (GR t.1 t.2 1) (FI1 t.1 t.2 2) g2) (Nat.le_refl _) (Nat.le_refl _) ?_
  refine oX_iconst (v := (1 : Int32)) dJ2_add_23 (by decide) ?_
  obtain ⟨rfl, rfl⟩ := oEnd hm
  exact oX_iret dJ2_add_24 rfl (by decide) hK
theorem t_J2_add {G : OhG} {FI AI : OhI} {FL AL : OhL} {FR GR AR BR : OhQ} {AN : OhN} {C : OhC} (t : Nat × Nat) (ht : ohKd t.1 = 17) (x1 : OhR) {o : (Int32 × OhI × OhQ × OhQ × OhN × OhC) × (Nat × Nat)} (hm : mJ2_add FI GR BR AN C t x1 = some o) : oT G 7 iJ2_add [vR (some t), vR x1] (FI, FL, FR, GR, AI, AL, AR, BR, AN, C) o.2 (fun v h => v = (some (vI o.1.1)) ∧ h = (o.1.2.1, FL, FR, o.1.2.2.1, AI, AL, AR, o.1.2.2.2.1, o.1.2.2.2.2.1, o.1.2.2.2.2.2)) ohNo :=
  oT_of (by decide) rfl (Nat.le_of_ble_eq_true rfl) (x_mJ2_add (k := (0, 0)) t ht x1 hm ⟨rfl, rfl⟩)
noncomputable def mX5_init (FI : OhI) (FR : OhQ) (GR : OhQ) (AI : OhI) (AN : OhN) (C : OhC) (t : Nat × Nat) (x1 : Int32) (x2 : Int32) (x3 : Int32) (x4 : Int32) (x5 : Int32) : Option ((OhI × OhQ × OhQ × OhI × OhN × OhC) × (Nat × Nat)) :=
  oLet (sA AI 5 (C 5) (fun _ => 0)) fun AI1 =>
  oLet (sA AN 5 (C 5) (4 : Int32).toNatClampNeg) fun AN1 =>
  oLet (uA C 5 (C 5 + 1)) fun C1 =>
  oCost (1, (4 : Int32).toNatClampNeg) <|
  oLet (sA FR t.1 t.2 (uA (FR t.1 t.2) 5 (some (5, C 5)))) fun FR2 =>
  oLet (sA FI 6 (C1 6) (fun _ => 0)) fun FI3 =>
  oLet (sA GR 6 (C1 6) (fun _ => none)) fun GR3 =>
  oLet (uA C1 6 (C1 6 + 1)) fun C3 =>
  oCost (1, 3) <|
  (mJ2_init FI3 GR3 C3 (6, C1 6)).bind fun r4 =>
  oLet (sA FR2 t.1 t.2 (uA (FR2 t.1 t.2) 6 (some (6, C1 6)))) fun FR5 =>
  oLet (sA r4.1 t.1 t.2 (uA (r4.1 t.1 t.2) 0 x1)) fun FI6 =>
  oLet (sA FI6 t.1 t.2 (uA (FI6 t.1 t.2) 1 x2)) fun FI7 =>
  oLet (sA FI7 t.1 t.2 (uA (FI7 t.1 t.2) 2 x3)) fun FI8 =>
  gd (x4 = 0 ∨ x4 = 1) <|
  oLet (sA FI8 t.1 t.2 (uA (FI8 t.1 t.2) 4 x4)) fun FI9 =>
  oLet (sA FI9 t.1 t.2 (uA (FI9 t.1 t.2) 3 x5)) fun FI10 =>
  some ((FI10, FR5, r4.2, AI1, AN1, C3), (0, 0))
theorem x_mX5_init {G : OhG} {FI AI : OhI} {FL AL : OhL} {FR GR AR BR : OhQ} {AN : OhN} {C : OhC} {k : Nat × Nat} {Φ : OhP} {Ψ : OhX} (t : Nat × Nat) (ht : ohKd t.1 = 4) (x1 : Int32) (x2 : Int32) (x3 : Int32) (x4 : Int32) (x5 : Int32) {r : (OhI × OhQ × OhQ × OhI × OhN × OhC) × (Nat × Nat)} (hm : mX5_init FI FR GR AI AN C t x1 x2 x3 x4 x5 = some r) (hK : Φ none (r.1.1, FL, r.1.2.1, r.1.2.2.1, r.1.2.2.2.1, AL, AR, BR, r.1.2.2.2.2.1, r.1.2.2.2.2.2)) : oX G 4 iX5_init 0 [(0, vR (some t)), (1, vI x1), (2, vI x2), (3, vI x3), (4, vI x4), (5, vI x5)] [] (FI, FL, FR, GR, AI, AL, AR, BR, AN, C) (oPl r.2 k) Φ Ψ := by
  obtain ⟨r, q0⟩ := r
  unfold mX5_init at hm
  refine oX_aload_n dX5_init_0 rfl rfl ?_
  refine oX_objInit (a := t) rfl q439 q176 q177 dX5_init_1 (by decide) (Nat.le_of_ble_eq_true rfl) ?_
  refine oX_aload_n dX5_init_4 rfl rfl ?_
  refine oX_iconst (v := (4 : Int32)) dX5_init_5 (by decide) ?_
  obtain ⟨AI1, hAI1, hm⟩ := oLs hm
  obtain ⟨AN1, hAN1, hm⟩ := oLs hm
  obtain ⟨C1, hC1, hm⟩ := oLs hm
  refine oX_cost hm (fun qq1 hm => ?_)
  refine oX_newa0 (k := oPl qq1 k) 5 rfl q205 dX5_init_6 (by decide) (by decide) hAI1 hAN1 hC1 ?_
  obtain ⟨FR2, hFR2, hm⟩ := oLs hm
  refine oX_putF fX5_9 rfl (fun _ => rfl) (oD_t ht) dX5_init_8 (by first | exact Or.inl ⟨_, rfl⟩ | exact Or.inr ⟨_, rfl⟩) hFR2 ?_
  refine oX_aload_n dX5_init_11 rfl rfl ?_
  obtain ⟨FI3, hFI3, hm⟩ := oLs hm
  obtain ⟨GR3, hGR3, hm⟩ := oLs hm
  obtain ⟨C3, hC3, hm⟩ := oLs hm
  refine oX_cost hm (fun qq3 hm => ?_)
  refine oX_newIG (s9 := 6) (k := oPl qq3 k) nX5_15 rfl (by decide) dX5_init_12 hFI3 hGR3 hC3 ?_
  refine oX_dup dX5_init_15 trivial ?_
  obtain ⟨r4, g4, hm⟩ := bd_s hm
  refine oX_cI (as := []) dX5_init_16 rfl ok_J2_init rfl rfl rfl q441 q181 q132 q182 (by decide) (Nat.le_of_ble_eq_true rfl) (t_J2_init (6, C1 6) rfl g4) ?_
  obtain ⟨FR5, hFR5, hm⟩ := oLs hm
  refine oX_putF fX5_18 rfl (fun _ => rfl) (oD_t ht) dX5_init_19 (by first | exact Or.inl ⟨_, rfl⟩ | exact Or.inr ⟨_, rfl⟩) hFR5 ?_
  refine oX_aload_n dX5_init_22 rfl rfl ?_
  refine oX_iload_n dX5_init_23 rfl rfl ?_
  obtain ⟨FI6, hFI6, hm⟩ := oLs hm
  refine oX_putI fX5_22 rfl (fun _ => rfl) (oD_t ht) dX5_init_24 ⟨rfl, rfl⟩ hFI6 ?_
  refine oX_aload_n dX5_init_27 rfl rfl ?_
  refine oX_iload_n dX5_init_28 rfl rfl ?_
  obtain ⟨FI7, hFI7, hm⟩ := oLs hm
  refine oX_putI fX5_26 rfl (fun _ => rfl) (oD_t ht) dX5_init_29 ⟨rfl, rfl⟩ hFI7 ?_
  refine oX_aload_n dX5_init_32 rfl rfl ?_
  refine oX_iload_n dX5_init_33 rfl rfl ?_
  obtain ⟨FI8, hFI8, hm⟩ := oLs hm
  refine oX_putI fX5_29 rfl (fun _ => rfl) (oD_t ht) dX5_init_34 ⟨rfl, rfl⟩ hFI8 ?_
  refine oX_aload_n dX5_init_37 rfl rfl ?_
  refine oX_iload dX5_init_38 rfl ?_
  obtain ⟨g9, hm⟩ := gd_s hm
  obtain ⟨FI9, hFI9, hm⟩ := oLs hm
  refine oX_putI fX5_32 rfl (fun _ => rfl) (oD_t ht) dX5_init_40 (oNf g9) hFI9 ?_
  refine oX_aload_n dX5_init_43 rfl rfl ?_
  refine oX_iload dX5_init_44 rfl ?_
  obtain ⟨FI10, hFI10, hm⟩ := oLs hm
  refine oX_putI fX5_36 rfl (fun _ => rfl) (oD_t ht) dX5_init_46 ⟨rfl, rfl⟩ hFI10 ?_
  obtain ⟨rfl, rfl⟩ := oEnd hm
  exact oX_vret dX5_init_49 rfl hK
theorem t_X5_init {G : OhG} {FI AI : OhI} {FL AL : OhL} {FR GR AR BR : OhQ} {AN : OhN} {C : OhC} (t : Nat × Nat) (ht : ohKd t.1 = 4) (x1 : Int32) (x2 : Int32) (x3 : Int32) (x4 : Int32) (x5 : Int32) {o : (OhI × OhQ × OhQ × OhI × OhN × OhC) × (Nat × Nat)} (hm : mX5_init FI FR GR AI AN C t x1 x2 x3 x4 x5 = some o) : oT G 4 iX5_init [vR (some t), vI x1, vI x2, vI x3, vI x4, vI x5] (FI, FL, FR, GR, AI, AL, AR, BR, AN, C) o.2 (fun v h => v = none ∧ h = (o.1.1, FL, o.1.2.1, o.1.2.2.1, o.1.2.2.2.1, AL, AR, BR, o.1.2.2.2.2.1, o.1.2.2.2.2.2)) ohNo :=
  oT_of (by decide) rfl (Nat.le_of_ble_eq_true rfl) (x_mX5_init (k := (0, 0)) t ht x1 x2 x3 x4 x5 hm ⟨rfl, rfl⟩)
noncomputable def mX2_init_b46 (n : Nat) (FI : OhI) (FR : OhQ) (AI : OhI) (AR : OhQ) (BR : OhQ) (AN : OhN) (C : OhC) (x1 : Int32) : Option (((Int32 × OhI × OhI) ⊕ (OhI × OhI)) × (Nat × Nat)) :=
  (if (FI 315 0 3) ≤ x1 then
  some (.inr (FI, AI), (0, 0))
else
  gd (ohShW FR AR AN) <|
    gd (vp_in x1 120) <|
    gd (vp_in (0 : Int32) 3) <|
    oLet (sA AI 63 x1.toNatClampNeg (uA (AI 63 x1.toNatClampNeg) (0 : Int32).toNatClampNeg (-1 : Int32))) fun AI13 =>
    gd (vp_in x1 120) <|
    gd (vp_in (1 : Int32) 3) <|
    oLet (sA AI13 63 x1.toNatClampNeg (uA (AI13 63 x1.toNatClampNeg) (1 : Int32).toNatClampNeg (-1 : Int32))) fun AI15 =>
    gd (vp_in x1 120) <|
    gd (vp_in (2 : Int32) 3) <|
    oLet (sA AI15 63 x1.toNatClampNeg (uA (AI15 63 x1.toNatClampNeg) (2 : Int32).toNatClampNeg (-1 : Int32))) fun AI17 =>
    (mX2_lead n FI FR AI17 AR BR AN x1).bind fun r18 =>
    some (.inl (x1 + (1 : Int32), r18.1, r18.2), (0, 0)))
theorem x_mX2_init_b46 {G : OhG} {FI AI : OhI} {FL AL : OhL} {FR GR AR BR : OhQ} {AN : OhN} {C : OhC} {k : Nat × Nat} {Φ : OhP} {Ψ : OhX} (n : Nat) (x1 : Int32) {r : ((Int32 × OhI × OhI) ⊕ (OhI × OhI)) × (Nat × Nat)} (hm : mX2_init_b46 n FI FR AI AR BR AN C x1 = some r) (hk : ∀ v : Int32 × OhI × OhI, r.1 = .inl v → oX G 4 iX2_init 46 [(0, vR (some (315, 0))), (1, vI v.1)] [] (v.2.1, FL, FR, GR, v.2.2, AL, AR, BR, AN, C) k Φ Ψ) (hx1 : ∀ v : OhI × OhI, r.1 = .inr v → oX G 4 iX2_init 92 [] [] (v.1, FL, FR, GR, v.2, AL, AR, BR, AN, C) k Φ Ψ) : oX G 4 iX2_init 46 [(0, vR (some (315, 0))), (1, vI x1)] [] (FI, FL, FR, GR, AI, AL, AR, BR, AN, C) (oPl r.2 k) Φ Ψ := by
  obtain ⟨r, q0⟩ := r
  unfold mX2_init_b46 at hm
  refine oX_iload_n dX2_init_46 rfl rfl ?_
  refine oX_aload_n dX2_init_47 rfl rfl ?_
  refine oX_getI fX2_30 rfl oDs315 dX2_init_48 ?_
  refine oX_icmp_ge (tgt := 92) dX2_init_51 (by decide) (fun c10 => ?_) (fun c10 => ?_)
  · have hm := ifp c10 hm
    obtain ⟨hr, rfl⟩ := oEnd hm
    exact oX_sub [] rfl (oX_z (hx1 (FI, AI) hr))
  · have hm := ifn c10 hm
    refine oX_aload_n dX2_init_54 rfl rfl ?_
    obtain ⟨s11, hm⟩ := gd_s hm
    refine oX_getF fX2_20 rfl oDs315 dX2_init_55 (ohF62 s11) ?_
    refine oX_iload_n dX2_init_58 rfl rfl ?_
    obtain ⟨g12, hm⟩ := gd_s hm
    refine oX_aaldR oDs62 (oIn (ohN62 s11) g12) dX2_init_59 (ohA62 s11 (oLt g12)) ?_
    refine oX_iconst (v := (0 : Int32)) dX2_init_60 (by decide) ?_
    refine oX_iconst (v := (-1 : Int32)) dX2_init_61 (by decide) ?_
    obtain ⟨g13, hm⟩ := gd_s hm
    obtain ⟨AI13, hAI13, hm⟩ := oLs hm
    refine oX_iast oDs63 (oIn (ohM63 s11 (oLt g12)) g13) dX2_init_62 hAI13 ?_
    refine oX_aload_n dX2_init_63 rfl rfl ?_
    refine oX_getF fX2_20 rfl oDs315 dX2_init_64 (ohF62 s11) ?_
    refine oX_iload_n dX2_init_67 rfl rfl ?_
    obtain ⟨g14, hm⟩ := gd_s hm
    refine oX_aaldR oDs62 (oIn (ohN62 s11) g14) dX2_init_68 (ohA62 s11 (oLt g14)) ?_
    refine oX_iconst (v := (1 : Int32)) dX2_init_69 (by decide) ?_
    refine oX_iconst (v := (-1 : Int32)) dX2_init_70 (by decide) ?_
    obtain ⟨g15, hm⟩ := gd_s hm
    obtain ⟨AI15, hAI15, hm⟩ := oLs hm
    refine oX_iast oDs63 (oIn (ohM63 s11 (oLt g14)) g15) dX2_init_71 hAI15 ?_
    refine oX_aload_n dX2_init_72 rfl rfl ?_
    refine oX_getF fX2_20 rfl oDs315 dX2_init_73 (ohF62 s11) ?_
    refine oX_iload_n dX2_init_76 rfl rfl ?_
    obtain ⟨g16, hm⟩ := gd_s hm
    refine oX_aaldR oDs62 (oIn (ohN62 s11) g16) dX2_init_77 (ohA62 s11 (oLt g16)) ?_
    refine oX_iconst (v := (2 : Int32)) dX2_init_78 (by decide) ?_
    refine oX_iconst (v := (-1 : Int32)) dX2_init_79 (by decide) ?_
    obtain ⟨g17, hm⟩ := gd_s hm
    obtain ⟨AI17, hAI17, hm⟩ := oLs hm
    refine oX_iast oDs63 (oIn (ohM63 s11 (oLt g16)) g17) dX2_init_80 hAI17 ?_
    refine oX_aload_n dX2_init_81 rfl rfl ?_
    refine oX_iload_n dX2_init_82 rfl rfl ?_
    obtain ⟨r18, g18, hm⟩ := bd_s hm
    refine oX_cV_ (as := [vI x1]) dX2_init_83 rfl oDs315 rfl (by decide) rfl ok_X2_lead rfl rfl q224 q226 qs1 q133 q227 (by decide) (Nat.le_of_ble_eq_true rfl) (t_X2_lead s11 n x1 g18) ?_
    refine oX_iinc (v := x1 + (1 : Int32)) (ls' := [(1, vI (x1 + (1 : Int32))), (0, vR (some (315, 0)))]) dX2_init_86 rfl rfl (by decide) rfl ?_
    refine oX_goto (tgt := 46) dX2_init_89 (by decide) ?_
    obtain ⟨hr, rfl⟩ := oEnd hm
    exact oX_sub [1, 0] rfl (oX_z (hk (x1 + (1 : Int32), r18.1, r18.2) hr))
theorem l_mX2_init_b46 {G : OhG} {FL : OhL} {FR : OhQ} {GR : OhQ} {AL : OhL} {AR : OhQ} {BR : OhQ} {AN : OhN} {C : OhC} {k : Nat × Nat} {Φ : OhP} {Ψ : OhX} (n : Nat) : ∀ (f : Nat) (x1 : Int32) (FI : OhI) (AI : OhI) (b : ((OhI × OhI)) × (Nat × Nat)), lpK (fun v => mX2_init_b46 n v.2.1 FR v.2.2 AR BR AN C v.1) f (x1, FI, AI) = some b → (oX G 4 iX2_init 92 [] [] (b.1.1, FL, FR, GR, b.1.2, AL, AR, BR, AN, C) k Φ Ψ) → oX G 4 iX2_init 46 [(0, vR (some (315, 0))), (1, vI x1)] [] (FI, FL, FR, GR, AI, AL, AR, BR, AN, C) (oPl b.2 k) Φ Ψ := by
  intro f
  induction f with
  | zero =>
    intro x1 FI AI b hm
    cases hm
  | succ f ih =>
    intro x1 FI AI b hm hx1
    obtain ⟨⟨r, q⟩, hr, hm⟩ := lk_s hm
    rcases r with v | v
    · obtain ⟨c, hm, hb⟩ := hm
      rw [hb, oPl_assoc]
      refine x_mX2_init_b46 n x1 hr (fun v9 e => ?_) (fun v9 e => by cases e)
      cases e; exact ih v.1 v.2.1 v.2.2 (b.1, c) hm hx1
    · cases (show b = (v, q) from hm)
      refine x_mX2_init_b46 n x1 hr (fun v9 e => by cases e) (fun v9 e => ?_)
      · cases e; exact hx1
noncomputable def mX2_init (n : Nat) (FI : OhI) (FR : OhQ) (AI : OhI) (AR : OhQ) (BR : OhQ) (AN : OhN) (C : OhC) : Option ((OhI × OhQ × OhI × OhQ × OhN × OhC) × (Nat × Nat)) :=
  oLet (sA AI 60 (C 60) (fun _ => 0)) fun AI1 =>
  oLet (sA AN 60 (C 60) (120 : Int32).toNatClampNeg) fun AN1 =>
  oLet (uA C 60 (C 60 + 1)) fun C1 =>
  oCost (1, (120 : Int32).toNatClampNeg) <|
  oLet (sA FR 315 0 (uA (FR 315 0) 0 (some (60, C 60)))) fun FR2 =>
  oLet (sA AI1 61 (C1 61) (fun _ => 0)) fun AI3 =>
  oLet (sA AN1 61 (C1 61) (120 : Int32).toNatClampNeg) fun AN3 =>
  oLet (uA C1 61 (C1 61 + 1)) fun C3 =>
  oCost (1, (120 : Int32).toNatClampNeg) <|
  oLet (sA FR2 315 0 (uA (FR2 315 0) 1 (some (61, C1 61)))) fun FR4 =>
  oLet (sA AR 62 (C3 62) (fun j => if j < (120 : Int32).toNatClampNeg then some (63, C3 63 + j) else none)) fun AR5 =>
  oLet (rA AI3 63 (C3 63) (120 : Int32).toNatClampNeg (fun _ => 0)) fun AI5 =>
  oLet (rA (sA AN3 62 (C3 62) (120 : Int32).toNatClampNeg) 63 (C3 63) (120 : Int32).toNatClampNeg (3 : Int32).toNatClampNeg) fun AN5 =>
  oLet (uA (uA C3 62 (C3 62 + 1)) 63 (C3 63 + (120 : Int32).toNatClampNeg)) fun C5 =>
  oCost (1 + (120 : Int32).toNatClampNeg, (120 : Int32).toNatClampNeg + (120 : Int32).toNatClampNeg * (3 : Int32).toNatClampNeg) <|
  oLet (sA FR4 315 0 (uA (FR4 315 0) 2 (some (62, C3 62)))) fun FR6 =>
  (mX2_code (0 : Int32) (1 : Int32) (2 : Int32) (3 : Int32) (4 : Int32)).bind fun r7 =>
  gd (ohShW FR6 AR5 AN5) <|
  (mX2_add n FI FR6 AI5 AN5 r7).bind fun r9 =>
  (lpK (fun v => mX2_init_b46 n v.2.1 FR6 v.2.2 AR5 BR AN5 C5 v.1) n ((0 : Int32), r9.2.1, r9.2.2)).bind fun b19 => oCost b19.2 <| (fun v19 => some ((v19.1, FR6, v19.2, AR5, AN5, C5), (0, 0))) b19.1
theorem x_mX2_init {G : OhG} {FI AI : OhI} {FL AL : OhL} {FR GR AR BR : OhQ} {AN : OhN} {C : OhC} {k : Nat × Nat} {Φ : OhP} {Ψ : OhX} (n : Nat) {r : (OhI × OhQ × OhI × OhQ × OhN × OhC) × (Nat × Nat)} (hm : mX2_init n FI FR AI AR BR AN C = some r) (hK : Φ none (r.1.1, FL, r.1.2.1, GR, r.1.2.2.1, AL, r.1.2.2.2.1, BR, r.1.2.2.2.2.1, r.1.2.2.2.2.2)) : oX G 4 iX2_init 0 [(0, vR (some (315, 0)))] [] (FI, FL, FR, GR, AI, AL, AR, BR, AN, C) (oPl r.2 k) Φ Ψ := by
  obtain ⟨r, q0⟩ := r
  unfold mX2_init at hm
  refine oX_aload_n dX2_init_0 rfl rfl ?_
  refine oX_objInit (a := (315, 0)) rfl q211 q176 q177 dX2_init_1 (by decide) (Nat.le_of_ble_eq_true rfl) ?_
  refine oX_aload_n dX2_init_4 rfl rfl ?_
  refine oX_bipush (v := (120 : Int32)) dX2_init_5 (by decide) ?_
  obtain ⟨AI1, hAI1, hm⟩ := oLs hm
  obtain ⟨AN1, hAN1, hm⟩ := oLs hm
  obtain ⟨C1, hC1, hm⟩ := oLs hm
  refine oX_cost hm (fun qq1 hm => ?_)
  refine oX_newa0 (k := oPl qq1 k) 60 rfl q205 dX2_init_7 (by decide) (by decide) hAI1 hAN1 hC1 ?_
  obtain ⟨FR2, hFR2, hm⟩ := oLs hm
  refine oX_putF fX2_11 rfl (fun _ => rfl) oDs315 dX2_init_9 (by first | exact Or.inl ⟨_, rfl⟩ | exact Or.inr ⟨_, rfl⟩) hFR2 ?_
  refine oX_aload_n dX2_init_12 rfl rfl ?_
  refine oX_bipush (v := (120 : Int32)) dX2_init_13 (by decide) ?_
  obtain ⟨AI3, hAI3, hm⟩ := oLs hm
  obtain ⟨AN3, hAN3, hm⟩ := oLs hm
  obtain ⟨C3, hC3, hm⟩ := oLs hm
  refine oX_cost hm (fun qq3 hm => ?_)
  refine oX_newa0 (k := oPl qq3 k) 61 rfl q205 dX2_init_15 (by decide) (by decide) hAI3 hAN3 hC3 ?_
  obtain ⟨FR4, hFR4, hm⟩ := oLs hm
  refine oX_putF fX2_15 rfl (fun _ => rfl) oDs315 dX2_init_17 (by first | exact Or.inl ⟨_, rfl⟩ | exact Or.inr ⟨_, rfl⟩) hFR4 ?_
  refine oX_aload_n dX2_init_20 rfl rfl ?_
  refine oX_bipush (v := (120 : Int32)) dX2_init_21 (by decide) ?_
  refine oX_iconst (v := (3 : Int32)) dX2_init_23 (by decide) ?_
  obtain ⟨AR5, hAR5, hm⟩ := oLs hm
  obtain ⟨AI5, hAI5, hm⟩ := oLs hm
  obtain ⟨AN5, hAN5, hm⟩ := oLs hm
  obtain ⟨C5, hC5, hm⟩ := oLs hm
  refine oX_cost hm (fun qq5 hm => ?_)
  refine oX_multi (k := oPl qq5 k) 62 63 rfl rfl q212 q213 q205 dX2_init_24 (by decide) (by decide) hAR5 hAI5 hAN5 hC5 ?_
  obtain ⟨FR6, hFR6, hm⟩ := oLs hm
  refine oX_putF fX2_20 rfl (fun _ => rfl) oDs315 dX2_init_28 (by first | exact Or.inl ⟨_, rfl⟩ | exact Or.inr ⟨_, rfl⟩) hFR6 ?_
  refine oX_aload_n dX2_init_31 rfl rfl ?_
  refine oX_iconst (v := (0 : Int32)) dX2_init_32 (by decide) ?_
  refine oX_iconst (v := (1 : Int32)) dX2_init_33 (by decide) ?_
  refine oX_iconst (v := (2 : Int32)) dX2_init_34 (by decide) ?_
  refine oX_iconst (v := (3 : Int32)) dX2_init_35 (by decide) ?_
  refine oX_iconst (v := (4 : Int32)) dX2_init_36 (by decide) ?_
  obtain ⟨r7, g7, hm⟩ := bd_s hm
  refine oX_cS (as := [vI (0 : Int32), vI (1 : Int32), vI (2 : Int32), vI (3 : Int32), vI (4 : Int32)]) dX2_init_37 rfl ok_X2_code rfl rfl q214 q215 q133 q216 (by decide) (Nat.le_of_ble_eq_true rfl) (t_X2_code (0 : Int32) (1 : Int32) (2 : Int32) (3 : Int32) (4 : Int32) g7) ?_
  obtain ⟨s8, hm⟩ := gd_s hm
  obtain ⟨r9, g9, hm⟩ := bd_s hm
  refine oX_cV (as := [vI r7]) dX2_init_40 rfl oDs315 rfl (by decide) rfl ok_X2_add rfl rfl q217 q219 qs0 q133 q220 (by decide) (Nat.le_of_ble_eq_true rfl) (t_X2_add s8 n r7 g9) ?_
  refine oX_pop dX2_init_43 trivial ?_
  refine oX_iconst (v := (0 : Int32)) dX2_init_44 (by decide) ?_
  refine oX_istore_n (ls' := [(1, vI (0 : Int32)), (0, vR (some (315, 0)))]) dX2_init_45 rfl (by decide) rfl ?_
  obtain ⟨b19, g19, hm⟩ := bd_s hm
  refine oX_cost hm (fun qq19 hm => ?_)
  refine oX_sub [1, 0] rfl (l_mX2_init_b46 n n (0 : Int32) r9.2.1 r9.2.2 _ g19 ?_)
  generalize b19.1 = v19 at hm ⊢
  obtain ⟨rfl, rfl⟩ := oEnd hm
  exact oX_vret dX2_init_92 rfl hK
theorem t_X2_init {G : OhG} {FI AI : OhI} {FL AL : OhL} {FR GR AR BR : OhQ} {AN : OhN} {C : OhC} (n : Nat) {o : (OhI × OhQ × OhI × OhQ × OhN × OhC) × (Nat × Nat)} (hm : mX2_init n FI FR AI AR BR AN C = some o) : oT G 4 iX2_init [vR (some (315, 0))] (FI, FL, FR, GR, AI, AL, AR, BR, AN, C) o.2 (fun v h => v = none ∧ h = (o.1.1, FL, o.1.2.1, GR, o.1.2.2.1, AL, o.1.2.2.2.1, BR, o.1.2.2.2.2.1, o.1.2.2.2.2.2)) ohNo :=
  oT_of (by decide) rfl (Nat.le_of_ble_eq_true rfl) (x_mX2_init (k := (0, 0)) n hm ⟨rfl, rfl⟩)
noncomputable def mX8_init (FI : OhI) (FR : OhQ) (GR : OhQ) (C : OhC) (t : Nat × Nat) : Option ((OhI × OhQ × OhQ × OhC) × (Nat × Nat)) :=
  oLet (sA FI t.1 t.2 (uA (FI t.1 t.2) 0 (12 : Int32))) fun FI1 =>
  oLet (sA FI1 t.1 t.2 (uA (FI1 t.1 t.2) 1 (8 : Int32))) fun FI2 =>
  oLet (sA FI2 t.1 t.2 (uA (FI2 t.1 t.2) 2 (4 : Int32))) fun FI3 =>
  oLet (sA FI3 t.1 t.2 (uA (FI3 t.1 t.2) 3 (100 : Int32))) fun FI4 =>
  oLet (sA FI4 11 (C 11) (fun _ => 0)) fun FI5 =>
  oLet (sA GR 11 (C 11) (fun _ => none)) fun GR5 =>
  oLet (uA C 11 (C 11 + 1)) fun C5 =>
  oCost (1, 3) <|
  (mJ2_init FI5 GR5 C5 (11, C 11)).bind fun r6 =>
  oLet (sA FR t.1 t.2 (uA (FR t.1 t.2) 5 (some (11, C 11)))) fun FR7 =>
  oLet (sA r6.1 12 (C5 12) (fun _ => 0)) fun FI8 =>
  oLet (sA r6.2 12 (C5 12) (fun _ => none)) fun GR8 =>
  oLet (uA C5 12 (C5 12 + 1)) fun C8 =>
  oCost (1, 3) <|
  (mJ2_init FI8 GR8 C8 (12, C5 12)).bind fun r9 =>
  oLet (sA FR7 t.1 t.2 (uA (FR7 t.1 t.2) 6 (some (12, C5 12)))) fun FR10 =>
  some ((r9.1, FR10, r9.2, C8), (0, 0))
theorem x_mX8_init {G : OhG} {FI AI : OhI} {FL AL : OhL} {FR GR AR BR : OhQ} {AN : OhN} {C : OhC} {k : Nat × Nat} {Φ : OhP} {Ψ : OhX} (t : Nat × Nat) (ht : ohKd t.1 = 7) {r : (OhI × OhQ × OhQ × OhC) × (Nat × Nat)} (hm : mX8_init FI FR GR C t = some r) (hK : Φ none (r.1.1, FL, r.1.2.1, r.1.2.2.1, AI, AL, AR, BR, AN, r.1.2.2.2)) : oX G 4 iX8_init 0 [(0, vR (some t))] [] (FI, FL, FR, GR, AI, AL, AR, BR, AN, C) (oPl r.2 k) Φ Ψ := by
  obtain ⟨r, q0⟩ := r
  unfold mX8_init at hm
  refine oX_aload_n dX8_init_0 rfl rfl ?_
  refine oX_objInit (a := t) rfl q576 q176 q177 dX8_init_1 (by decide) (Nat.le_of_ble_eq_true rfl) ?_
  refine oX_aload_n dX8_init_4 rfl rfl ?_
  refine oX_bipush (v := (12 : Int32)) dX8_init_5 (by decide) ?_
  obtain ⟨FI1, hFI1, hm⟩ := oLs hm
  refine oX_putI fX8_7 rfl (fun _ => rfl) (oD_t ht) dX8_init_7 ⟨rfl, rfl⟩ hFI1 ?_
  refine oX_aload_n dX8_init_10 rfl rfl ?_
  refine oX_bipush (v := (8 : Int32)) dX8_init_11 (by decide) ?_
  obtain ⟨FI2, hFI2, hm⟩ := oLs hm
  refine oX_putI fX8_13 rfl (fun _ => rfl) (oD_t ht) dX8_init_13 ⟨rfl, rfl⟩ hFI2 ?_
  refine oX_aload_n dX8_init_16 rfl rfl ?_
  refine oX_iconst (v := (4 : Int32)) dX8_init_17 (by decide) ?_
  obtain ⟨FI3, hFI3, hm⟩ := oLs hm
  refine oX_putI fX8_16 rfl (fun _ => rfl) (oD_t ht) dX8_init_18 ⟨rfl, rfl⟩ hFI3 ?_
  refine oX_aload_n dX8_init_21 rfl rfl ?_
  refine oX_bipush (v := (100 : Int32)) dX8_init_22 (by decide) ?_
  obtain ⟨FI4, hFI4, hm⟩ := oLs hm
  refine oX_putI fX8_19 rfl (fun _ => rfl) (oD_t ht) dX8_init_24 ⟨rfl, rfl⟩ hFI4 ?_
  refine oX_aload_n dX8_init_27 rfl rfl ?_
  obtain ⟨FI5, hFI5, hm⟩ := oLs hm
  obtain ⟨GR5, hGR5, hm⟩ := oLs hm
  obtain ⟨C5, hC5, hm⟩ := oLs hm
  refine oX_cost hm (fun qq5 hm => ?_)
  refine oX_newIG (s9 := 11) (k := oPl qq5 k) nX8_22 rfl (by decide) dX8_init_28 hFI5 hGR5 hC5 ?_
  refine oX_dup dX8_init_31 trivial ?_
  obtain ⟨r6, g6, hm⟩ := bd_s hm
  refine oX_cI (as := []) dX8_init_32 rfl ok_J2_init rfl rfl rfl q578 q181 q132 q182 (by decide) (Nat.le_of_ble_eq_true rfl) (t_J2_init (11, C 11) rfl g6) ?_
  obtain ⟨FR7, hFR7, hm⟩ := oLs hm
  refine oX_putF fX8_25 rfl (fun _ => rfl) (oD_t ht) dX8_init_35 (by first | exact Or.inl ⟨_, rfl⟩ | exact Or.inr ⟨_, rfl⟩) hFR7 ?_
  refine oX_aload_n dX8_init_38 rfl rfl ?_
  obtain ⟨FI8, hFI8, hm⟩ := oLs hm
  obtain ⟨GR8, hGR8, hm⟩ := oLs hm
  obtain ⟨C8, hC8, hm⟩ := oLs hm
  refine oX_cost hm (fun qq8 hm => ?_)
  refine oX_newIG (s9 := 12) (k := oPl qq8 k) nX8_22 rfl (by decide) dX8_init_39 hFI8 hGR8 hC8 ?_
  refine oX_dup dX8_init_42 trivial ?_
  obtain ⟨r9, g9, hm⟩ := bd_s hm
  refine oX_cI (as := []) dX8_init_43 rfl ok_J2_init rfl rfl rfl q578 q181 q132 q182 (by decide) (Nat.le_of_ble_eq_true rfl) (t_J2_init (12, C5 12) rfl g9) ?_
  obtain ⟨FR10, hFR10, hm⟩ := oLs hm
  refine oX_putF fX8_29 rfl (fun _ => rfl) (oD_t ht) dX8_init_46 (by first | exact Or.inl ⟨_, rfl⟩ | exact Or.inr ⟨_, rfl⟩) hFR10 ?_
  obtain ⟨rfl, rfl⟩ := oEnd hm
  exact oX_vret dX8_init_49 rfl hK
theorem t_X8_init {G : OhG} {FI AI : OhI} {FL AL : OhL} {FR GR AR BR : OhQ} {AN : OhN} {C : OhC} (t : Nat × Nat) (ht : ohKd t.1 = 7) {o : (OhI × OhQ × OhQ × OhC) × (Nat × Nat)} (hm : mX8_init FI FR GR C t = some o) : oT G 4 iX8_init [vR (some t)] (FI, FL, FR, GR, AI, AL, AR, BR, AN, C) o.2 (fun v h => v = none ∧ h = (o.1.1, FL, o.1.2.1, o.1.2.2.1, AI, AL, AR, BR, AN, o.1.2.2.2)) ohNo :=
  oT_of (by decide) rfl (Nat.le_of_ble_eq_true rfl) (x_mX8_init (k := (0, 0)) t ht hm ⟨rfl, rfl⟩)
noncomputable def mX7_init (FI : OhI) (FR : OhQ) (GR : OhQ) (C : OhC) (t : Nat × Nat) (x1 : Int32) (x2 : Int32) (x3 : Int32) (x4 : Int32) : Option ((OhI × OhQ × OhQ × OhC) × (Nat × Nat)) :=
  oLet (sA FI 9 (C 9) (fun _ => 0)) fun FI1 =>
  oLet (sA FR 9 (C 9) (fun _ => none)) fun FR1 =>
  oLet (uA C 9 (C 9 + 1)) fun C1 =>
  oCost (1, 7) <|
  (mX8_init FI1 FR1 GR C1 (9, C 9)).bind fun r2 =>
  oCost r2.2 <|
  oLet (sA r2.1.2.2.1 t.1 t.2 (uA (r2.1.2.2.1 t.1 t.2) 4 (some (9, C 9)))) fun GR3 =>
  oLet (sA r2.1.1 t.1 t.2 (uA (r2.1.1 t.1 t.2) 0 x1)) fun FI4 =>
  oLet (sA FI4 t.1 t.2 (uA (FI4 t.1 t.2) 1 x2)) fun FI5 =>
  oLet (sA FI5 t.1 t.2 (uA (FI5 t.1 t.2) 2 x3)) fun FI6 =>
  oLet (sA FI6 t.1 t.2 (uA (FI6 t.1 t.2) 3 x4)) fun FI7 =>
  some ((FI7, r2.1.2.1, GR3, r2.1.2.2.2), (0, 0))
theorem x_mX7_init {G : OhG} {FI AI : OhI} {FL AL : OhL} {FR GR AR BR : OhQ} {AN : OhN} {C : OhC} {k : Nat × Nat} {Φ : OhP} {Ψ : OhX} (t : Nat × Nat) (ht : ohKd t.1 = 6) (x1 : Int32) (x2 : Int32) (x3 : Int32) (x4 : Int32) {r : (OhI × OhQ × OhQ × OhC) × (Nat × Nat)} (hm : mX7_init FI FR GR C t x1 x2 x3 x4 = some r) (hK : Φ none (r.1.1, FL, r.1.2.1, r.1.2.2.1, AI, AL, AR, BR, AN, r.1.2.2.2)) : oX G 5 iX7_init 0 [(0, vR (some t)), (1, vI x1), (2, vI x2), (3, vI x3), (4, vI x4)] [] (FI, FL, FR, GR, AI, AL, AR, BR, AN, C) (oPl r.2 k) Φ Ψ := by
  obtain ⟨r, q0⟩ := r
  unfold mX7_init at hm
  refine oX_aload_n dX7_init_0 rfl rfl ?_
  refine oX_objInit (a := t) rfl q570 q176 q177 dX7_init_1 (by decide) (Nat.le_of_ble_eq_true rfl) ?_
  refine oX_aload_n dX7_init_4 rfl rfl ?_
  obtain ⟨FI1, hFI1, hm⟩ := oLs hm
  obtain ⟨FR1, hFR1, hm⟩ := oLs hm
  obtain ⟨C1, hC1, hm⟩ := oLs hm
  refine oX_cost hm (fun qq1 hm => ?_)
  refine oX_newIF (s9 := 9) (k := oPl qq1 k) nX7_7 rfl (by decide) dX7_init_5 hFI1 hFR1 hC1 ?_
  refine oX_dup dX7_init_8 trivial ?_
  obtain ⟨r2, g2, hm⟩ := bd_s hm
  refine oX_cost hm (fun qq2 hm => ?_)
  refine oX_cIKN (as := []) dX7_init_9 rfl ok_X8_init rfl rfl rfl q573 q574 q143 q575 (by decide) (Nat.le_of_ble_eq_true rfl) (t_X8_init (9, C 9) rfl g2) (Nat.le_refl _) (Nat.le_refl _) ?_
  obtain ⟨GR3, hGR3, hm⟩ := oLs hm
  refine oX_putG fX7_10 rfl (fun _ => rfl) (oD_t ht) dX7_init_12 (by first | exact Or.inl ⟨_, rfl⟩ | exact Or.inr ⟨_, rfl⟩) hGR3 ?_
  refine oX_aload_n dX7_init_15 rfl rfl ?_
  refine oX_iload_n dX7_init_16 rfl rfl ?_
  obtain ⟨FI4, hFI4, hm⟩ := oLs hm
  refine oX_putI fX7_16 rfl (fun _ => rfl) (oD_t ht) dX7_init_17 ⟨rfl, rfl⟩ hFI4 ?_
  refine oX_aload_n dX7_init_20 rfl rfl ?_
  refine oX_iload_n dX7_init_21 rfl rfl ?_
  obtain ⟨FI5, hFI5, hm⟩ := oLs hm
  refine oX_putI fX7_20 rfl (fun _ => rfl) (oD_t ht) dX7_init_22 ⟨rfl, rfl⟩ hFI5 ?_
  refine oX_aload_n dX7_init_25 rfl rfl ?_
  refine oX_iload_n dX7_init_26 rfl rfl ?_
  obtain ⟨FI6, hFI6, hm⟩ := oLs hm
  refine oX_putI fX7_23 rfl (fun _ => rfl) (oD_t ht) dX7_init_27 ⟨rfl, rfl⟩ hFI6 ?_
  refine oX_aload_n dX7_init_30 rfl rfl ?_
  refine oX_iload dX7_init_31 rfl ?_
  obtain ⟨FI7, hFI7, hm⟩ := oLs hm
  refine oX_putI fX7_26 rfl (fun _ => rfl) (oD_t ht) dX7_init_33 ⟨rfl, rfl⟩ hFI7 ?_
  obtain ⟨rfl, rfl⟩ := oEnd hm
  exact oX_vret dX7_init_36 rfl hK
theorem t_X7_init {G : OhG} {FI AI : OhI} {FL AL : OhL} {FR GR AR BR : OhQ} {AN : OhN} {C : OhC} (t : Nat × Nat) (ht : ohKd t.1 = 6) (x1 : Int32) (x2 : Int32) (x3 : Int32) (x4 : Int32) {o : (OhI × OhQ × OhQ × OhC) × (Nat × Nat)} (hm : mX7_init FI FR GR C t x1 x2 x3 x4 = some o) : oT G 5 iX7_init [vR (some t), vI x1, vI x2, vI x3, vI x4] (FI, FL, FR, GR, AI, AL, AR, BR, AN, C) o.2 (fun v h => v = none ∧ h = (o.1.1, FL, o.1.2.1, o.1.2.2.1, AI, AL, AR, BR, AN, o.1.2.2.2)) ohNo :=
  oT_of (by decide) rfl (Nat.le_of_ble_eq_true rfl) (x_mX7_init (k := (0, 0)) t ht x1 x2 x3 x4 hm ⟨rfl, rfl⟩)
