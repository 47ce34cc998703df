/-! MIRRORS of methods that make things: printed by gen/mk_alloc.py -/
abbrev iX10_init : OhM := (yX10_init, cX10_init, 3, none, [])
theorem ok_X10_init : oOk iX10_init 2 := ⟨by decide, by decide, by decide +kernel⟩
abbrev iX9_need : OhM := (yX9_need, cX9_need, 3, none, [])
theorem ok_X9_need : oOk iX9_need 2 := ⟨by decide, by decide, by decide +kernel⟩
abbrev iX9_once : OhM := (yX9_once, cX9_once, 2, none, [])
theorem ok_X9_once : oOk iX9_once 1 := ⟨by decide, by decide, by decide +kernel⟩
abbrev iX9_number : OhM := (yX9_number, cX9_number, 4, (some .int), [])
theorem ok_X9_number : oOk iX9_number 2 := ⟨by decide, by decide, by decide +kernel⟩
abbrev iX9_measure : OhM := (yX9_measure, cX9_measure, 3, (some (FieldType.object "OperaHouse$Cond")), [])
theorem ok_X9_measure : oOk iX9_measure 1 := ⟨by decide, by decide, by decide +kernel⟩
abbrev iX9_all : OhM := (yX9_all, cX9_all, 2, (some (FieldType.object "OperaHouse$Cond")), [])
theorem ok_X9_all : oOk iX9_all 0 := ⟨by decide, by decide, by decide +kernel⟩
abbrev iX9_cond : OhM := (yX9_cond, cX9_cond, 2, (some (FieldType.object "OperaHouse$Cond")), [])
theorem ok_X9_cond : oOk iX9_cond 0 := ⟨by decide, by decide, by decide +kernel⟩
abbrev iX9_one : OhM := (yX9_one, cX9_one, 3, (some (FieldType.object "OperaHouse$Cond")), [])
theorem ok_X9_one : oOk iX9_one 0 := ⟨by decide, by decide, by decide +kernel⟩
abbrev iX9_conditions : OhM := (yX9_conditions, cX9_conditions, 1, (some (FieldType.object "OperaHouse$Cond")), [])
theorem ok_X9_conditions : oOk iX9_conditions 0 := ⟨by decide, by decide, by decide +kernel⟩
abbrev iX9_rule : OhM := (yX9_rule, cX9_rule, 2, none, [])
theorem ok_X9_rule : oOk iX9_rule 0 := ⟨by decide, by decide, by decide +kernel⟩
abbrev iX9_read : OhM := (yX9_read, cX9_read, 1, (some (FieldType.object "OperaHouse$Contract")), [])
theorem ok_X9_read : oOk iX9_read 0 := ⟨by decide, by decide, by decide +kernel⟩
noncomputable def mX10_init (FI : OhI) (GR : OhQ) (t : Nat × Nat) (x1 : Int32) (x2 : Int32) : Option (OhI) :=
  gd (GR t.1 t.2 4 = none) <|
  oLet (sA FI t.1 t.2 (uA (FI t.1 t.2) 6 x1)) fun FI2 =>
  oLet (sA FI2 t.1 t.2 (uA (FI2 t.1 t.2) 7 x2)) fun FI3 =>
  some FI3
theorem x_mX10_init {G : OhG} {FI AI : OhI} {FL AL : OhL} {FR GR AR BR : OhQ} {AN : OhN} {C : OhC} {k : Nat × Nat} {Φ : OhP} {Ψ : OhX} (t : Nat × Nat) (ht : ohKd t.1 = 9) (x1 : Int32) (x2 : Int32) {r : OhI} (hm : mX10_init FI GR t x1 x2 = some r) (hK : Φ none (r, FL, FR, GR, AI, AL, AR, BR, AN, C)) : oX G 5 iX10_init 0 [(0, vR (some t)), (1, vI x1), (2, vI x2)] [] (FI, FL, FR, GR, AI, AL, AR, BR, AN, C) k Φ Ψ := by
  unfold mX10_init at hm
  refine oX_aload_n dX10_init_0 rfl rfl ?_
  obtain ⟨g1, hm⟩ := gd_s hm
  refine oX_thrFault dX10_init_1 rfl (oD_t ht) g1 (by decide) (Nat.le_of_ble_eq_true rfl) ?_
  refine oX_aload_n dX10_init_4 rfl rfl ?_
  refine oX_iload_n dX10_init_5 rfl rfl ?_
  obtain ⟨FI2, hFI2, hm⟩ := oLs hm
  refine oX_putI fX10_7 rfl (fun _ => rfl) (oD_t ht) dX10_init_6 ⟨rfl, rfl⟩ hFI2 ?_
  refine oX_aload_n dX10_init_9 rfl rfl ?_
  refine oX_iload_n dX10_init_10 rfl rfl ?_
  obtain ⟨FI3, hFI3, hm⟩ := oLs hm
  refine oX_putI fX10_13 rfl (fun _ => rfl) (oD_t ht) dX10_init_11 ⟨rfl, rfl⟩ hFI3 ?_
  obtain rfl := Option.some.inj hm
  exact oX_vret dX10_init_14 rfl hK
theorem t_X10_init {G : OhG} {FI AI : OhI} {FL AL : OhL} {FR GR AR BR : OhQ} {AN : OhN} {C : OhC} (t : Nat × Nat) (ht : ohKd t.1 = 9) (x1 : Int32) (x2 : Int32) {o : OhI} (hm : mX10_init FI GR t x1 x2 = some o) : oT G 5 iX10_init [vR (some t), vI x1, vI x2] (FI, FL, FR, GR, AI, AL, AR, BR, AN, C) (0, 0) (fun v h => v = none ∧ h = (o, FL, FR, GR, AI, AL, AR, BR, AN, C)) ohNo :=
  oT_of (by decide) rfl (Nat.le_of_ble_eq_true rfl) (x_mX10_init t ht x1 x2 hm ⟨rfl, rfl⟩)
noncomputable def mX9_need_j29 (FI : OhI) (GR : OhQ) (C : OhC) (t : Nat × Nat) (y0 : OhR) (y1 : OhR) (y2 : Int32) : Option ((((Nat × Nat) × OhI × OhQ × OhC) ⊕ (OhI × OhQ × OhC)) × (Nat × Nat)) :=
  (oD 9 y1).bind fun a4 =>
  (mX10_init FI GR a4 y2 (FI t.1 t.2 4)).bind fun r5 =>
  (oD 9 y0).bind fun a6 =>
  some (.inl (a6, r5, GR, C), (0, 0))
theorem x_mX9_need_j29 {G : OhG} {FI AI : OhI} {FL AL : OhL} {FR GR AR BR : OhQ} {AN : OhN} {C : OhC} {k : Nat × Nat} {Φ : OhP} {Ψ : OhX} (t : Nat × Nat) (ht : ohKd t.1 = 8) (y0 : OhR) (y1 : OhR) (y2 : Int32) {r : (((Nat × Nat) × OhI × OhQ × OhC) ⊕ (OhI × OhQ × OhC)) × (Nat × Nat)} (hm : mX9_need_j29 FI GR C t y0 y1 y2 = some r) (hK : ∀ o : OhI × OhQ × OhC, r.1 = .inr o → Φ none (o.1, FL, FR, o.2.1, AI, AL, AR, BR, AN, o.2.2)) (hT : ∀ x : (Nat × Nat) × OhI × OhQ × OhC, r.1 = .inl x → Ψ "OperaHouse$Fault" x.1 (x.2.1, FL, FR, x.2.2.1, AI, AL, AR, BR, AN, x.2.2.2)) : oX G 6 iX9_need 29 [(0, vR (some t))] [vI y2, vR y1, vR y0] (FI, FL, FR, GR, AI, AL, AR, BR, AN, C) (oPl r.2 k) Φ Ψ := by
  obtain ⟨r, q0⟩ := r
  unfold mX9_need_j29 at hm
  refine oX_aload_n dX9_need_29 rfl rfl ?_
  refine oX_getI fX9_39 rfl (oD_t ht) dX9_need_30 ?_
  obtain ⟨a4, e4, hm⟩ := bd_s hm
  rw [(oD_some e4).1]
  obtain ⟨r5, g5, hm⟩ := bd_s hm
  refine oX_cI (as := [vI y2, vI (FI t.1 t.2 4)]) dX9_need_33 rfl ok_X10_init rfl rfl rfl q1026 q1027 q155 q1028 (by decide) (Nat.le_of_ble_eq_true rfl) (t_X10_init a4 ((oD_some e4).2) y2 (FI t.1 t.2 4) g5) ?_
  obtain ⟨a6, e6, hm⟩ := bd_s hm
  refine oX_throw e6 rfl (by decide) dX9_need_36 ?_
  refine oXt_out rfl ?_
  obtain ⟨hr, rfl⟩ := oEnd hm
  exact hT (a6, r5, GR, C) hr
noncomputable def mX9_need_j24 (FI : OhI) (GR : OhQ) (C : OhC) (t : Nat × Nat) (y0 : OhR) (y1 : OhR) : Option ((((Nat × Nat) × OhI × OhQ × OhC) ⊕ (OhI × OhQ × OhC)) × (Nat × Nat)) :=
  mX9_need_j29 FI GR C t y0 y1 (1 : Int32)
theorem x_mX9_need_j24 {G : OhG} {FI AI : OhI} {FL AL : OhL} {FR GR AR BR : OhQ} {AN : OhN} {C : OhC} {k : Nat × Nat} {Φ : OhP} {Ψ : OhX} (t : Nat × Nat) (ht : ohKd t.1 = 8) (y0 : OhR) (y1 : OhR) {r : (((Nat × Nat) × OhI × OhQ × OhC) ⊕ (OhI × OhQ × OhC)) × (Nat × Nat)} (hm : mX9_need_j24 FI GR C t y0 y1 = some r) (hK : ∀ o : OhI × OhQ × OhC, r.1 = .inr o → Φ none (o.1, FL, FR, o.2.1, AI, AL, AR, BR, AN, o.2.2)) (hT : ∀ x : (Nat × Nat) × OhI × OhQ × OhC, r.1 = .inl x → Ψ "OperaHouse$Fault" x.1 (x.2.1, FL, FR, x.2.2.1, AI, AL, AR, BR, AN, x.2.2.2)) : oX G 6 iX9_need 24 [(0, vR (some t))] [vR y1, vR y0] (FI, FL, FR, GR, AI, AL, AR, BR, AN, C) (oPl r.2 k) Φ Ψ := by
  obtain ⟨r, q0⟩ := r
  unfold mX9_need_j24 at hm
  refine oX_iconst (v := (1 : Int32)) dX9_need_24 (by decide) ?_
  refine oX_goto (tgt := 29) dX9_need_25 (by decide) ?_
  exact oX_sub [0] rfl (x_mX9_need_j29 t ht y0 y1 (1 : Int32) hm hK hT)
noncomputable def mX9_need (FI : OhI) (GR : OhQ) (C : OhC) (t : Nat × Nat) (x1 : Int32) (x2 : Int32) : Option ((((Nat × Nat) × OhI × OhQ × OhC) ⊕ (OhI × OhQ × OhC)) × (Nat × Nat)) :=
  (if x1 = 0 then
  oLet (sA FI 28 (C 28) (fun _ => 0)) fun FI2 =>
    oLet (sA GR 28 (C 28) (fun _ => none)) fun GR2 =>
    oLet (uA C 28 (C 28 + 1)) fun C2 =>
    oCost (1, 8) <|
    (if (FI2 t.1 t.2 3) = (1 : Int32) then
    mX9_need_j24 FI2 GR2 C2 t (some (28, C 28)) (some (28, C 28))
  else
    (if (FI2 t.1 t.2 3) = (5 : Int32) then
      mX9_need_j24 FI2 GR2 C2 t (some (28, C 28)) (some (28, C 28))
    else
      mX9_need_j29 FI2 GR2 C2 t (some (28, C 28)) (some (28, C 28)) x2))
else
  some (.inr (FI, GR, C), (0, 0)))
theorem x_mX9_need {G : OhG} {FI AI : OhI} {FL AL : OhL} {FR GR AR BR : OhQ} {AN : OhN} {C : OhC} {k : Nat × Nat} {Φ : OhP} {Ψ : OhX} (t : Nat × Nat) (ht : ohKd t.1 = 8) (x1 : Int32) (x2 : Int32) {r : (((Nat × Nat) × OhI × OhQ × OhC) ⊕ (OhI × OhQ × OhC)) × (Nat × Nat)} (hm : mX9_need FI GR C t x1 x2 = some r) (hK : ∀ o : OhI × OhQ × OhC, r.1 = .inr o → Φ none (o.1, FL, FR, o.2.1, AI, AL, AR, BR, AN, o.2.2)) (hT : ∀ x : (Nat × Nat) × OhI × OhQ × OhC, r.1 = .inl x → Ψ "OperaHouse$Fault" x.1 (x.2.1, FL, FR, x.2.2.1, AI, AL, AR, BR, AN, x.2.2.2)) : oX G 6 iX9_need 0 [(0, vR (some t)), (1, vI x1), (2, vI x2)] [] (FI, FL, FR, GR, AI, AL, AR, BR, AN, C) (oPl r.2 k) Φ Ψ := by
  obtain ⟨r, q0⟩ := r
  unfold mX9_need at hm
  refine oX_iload_n dX9_need_0 rfl rfl ?_
  refine oX_if_ne (tgt := 37) dX9_need_1 (by decide) (fun c1 => ?_) (fun c1 => ?_)
  · have hm := ifp c1 hm
    obtain ⟨FI2, hFI2, hm⟩ := oLs hm
    obtain ⟨GR2, hGR2, hm⟩ := oLs hm
    obtain ⟨C2, hC2, hm⟩ := oLs hm
    refine oX_cost hm (fun qq2 hm => ?_)
    refine oX_newIG (s9 := 28) (k := oPl qq2 k) nX9_76 rfl (by decide) dX9_need_4 hFI2 hGR2 hC2 ?_
    refine oX_dup dX9_need_7 trivial ?_
    refine oX_aload_n dX9_need_8 rfl rfl ?_
    refine oX_getI fX9_42 rfl (oD_t ht) dX9_need_9 ?_
    refine oX_iconst (v := (1 : Int32)) dX9_need_12 (by decide) ?_
    refine oX_icmp_eq (tgt := 24) dX9_need_13 (by decide) (fun c3 => ?_) (fun c3 => ?_)
    · have hm := ifp c3 hm
      exact oX_sub [0] rfl (x_mX9_need_j24 t ht (some (28, C 28)) (some (28, C 28)) hm hK hT)
    · have hm := ifn c3 hm
      refine oX_aload_n dX9_need_16 rfl rfl ?_
      refine oX_getI fX9_42 rfl (oD_t ht) dX9_need_17 ?_
      refine oX_iconst (v := (5 : Int32)) dX9_need_20 (by decide) ?_
      refine oX_icmp_ne (tgt := 28) dX9_need_21 (by decide) (fun c7 => ?_) (fun c7 => ?_)
      · have hm := ifp c7 hm
        exact oX_sub [0] rfl (x_mX9_need_j24 t ht (some (28, C 28)) (some (28, C 28)) hm hK hT)
      · have hm := ifn c7 hm
        refine oX_iload_n dX9_need_28 rfl rfl ?_
        exact oX_sub [0] rfl (x_mX9_need_j29 t ht (some (28, C 28)) (some (28, C 28)) x2 hm hK hT)
  · have hm := ifn c1 hm
    obtain ⟨hr, rfl⟩ := oEnd hm
    exact oX_vret dX9_need_37 rfl (hK (FI, GR, C) hr)
theorem t_X9_need {G : OhG} {FI AI : OhI} {FL AL : OhL} {FR GR AR BR : OhQ} {AN : OhN} {C : OhC} (t : Nat × Nat) (ht : ohKd t.1 = 8) (x1 : Int32) (x2 : Int32) {o : (((Nat × Nat) × OhI × OhQ × OhC) ⊕ (OhI × OhQ × OhC)) × (Nat × Nat)} (hm : mX9_need FI GR C t x1 x2 = some o) : oT G 6 iX9_need [vR (some t), vI x1, vI x2] (FI, FL, FR, GR, AI, AL, AR, BR, AN, C) o.2 (fun v h => ∃ o9 : OhI × OhQ × OhC, o.1 = .inr o9 ∧ v = none ∧ h = (o9.1, FL, FR, o9.2.1, AI, AL, AR, BR, AN, o9.2.2)) (fun E b h => ∃ x9 : (Nat × Nat) × OhI × OhQ × OhC, o.1 = .inl x9 ∧ E = "OperaHouse$Fault" ∧ b = x9.1 ∧ h = (x9.2.1, FL, FR, x9.2.2.1, AI, AL, AR, BR, AN, x9.2.2.2)) :=
  oT_of (by decide) rfl (Nat.le_of_ble_eq_true rfl) (x_mX9_need (k := (0, 0)) t ht x1 x2 hm (fun o e => ⟨o, e, rfl, rfl⟩) (fun x e => ⟨x, e, rfl, rfl, rfl⟩))
noncomputable def mX9_once_j17 (n : Nat) (FI : OhI) (FR : OhQ) (GR : OhQ) (AI : OhI) (AN : OhN) (C : OhC) (t : Nat × Nat) (x1 : Int32) (y0 : OhR) (y1 : Int32) : Option ((((Nat × Nat) × OhI × OhQ × OhQ × OhI × OhN × OhC) ⊕ (OhI × OhQ × OhQ × OhI × OhN × OhC)) × (Nat × Nat)) :=
  (oD 8 y0).bind fun a2 =>
  (mX9_need FI GR C a2 y1 (3 : Int32)).bind fun r3 =>
  oCost r3.2 <|
  (Sum.elim (fun x3_ => some (.inl (x3_.1, x3_.2.1, FR, x3_.2.2.1, AI, AN, x3_.2.2.2), (0, 0))) (fun o3 => oLet (sA o3.1 t.1 t.2 (uA (o3.1 t.1 t.2) 7 ((o3.1 t.1 t.2 7) ||| ((1 : Int32) <<< (x1 &&& 31))))) fun FI4 =>
  (mX9_go n FI4 FR o3.2.1 AI AN o3.2.2 t).bind fun r5 =>
  oCost r5.2 <|
  some (.inr (r5.1.1, r5.1.2.1, r5.1.2.2.1, r5.1.2.2.2.1, r5.1.2.2.2.2.1, r5.1.2.2.2.2.2), (0, 0))) r3.1)
theorem x_mX9_once_j17 {G : OhG} {FI AI : OhI} {FL AL : OhL} {FR GR AR BR : OhQ} {AN : OhN} {C : OhC} {k : Nat × Nat} {Φ : OhP} {Ψ : OhX} (n : Nat) (t : Nat × Nat) (ht : ohKd t.1 = 8) (x1 : Int32) (y0 : OhR) (y1 : Int32) {r : (((Nat × Nat) × OhI × OhQ × OhQ × OhI × OhN × OhC) ⊕ (OhI × OhQ × OhQ × OhI × OhN × OhC)) × (Nat × Nat)} (hm : mX9_once_j17 n FI FR GR AI AN C t x1 y0 y1 = some r) (hK : ∀ o : OhI × OhQ × OhQ × OhI × OhN × OhC, r.1 = .inr o → Φ none (o.1, FL, o.2.1, o.2.2.1, o.2.2.2.1, AL, AR, BR, o.2.2.2.2.1, o.2.2.2.2.2)) (hT : ∀ x : (Nat × Nat) × OhI × OhQ × OhQ × OhI × OhN × OhC, r.1 = .inl x → Ψ "OperaHouse$Fault" x.1 (x.2.1, FL, x.2.2.1, x.2.2.2.1, x.2.2.2.2.1, AL, AR, BR, x.2.2.2.2.2.1, x.2.2.2.2.2.2)) : oX G 8 iX9_once 17 [(0, vR (some t)), (1, vI x1)] [vI y1, vR y0] (FI, FL, FR, GR, AI, AL, AR, BR, AN, C) (oPl r.2 k) Φ Ψ := by
  obtain ⟨r, q0⟩ := r
  unfold mX9_once_j17 at hm
  refine oX_iconst (v := (3 : Int32)) dX9_once_17 (by decide) ?_
  obtain ⟨a2, e2, hm⟩ := bd_s hm
  obtain ⟨r3, g3, hm⟩ := bd_s hm
  refine oX_cost hm (fun qq3 hm => ?_)
  refine oX_cVX_ (as := [vI y1, vI (3 : Int32)]) dX9_once_18 rfl e2 rfl (by decide) rfl ok_X9_need rfl rfl q984 q986 qs13 q146 q987 (by decide) (Nat.le_of_ble_eq_true rfl) (t_X9_need a2 ((oD_some e2).2) y1 (3 : Int32) g3) (Nat.le_refl _) (Nat.le_refl _) (fun o3 hz3 => ?_) (fun x3_ hz3 => ?_)
  · rw [hz3] at hm
    have hm := el2 hm
    refine oX_aload_n dX9_once_21 rfl rfl ?_
    refine oX_dup dX9_once_22 trivial ?_
    refine oX_getI fX9_105 rfl (oD_t ht) dX9_once_23 ?_
    refine oX_iconst (v := (1 : Int32)) dX9_once_26 (by decide) ?_
    refine oX_iload_n dX9_once_27 rfl rfl ?_
    refine oX_ishl dX9_once_28 ?_
    refine oX_ior dX9_once_29 ?_
    obtain ⟨FI4, hFI4, hm⟩ := oLs hm
    refine oX_putI fX9_105 rfl (fun h9 => by cases h9) (oD_t ht) dX9_once_30 ⟨rfl, rfl⟩ hFI4 ?_
    refine oX_aload_n dX9_once_33 rfl rfl ?_
    obtain ⟨r5, g5, hm⟩ := bd_s hm
    refine oX_cost hm (fun qq5 hm => ?_)
    refine oX_cVK_ (as := []) dX9_once_34 rfl (oD_t ht) rfl (by decide) rfl ok_X9_go rfl rfl q712 q714 qs8 q146 q715 (by decide) (Nat.le_of_ble_eq_true rfl) (t_X9_go n t ht g5) (Nat.le_refl _) (Nat.le_refl _) ?_
    obtain ⟨hr, rfl⟩ := oEnd hm
    exact oX_vret dX9_once_37 rfl (hK (r5.1.1, r5.1.2.1, r5.1.2.2.1, r5.1.2.2.2.1, r5.1.2.2.2.2.1, r5.1.2.2.2.2.2) hr)
  · rw [hz3] at hm
    have hm := el1 hm
    refine oXt_out rfl ?_
    obtain ⟨hr, rfl⟩ := oEnd hm
    exact hT (x3_.1, x3_.2.1, FR, x3_.2.2.1, AI, AN, x3_.2.2.2) hr
noncomputable def mX9_once (n : Nat) (FI : OhI) (FR : OhQ) (GR : OhQ) (AI : OhI) (AN : OhN) (C : OhC) (t : Nat × Nat) (x1 : Int32) : Option ((((Nat × Nat) × OhI × OhQ × OhQ × OhI × OhN × OhC) ⊕ (OhI × OhQ × OhQ × OhI × OhN × OhC)) × (Nat × Nat)) :=
  (if (((FI t.1 t.2 7) >>> (x1 &&& 31)) &&& (1 : Int32)) = 0 then
  mX9_once_j17 n FI FR GR AI AN C t x1 (some t) (1 : Int32)
else
  mX9_once_j17 n FI FR GR AI AN C t x1 (some t) (0 : Int32))
theorem x_mX9_once {G : OhG} {FI AI : OhI} {FL AL : OhL} {FR GR AR BR : OhQ} {AN : OhN} {C : OhC} {k : Nat × Nat} {Φ : OhP} {Ψ : OhX} (n : Nat) (t : Nat × Nat) (ht : ohKd t.1 = 8) (x1 : Int32) {r : (((Nat × Nat) × OhI × OhQ × OhQ × OhI × OhN × OhC) ⊕ (OhI × OhQ × OhQ × OhI × OhN × OhC)) × (Nat × Nat)} (hm : mX9_once n FI FR GR AI AN C t x1 = some r) (hK : ∀ o : OhI × OhQ × OhQ × OhI × OhN × OhC, r.1 = .inr o → Φ none (o.1, FL, o.2.1, o.2.2.1, o.2.2.2.1, AL, AR, BR, o.2.2.2.2.1, o.2.2.2.2.2)) (hT : ∀ x : (Nat × Nat) × OhI × OhQ × OhQ × OhI × OhN × OhC, r.1 = .inl x → Ψ "OperaHouse$Fault" x.1 (x.2.1, FL, x.2.2.1, x.2.2.2.1, x.2.2.2.2.1, AL, AR, BR, x.2.2.2.2.2.1, x.2.2.2.2.2.2)) : oX G 8 iX9_once 0 [(0, vR (some t)), (1, vI x1)] [] (FI, FL, FR, GR, AI, AL, AR, BR, AN, C) (oPl r.2 k) Φ Ψ := by
  obtain ⟨r, q0⟩ := r
  unfold mX9_once at hm
  refine oX_aload_n dX9_once_0 rfl rfl ?_
  refine oX_aload_n dX9_once_1 rfl rfl ?_
  refine oX_getI fX9_105 rfl (oD_t ht) dX9_once_2 ?_
  refine oX_iload_n dX9_once_5 rfl rfl ?_
  refine oX_ishr dX9_once_6 ?_
  refine oX_iconst (v := (1 : Int32)) dX9_once_7 (by decide) ?_
  refine oX_iand dX9_once_8 ?_
  refine oX_if_ne (tgt := 16) dX9_once_9 (by decide) (fun c1 => ?_) (fun c1 => ?_)
  · have hm := ifp c1 hm
    refine oX_iconst (v := (1 : Int32)) dX9_once_12 (by decide) ?_
    refine oX_goto (tgt := 17) dX9_once_13 (by decide) ?_
    exact oX_sub [0, 1] rfl (x_mX9_once_j17 n t ht x1 (some t) (1 : Int32) hm hK hT)
  · have hm := ifn c1 hm
    refine oX_iconst (v := (0 : Int32)) dX9_once_16 (by decide) ?_
    exact oX_sub [0, 1] rfl (x_mX9_once_j17 n t ht x1 (some t) (0 : Int32) hm hK hT)
theorem t_X9_once {G : OhG} {FI AI : OhI} {FL AL : OhL} {FR GR AR BR : OhQ} {AN : OhN} {C : OhC} (n : Nat) (t : Nat × Nat) (ht : ohKd t.1 = 8) (x1 : Int32) {o : (((Nat × Nat) × OhI × OhQ × OhQ × OhI × OhN × OhC) ⊕ (OhI × OhQ × OhQ × OhI × OhN × OhC)) × (Nat × Nat)} (hm : mX9_once n FI FR GR AI AN C t x1 = some o) : oT G 8 iX9_once [vR (some t), vI x1] (FI, FL, FR, GR, AI, AL, AR, BR, AN, C) o.2 (fun v h => ∃ o9 : OhI × OhQ × OhQ × OhI × OhN × OhC, o.1 = .inr o9 ∧ v = none ∧ h = (o9.1, FL, o9.2.1, o9.2.2.1, o9.2.2.2.1, AL, AR, BR, o9.2.2.2.2.1, o9.2.2.2.2.2)) (fun E b h => ∃ x9 : (Nat × Nat) × OhI × OhQ × OhQ × OhI × OhN × OhC, o.1 = .inl x9 ∧ E = "OperaHouse$Fault" ∧ b = x9.1 ∧ h = (x9.2.1, FL, x9.2.2.1, x9.2.2.2.1, x9.2.2.2.2.1, AL, AR, BR, x9.2.2.2.2.2.1, x9.2.2.2.2.2.2)) :=
  oT_of (by decide) rfl (Nat.le_of_ble_eq_true rfl) (x_mX9_once (k := (0, 0)) n t ht x1 hm (fun o e => ⟨o, e, rfl, rfl⟩) (fun x e => ⟨x, e, rfl, rfl, rfl⟩))
noncomputable def mX9_number_j14 (n : Nat) (FI : OhI) (FR : OhQ) (GR : OhQ) (AI : OhI) (AN : OhN) (C : OhC) (t : Nat × Nat) (x1 : Int32) (x2 : Int32) (y0 : OhR) (y1 : Int32) : Option ((((Nat × Nat) × OhI × OhQ × OhQ × OhI × OhN × OhC) ⊕ (Int32 × OhI × OhQ × OhQ × OhI × OhN × OhC)) × (Nat × Nat)) :=
  (oD 8 y0).bind fun a2 =>
  (mX9_need FI GR C a2 y1 (1 : Int32)).bind fun r3 =>
  oCost r3.2 <|
  (Sum.elim (fun x3_ => some (.inl (x3_.1, x3_.2.1, FR, x3_.2.2.1, AI, AN, x3_.2.2.2), (0, 0))) (fun o3 => (mX1_isIn (o3.1 t.1 t.2 5) x1 x2).bind fun r4 =>
  (mX9_need o3.1 o3.2.1 o3.2.2 t r4 (2 : Int32)).bind fun r5 =>
  oCost r5.2 <|
  (Sum.elim (fun x5_ => some (.inl (x5_.1, x5_.2.1, FR, x5_.2.2.1, AI, AN, x5_.2.2.2), (0, 0))) (fun o5 => (mX9_go n o5.1 FR o5.2.1 AI AN o5.2.2 t).bind fun r6 =>
  oCost r6.2 <|
  some (.inr (o5.1 t.1 t.2 5, r6.1.1, r6.1.2.1, r6.1.2.2.1, r6.1.2.2.2.1, r6.1.2.2.2.2.1, r6.1.2.2.2.2.2), (0, 0))) r5.1)) r3.1)
theorem x_mX9_number_j14 {G : OhG} {FI AI : OhI} {FL AL : OhL} {FR GR AR BR : OhQ} {AN : OhN} {C : OhC} {k : Nat × Nat} {Φ : OhP} {Ψ : OhX} (n : Nat) (t : Nat × Nat) (ht : ohKd t.1 = 8) (x1 : Int32) (x2 : Int32) (y0 : OhR) (y1 : Int32) {r : (((Nat × Nat) × OhI × OhQ × OhQ × OhI × OhN × OhC) ⊕ (Int32 × OhI × OhQ × OhQ × OhI × OhN × OhC)) × (Nat × Nat)} (hm : mX9_number_j14 n FI FR GR AI AN C t x1 x2 y0 y1 = some r) (hK : ∀ o : Int32 × OhI × OhQ × OhQ × OhI × OhN × OhC, r.1 = .inr o → Φ (some (vI o.1)) (o.2.1, FL, o.2.2.1, o.2.2.2.1, o.2.2.2.2.1, AL, AR, BR, o.2.2.2.2.2.1, o.2.2.2.2.2.2)) (hT : ∀ x : (Nat × Nat) × OhI × OhQ × OhQ × OhI × OhN × OhC, r.1 = .inl x → Ψ "OperaHouse$Fault" x.1 (x.2.1, FL, x.2.2.1, x.2.2.2.1, x.2.2.2.2.1, AL, AR, BR, x.2.2.2.2.2.1, x.2.2.2.2.2.2)) : oX G 8 iX9_number 14 [(0, vR (some t)), (1, vI x1), (2, vI x2)] [vI y1, vR y0] (FI, FL, FR, GR, AI, AL, AR, BR, AN, C) (oPl r.2 k) Φ Ψ := by
  obtain ⟨r, q0⟩ := r
  unfold mX9_number_j14 at hm
  refine oX_iconst (v := (1 : Int32)) dX9_number_14 (by decide) ?_
  obtain ⟨a2, e2, hm⟩ := bd_s hm
  obtain ⟨r3, g3, hm⟩ := bd_s hm
  refine oX_cost hm (fun qq3 hm => ?_)
  refine oX_cVX_ (as := [vI y1, vI (1 : Int32)]) dX9_number_15 rfl e2 rfl (by decide) rfl ok_X9_need rfl rfl q984 q986 qs13 q146 q987 (by decide) (Nat.le_of_ble_eq_true rfl) (t_X9_need a2 ((oD_some e2).2) y1 (1 : Int32) g3) (Nat.le_refl _) (Nat.le_refl _) (fun o3 hz3 => ?_) (fun x3_ hz3 => ?_)
  · rw [hz3] at hm
    have hm := el2 hm
    refine oX_aload_n dX9_number_18 rfl rfl ?_
    refine oX_aload_n dX9_number_19 rfl rfl ?_
    refine oX_getI fX9_62 rfl (oD_t ht) dX9_number_20 ?_
    refine oX_iload_n dX9_number_23 rfl rfl ?_
    refine oX_iload_n dX9_number_24 rfl rfl ?_
    obtain ⟨r4, g4, hm⟩ := bd_s hm
    refine oX_cSN (as := [vI (o3.1 t.1 t.2 5), vI x1, vI x2]) dX9_number_25 rfl ok_X1_isIn rfl rfl q1057 q238 q129 q239 (by decide) (Nat.le_of_ble_eq_true rfl) (t_X1_isIn (o3.1 t.1 t.2 5) x1 x2 g4) ?_
    refine oX_iconst (v := (2 : Int32)) dX9_number_28 (by decide) ?_
    obtain ⟨r5, g5, hm⟩ := bd_s hm
    refine oX_cost hm (fun qq5 hm => ?_)
    refine oX_cVX_ (as := [vI r4, vI (2 : Int32)]) dX9_number_29 rfl (oD_t ht) rfl (by decide) rfl ok_X9_need rfl rfl q984 q986 qs13 q146 q987 (by decide) (Nat.le_of_ble_eq_true rfl) (t_X9_need t ht r4 (2 : Int32) g5) (Nat.le_refl _) (Nat.le_refl _) (fun o5 hz5 => ?_) (fun x5_ hz5 => ?_)
    · rw [hz5] at hm
      have hm := el2 hm
      refine oX_aload_n dX9_number_32 rfl rfl ?_
      refine oX_getI fX9_62 rfl (oD_t ht) dX9_number_33 ?_
      refine oX_istore_n (ls' := [(3, vI (o5.1 t.1 t.2 5)), (0, vR (some t)), (1, vI x1), (2, vI x2)]) dX9_number_36 rfl (by decide) rfl ?_
      refine oX_aload_n dX9_number_37 rfl rfl ?_
      obtain ⟨r6, g6, hm⟩ := bd_s hm
      refine oX_cost hm (fun qq6 hm => ?_)
      refine oX_cVK_ (as := []) dX9_number_38 rfl (oD_t ht) rfl (by decide) rfl ok_X9_go rfl rfl q712 q714 qs8 q146 q715 (by decide) (Nat.le_of_ble_eq_true rfl) (t_X9_go n t ht g6) (Nat.le_refl _) (Nat.le_refl _) ?_
      refine oX_iload_n dX9_number_41 rfl rfl ?_
      obtain ⟨hr, rfl⟩ := oEnd hm
      exact oX_iret dX9_number_42 rfl rfl (hK (o5.1 t.1 t.2 5, r6.1.1, r6.1.2.1, r6.1.2.2.1, r6.1.2.2.2.1, r6.1.2.2.2.2.1, r6.1.2.2.2.2.2) hr)
    · rw [hz5] at hm
      have hm := el1 hm
      refine oXt_out rfl ?_
      obtain ⟨hr, rfl⟩ := oEnd hm
      exact hT (x5_.1, x5_.2.1, FR, x5_.2.2.1, AI, AN, x5_.2.2.2) hr
  · rw [hz3] at hm
    have hm := el1 hm
    refine oXt_out rfl ?_
    obtain ⟨hr, rfl⟩ := oEnd hm
    exact hT (x3_.1, x3_.2.1, FR, x3_.2.2.1, AI, AN, x3_.2.2.2) hr
noncomputable def mX9_number (n : Nat) (FI : OhI) (FR : OhQ) (GR : OhQ) (AI : OhI) (AN : OhN) (C : OhC) (t : Nat × Nat) (x1 : Int32) (x2 : Int32) : Option ((((Nat × Nat) × OhI × OhQ × OhQ × OhI × OhN × OhC) ⊕ (Int32 × OhI × OhQ × OhQ × OhI × OhN × OhC)) × (Nat × Nat)) :=
  (if (FI t.1 t.2 3) = (3 : Int32) then
  mX9_number_j14 n FI FR GR AI AN C t x1 x2 (some t) (1 : Int32)
else
  mX9_number_j14 n FI FR GR AI AN C t x1 x2 (some t) (0 : Int32))
theorem x_mX9_number {G : OhG} {FI AI : OhI} {FL AL : OhL} {FR GR AR BR : OhQ} {AN : OhN} {C : OhC} {k : Nat × Nat} {Φ : OhP} {Ψ : OhX} (n : Nat) (t : Nat × Nat) (ht : ohKd t.1 = 8) (x1 : Int32) (x2 : Int32) {r : (((Nat × Nat) × OhI × OhQ × OhQ × OhI × OhN × OhC) ⊕ (Int32 × OhI × OhQ × OhQ × OhI × OhN × OhC)) × (Nat × Nat)} (hm : mX9_number n FI FR GR AI AN C t x1 x2 = some r) (hK : ∀ o : Int32 × OhI × OhQ × OhQ × OhI × OhN × OhC, r.1 = .inr o → Φ (some (vI o.1)) (o.2.1, FL, o.2.2.1, o.2.2.2.1, o.2.2.2.2.1, AL, AR, BR, o.2.2.2.2.2.1, o.2.2.2.2.2.2)) (hT : ∀ x : (Nat × Nat) × OhI × OhQ × OhQ × OhI × OhN × OhC, r.1 = .inl x → Ψ "OperaHouse$Fault" x.1 (x.2.1, FL, x.2.2.1, x.2.2.2.1, x.2.2.2.2.1, AL, AR, BR, x.2.2.2.2.2.1, x.2.2.2.2.2.2)) : oX G 8 iX9_number 0 [(0, vR (some t)), (1, vI x1), (2, vI x2)] [] (FI, FL, FR, GR, AI, AL, AR, BR, AN, C) (oPl r.2 k) Φ Ψ := by
  obtain ⟨r, q0⟩ := r
  unfold mX9_number at hm
  refine oX_aload_n dX9_number_0 rfl rfl ?_
  refine oX_aload_n dX9_number_1 rfl rfl ?_
  refine oX_getI fX9_42 rfl (oD_t ht) dX9_number_2 ?_
  refine oX_iconst (v := (3 : Int32)) dX9_number_5 (by decide) ?_
  refine oX_icmp_ne (tgt := 13) dX9_number_6 (by decide) (fun c1 => ?_) (fun c1 => ?_)
  · have hm := ifp c1 hm
    refine oX_iconst (v := (1 : Int32)) dX9_number_9 (by decide) ?_
    refine oX_goto (tgt := 14) dX9_number_10 (by decide) ?_
    exact oX_sub [0, 1, 2] rfl (x_mX9_number_j14 n t ht x1 x2 (some t) (1 : Int32) hm hK hT)
  · have hm := ifn c1 hm
    refine oX_iconst (v := (0 : Int32)) dX9_number_13 (by decide) ?_
    exact oX_sub [0, 1, 2] rfl (x_mX9_number_j14 n t ht x1 x2 (some t) (0 : Int32) hm hK hT)
theorem t_X9_number {G : OhG} {FI AI : OhI} {FL AL : OhL} {FR GR AR BR : OhQ} {AN : OhN} {C : OhC} (n : Nat) (t : Nat × Nat) (ht : ohKd t.1 = 8) (x1 : Int32) (x2 : Int32) {o : (((Nat × Nat) × OhI × OhQ × OhQ × OhI × OhN × OhC) ⊕ (Int32 × OhI × OhQ × OhQ × OhI × OhN × OhC)) × (Nat × Nat)} (hm : mX9_number n FI FR GR AI AN C t x1 x2 = some o) : oT G 8 iX9_number [vR (some t), vI x1, vI x2] (FI, FL, FR, GR, AI, AL, AR, BR, AN, C) o.2 (fun v h => ∃ o9 : Int32 × OhI × OhQ × OhQ × OhI × OhN × OhC, o.1 = .inr o9 ∧ v = (some (vI o9.1)) ∧ h = (o9.2.1, FL, o9.2.2.1, o9.2.2.2.1, o9.2.2.2.2.1, AL, AR, BR, o9.2.2.2.2.2.1, o9.2.2.2.2.2.2)) (fun E b h => ∃ x9 : (Nat × Nat) × OhI × OhQ × OhQ × OhI × OhN × OhC, o.1 = .inl x9 ∧ E = "OperaHouse$Fault" ∧ b = x9.1 ∧ h = (x9.2.1, FL, x9.2.2.1, x9.2.2.2.1, x9.2.2.2.2.1, AL, AR, BR, x9.2.2.2.2.2.1, x9.2.2.2.2.2.2)) :=
  oT_of (by decide) rfl (Nat.le_of_ble_eq_true rfl) (x_mX9_number (k := (0, 0)) n t ht x1 x2 hm (fun o e => ⟨o, e, rfl, rfl⟩) (fun x e => ⟨x, e, rfl, rfl, rfl⟩))
noncomputable def mX9_measure_j33 (n : Nat) (FI : OhI) (FR : OhQ) (GR : OhQ) (AI : OhI) (AN : OhN) (C : OhC) (t : Nat × Nat) (x1 : Int32) (y0 : OhR) (y1 : Int32) : Option ((((Nat × Nat) × OhI × OhQ × OhQ × OhI × OhN × OhC) ⊕ (OhR × OhI × OhQ × OhQ × OhI × OhN × OhC)) × (Nat × Nat)) :=
  (oD 8 y0).bind fun a7 =>
  (mX9_need FI GR C a7 y1 (1 : Int32)).bind fun r8 =>
  oCost r8.2 <|
  (Sum.elim (fun x8_ => some (.inl (x8_.1, x8_.2.1, FR, x8_.2.2.1, AI, AN, x8_.2.2.2), (0, 0))) (fun o8 => (mX9_go n o8.1 FR o8.2.1 AI AN o8.2.2 t).bind fun r9 =>
  oCost r9.2 <|
  oLet (sA r9.1.1 27 (r9.1.2.2.2.2.2 27) (fun _ => 0)) fun FI10 =>
  oLet (sA r9.1.2.1 27 (r9.1.2.2.2.2.2 27) (fun _ => none)) fun FR10 =>
  oLet (uA r9.1.2.2.2.2.2 27 (r9.1.2.2.2.2.2 27 + 1)) fun C10 =>
  oCost (1, 5) <|
  (mX9_number n FI10 FR10 r9.1.2.2.1 r9.1.2.2.2.1 r9.1.2.2.2.2.1 C10 t (0 : Int32) (99999 : Int32)).bind fun r11 =>
  oCost r11.2 <|
  (Sum.elim (fun x11_ => some (.inl (x11_.1, x11_.2.1, x11_.2.2.1, x11_.2.2.2.1, x11_.2.2.2.2.1, x11_.2.2.2.2.2.1, x11_.2.2.2.2.2.2), (0, 0))) (fun o11 => (mX13_init o11.2.1 o11.2.2.1 (27, r9.1.2.2.2.2.2 27) x1 (o8.1 t.1 t.2 6) o11.1 none none).bind fun r12 =>
  some (.inr (some (27, r9.1.2.2.2.2.2 27), r12.1, r12.2, o11.2.2.2.1, o11.2.2.2.2.1, o11.2.2.2.2.2.1, o11.2.2.2.2.2.2), (0, 0))) r11.1)) r8.1)
theorem x_mX9_measure_j33 {G : OhG} {FI AI : OhI} {FL AL : OhL} {FR GR AR BR : OhQ} {AN : OhN} {C : OhC} {k : Nat × Nat} {Φ : OhP} {Ψ : OhX} (n : Nat) (t : Nat × Nat) (ht : ohKd t.1 = 8) (x1 : Int32) (y0 : OhR) (y1 : Int32) {r : (((Nat × Nat) × OhI × OhQ × OhQ × OhI × OhN × OhC) ⊕ (OhR × OhI × OhQ × OhQ × OhI × OhN × OhC)) × (Nat × Nat)} (hm : mX9_measure_j33 n FI FR GR AI AN C t x1 y0 y1 = some r) (hK : ∀ o : OhR × OhI × OhQ × OhQ × OhI × OhN × OhC, r.1 = .inr o → Φ (some (vR o.1)) (o.2.1, FL, o.2.2.1, o.2.2.2.1, o.2.2.2.2.1, AL, AR, BR, o.2.2.2.2.2.1, o.2.2.2.2.2.2)) (hT : ∀ x : (Nat × Nat) × OhI × OhQ × OhQ × OhI × OhN × OhC, r.1 = .inl x → Ψ "OperaHouse$Fault" x.1 (x.2.1, FL, x.2.2.1, x.2.2.2.1, x.2.2.2.2.1, AL, AR, BR, x.2.2.2.2.2.1, x.2.2.2.2.2.2)) : oX G 9 iX9_measure 33 [(0, vR (some t)), (1, vI x1)] [vI y1, vR y0] (FI, FL, FR, GR, AI, AL, AR, BR, AN, C) (oPl r.2 k) Φ Ψ := by
  obtain ⟨r, q0⟩ := r
  unfold mX9_measure_j33 at hm
  refine oX_iconst (v := (1 : Int32)) dX9_measure_33 (by decide) ?_
  obtain ⟨a7, e7, hm⟩ := bd_s hm
  obtain ⟨r8, g8, hm⟩ := bd_s hm
  refine oX_cost hm (fun qq8 hm => ?_)
  refine oX_cVX_ (as := [vI y1, vI (1 : Int32)]) dX9_measure_34 rfl e7 rfl (by decide) rfl ok_X9_need rfl rfl q984 q986 qs13 q146 q987 (by decide) (Nat.le_of_ble_eq_true rfl) (t_X9_need a7 ((oD_some e7).2) y1 (1 : Int32) g8) (Nat.le_refl _) (Nat.le_refl _) (fun o8 hz8 => ?_) (fun x8_ hz8 => ?_)
  · rw [hz8] at hm
    have hm := el2 hm
    refine oX_aload_n dX9_measure_37 rfl rfl ?_
    refine oX_getI fX9_59 rfl (oD_t ht) dX9_measure_38 ?_
    refine oX_istore_n (ls' := [(2, vI (o8.1 t.1 t.2 6)), (0, vR (some t)), (1, vI x1)]) dX9_measure_41 rfl (by decide) rfl ?_
    refine oX_aload_n dX9_measure_42 rfl rfl ?_
    obtain ⟨r9, g9, hm⟩ := bd_s hm
    refine oX_cost hm (fun qq9 hm => ?_)
    refine oX_cVK_ (as := []) dX9_measure_43 rfl (oD_t ht) rfl (by decide) rfl ok_X9_go rfl rfl q712 q714 qs8 q146 q715 (by decide) (Nat.le_of_ble_eq_true rfl) (t_X9_go n t ht g9) (Nat.le_refl _) (Nat.le_refl _) ?_
    obtain ⟨FI10, hFI10, hm⟩ := oLs hm
    obtain ⟨FR10, hFR10, hm⟩ := oLs hm
    obtain ⟨C10, hC10, hm⟩ := oLs hm
    refine oX_cost hm (fun qq10 hm => ?_)
    refine oX_newIF (s9 := 27) (k := oPl qq10 k) nX9_178 rfl (by decide) dX9_measure_46 hFI10 hFR10 hC10 ?_
    refine oX_dup dX9_measure_49 trivial ?_
    refine oX_iload_n dX9_measure_50 rfl rfl ?_
    refine oX_iload_n dX9_measure_51 rfl rfl ?_
    refine oX_aload_n dX9_measure_52 rfl rfl ?_
    refine oX_iconst (v := (0 : Int32)) dX9_measure_53 (by decide) ?_
    refine oX_ldc q1081 dX9_measure_54 ?_
    obtain ⟨r11, g11, hm⟩ := bd_s hm
    refine oX_cost hm (fun qq11 hm => ?_)
    refine oX_cVX (as := [vI (0 : Int32), vI (99999 : Int32)]) dX9_measure_56 rfl (oD_t ht) rfl (by decide) rfl ok_X9_number rfl rfl q1053 q1055 qs15 q146 q1056 (by decide) (Nat.le_of_ble_eq_true rfl) (t_X9_number n t ht (0 : Int32) (99999 : Int32) g11) (Nat.le_refl _) (Nat.le_refl _) (fun o11 hz11 => ?_) (fun x11_ hz11 => ?_)
    · rw [hz11] at hm
      have hm := el2 hm
      refine oX_null dX9_measure_59 ?_
      refine oX_null dX9_measure_60 ?_
      obtain ⟨r12, g12, hm⟩ := bd_s hm
      refine oX_cI (as := [vI x1, vI (o8.1 t.1 t.2 6), vI o11.1, vR none, vR none]) dX9_measure_61 rfl ok_X13_init rfl rfl rfl q1224 q1225 q163 q1226 (by decide) (Nat.le_of_ble_eq_true rfl) (t_X13_init (27, r9.1.2.2.2.2.2 27) rfl x1 (o8.1 t.1 t.2 6) o11.1 none none g12) ?_
      obtain ⟨hr, rfl⟩ := oEnd hm
      exact oX_aret dX9_measure_64 rfl (by first | exact Or.inl ⟨_, rfl⟩ | exact Or.inr ⟨_, rfl⟩) (hK (some (27, r9.1.2.2.2.2.2 27), r12.1, r12.2, o11.2.2.2.1, o11.2.2.2.2.1, o11.2.2.2.2.2.1, o11.2.2.2.2.2.2) hr)
    · rw [hz11] at hm
      have hm := el1 hm
      refine oXt_out rfl ?_
      obtain ⟨hr, rfl⟩ := oEnd hm
      exact hT (x11_.1, x11_.2.1, x11_.2.2.1, x11_.2.2.2.1, x11_.2.2.2.2.1, x11_.2.2.2.2.2.1, x11_.2.2.2.2.2.2) hr
  · rw [hz8] at hm
    have hm := el1 hm
    refine oXt_out rfl ?_
    obtain ⟨hr, rfl⟩ := oEnd hm
    exact hT (x8_.1, x8_.2.1, FR, x8_.2.2.1, AI, AN, x8_.2.2.2) hr
noncomputable def mX9_measure_j28 (n : Nat) (FI : OhI) (FR : OhQ) (GR : OhQ) (AI : OhI) (AN : OhN) (C : OhC) (t : Nat × Nat) (x1 : Int32) (y0 : OhR) : Option ((((Nat × Nat) × OhI × OhQ × OhQ × OhI × OhN × OhC) ⊕ (OhR × OhI × OhQ × OhQ × OhI × OhN × OhC)) × (Nat × Nat)) :=
  mX9_measure_j33 n FI FR GR AI AN C t x1 y0 (1 : Int32)
theorem x_mX9_measure_j28 {G : OhG} {FI AI : OhI} {FL AL : OhL} {FR GR AR BR : OhQ} {AN : OhN} {C : OhC} {k : Nat × Nat} {Φ : OhP} {Ψ : OhX} (n : Nat) (t : Nat × Nat) (ht : ohKd t.1 = 8) (x1 : Int32) (y0 : OhR) {r : (((Nat × Nat) × OhI × OhQ × OhQ × OhI × OhN × OhC) ⊕ (OhR × OhI × OhQ × OhQ × OhI × OhN × OhC)) × (Nat × Nat)} (hm : mX9_measure_j28 n FI FR GR AI AN C t x1 y0 = some r) (hK : ∀ o : OhR × OhI × OhQ × OhQ × OhI × OhN × OhC, r.1 = .inr o → Φ (some (vR o.1)) (o.2.1, FL, o.2.2.1, o.2.2.2.1, o.2.2.2.2.1, AL, AR, BR, o.2.2.2.2.2.1, o.2.2.2.2.2.2)) (hT : ∀ x : (Nat × Nat) × OhI × OhQ × OhQ × OhI × OhN × OhC, r.1 = .inl x → Ψ "OperaHouse$Fault" x.1 (x.2.1, FL, x.2.2.1, x.2.2.2.1, x.2.2.2.2.1, AL, AR, BR, x.2.2.2.2.2.1, x.2.2.2.2.2.2)) : oX G 9 iX9_measure 28 [(0, vR (some t)), (1, vI x1)] [vR y0] (FI, FL, FR, GR, AI, AL, AR, BR, AN, C) (oPl r.2 k) Φ Ψ := by
  obtain ⟨r, q0⟩ := r
  unfold mX9_measure_j28 at hm
  refine oX_iconst (v := (1 : Int32)) dX9_measure_28 (by decide) ?_
  refine oX_goto (tgt := 33) dX9_measure_29 (by decide) ?_
  exact oX_sub [0, 1] rfl (x_mX9_measure_j33 n t ht x1 y0 (1 : Int32) hm hK hT)
noncomputable def mX9_measure (n : Nat) (FI : OhI) (FR : OhQ) (GR : OhQ) (AI : OhI) (AN : OhN) (C : OhC) (t : Nat × Nat) (x1 : Int32) : Option ((((Nat × Nat) × OhI × OhQ × OhQ × OhI × OhN × OhC) ⊕ (OhR × OhI × OhQ × OhQ × OhI × OhN × OhC)) × (Nat × Nat)) :=
  (mX9_isSign FI t (60 : Int32)).bind fun r1 =>
  (if r1 = 0 then
  (mX9_isSign FI t (61 : Int32)).bind fun r3 =>
    (if r3 = 0 then
    (mX9_isSign FI t (62 : Int32)).bind fun r5 =>
      (if r5 = 0 then
      mX9_measure_j33 n FI FR GR AI AN C t x1 (some t) (0 : Int32)
    else
      mX9_measure_j28 n FI FR GR AI AN C t x1 (some t))
  else
    mX9_measure_j28 n FI FR GR AI AN C t x1 (some t))
else
  mX9_measure_j28 n FI FR GR AI AN C t x1 (some t))
theorem x_mX9_measure {G : OhG} {FI AI : OhI} {FL AL : OhL} {FR GR AR BR : OhQ} {AN : OhN} {C : OhC} {k : Nat × Nat} {Φ : OhP} {Ψ : OhX} (n : Nat) (t : Nat × Nat) (ht : ohKd t.1 = 8) (x1 : Int32) {r : (((Nat × Nat) × OhI × OhQ × OhQ × OhI × OhN × OhC) ⊕ (OhR × OhI × OhQ × OhQ × OhI × OhN × OhC)) × (Nat × Nat)} (hm : mX9_measure n FI FR GR AI AN C t x1 = some r) (hK : ∀ o : OhR × OhI × OhQ × OhQ × OhI × OhN × OhC, r.1 = .inr o → Φ (some (vR o.1)) (o.2.1, FL, o.2.2.1, o.2.2.2.1, o.2.2.2.2.1, AL, AR, BR, o.2.2.2.2.2.1, o.2.2.2.2.2.2)) (hT : ∀ x : (Nat × Nat) × OhI × OhQ × OhQ × OhI × OhN × OhC, r.1 = .inl x → Ψ "OperaHouse$Fault" x.1 (x.2.1, FL, x.2.2.1, x.2.2.2.1, x.2.2.2.2.1, AL, AR, BR, x.2.2.2.2.2.1, x.2.2.2.2.2.2)) : oX G 9 iX9_measure 0 [(0, vR (some t)), (1, vI x1)] [] (FI, FL, FR, GR, AI, AL, AR, BR, AN, C) (oPl r.2 k) Φ Ψ := by
  obtain ⟨r, q0⟩ := r
  unfold mX9_measure at hm
  refine oX_aload_n dX9_measure_0 rfl rfl ?_
  refine oX_aload_n dX9_measure_1 rfl rfl ?_
  refine oX_bipush (v := (60 : Int32)) dX9_measure_2 (by decide) ?_
  obtain ⟨r1, g1, hm⟩ := bd_s hm
  refine oX_cV (as := [vI (60 : Int32)]) dX9_measure_4 rfl (oD_t ht) rfl (by decide) rfl ok_X9_isSign rfl rfl q1218 q1220 qs21 q146 q1221 (by decide) (Nat.le_of_ble_eq_true rfl) (t_X9_isSign t ht (60 : Int32) g1) ?_
  refine oX_if_ne (tgt := 28) dX9_measure_7 (by decide) (fun c2 => ?_) (fun c2 => ?_)
  · have hm := ifp c2 hm
    refine oX_aload_n dX9_measure_10 rfl rfl ?_
    refine oX_bipush (v := (61 : Int32)) dX9_measure_11 (by decide) ?_
    obtain ⟨r3, g3, hm⟩ := bd_s hm
    refine oX_cV (as := [vI (61 : Int32)]) dX9_measure_13 rfl (oD_t ht) rfl (by decide) rfl ok_X9_isSign rfl rfl q1218 q1220 qs21 q146 q1221 (by decide) (Nat.le_of_ble_eq_true rfl) (t_X9_isSign t ht (61 : Int32) g3) ?_
    refine oX_if_ne (tgt := 28) dX9_measure_16 (by decide) (fun c4 => ?_) (fun c4 => ?_)
    · have hm := ifp c4 hm
      refine oX_aload_n dX9_measure_19 rfl rfl ?_
      refine oX_bipush (v := (62 : Int32)) dX9_measure_20 (by decide) ?_
      obtain ⟨r5, g5, hm⟩ := bd_s hm
      refine oX_cV (as := [vI (62 : Int32)]) dX9_measure_22 rfl (oD_t ht) rfl (by decide) rfl ok_X9_isSign rfl rfl q1218 q1220 qs21 q146 q1221 (by decide) (Nat.le_of_ble_eq_true rfl) (t_X9_isSign t ht (62 : Int32) g5) ?_
      refine oX_if_eq (tgt := 32) dX9_measure_25 (by decide) (fun c6 => ?_) (fun c6 => ?_)
      · have hm := ifp c6 hm
        refine oX_iconst (v := (0 : Int32)) dX9_measure_32 (by decide) ?_
        exact oX_sub [0, 1] rfl (x_mX9_measure_j33 n t ht x1 (some t) (0 : Int32) hm hK hT)
      · have hm := ifn c6 hm
        exact oX_sub [0, 1] rfl (x_mX9_measure_j28 n t ht x1 (some t) hm hK hT)
    · have hm := ifn c4 hm
      exact oX_sub [0, 1] rfl (x_mX9_measure_j28 n t ht x1 (some t) hm hK hT)
  · have hm := ifn c2 hm
    exact oX_sub [0, 1] rfl (x_mX9_measure_j28 n t ht x1 (some t) hm hK hT)
theorem t_X9_measure {G : OhG} {FI AI : OhI} {FL AL : OhL} {FR GR AR BR : OhQ} {AN : OhN} {C : OhC} (n : Nat) (t : Nat × Nat) (ht : ohKd t.1 = 8) (x1 : Int32) {o : (((Nat × Nat) × OhI × OhQ × OhQ × OhI × OhN × OhC) ⊕ (OhR × OhI × OhQ × OhQ × OhI × OhN × OhC)) × (Nat × Nat)} (hm : mX9_measure n FI FR GR AI AN C t x1 = some o) : oT G 9 iX9_measure [vR (some t), vI x1] (FI, FL, FR, GR, AI, AL, AR, BR, AN, C) o.2 (fun v h => ∃ o9 : OhR × OhI × OhQ × OhQ × OhI × OhN × OhC, o.1 = .inr o9 ∧ v = (some (vR o9.1)) ∧ h = (o9.2.1, FL, o9.2.2.1, o9.2.2.2.1, o9.2.2.2.2.1, AL, AR, BR, o9.2.2.2.2.2.1, o9.2.2.2.2.2.2)) (fun E b h => ∃ x9 : (Nat × Nat) × OhI × OhQ × OhQ × OhI × OhN × OhC, o.1 = .inl x9 ∧ E = "OperaHouse$Fault" ∧ b = x9.1 ∧ h = (x9.2.1, FL, x9.2.2.1, x9.2.2.2.1, x9.2.2.2.2.1, AL, AR, BR, x9.2.2.2.2.2.1, x9.2.2.2.2.2.2)) :=
  oT_of (by decide) rfl (Nat.le_of_ble_eq_true rfl) (x_mX9_measure (k := (0, 0)) n t ht x1 hm (fun o e => ⟨o, e, rfl, rfl⟩) (fun x e => ⟨x, e, rfl, rfl, rfl⟩))
noncomputable def mX9_all_b5 (rc : Nat → OhI → OhQ → OhQ → OhI → OhN → OhC → Nat × Nat → Option ((((Nat × Nat) × OhI × OhQ × OhQ × OhI × OhN × OhC) ⊕ (OhR × OhI × OhQ × OhQ × OhI × OhN × OhC)) × (Nat × Nat))) (n : Nat) (FI : OhI) (FR : OhQ) (GR : OhQ) (AI : OhI) (AN : OhN) (C : OhC) (t : Nat × Nat) (x1 : OhR) : Option (((OhR × OhI × OhQ × OhQ × OhI × OhN × OhC) ⊕ ((OhR × OhI × OhQ × OhQ × OhI × OhN × OhC) ⊕ ((Nat × Nat) × OhI × OhQ × OhQ × OhI × OhN × OhC))) × (Nat × Nat)) :=
  gd (0 < C 52) <|
  (mX9_is n FI FR GR AI AN t (some (52, 0))).bind fun r3 =>
  (if r3 = 0 then
  some (.inr (.inl (x1, FI, FR, GR, AI, AN, C)), (0, 0))
else
  (mX9_go n FI FR GR AI AN C t).bind fun r5 =>
    oCost r5.2 <|
    oLet (sA r5.1.1 24 (r5.1.2.2.2.2.2 24) (fun _ => 0)) fun FI6 =>
    oLet (sA r5.1.2.1 24 (r5.1.2.2.2.2.2 24) (fun _ => none)) fun FR6 =>
    oLet (uA r5.1.2.2.2.2.2 24 (r5.1.2.2.2.2.2 24 + 1)) fun C6 =>
    oCost (1, 5) <|
    (rc n FI6 FR6 r5.1.2.2.1 r5.1.2.2.2.1 r5.1.2.2.2.2.1 C6 t).bind fun r7 =>
    oCost r7.2 <|
    (Sum.elim (fun x7_ => some (.inr (.inr (x7_.1, x7_.2.1, x7_.2.2.1, x7_.2.2.2.1, x7_.2.2.2.2.1, x7_.2.2.2.2.2.1, x7_.2.2.2.2.2.2)), (0, 0))) (fun o7 => (mX13_init o7.2.1 o7.2.2.1 (24, r5.1.2.2.2.2.2 24) (1 : Int32) (0 : Int32) (0 : Int32) x1 o7.1).bind fun r8 =>
    some (.inl (some (24, r5.1.2.2.2.2.2 24), r8.1, r8.2, o7.2.2.2.1, o7.2.2.2.2.1, o7.2.2.2.2.2.1, o7.2.2.2.2.2.2), (0, 0))) r7.1))
theorem x_mX9_all_b5 {G : OhG} {FI AI : OhI} {FL AL : OhL} {FR GR AR BR : OhQ} {AN : OhN} {C : OhC} {k : Nat × Nat} {Φ : OhP} {Ψ : OhX} {d : Nat} (hd9 : 9 ≤ d) (rc : Nat → OhI → OhQ → OhQ → OhI → OhN → OhC → Nat × Nat → Option ((((Nat × Nat) × OhI × OhQ × OhQ × OhI × OhN × OhC) ⊕ (OhR × OhI × OhQ × OhQ × OhI × OhN × OhC)) × (Nat × Nat))) (hrec : ∀ {FI AI : OhI} {FL AL : OhL} {FR GR AR BR : OhQ} {AN : OhN} {C : OhC} (n : Nat) (t : Nat × Nat) (ht : ohKd t.1 = 8) {o : (((Nat × Nat) × OhI × OhQ × OhQ × OhI × OhN × OhC) ⊕ (OhR × OhI × OhQ × OhQ × OhI × OhN × OhC)) × (Nat × Nat)}, rc n FI FR GR AI AN C t = some o → oT G d iX9_one [vR (some t)] (FI, FL, FR, GR, AI, AL, AR, BR, AN, C) o.2 (fun v h => ∃ o9 : OhR × OhI × OhQ × OhQ × OhI × OhN × OhC, o.1 = .inr o9 ∧ v = (some (vR o9.1)) ∧ h = (o9.2.1, FL, o9.2.2.1, o9.2.2.2.1, o9.2.2.2.2.1, AL, AR, BR, o9.2.2.2.2.2.1, o9.2.2.2.2.2.2)) (fun E b h => ∃ x9 : (Nat × Nat) × OhI × OhQ × OhQ × OhI × OhN × OhC, o.1 = .inl x9 ∧ E = "OperaHouse$Fault" ∧ b = x9.1 ∧ h = (x9.2.1, FL, x9.2.2.1, x9.2.2.2.1, x9.2.2.2.2.1, AL, AR, BR, x9.2.2.2.2.2.1, x9.2.2.2.2.2.2))) (n : Nat) (t : Nat × Nat) (ht : ohKd t.1 = 8) (x1 : OhR) {r : ((OhR × OhI × OhQ × OhQ × OhI × OhN × OhC) ⊕ ((OhR × OhI × OhQ × OhQ × OhI × OhN × OhC) ⊕ ((Nat × Nat) × OhI × OhQ × OhQ × OhI × OhN × OhC))) × (Nat × Nat)} (hm : mX9_all_b5 rc n FI FR GR AI AN C t x1 = some r) (hk : ∀ v : OhR × OhI × OhQ × OhQ × OhI × OhN × OhC, r.1 = .inl v → oX G (d + 1) iX9_all 5 [(0, vR (some t)), (1, vR v.1)] [] (v.2.1, FL, v.2.2.1, v.2.2.2.1, v.2.2.2.2.1, AL, AR, BR, v.2.2.2.2.2.1, v.2.2.2.2.2.2) k Φ Ψ) (hx1 : ∀ v : OhR × OhI × OhQ × OhQ × OhI × OhN × OhC, r.1 = .inr (.inl v) → oX G (d + 1) iX9_all 37 [(1, vR v.1)] [] (v.2.1, FL, v.2.2.1, v.2.2.2.1, v.2.2.2.2.1, AL, AR, BR, v.2.2.2.2.2.1, v.2.2.2.2.2.2) k Φ Ψ) (hx2 : ∀ v : (Nat × Nat) × OhI × OhQ × OhQ × OhI × OhN × OhC, r.1 = .inr (.inr v) → Ψ "OperaHouse$Fault" v.1 (v.2.1, FL, v.2.2.1, v.2.2.2.1, v.2.2.2.2.1, AL, AR, BR, v.2.2.2.2.2.1, v.2.2.2.2.2.2)) : oX G (d + 1) iX9_all 5 [(0, vR (some t)), (1, vR x1)] [] (FI, FL, FR, GR, AI, AL, AR, BR, AN, C) (oPl r.2 k) Φ Ψ := by
  obtain ⟨r, q0⟩ := r
  unfold mX9_all_b5 at hm
  refine oX_aload_n dX9_all_5 rfl rfl ?_
  obtain ⟨g2, hm⟩ := gd_s hm
  refine oX_ldcS (site := 52) g2 (List.mem_of_getElem? (i := 11) rfl) rfl rfl dX9_all_6 ?_
  obtain ⟨r3, g3, hm⟩ := bd_s hm
  refine oX_cV (as := [vR (some (52, 0))]) dX9_all_8 rfl (oD_t ht) rfl (by decide) rfl ok_X9_is rfl rfl q968 q970 qs11 q146 q971 ⟨by omega, by decide⟩ (Nat.le_of_ble_eq_true rfl) (t_X9_is n t ht (some (52, 0)) g3) ?_
  refine oX_if_eq (tgt := 37) dX9_all_11 (by decide) (fun c4 => ?_) (fun c4 => ?_)
  · have hm := ifp c4 hm
    obtain ⟨hr, rfl⟩ := oEnd hm
    exact oX_sub [1] rfl (oX_z (hx1 (x1, FI, FR, GR, AI, AN, C) hr))
  · have hm := ifn c4 hm
    refine oX_aload_n dX9_all_14 rfl rfl ?_
    obtain ⟨r5, g5, hm⟩ := bd_s hm
    refine oX_cost hm (fun qq5 hm => ?_)
    refine oX_cVK_ (as := []) dX9_all_15 rfl (oD_t ht) rfl (by decide) rfl ok_X9_go rfl rfl q712 q714 qs8 q146 q715 ⟨by omega, by decide⟩ (Nat.le_of_ble_eq_true rfl) (t_X9_go n t ht g5) (Nat.le_refl _) (Nat.le_refl _) ?_
    obtain ⟨FI6, hFI6, hm⟩ := oLs hm
    obtain ⟨FR6, hFR6, hm⟩ := oLs hm
    obtain ⟨C6, hC6, hm⟩ := oLs hm
    refine oX_cost hm (fun qq6 hm => ?_)
    refine oX_newIF (s9 := 24) (k := oPl qq6 k) nX9_178 rfl (by decide) dX9_all_18 hFI6 hFR6 hC6 ?_
    refine oX_dup dX9_all_21 trivial ?_
    refine oX_iconst (v := (1 : Int32)) dX9_all_22 (by decide) ?_
    refine oX_iconst (v := (0 : Int32)) dX9_all_23 (by decide) ?_
    refine oX_iconst (v := (0 : Int32)) dX9_all_24 (by decide) ?_
    refine oX_aload_n dX9_all_25 rfl rfl ?_
    refine oX_aload_n dX9_all_26 rfl rfl ?_
    obtain ⟨r7, g7, hm⟩ := bd_s hm
    refine oX_cost hm (fun qq7 hm => ?_)
    refine oX_cVX (as := []) dX9_all_27 rfl (oD_t ht) rfl (by decide) rfl ok_X9_one rfl rfl q1097 q1099 qs19 q146 q1100 ⟨by omega, by decide⟩ (Nat.le_of_ble_eq_true rfl) (hrec n t ht g7) (Nat.le_refl _) (Nat.le_refl _) (fun o7 hz7 => ?_) (fun x7_ hz7 => ?_)
    · rw [hz7] at hm
      have hm := el2 hm
      obtain ⟨r8, g8, hm⟩ := bd_s hm
      refine oX_cI (as := [vI (1 : Int32), vI (0 : Int32), vI (0 : Int32), vR x1, vR o7.1]) dX9_all_30 rfl ok_X13_init rfl rfl rfl q1224 q1225 q163 q1226 ⟨by omega, by decide⟩ (Nat.le_of_ble_eq_true rfl) (t_X13_init (24, r5.1.2.2.2.2.2 24) rfl (1 : Int32) (0 : Int32) (0 : Int32) x1 o7.1 g8) ?_
      refine oX_astore_n (ls' := [(1, vR (some (24, r5.1.2.2.2.2.2 24))), (0, vR (some t))]) dX9_all_33 rfl (by decide) rfl ?_
      refine oX_goto (tgt := 5) dX9_all_34 (by decide) ?_
      obtain ⟨hr, rfl⟩ := oEnd hm
      exact oX_sub [1, 0] rfl (oX_z (hk (some (24, r5.1.2.2.2.2.2 24), r8.1, r8.2, o7.2.2.2.1, o7.2.2.2.2.1, o7.2.2.2.2.2.1, o7.2.2.2.2.2.2) hr))
    · rw [hz7] at hm
      have hm := el1 hm
      refine oXt_out rfl ?_
      obtain ⟨hr, rfl⟩ := oEnd hm
      exact hx2 (x7_.1, x7_.2.1, x7_.2.2.1, x7_.2.2.2.1, x7_.2.2.2.2.1, x7_.2.2.2.2.2.1, x7_.2.2.2.2.2.2) hr
theorem l_mX9_all_b5 {G : OhG} {FL : OhL} {AL : OhL} {AR : OhQ} {BR : OhQ} {k : Nat × Nat} {Φ : OhP} {Ψ : OhX} {d : Nat} (hd9 : 9 ≤ d) (rc : Nat → OhI → OhQ → OhQ → OhI → OhN → OhC → Nat × Nat → Option ((((Nat × Nat) × OhI × OhQ × OhQ × OhI × OhN × OhC) ⊕ (OhR × OhI × OhQ × OhQ × OhI × OhN × OhC)) × (Nat × Nat))) (hrec : ∀ {FI AI : OhI} {FL AL : OhL} {FR GR AR BR : OhQ} {AN : OhN} {C : OhC} (n : Nat) (t : Nat × Nat) (ht : ohKd t.1 = 8) {o : (((Nat × Nat) × OhI × OhQ × OhQ × OhI × OhN × OhC) ⊕ (OhR × OhI × OhQ × OhQ × OhI × OhN × OhC)) × (Nat × Nat)}, rc n FI FR GR AI AN C t = some o → oT G d iX9_one [vR (some t)] (FI, FL, FR, GR, AI, AL, AR, BR, AN, C) o.2 (fun v h => ∃ o9 : OhR × OhI × OhQ × OhQ × OhI × OhN × OhC, o.1 = .inr o9 ∧ v = (some (vR o9.1)) ∧ h = (o9.2.1, FL, o9.2.2.1, o9.2.2.2.1, o9.2.2.2.2.1, AL, AR, BR, o9.2.2.2.2.2.1, o9.2.2.2.2.2.2)) (fun E b h => ∃ x9 : (Nat × Nat) × OhI × OhQ × OhQ × OhI × OhN × OhC, o.1 = .inl x9 ∧ E = "OperaHouse$Fault" ∧ b = x9.1 ∧ h = (x9.2.1, FL, x9.2.2.1, x9.2.2.2.1, x9.2.2.2.2.1, AL, AR, BR, x9.2.2.2.2.2.1, x9.2.2.2.2.2.2))) (n : Nat) (t : Nat × Nat) (ht : ohKd t.1 = 8) : ∀ (f : Nat) (x1 : OhR) (FI : OhI) (FR : OhQ) (GR : OhQ) (AI : OhI) (AN : OhN) (C : OhC) (b : (((OhR × OhI × OhQ × OhQ × OhI × OhN × OhC) ⊕ ((Nat × Nat) × OhI × OhQ × OhQ × OhI × OhN × OhC))) × (Nat × Nat)), lpK (fun v => mX9_all_b5 rc n v.2.1 v.2.2.1 v.2.2.2.1 v.2.2.2.2.1 v.2.2.2.2.2.1 v.2.2.2.2.2.2 t v.1) f (x1, FI, FR, GR, AI, AN, C) = some b → (∀ v : OhR × OhI × OhQ × OhQ × OhI × OhN × OhC, b.1 = (.inl v) → oX G (d + 1) iX9_all 37 [(1, vR v.1)] [] (v.2.1, FL, v.2.2.1, v.2.2.2.1, v.2.2.2.2.1, AL, AR, BR, v.2.2.2.2.2.1, v.2.2.2.2.2.2) k Φ Ψ) → (∀ v : (Nat × Nat) × OhI × OhQ × OhQ × OhI × OhN × OhC, b.1 = (.inr v) → Ψ "OperaHouse$Fault" v.1 (v.2.1, FL, v.2.2.1, v.2.2.2.1, v.2.2.2.2.1, AL, AR, BR, v.2.2.2.2.2.1, v.2.2.2.2.2.2)) → oX G (d + 1) iX9_all 5 [(0, vR (some t)), (1, vR x1)] [] (FI, FL, FR, GR, AI, AL, AR, BR, AN, C) (oPl b.2 k) Φ Ψ := by
  intro f
  induction f with
  | zero =>
    intro x1 FI FR GR AI AN C b hm
    cases hm
  | succ f ih =>
    intro x1 FI FR GR AI AN C b hm hx1 hx2
    obtain ⟨⟨r, q⟩, hr, hm⟩ := lk_s hm
    rcases r with v | v
    · obtain ⟨c, hm, hb⟩ := hm
      rw [hb, oPl_assoc]
      refine x_mX9_all_b5 hd9 rc hrec n t ht x1 hr (fun v9 e => ?_) (fun v9 e => by cases e) (fun v9 e => by cases e)
      cases e; exact ih v.1 v.2.1 v.2.2.1 v.2.2.2.1 v.2.2.2.2.1 v.2.2.2.2.2.1 v.2.2.2.2.2.2 (b.1, c) hm hx1 hx2
    · cases (show b = (v, q) from hm)
      refine x_mX9_all_b5 hd9 rc hrec n t ht x1 hr (fun v9 e => by cases e) (fun v9 e => ?_) (fun v9 e => ?_)
      · cases e; exact hx1 v9 rfl
      · cases e; exact hx2 v9 rfl
noncomputable def mX9_all_o (rc : Nat → OhI → OhQ → OhQ → OhI → OhN → OhC → Nat × Nat → Option ((((Nat × Nat) × OhI × OhQ × OhQ × OhI × OhN × OhC) ⊕ (OhR × OhI × OhQ × OhQ × OhI × OhN × OhC)) × (Nat × Nat))) (n : Nat) (FI : OhI) (FR : OhQ) (GR : OhQ) (AI : OhI) (AN : OhN) (C : OhC) (t : Nat × Nat) : Option ((((Nat × Nat) × OhI × OhQ × OhQ × OhI × OhN × OhC) ⊕ (OhR × OhI × OhQ × OhQ × OhI × OhN × OhC)) × (Nat × Nat)) :=
  (rc n FI FR GR AI AN C t).bind fun r1 =>
  oCost r1.2 <|
  (Sum.elim (fun x1_ => some (.inl (x1_.1, x1_.2.1, x1_.2.2.1, x1_.2.2.2.1, x1_.2.2.2.2.1, x1_.2.2.2.2.2.1, x1_.2.2.2.2.2.2), (0, 0))) (fun o1 => (lpK (fun v => mX9_all_b5 rc n v.2.1 v.2.2.1 v.2.2.2.1 v.2.2.2.2.1 v.2.2.2.2.2.1 v.2.2.2.2.2.2 t v.1) n (o1.1, o1.2.1, o1.2.2.1, o1.2.2.2.1, o1.2.2.2.2.1, o1.2.2.2.2.2.1, o1.2.2.2.2.2.2)).bind fun b9 => oCost b9.2 <| (Sum.elim (fun v9 => some (.inr (v9.1, v9.2.1, v9.2.2.1, v9.2.2.2.1, v9.2.2.2.2.1, v9.2.2.2.2.2.1, v9.2.2.2.2.2.2), (0, 0))) (fun v9 => some (.inl (v9.1, v9.2.1, v9.2.2.1, v9.2.2.2.1, v9.2.2.2.2.1, v9.2.2.2.2.2.1, v9.2.2.2.2.2.2), (0, 0)))) b9.1) r1.1)
theorem x_mX9_all_o {G : OhG} {FI AI : OhI} {FL AL : OhL} {FR GR AR BR : OhQ} {AN : OhN} {C : OhC} {k : Nat × Nat} {Φ : OhP} {Ψ : OhX} {d : Nat} (hd9 : 9 ≤ d) (rc : Nat → OhI → OhQ → OhQ → OhI → OhN → OhC → Nat × Nat → Option ((((Nat × Nat) × OhI × OhQ × OhQ × OhI × OhN × OhC) ⊕ (OhR × OhI × OhQ × OhQ × OhI × OhN × OhC)) × (Nat × Nat))) (hrec : ∀ {FI AI : OhI} {FL AL : OhL} {FR GR AR BR : OhQ} {AN : OhN} {C : OhC} (n : Nat) (t : Nat × Nat) (ht : ohKd t.1 = 8) {o : (((Nat × Nat) × OhI × OhQ × OhQ × OhI × OhN × OhC) ⊕ (OhR × OhI × OhQ × OhQ × OhI × OhN × OhC)) × (Nat × Nat)}, rc n FI FR GR AI AN C t = some o → oT G d iX9_one [vR (some t)] (FI, FL, FR, GR, AI, AL, AR, BR, AN, C) o.2 (fun v h => ∃ o9 : OhR × OhI × OhQ × OhQ × OhI × OhN × OhC, o.1 = .inr o9 ∧ v = (some (vR o9.1)) ∧ h = (o9.2.1, FL, o9.2.2.1, o9.2.2.2.1, o9.2.2.2.2.1, AL, AR, BR, o9.2.2.2.2.2.1, o9.2.2.2.2.2.2)) (fun E b h => ∃ x9 : (Nat × Nat) × OhI × OhQ × OhQ × OhI × OhN × OhC, o.1 = .inl x9 ∧ E = "OperaHouse$Fault" ∧ b = x9.1 ∧ h = (x9.2.1, FL, x9.2.2.1, x9.2.2.2.1, x9.2.2.2.2.1, AL, AR, BR, x9.2.2.2.2.2.1, x9.2.2.2.2.2.2))) (n : Nat) (t : Nat × Nat) (ht : ohKd t.1 = 8) {r : (((Nat × Nat) × OhI × OhQ × OhQ × OhI × OhN × OhC) ⊕ (OhR × OhI × OhQ × OhQ × OhI × OhN × OhC)) × (Nat × Nat)} (hm : mX9_all_o rc n FI FR GR AI AN C t = some r) (hK : ∀ o : OhR × OhI × OhQ × OhQ × OhI × OhN × OhC, r.1 = .inr o → Φ (some (vR o.1)) (o.2.1, FL, o.2.2.1, o.2.2.2.1, o.2.2.2.2.1, AL, AR, BR, o.2.2.2.2.2.1, o.2.2.2.2.2.2)) (hT : ∀ x : (Nat × Nat) × OhI × OhQ × OhQ × OhI × OhN × OhC, r.1 = .inl x → Ψ "OperaHouse$Fault" x.1 (x.2.1, FL, x.2.2.1, x.2.2.2.1, x.2.2.2.2.1, AL, AR, BR, x.2.2.2.2.2.1, x.2.2.2.2.2.2)) : oX G (d + 1) iX9_all 0 [(0, vR (some t))] [] (FI, FL, FR, GR, AI, AL, AR, BR, AN, C) (oPl r.2 k) Φ Ψ := by
  obtain ⟨r, q0⟩ := r
  unfold mX9_all_o at hm
  refine oX_aload_n dX9_all_0 rfl rfl ?_
  obtain ⟨r1, g1, hm⟩ := bd_s hm
  refine oX_cost hm (fun qq1 hm => ?_)
  refine oX_cVX (as := []) dX9_all_1 rfl (oD_t ht) rfl (by decide) rfl ok_X9_one rfl rfl q1097 q1099 qs19 q146 q1100 ⟨by omega, by decide⟩ (Nat.le_of_ble_eq_true rfl) (hrec n t ht g1) (Nat.le_refl _) (Nat.le_refl _) (fun o1 hz1 => ?_) (fun x1_ hz1 => ?_)
  · rw [hz1] at hm
    have hm := el2 hm
    refine oX_astore_n (ls' := [(1, vR o1.1), (0, vR (some t))]) dX9_all_4 rfl (by decide) rfl ?_
    obtain ⟨b9, g9, hm⟩ := bd_s hm
    refine oX_cost hm (fun qq9 hm => ?_)
    refine oX_sub [1, 0] rfl (l_mX9_all_b5 hd9 rc hrec n t ht n o1.1 o1.2.1 o1.2.2.1 o1.2.2.2.1 o1.2.2.2.2.1 o1.2.2.2.2.2.1 o1.2.2.2.2.2.2 _ g9 (fun v9 e9 => ?_) (fun v9 e9 => ?_))
    · skip
      rw [e9] at hm
      have hm := el1 hm
      refine oX_aload_n dX9_all_37 rfl rfl ?_
      obtain ⟨hr, rfl⟩ := oEnd hm
      exact oX_aret dX9_all_38 rfl (by first | exact Or.inl ⟨_, rfl⟩ | exact Or.inr ⟨_, rfl⟩) (hK (v9.1, v9.2.1, v9.2.2.1, v9.2.2.2.1, v9.2.2.2.2.1, v9.2.2.2.2.2.1, v9.2.2.2.2.2.2) hr)
    · skip
      rw [e9] at hm
      have hm := el2 hm
      obtain ⟨hr, rfl⟩ := oEnd hm
      exact hT (v9.1, v9.2.1, v9.2.2.1, v9.2.2.2.1, v9.2.2.2.2.1, v9.2.2.2.2.2.1, v9.2.2.2.2.2.2) hr
  · rw [hz1] at hm
    have hm := el1 hm
    refine oXt_out rfl ?_
    obtain ⟨hr, rfl⟩ := oEnd hm
    exact hT (x1_.1, x1_.2.1, x1_.2.2.1, x1_.2.2.2.1, x1_.2.2.2.2.1, x1_.2.2.2.2.2.1, x1_.2.2.2.2.2.2) hr
theorem t_X9_all_o {G : OhG} {FI AI : OhI} {FL AL : OhL} {FR GR AR BR : OhQ} {AN : OhN} {C : OhC} {d : Nat} (hd9 : 9 ≤ d) (rc : Nat → OhI → OhQ → OhQ → OhI → OhN → OhC → Nat × Nat → Option ((((Nat × Nat) × OhI × OhQ × OhQ × OhI × OhN × OhC) ⊕ (OhR × OhI × OhQ × OhQ × OhI × OhN × OhC)) × (Nat × Nat))) (hrec : ∀ {FI AI : OhI} {FL AL : OhL} {FR GR AR BR : OhQ} {AN : OhN} {C : OhC} (n : Nat) (t : Nat × Nat) (ht : ohKd t.1 = 8) {o : (((Nat × Nat) × OhI × OhQ × OhQ × OhI × OhN × OhC) ⊕ (OhR × OhI × OhQ × OhQ × OhI × OhN × OhC)) × (Nat × Nat)}, rc n FI FR GR AI AN C t = some o → oT G d iX9_one [vR (some t)] (FI, FL, FR, GR, AI, AL, AR, BR, AN, C) o.2 (fun v h => ∃ o9 : OhR × OhI × OhQ × OhQ × OhI × OhN × OhC, o.1 = .inr o9 ∧ v = (some (vR o9.1)) ∧ h = (o9.2.1, FL, o9.2.2.1, o9.2.2.2.1, o9.2.2.2.2.1, AL, AR, BR, o9.2.2.2.2.2.1, o9.2.2.2.2.2.2)) (fun E b h => ∃ x9 : (Nat × Nat) × OhI × OhQ × OhQ × OhI × OhN × OhC, o.1 = .inl x9 ∧ E = "OperaHouse$Fault" ∧ b = x9.1 ∧ h = (x9.2.1, FL, x9.2.2.1, x9.2.2.2.1, x9.2.2.2.2.1, AL, AR, BR, x9.2.2.2.2.2.1, x9.2.2.2.2.2.2))) (n : Nat) (t : Nat × Nat) (ht : ohKd t.1 = 8) {o : (((Nat × Nat) × OhI × OhQ × OhQ × OhI × OhN × OhC) ⊕ (OhR × OhI × OhQ × OhQ × OhI × OhN × OhC)) × (Nat × Nat)} (hm : mX9_all_o rc n FI FR GR AI AN C t = some o) : oT G (d + 1) iX9_all [vR (some t)] (FI, FL, FR, GR, AI, AL, AR, BR, AN, C) o.2 (fun v h => ∃ o9 : OhR × OhI × OhQ × OhQ × OhI × OhN × OhC, o.1 = .inr o9 ∧ v = (some (vR o9.1)) ∧ h = (o9.2.1, FL, o9.2.2.1, o9.2.2.2.1, o9.2.2.2.2.1, AL, AR, BR, o9.2.2.2.2.2.1, o9.2.2.2.2.2.2)) (fun E b h => ∃ x9 : (Nat × Nat) × OhI × OhQ × OhQ × OhI × OhN × OhC, o.1 = .inl x9 ∧ E = "OperaHouse$Fault" ∧ b = x9.1 ∧ h = (x9.2.1, FL, x9.2.2.1, x9.2.2.2.1, x9.2.2.2.2.1, AL, AR, BR, x9.2.2.2.2.2.1, x9.2.2.2.2.2.2)) :=
  oT_of (by decide) rfl (Nat.le_of_ble_eq_true rfl) (x_mX9_all_o (k := (0, 0)) hd9 rc hrec n t ht hm (fun o e => ⟨o, e, rfl, rfl⟩) (fun x e => ⟨x, e, rfl, rfl, rfl⟩))
noncomputable def mX9_cond_b5 (rc : Nat → OhI → OhQ → OhQ → OhI → OhN → OhC → Nat × Nat → Option ((((Nat × Nat) × OhI × OhQ × OhQ × OhI × OhN × OhC) ⊕ (OhR × OhI × OhQ × OhQ × OhI × OhN × OhC)) × (Nat × Nat))) (n : Nat) (FI : OhI) (FR : OhQ) (GR : OhQ) (AI : OhI) (AN : OhN) (C : OhC) (t : Nat × Nat) (x1 : OhR) : Option (((OhR × OhI × OhQ × OhQ × OhI × OhN × OhC) ⊕ ((OhR × OhI × OhQ × OhQ × OhI × OhN × OhC) ⊕ ((Nat × Nat) × OhI × OhQ × OhQ × OhI × OhN × OhC))) × (Nat × Nat)) :=
  gd (0 < C 51) <|
  (mX9_is n FI FR GR AI AN t (some (51, 0))).bind fun r3 =>
  (if r3 = 0 then
  some (.inr (.inl (x1, FI, FR, GR, AI, AN, C)), (0, 0))
else
  (mX9_go n FI FR GR AI AN C t).bind fun r5 =>
    oCost r5.2 <|
    oLet (sA r5.1.1 23 (r5.1.2.2.2.2.2 23) (fun _ => 0)) fun FI6 =>
    oLet (sA r5.1.2.1 23 (r5.1.2.2.2.2.2 23) (fun _ => none)) fun FR6 =>
    oLet (uA r5.1.2.2.2.2.2 23 (r5.1.2.2.2.2.2 23 + 1)) fun C6 =>
    oCost (1, 5) <|
    (mX9_all_o rc n FI6 FR6 r5.1.2.2.1 r5.1.2.2.2.1 r5.1.2.2.2.2.1 C6 t).bind fun r7 =>
    oCost r7.2 <|
    (Sum.elim (fun x7_ => some (.inr (.inr (x7_.1, x7_.2.1, x7_.2.2.1, x7_.2.2.2.1, x7_.2.2.2.2.1, x7_.2.2.2.2.2.1, x7_.2.2.2.2.2.2)), (0, 0))) (fun o7 => (mX13_init o7.2.1 o7.2.2.1 (23, r5.1.2.2.2.2.2 23) (2 : Int32) (0 : Int32) (0 : Int32) x1 o7.1).bind fun r8 =>
    some (.inl (some (23, r5.1.2.2.2.2.2 23), r8.1, r8.2, o7.2.2.2.1, o7.2.2.2.2.1, o7.2.2.2.2.2.1, o7.2.2.2.2.2.2), (0, 0))) r7.1))
theorem x_mX9_cond_b5 {G : OhG} {FI AI : OhI} {FL AL : OhL} {FR GR AR BR : OhQ} {AN : OhN} {C : OhC} {k : Nat × Nat} {Φ : OhP} {Ψ : OhX} {d : Nat} (hd9 : 9 ≤ d) (rc : Nat → OhI → OhQ → OhQ → OhI → OhN → OhC → Nat × Nat → Option ((((Nat × Nat) × OhI × OhQ × OhQ × OhI × OhN × OhC) ⊕ (OhR × OhI × OhQ × OhQ × OhI × OhN × OhC)) × (Nat × Nat))) (hrec : ∀ {FI AI : OhI} {FL AL : OhL} {FR GR AR BR : OhQ} {AN : OhN} {C : OhC} (n : Nat) (t : Nat × Nat) (ht : ohKd t.1 = 8) {o : (((Nat × Nat) × OhI × OhQ × OhQ × OhI × OhN × OhC) ⊕ (OhR × OhI × OhQ × OhQ × OhI × OhN × OhC)) × (Nat × Nat)}, rc n FI FR GR AI AN C t = some o → oT G d iX9_one [vR (some t)] (FI, FL, FR, GR, AI, AL, AR, BR, AN, C) o.2 (fun v h => ∃ o9 : OhR × OhI × OhQ × OhQ × OhI × OhN × OhC, o.1 = .inr o9 ∧ v = (some (vR o9.1)) ∧ h = (o9.2.1, FL, o9.2.2.1, o9.2.2.2.1, o9.2.2.2.2.1, AL, AR, BR, o9.2.2.2.2.2.1, o9.2.2.2.2.2.2)) (fun E b h => ∃ x9 : (Nat × Nat) × OhI × OhQ × OhQ × OhI × OhN × OhC, o.1 = .inl x9 ∧ E = "OperaHouse$Fault" ∧ b = x9.1 ∧ h = (x9.2.1, FL, x9.2.2.1, x9.2.2.2.1, x9.2.2.2.2.1, AL, AR, BR, x9.2.2.2.2.2.1, x9.2.2.2.2.2.2))) (n : Nat) (t : Nat × Nat) (ht : ohKd t.1 = 8) (x1 : OhR) {r : ((OhR × OhI × OhQ × OhQ × OhI × OhN × OhC) ⊕ ((OhR × OhI × OhQ × OhQ × OhI × OhN × OhC) ⊕ ((Nat × Nat) × OhI × OhQ × OhQ × OhI × OhN × OhC))) × (Nat × Nat)} (hm : mX9_cond_b5 rc n FI FR GR AI AN C t x1 = some r) (hk : ∀ v : OhR × OhI × OhQ × OhQ × OhI × OhN × OhC, r.1 = .inl v → oX G (d + 2) iX9_cond 5 [(0, vR (some t)), (1, vR v.1)] [] (v.2.1, FL, v.2.2.1, v.2.2.2.1, v.2.2.2.2.1, AL, AR, BR, v.2.2.2.2.2.1, v.2.2.2.2.2.2) k Φ Ψ) (hx1 : ∀ v : OhR × OhI × OhQ × OhQ × OhI × OhN × OhC, r.1 = .inr (.inl v) → oX G (d + 2) iX9_cond 37 [(1, vR v.1)] [] (v.2.1, FL, v.2.2.1, v.2.2.2.1, v.2.2.2.2.1, AL, AR, BR, v.2.2.2.2.2.1, v.2.2.2.2.2.2) k Φ Ψ) (hx2 : ∀ v : (Nat × Nat) × OhI × OhQ × OhQ × OhI × OhN × OhC, r.1 = .inr (.inr v) → Ψ "OperaHouse$Fault" v.1 (v.2.1, FL, v.2.2.1, v.2.2.2.1, v.2.2.2.2.1, AL, AR, BR, v.2.2.2.2.2.1, v.2.2.2.2.2.2)) : oX G (d + 2) iX9_cond 5 [(0, vR (some t)), (1, vR x1)] [] (FI, FL, FR, GR, AI, AL, AR, BR, AN, C) (oPl r.2 k) Φ Ψ := by
  obtain ⟨r, q0⟩ := r
  unfold mX9_cond_b5 at hm
  refine oX_aload_n dX9_cond_5 rfl rfl ?_
  obtain ⟨g2, hm⟩ := gd_s hm
  refine oX_ldcS (site := 51) g2 (List.mem_of_getElem? (i := 10) rfl) rfl rfl dX9_cond_6 ?_
  obtain ⟨r3, g3, hm⟩ := bd_s hm
  refine oX_cV (as := [vR (some (51, 0))]) dX9_cond_8 rfl (oD_t ht) rfl (by decide) rfl ok_X9_is rfl rfl q968 q970 qs11 q146 q971 ⟨by omega, by decide⟩ (Nat.le_of_ble_eq_true rfl) (t_X9_is n t ht (some (51, 0)) g3) ?_
  refine oX_if_eq (tgt := 37) dX9_cond_11 (by decide) (fun c4 => ?_) (fun c4 => ?_)
  · have hm := ifp c4 hm
    obtain ⟨hr, rfl⟩ := oEnd hm
    exact oX_sub [1] rfl (oX_z (hx1 (x1, FI, FR, GR, AI, AN, C) hr))
  · have hm := ifn c4 hm
    refine oX_aload_n dX9_cond_14 rfl rfl ?_
    obtain ⟨r5, g5, hm⟩ := bd_s hm
    refine oX_cost hm (fun qq5 hm => ?_)
    refine oX_cVK_ (as := []) dX9_cond_15 rfl (oD_t ht) rfl (by decide) rfl ok_X9_go rfl rfl q712 q714 qs8 q146 q715 ⟨by omega, by decide⟩ (Nat.le_of_ble_eq_true rfl) (t_X9_go n t ht g5) (Nat.le_refl _) (Nat.le_refl _) ?_
    obtain ⟨FI6, hFI6, hm⟩ := oLs hm
    obtain ⟨FR6, hFR6, hm⟩ := oLs hm
    obtain ⟨C6, hC6, hm⟩ := oLs hm
    refine oX_cost hm (fun qq6 hm => ?_)
    refine oX_newIF (s9 := 23) (k := oPl qq6 k) nX9_178 rfl (by decide) dX9_cond_18 hFI6 hFR6 hC6 ?_
    refine oX_dup dX9_cond_21 trivial ?_
    refine oX_iconst (v := (2 : Int32)) dX9_cond_22 (by decide) ?_
    refine oX_iconst (v := (0 : Int32)) dX9_cond_23 (by decide) ?_
    refine oX_iconst (v := (0 : Int32)) dX9_cond_24 (by decide) ?_
    refine oX_aload_n dX9_cond_25 rfl rfl ?_
    refine oX_aload_n dX9_cond_26 rfl rfl ?_
    obtain ⟨r7, g7, hm⟩ := bd_s hm
    refine oX_cost hm (fun qq7 hm => ?_)
    refine oX_cVX (as := []) dX9_cond_27 rfl (oD_t ht) rfl (by decide) rfl ok_X9_all rfl rfl q1093 q1095 qs18 q146 q1096 ⟨by omega, by decide⟩ (Nat.le_of_ble_eq_true rfl) (t_X9_all_o hd9 rc hrec n t ht g7) (Nat.le_refl _) (Nat.le_refl _) (fun o7 hz7 => ?_) (fun x7_ hz7 => ?_)
    · rw [hz7] at hm
      have hm := el2 hm
      obtain ⟨r8, g8, hm⟩ := bd_s hm
      refine oX_cI (as := [vI (2 : Int32), vI (0 : Int32), vI (0 : Int32), vR x1, vR o7.1]) dX9_cond_30 rfl ok_X13_init rfl rfl rfl q1224 q1225 q163 q1226 ⟨by omega, by decide⟩ (Nat.le_of_ble_eq_true rfl) (t_X13_init (23, r5.1.2.2.2.2.2 23) rfl (2 : Int32) (0 : Int32) (0 : Int32) x1 o7.1 g8) ?_
      refine oX_astore_n (ls' := [(1, vR (some (23, r5.1.2.2.2.2.2 23))), (0, vR (some t))]) dX9_cond_33 rfl (by decide) rfl ?_
      refine oX_goto (tgt := 5) dX9_cond_34 (by decide) ?_
      obtain ⟨hr, rfl⟩ := oEnd hm
      exact oX_sub [1, 0] rfl (oX_z (hk (some (23, r5.1.2.2.2.2.2 23), r8.1, r8.2, o7.2.2.2.1, o7.2.2.2.2.1, o7.2.2.2.2.2.1, o7.2.2.2.2.2.2) hr))
    · rw [hz7] at hm
      have hm := el1 hm
      refine oXt_out rfl ?_
      obtain ⟨hr, rfl⟩ := oEnd hm
      exact hx2 (x7_.1, x7_.2.1, x7_.2.2.1, x7_.2.2.2.1, x7_.2.2.2.2.1, x7_.2.2.2.2.2.1, x7_.2.2.2.2.2.2) hr
theorem l_mX9_cond_b5 {G : OhG} {FL : OhL} {AL : OhL} {AR : OhQ} {BR : OhQ} {k : Nat × Nat} {Φ : OhP} {Ψ : OhX} {d : Nat} (hd9 : 9 ≤ d) (rc : Nat → OhI → OhQ → OhQ → OhI → OhN → OhC → Nat × Nat → Option ((((Nat × Nat) × OhI × OhQ × OhQ × OhI × OhN × OhC) ⊕ (OhR × OhI × OhQ × OhQ × OhI × OhN × OhC)) × (Nat × Nat))) (hrec : ∀ {FI AI : OhI} {FL AL : OhL} {FR GR AR BR : OhQ} {AN : OhN} {C : OhC} (n : Nat) (t : Nat × Nat) (ht : ohKd t.1 = 8) {o : (((Nat × Nat) × OhI × OhQ × OhQ × OhI × OhN × OhC) ⊕ (OhR × OhI × OhQ × OhQ × OhI × OhN × OhC)) × (Nat × Nat)}, rc n FI FR GR AI AN C t = some o → oT G d iX9_one [vR (some t)] (FI, FL, FR, GR, AI, AL, AR, BR, AN, C) o.2 (fun v h => ∃ o9 : OhR × OhI × OhQ × OhQ × OhI × OhN × OhC, o.1 = .inr o9 ∧ v = (some (vR o9.1)) ∧ h = (o9.2.1, FL, o9.2.2.1, o9.2.2.2.1, o9.2.2.2.2.1, AL, AR, BR, o9.2.2.2.2.2.1, o9.2.2.2.2.2.2)) (fun E b h => ∃ x9 : (Nat × Nat) × OhI × OhQ × OhQ × OhI × OhN × OhC, o.1 = .inl x9 ∧ E = "OperaHouse$Fault" ∧ b = x9.1 ∧ h = (x9.2.1, FL, x9.2.2.1, x9.2.2.2.1, x9.2.2.2.2.1, AL, AR, BR, x9.2.2.2.2.2.1, x9.2.2.2.2.2.2))) (n : Nat) (t : Nat × Nat) (ht : ohKd t.1 = 8) : ∀ (f : Nat) (x1 : OhR) (FI : OhI) (FR : OhQ) (GR : OhQ) (AI : OhI) (AN : OhN) (C : OhC) (b : (((OhR × OhI × OhQ × OhQ × OhI × OhN × OhC) ⊕ ((Nat × Nat) × OhI × OhQ × OhQ × OhI × OhN × OhC))) × (Nat × Nat)), lpK (fun v => mX9_cond_b5 rc n v.2.1 v.2.2.1 v.2.2.2.1 v.2.2.2.2.1 v.2.2.2.2.2.1 v.2.2.2.2.2.2 t v.1) f (x1, FI, FR, GR, AI, AN, C) = some b → (∀ v : OhR × OhI × OhQ × OhQ × OhI × OhN × OhC, b.1 = (.inl v) → oX G (d + 2) iX9_cond 37 [(1, vR v.1)] [] (v.2.1, FL, v.2.2.1, v.2.2.2.1, v.2.2.2.2.1, AL, AR, BR, v.2.2.2.2.2.1, v.2.2.2.2.2.2) k Φ Ψ) → (∀ v : (Nat × Nat) × OhI × OhQ × OhQ × OhI × OhN × OhC, b.1 = (.inr v) → Ψ "OperaHouse$Fault" v.1 (v.2.1, FL, v.2.2.1, v.2.2.2.1, v.2.2.2.2.1, AL, AR, BR, v.2.2.2.2.2.1, v.2.2.2.2.2.2)) → oX G (d + 2) iX9_cond 5 [(0, vR (some t)), (1, vR x1)] [] (FI, FL, FR, GR, AI, AL, AR, BR, AN, C) (oPl b.2 k) Φ Ψ := by
  intro f
  induction f with
  | zero =>
    intro x1 FI FR GR AI AN C b hm
    cases hm
  | succ f ih =>
    intro x1 FI FR GR AI AN C b hm hx1 hx2
    obtain ⟨⟨r, q⟩, hr, hm⟩ := lk_s hm
    rcases r with v | v
    · obtain ⟨c, hm, hb⟩ := hm
      rw [hb, oPl_assoc]
      refine x_mX9_cond_b5 hd9 rc hrec n t ht x1 hr (fun v9 e => ?_) (fun v9 e => by cases e) (fun v9 e => by cases e)
      cases e; exact ih v.1 v.2.1 v.2.2.1 v.2.2.2.1 v.2.2.2.2.1 v.2.2.2.2.2.1 v.2.2.2.2.2.2 (b.1, c) hm hx1 hx2
    · cases (show b = (v, q) from hm)
      refine x_mX9_cond_b5 hd9 rc hrec n t ht x1 hr (fun v9 e => by cases e) (fun v9 e => ?_) (fun v9 e => ?_)
      · cases e; exact hx1 v9 rfl
      · cases e; exact hx2 v9 rfl
noncomputable def mX9_cond_o (rc : Nat → OhI → OhQ → OhQ → OhI → OhN → OhC → Nat × Nat → Option ((((Nat × Nat) × OhI × OhQ × OhQ × OhI × OhN × OhC) ⊕ (OhR × OhI × OhQ × OhQ × OhI × OhN × OhC)) × (Nat × Nat))) (n : Nat) (FI : OhI) (FR : OhQ) (GR : OhQ) (AI : OhI) (AN : OhN) (C : OhC) (t : Nat × Nat) : Option ((((Nat × Nat) × OhI × OhQ × OhQ × OhI × OhN × OhC) ⊕ (OhR × OhI × OhQ × OhQ × OhI × OhN × OhC)) × (Nat × Nat)) :=
  (mX9_all_o rc n FI FR GR AI AN C t).bind fun r1 =>
  oCost r1.2 <|
  (Sum.elim (fun x1_ => some (.inl (x1_.1, x1_.2.1, x1_.2.2.1, x1_.2.2.2.1, x1_.2.2.2.2.1, x1_.2.2.2.2.2.1, x1_.2.2.2.2.2.2), (0, 0))) (fun o1 => (lpK (fun v => mX9_cond_b5 rc n v.2.1 v.2.2.1 v.2.2.2.1 v.2.2.2.2.1 v.2.2.2.2.2.1 v.2.2.2.2.2.2 t v.1) n (o1.1, o1.2.1, o1.2.2.1, o1.2.2.2.1, o1.2.2.2.2.1, o1.2.2.2.2.2.1, o1.2.2.2.2.2.2)).bind fun b9 => oCost b9.2 <| (Sum.elim (fun v9 => some (.inr (v9.1, v9.2.1, v9.2.2.1, v9.2.2.2.1, v9.2.2.2.2.1, v9.2.2.2.2.2.1, v9.2.2.2.2.2.2), (0, 0))) (fun v9 => some (.inl (v9.1, v9.2.1, v9.2.2.1, v9.2.2.2.1, v9.2.2.2.2.1, v9.2.2.2.2.2.1, v9.2.2.2.2.2.2), (0, 0)))) b9.1) r1.1)
theorem x_mX9_cond_o {G : OhG} {FI AI : OhI} {FL AL : OhL} {FR GR AR BR : OhQ} {AN : OhN} {C : OhC} {k : Nat × Nat} {Φ : OhP} {Ψ : OhX} {d : Nat} (hd9 : 9 ≤ d) (rc : Nat → OhI → OhQ → OhQ → OhI → OhN → OhC → Nat × Nat → Option ((((Nat × Nat) × OhI × OhQ × OhQ × OhI × OhN × OhC) ⊕ (OhR × OhI × OhQ × OhQ × OhI × OhN × OhC)) × (Nat × Nat))) (hrec : ∀ {FI AI : OhI} {FL AL : OhL} {FR GR AR BR : OhQ} {AN : OhN} {C : OhC} (n : Nat) (t : Nat × Nat) (ht : ohKd t.1 = 8) {o : (((Nat × Nat) × OhI × OhQ × OhQ × OhI × OhN × OhC) ⊕ (OhR × OhI × OhQ × OhQ × OhI × OhN × OhC)) × (Nat × Nat)}, rc n FI FR GR AI AN C t = some o → oT G d iX9_one [vR (some t)] (FI, FL, FR, GR, AI, AL, AR, BR, AN, C) o.2 (fun v h => ∃ o9 : OhR × OhI × OhQ × OhQ × OhI × OhN × OhC, o.1 = .inr o9 ∧ v = (some (vR o9.1)) ∧ h = (o9.2.1, FL, o9.2.2.1, o9.2.2.2.1, o9.2.2.2.2.1, AL, AR, BR, o9.2.2.2.2.2.1, o9.2.2.2.2.2.2)) (fun E b h => ∃ x9 : (Nat × Nat) × OhI × OhQ × OhQ × OhI × OhN × OhC, o.1 = .inl x9 ∧ E = "OperaHouse$Fault" ∧ b = x9.1 ∧ h = (x9.2.1, FL, x9.2.2.1, x9.2.2.2.1, x9.2.2.2.2.1, AL, AR, BR, x9.2.2.2.2.2.1, x9.2.2.2.2.2.2))) (n : Nat) (t : Nat × Nat) (ht : ohKd t.1 = 8) {r : (((Nat × Nat) × OhI × OhQ × OhQ × OhI × OhN × OhC) ⊕ (OhR × OhI × OhQ × OhQ × OhI × OhN × OhC)) × (Nat × Nat)} (hm : mX9_cond_o rc n FI FR GR AI AN C t = some r) (hK : ∀ o : OhR × OhI × OhQ × OhQ × OhI × OhN × OhC, r.1 = .inr o → Φ (some (vR o.1)) (o.2.1, FL, o.2.2.1, o.2.2.2.1, o.2.2.2.2.1, AL, AR, BR, o.2.2.2.2.2.1, o.2.2.2.2.2.2)) (hT : ∀ x : (Nat × Nat) × OhI × OhQ × OhQ × OhI × OhN × OhC, r.1 = .inl x → Ψ "OperaHouse$Fault" x.1 (x.2.1, FL, x.2.2.1, x.2.2.2.1, x.2.2.2.2.1, AL, AR, BR, x.2.2.2.2.2.1, x.2.2.2.2.2.2)) : oX G (d + 2) iX9_cond 0 [(0, vR (some t))] [] (FI, FL, FR, GR, AI, AL, AR, BR, AN, C) (oPl r.2 k) Φ Ψ := by
  obtain ⟨r, q0⟩ := r
  unfold mX9_cond_o at hm
  refine oX_aload_n dX9_cond_0 rfl rfl ?_
  obtain ⟨r1, g1, hm⟩ := bd_s hm
  refine oX_cost hm (fun qq1 hm => ?_)
  refine oX_cVX (as := []) dX9_cond_1 rfl (oD_t ht) rfl (by decide) rfl ok_X9_all rfl rfl q1093 q1095 qs18 q146 q1096 ⟨by omega, by decide⟩ (Nat.le_of_ble_eq_true rfl) (t_X9_all_o hd9 rc hrec n t ht g1) (Nat.le_refl _) (Nat.le_refl _) (fun o1 hz1 => ?_) (fun x1_ hz1 => ?_)
  · rw [hz1] at hm
    have hm := el2 hm
    refine oX_astore_n (ls' := [(1, vR o1.1), (0, vR (some t))]) dX9_cond_4 rfl (by decide) rfl ?_
    obtain ⟨b9, g9, hm⟩ := bd_s hm
    refine oX_cost hm (fun qq9 hm => ?_)
    refine oX_sub [1, 0] rfl (l_mX9_cond_b5 hd9 rc hrec n t ht n o1.1 o1.2.1 o1.2.2.1 o1.2.2.2.1 o1.2.2.2.2.1 o1.2.2.2.2.2.1 o1.2.2.2.2.2.2 _ g9 (fun v9 e9 => ?_) (fun v9 e9 => ?_))
    · skip
      rw [e9] at hm
      have hm := el1 hm
      refine oX_aload_n dX9_cond_37 rfl rfl ?_
      obtain ⟨hr, rfl⟩ := oEnd hm
      exact oX_aret dX9_cond_38 rfl (by first | exact Or.inl ⟨_, rfl⟩ | exact Or.inr ⟨_, rfl⟩) (hK (v9.1, v9.2.1, v9.2.2.1, v9.2.2.2.1, v9.2.2.2.2.1, v9.2.2.2.2.2.1, v9.2.2.2.2.2.2) hr)
    · skip
      rw [e9] at hm
      have hm := el2 hm
      obtain ⟨hr, rfl⟩ := oEnd hm
      exact hT (v9.1, v9.2.1, v9.2.2.1, v9.2.2.2.1, v9.2.2.2.2.1, v9.2.2.2.2.2.1, v9.2.2.2.2.2.2) hr
  · rw [hz1] at hm
    have hm := el1 hm
    refine oXt_out rfl ?_
    obtain ⟨hr, rfl⟩ := oEnd hm
    exact hT (x1_.1, x1_.2.1, x1_.2.2.1, x1_.2.2.2.1, x1_.2.2.2.2.1, x1_.2.2.2.2.2.1, x1_.2.2.2.2.2.2) hr
theorem t_X9_cond_o {G : OhG} {FI AI : OhI} {FL AL : OhL} {FR GR AR BR : OhQ} {AN : OhN} {C : OhC} {d : Nat} (hd9 : 9 ≤ d) (rc : Nat → OhI → OhQ → OhQ → OhI → OhN → OhC → Nat × Nat → Option ((((Nat × Nat) × OhI × OhQ × OhQ × OhI × OhN × OhC) ⊕ (OhR × OhI × OhQ × OhQ × OhI × OhN × OhC)) × (Nat × Nat))) (hrec : ∀ {FI AI : OhI} {FL AL : OhL} {FR GR AR BR : OhQ} {AN : OhN} {C : OhC} (n : Nat) (t : Nat × Nat) (ht : ohKd t.1 = 8) {o : (((Nat × Nat) × OhI × OhQ × OhQ × OhI × OhN × OhC) ⊕ (OhR × OhI × OhQ × OhQ × OhI × OhN × OhC)) × (Nat × Nat)}, rc n FI FR GR AI AN C t = some o → oT G d iX9_one [vR (some t)] (FI, FL, FR, GR, AI, AL, AR, BR, AN, C) o.2 (fun v h => ∃ o9 : OhR × OhI × OhQ × OhQ × OhI × OhN × OhC, o.1 = .inr o9 ∧ v = (some (vR o9.1)) ∧ h = (o9.2.1, FL, o9.2.2.1, o9.2.2.2.1, o9.2.2.2.2.1, AL, AR, BR, o9.2.2.2.2.2.1, o9.2.2.2.2.2.2)) (fun E b h => ∃ x9 : (Nat × Nat) × OhI × OhQ × OhQ × OhI × OhN × OhC, o.1 = .inl x9 ∧ E = "OperaHouse$Fault" ∧ b = x9.1 ∧ h = (x9.2.1, FL, x9.2.2.1, x9.2.2.2.1, x9.2.2.2.2.1, AL, AR, BR, x9.2.2.2.2.2.1, x9.2.2.2.2.2.2))) (n : Nat) (t : Nat × Nat) (ht : ohKd t.1 = 8) {o : (((Nat × Nat) × OhI × OhQ × OhQ × OhI × OhN × OhC) ⊕ (OhR × OhI × OhQ × OhQ × OhI × OhN × OhC)) × (Nat × Nat)} (hm : mX9_cond_o rc n FI FR GR AI AN C t = some o) : oT G (d + 2) iX9_cond [vR (some t)] (FI, FL, FR, GR, AI, AL, AR, BR, AN, C) o.2 (fun v h => ∃ o9 : OhR × OhI × OhQ × OhQ × OhI × OhN × OhC, o.1 = .inr o9 ∧ v = (some (vR o9.1)) ∧ h = (o9.2.1, FL, o9.2.2.1, o9.2.2.2.1, o9.2.2.2.2.1, AL, AR, BR, o9.2.2.2.2.2.1, o9.2.2.2.2.2.2)) (fun E b h => ∃ x9 : (Nat × Nat) × OhI × OhQ × OhQ × OhI × OhN × OhC, o.1 = .inl x9 ∧ E = "OperaHouse$Fault" ∧ b = x9.1 ∧ h = (x9.2.1, FL, x9.2.2.1, x9.2.2.2.1, x9.2.2.2.2.1, AL, AR, BR, x9.2.2.2.2.2.1, x9.2.2.2.2.2.2)) :=
  oT_of (by decide) rfl (Nat.le_of_ble_eq_true rfl) (x_mX9_cond_o (k := (0, 0)) hd9 rc hrec n t ht hm (fun o e => ⟨o, e, rfl, rfl⟩) (fun x e => ⟨x, e, rfl, rfl, rfl⟩))
noncomputable def mX9_one_j185 (rc : Nat → OhI → OhQ → OhQ → OhI → OhN → OhC → Nat × Nat → Option ((((Nat × Nat) × OhI × OhQ × OhQ × OhI × OhN × OhC) ⊕ (OhR × OhI × OhQ × OhQ × OhI × OhN × OhC)) × (Nat × Nat))) (n : Nat) (FI : OhI) (FR : OhQ) (GR : OhQ) (AI : OhI) (AN : OhN) (C : OhC) (t : Nat × Nat) (x2 : OhR) : Option ((((Nat × Nat) × OhI × OhQ × OhQ × OhI × OhN × OhC) ⊕ (OhR × OhI × OhQ × OhQ × OhI × OhN × OhC)) × (Nat × Nat)) :=
  oLet (sA FI t.1 t.2 (uA (FI t.1 t.2) 9 ((FI t.1 t.2 9) - (1 : Int32)))) fun FI21 =>
  some (.inr (x2, FI21, FR, GR, AI, AN, C), (0, 0))
theorem x_mX9_one_j185 {G : OhG} {FI AI : OhI} {FL AL : OhL} {FR GR AR BR : OhQ} {AN : OhN} {C : OhC} {k : Nat × Nat} {Φ : OhP} {Ψ : OhX} {d : Nat} (hd9 : 9 ≤ d) (rc : Nat → OhI → OhQ → OhQ → OhI → OhN → OhC → Nat × Nat → Option ((((Nat × Nat) × OhI × OhQ × OhQ × OhI × OhN × OhC) ⊕ (OhR × OhI × OhQ × OhQ × OhI × OhN × OhC)) × (Nat × Nat))) (hrec : ∀ {FI AI : OhI} {FL AL : OhL} {FR GR AR BR : OhQ} {AN : OhN} {C : OhC} (n : Nat) (t : Nat × Nat) (ht : ohKd t.1 = 8) {o : (((Nat × Nat) × OhI × OhQ × OhQ × OhI × OhN × OhC) ⊕ (OhR × OhI × OhQ × OhQ × OhI × OhN × OhC)) × (Nat × Nat)}, rc n FI FR GR AI AN C t = some o → oT G d iX9_one [vR (some t)] (FI, FL, FR, GR, AI, AL, AR, BR, AN, C) o.2 (fun v h => ∃ o9 : OhR × OhI × OhQ × OhQ × OhI × OhN × OhC, o.1 = .inr o9 ∧ v = (some (vR o9.1)) ∧ h = (o9.2.1, FL, o9.2.2.1, o9.2.2.2.1, o9.2.2.2.2.1, AL, AR, BR, o9.2.2.2.2.2.1, o9.2.2.2.2.2.2)) (fun E b h => ∃ x9 : (Nat × Nat) × OhI × OhQ × OhQ × OhI × OhN × OhC, o.1 = .inl x9 ∧ E = "OperaHouse$Fault" ∧ b = x9.1 ∧ h = (x9.2.1, FL, x9.2.2.1, x9.2.2.2.1, x9.2.2.2.2.1, AL, AR, BR, x9.2.2.2.2.2.1, x9.2.2.2.2.2.2))) (n : Nat) (t : Nat × Nat) (ht : ohKd t.1 = 8) (x2 : OhR) {r : (((Nat × Nat) × OhI × OhQ × OhQ × OhI × OhN × OhC) ⊕ (OhR × OhI × OhQ × OhQ × OhI × OhN × OhC)) × (Nat × Nat)} (hm : mX9_one_j185 rc n FI FR GR AI AN C t x2 = some r) (hK : ∀ o : OhR × OhI × OhQ × OhQ × OhI × OhN × OhC, r.1 = .inr o → Φ (some (vR o.1)) (o.2.1, FL, o.2.2.1, o.2.2.2.1, o.2.2.2.2.1, AL, AR, BR, o.2.2.2.2.2.1, o.2.2.2.2.2.2)) (hT : ∀ x : (Nat × Nat) × OhI × OhQ × OhQ × OhI × OhN × OhC, r.1 = .inl x → Ψ "OperaHouse$Fault" x.1 (x.2.1, FL, x.2.2.1, x.2.2.2.1, x.2.2.2.2.1, AL, AR, BR, x.2.2.2.2.2.1, x.2.2.2.2.2.2)) : oX G (d + 3) iX9_one 185 [(0, vR (some t)), (2, vR x2)] [] (FI, FL, FR, GR, AI, AL, AR, BR, AN, C) (oPl r.2 k) Φ Ψ := by
  obtain ⟨r, q0⟩ := r
  unfold mX9_one_j185 at hm
  refine oX_aload_n dX9_one_185 rfl rfl ?_
  refine oX_dup dX9_one_186 trivial ?_
  refine oX_getI fX9_207 rfl (oD_t ht) dX9_one_187 ?_
  refine oX_iconst (v := (1 : Int32)) dX9_one_190 (by decide) ?_
  refine oX_isub dX9_one_191 ?_
  obtain ⟨FI21, hFI21, hm⟩ := oLs hm
  refine oX_putI fX9_207 rfl (fun h9 => by cases h9) (oD_t ht) dX9_one_192 ⟨rfl, rfl⟩ hFI21 ?_
  refine oX_aload_n dX9_one_195 rfl rfl ?_
  obtain ⟨hr, rfl⟩ := oEnd hm
  exact oX_aret dX9_one_196 rfl (by first | exact Or.inl ⟨_, rfl⟩ | exact Or.inr ⟨_, rfl⟩) (hK (x2, FI21, FR, GR, AI, AN, C) hr)
noncomputable def mX9_one_j184 (rc : Nat → OhI → OhQ → OhQ → OhI → OhN → OhC → Nat × Nat → Option ((((Nat × Nat) × OhI × OhQ × OhQ × OhI × OhN × OhC) ⊕ (OhR × OhI × OhQ × OhQ × OhI × OhN × OhC)) × (Nat × Nat))) (n : Nat) (FI : OhI) (FR : OhQ) (GR : OhQ) (AI : OhI) (AN : OhN) (C : OhC) (t : Nat × Nat) (y0 : OhR) : Option ((((Nat × Nat) × OhI × OhQ × OhQ × OhI × OhN × OhC) ⊕ (OhR × OhI × OhQ × OhQ × OhI × OhN × OhC)) × (Nat × Nat)) :=
  mX9_one_j185 rc n FI FR GR AI AN C t y0
theorem x_mX9_one_j184 {G : OhG} {FI AI : OhI} {FL AL : OhL} {FR GR AR BR : OhQ} {AN : OhN} {C : OhC} {k : Nat × Nat} {Φ : OhP} {Ψ : OhX} {d : Nat} (hd9 : 9 ≤ d) (rc : Nat → OhI → OhQ → OhQ → OhI → OhN → OhC → Nat × Nat → Option ((((Nat × Nat) × OhI × OhQ × OhQ × OhI × OhN × OhC) ⊕ (OhR × OhI × OhQ × OhQ × OhI × OhN × OhC)) × (Nat × Nat))) (hrec : ∀ {FI AI : OhI} {FL AL : OhL} {FR GR AR BR : OhQ} {AN : OhN} {C : OhC} (n : Nat) (t : Nat × Nat) (ht : ohKd t.1 = 8) {o : (((Nat × Nat) × OhI × OhQ × OhQ × OhI × OhN × OhC) ⊕ (OhR × OhI × OhQ × OhQ × OhI × OhN × OhC)) × (Nat × Nat)}, rc n FI FR GR AI AN C t = some o → oT G d iX9_one [vR (some t)] (FI, FL, FR, GR, AI, AL, AR, BR, AN, C) o.2 (fun v h => ∃ o9 : OhR × OhI × OhQ × OhQ × OhI × OhN × OhC, o.1 = .inr o9 ∧ v = (some (vR o9.1)) ∧ h = (o9.2.1, FL, o9.2.2.1, o9.2.2.2.1, o9.2.2.2.2.1, AL, AR, BR, o9.2.2.2.2.2.1, o9.2.2.2.2.2.2)) (fun E b h => ∃ x9 : (Nat × Nat) × OhI × OhQ × OhQ × OhI × OhN × OhC, o.1 = .inl x9 ∧ E = "OperaHouse$Fault" ∧ b = x9.1 ∧ h = (x9.2.1, FL, x9.2.2.1, x9.2.2.2.1, x9.2.2.2.2.1, AL, AR, BR, x9.2.2.2.2.2.1, x9.2.2.2.2.2.2))) (n : Nat) (t : Nat × Nat) (ht : ohKd t.1 = 8) (y0 : OhR) {r : (((Nat × Nat) × OhI × OhQ × OhQ × OhI × OhN × OhC) ⊕ (OhR × OhI × OhQ × OhQ × OhI × OhN × OhC)) × (Nat × Nat)} (hm : mX9_one_j184 rc n FI FR GR AI AN C t y0 = some r) (hK : ∀ o : OhR × OhI × OhQ × OhQ × OhI × OhN × OhC, r.1 = .inr o → Φ (some (vR o.1)) (o.2.1, FL, o.2.2.1, o.2.2.2.1, o.2.2.2.2.1, AL, AR, BR, o.2.2.2.2.2.1, o.2.2.2.2.2.2)) (hT : ∀ x : (Nat × Nat) × OhI × OhQ × OhQ × OhI × OhN × OhC, r.1 = .inl x → Ψ "OperaHouse$Fault" x.1 (x.2.1, FL, x.2.2.1, x.2.2.2.1, x.2.2.2.2.1, AL, AR, BR, x.2.2.2.2.2.1, x.2.2.2.2.2.2)) : oX G (d + 3) iX9_one 184 [(0, vR (some t))] [vR y0] (FI, FL, FR, GR, AI, AL, AR, BR, AN, C) (oPl r.2 k) Φ Ψ := by
  obtain ⟨r, q0⟩ := r
  unfold mX9_one_j184 at hm
  refine oX_astore_n (ls' := [(2, vR y0), (0, vR (some t))]) dX9_one_184 rfl (by decide) rfl ?_
  exact oX_sub [1, 0] rfl (x_mX9_one_j185 hd9 rc hrec n t ht y0 hm hK hT)
noncomputable def mX9_one_j122 (rc : Nat → OhI → OhQ → OhQ → OhI → OhN → OhC → Nat × Nat → Option ((((Nat × Nat) × OhI × OhQ × OhQ × OhI × OhN × OhC) ⊕ (OhR × OhI × OhQ × OhQ × OhI × OhN × OhC)) × (Nat × Nat))) (n : Nat) (FI : OhI) (FR : OhQ) (GR : OhQ) (AI : OhI) (AN : OhN) (C : OhC) (t : Nat × Nat) (x1 : Int32) : Option ((((Nat × Nat) × OhI × OhQ × OhQ × OhI × OhN × OhC) ⊕ (OhR × OhI × OhQ × OhQ × OhI × OhN × OhC)) × (Nat × Nat)) :=
  (if x1 = (-1 : Int32) then
  (mX9_go n FI FR GR AI AN C t).bind fun r23 =>
    oCost r23.2 <|
    (mX9_cond_o rc n r23.1.1 r23.1.2.1 r23.1.2.2.1 r23.1.2.2.2.1 r23.1.2.2.2.2.1 r23.1.2.2.2.2.2 t).bind fun r24 =>
    oCost r24.2 <|
    (Sum.elim (fun x24_ => some (.inl (x24_.1, x24_.2.1, x24_.2.2.1, x24_.2.2.2.1, x24_.2.2.2.2.1, x24_.2.2.2.2.2.1, x24_.2.2.2.2.2.2), (0, 0))) (fun o24 => (mX9_isSign o24.2.1 t (41 : Int32)).bind fun r25 =>
    (mX9_need o24.2.1 o24.2.2.2.1 o24.2.2.2.2.2.2 t r25 (1 : Int32)).bind fun r26 =>
    oCost r26.2 <|
    (Sum.elim (fun x26_ => some (.inl (x26_.1, x26_.2.1, o24.2.2.1, x26_.2.2.1, o24.2.2.2.2.1, o24.2.2.2.2.2.1, x26_.2.2.2), (0, 0))) (fun o26 => (mX9_go n o26.1 o24.2.2.1 o26.2.1 o24.2.2.2.2.1 o24.2.2.2.2.2.1 o26.2.2 t).bind fun r27 =>
    oCost r27.2 <|
    mX9_one_j185 rc n r27.1.1 r27.1.2.1 r27.1.2.2.1 r27.1.2.2.2.1 r27.1.2.2.2.2.1 r27.1.2.2.2.2.2 t o24.1) r26.1)) r24.1)
else
  (mX9_go n FI FR GR AI AN C t).bind fun r28 =>
    oCost r28.2 <|
    (if (10 : Int32) ≤ x1 then
    (mX9_measure n r28.1.1 r28.1.2.1 r28.1.2.2.1 r28.1.2.2.2.1 r28.1.2.2.2.2.1 r28.1.2.2.2.2.2 t x1).bind fun r30 =>
      oCost r30.2 <|
      (Sum.elim (fun x30_ => some (.inl (x30_.1, x30_.2.1, x30_.2.2.1, x30_.2.2.2.1, x30_.2.2.2.2.1, x30_.2.2.2.2.2.1, x30_.2.2.2.2.2.2), (0, 0))) (fun o30 => mX9_one_j184 rc n o30.2.1 o30.2.2.1 o30.2.2.2.1 o30.2.2.2.2.1 o30.2.2.2.2.2.1 o30.2.2.2.2.2.2 t o30.1) r30.1)
  else
    oLet (sA r28.1.1 26 (r28.1.2.2.2.2.2 26) (fun _ => 0)) fun FI31 =>
      oLet (sA r28.1.2.1 26 (r28.1.2.2.2.2.2 26) (fun _ => none)) fun FR31 =>
      oLet (uA r28.1.2.2.2.2.2 26 (r28.1.2.2.2.2.2 26 + 1)) fun C31 =>
      oCost (1, 5) <|
      (mX13_init FI31 FR31 (26, r28.1.2.2.2.2.2 26) x1 (0 : Int32) (0 : Int32) none none).bind fun r32 =>
      mX9_one_j184 rc n r32.1 r32.2 r28.1.2.2.1 r28.1.2.2.2.1 r28.1.2.2.2.2.1 C31 t (some (26, r28.1.2.2.2.2.2 26))))
theorem x_mX9_one_j122 {G : OhG} {FI AI : OhI} {FL AL : OhL} {FR GR AR BR : OhQ} {AN : OhN} {C : OhC} {k : Nat × Nat} {Φ : OhP} {Ψ : OhX} {d : Nat} (hd9 : 9 ≤ d) (rc : Nat → OhI → OhQ → OhQ → OhI → OhN → OhC → Nat × Nat → Option ((((Nat × Nat) × OhI × OhQ × OhQ × OhI × OhN × OhC) ⊕ (OhR × OhI × OhQ × OhQ × OhI × OhN × OhC)) × (Nat × Nat))) (hrec : ∀ {FI AI : OhI} {FL AL : OhL} {FR GR AR BR : OhQ} {AN : OhN} {C : OhC} (n : Nat) (t : Nat × Nat) (ht : ohKd t.1 = 8) {o : (((Nat × Nat) × OhI × OhQ × OhQ × OhI × OhN × OhC) ⊕ (OhR × OhI × OhQ × OhQ × OhI × OhN × OhC)) × (Nat × Nat)}, rc n FI FR GR AI AN C t = some o → oT G d iX9_one [vR (some t)] (FI, FL, FR, GR, AI, AL, AR, BR, AN, C) o.2 (fun v h => ∃ o9 : OhR × OhI × OhQ × OhQ × OhI × OhN × OhC, o.1 = .inr o9 ∧ v = (some (vR o9.1)) ∧ h = (o9.2.1, FL, o9.2.2.1, o9.2.2.2.1, o9.2.2.2.2.1, AL, AR, BR, o9.2.2.2.2.2.1, o9.2.2.2.2.2.2)) (fun E b h => ∃ x9 : (Nat × Nat) × OhI × OhQ × OhQ × OhI × OhN × OhC, o.1 = .inl x9 ∧ E = "OperaHouse$Fault" ∧ b = x9.1 ∧ h = (x9.2.1, FL, x9.2.2.1, x9.2.2.2.1, x9.2.2.2.2.1, AL, AR, BR, x9.2.2.2.2.2.1, x9.2.2.2.2.2.2))) (n : Nat) (t : Nat × Nat) (ht : ohKd t.1 = 8) (x1 : Int32) {r : (((Nat × Nat) × OhI × OhQ × OhQ × OhI × OhN × OhC) ⊕ (OhR × OhI × OhQ × OhQ × OhI × OhN × OhC)) × (Nat × Nat)} (hm : mX9_one_j122 rc n FI FR GR AI AN C t x1 = some r) (hK : ∀ o : OhR × OhI × OhQ × OhQ × OhI × OhN × OhC, r.1 = .inr o → Φ (some (vR o.1)) (o.2.1, FL, o.2.2.1, o.2.2.2.1, o.2.2.2.2.1, AL, AR, BR, o.2.2.2.2.2.1, o.2.2.2.2.2.2)) (hT : ∀ x : (Nat × Nat) × OhI × OhQ × OhQ × OhI × OhN × OhC, r.1 = .inl x → Ψ "OperaHouse$Fault" x.1 (x.2.1, FL, x.2.2.1, x.2.2.2.1, x.2.2.2.2.1, AL, AR, BR, x.2.2.2.2.2.1, x.2.2.2.2.2.2)) : oX G (d + 3) iX9_one 122 [(0, vR (some t)), (1, vI x1)] [] (FI, FL, FR, GR, AI, AL, AR, BR, AN, C) (oPl r.2 k) Φ Ψ := by
  obtain ⟨r, q0⟩ := r
  unfold mX9_one_j122 at hm
  refine oX_iload_n dX9_one_122 rfl rfl ?_
  refine oX_iconst (v := (-1 : Int32)) dX9_one_123 (by decide) ?_
  refine oX_icmp_ne (tgt := 154) dX9_one_124 (by decide) (fun c22 => ?_) (fun c22 => ?_)
  · have hm := ifp c22 hm
    refine oX_aload_n dX9_one_127 rfl rfl ?_
    obtain ⟨r23, g23, hm⟩ := bd_s hm
    refine oX_cost hm (fun qq23 hm => ?_)
    refine oX_cVK_ (as := []) dX9_one_128 rfl (oD_t ht) rfl (by decide) rfl ok_X9_go rfl rfl q712 q714 qs8 q146 q715 ⟨by omega, by decide⟩ (Nat.le_of_ble_eq_true rfl) (t_X9_go n t ht g23) (Nat.le_refl _) (Nat.le_refl _) ?_
    refine oX_aload_n dX9_one_131 rfl rfl ?_
    obtain ⟨r24, g24, hm⟩ := bd_s hm
    refine oX_cost hm (fun qq24 hm => ?_)
    refine oX_cVX (as := []) dX9_one_132 rfl (oD_t ht) rfl (by decide) rfl ok_X9_cond rfl rfl q1089 q1091 qs17 q146 q1092 ⟨by omega, by decide⟩ (Nat.le_of_ble_eq_true rfl) (t_X9_cond_o hd9 rc hrec n t ht g24) (Nat.le_refl _) (Nat.le_refl _) (fun o24 hz24 => ?_) (fun x24_ hz24 => ?_)
    · rw [hz24] at hm
      have hm := el2 hm
      refine oX_astore_n (ls' := [(2, vR o24.1), (0, vR (some t)), (1, vI x1)]) dX9_one_135 rfl (by decide) rfl ?_
      refine oX_aload_n dX9_one_136 rfl rfl ?_
      refine oX_aload_n dX9_one_137 rfl rfl ?_
      refine oX_bipush (v := (41 : Int32)) dX9_one_138 (by decide) ?_
      obtain ⟨r25, g25, hm⟩ := bd_s hm
      refine oX_cV (as := [vI (41 : Int32)]) dX9_one_140 rfl (oD_t ht) rfl (by decide) rfl ok_X9_isSign rfl rfl q1218 q1220 qs21 q146 q1221 ⟨by omega, by decide⟩ (Nat.le_of_ble_eq_true rfl) (t_X9_isSign t ht (41 : Int32) g25) ?_
      refine oX_iconst (v := (1 : Int32)) dX9_one_143 (by decide) ?_
      obtain ⟨r26, g26, hm⟩ := bd_s hm
      refine oX_cost hm (fun qq26 hm => ?_)
      refine oX_cVX_ (as := [vI r25, vI (1 : Int32)]) dX9_one_144 rfl (oD_t ht) rfl (by decide) rfl ok_X9_need rfl rfl q984 q986 qs13 q146 q987 ⟨by omega, by decide⟩ (Nat.le_of_ble_eq_true rfl) (t_X9_need t ht r25 (1 : Int32) g26) (Nat.le_refl _) (Nat.le_refl _) (fun o26 hz26 => ?_) (fun x26_ hz26 => ?_)
      · rw [hz26] at hm
        have hm := el2 hm
        refine oX_aload_n dX9_one_147 rfl rfl ?_
        obtain ⟨r27, g27, hm⟩ := bd_s hm
        refine oX_cost hm (fun qq27 hm => ?_)
        refine oX_cVK_ (as := []) dX9_one_148 rfl (oD_t ht) rfl (by decide) rfl ok_X9_go rfl rfl q712 q714 qs8 q146 q715 ⟨by omega, by decide⟩ (Nat.le_of_ble_eq_true rfl) (t_X9_go n t ht g27) (Nat.le_refl _) (Nat.le_refl _) ?_
        refine oX_goto (tgt := 185) dX9_one_151 (by decide) ?_
        exact oX_sub [1, 0] rfl (x_mX9_one_j185 hd9 rc hrec n t ht o24.1 hm hK hT)
      · rw [hz26] at hm
        have hm := el1 hm
        refine oXt_out rfl ?_
        obtain ⟨hr, rfl⟩ := oEnd hm
        exact hT (x26_.1, x26_.2.1, o24.2.2.1, x26_.2.2.1, o24.2.2.2.2.1, o24.2.2.2.2.2.1, x26_.2.2.2) hr
    · rw [hz24] at hm
      have hm := el1 hm
      refine oXt_out rfl ?_
      obtain ⟨hr, rfl⟩ := oEnd hm
      exact hT (x24_.1, x24_.2.1, x24_.2.2.1, x24_.2.2.2.1, x24_.2.2.2.2.1, x24_.2.2.2.2.2.1, x24_.2.2.2.2.2.2) hr
  · have hm := ifn c22 hm
    refine oX_aload_n dX9_one_154 rfl rfl ?_
    obtain ⟨r28, g28, hm⟩ := bd_s hm
    refine oX_cost hm (fun qq28 hm => ?_)
    refine oX_cVK_ (as := []) dX9_one_155 rfl (oD_t ht) rfl (by decide) rfl ok_X9_go rfl rfl q712 q714 qs8 q146 q715 ⟨by omega, by decide⟩ (Nat.le_of_ble_eq_true rfl) (t_X9_go n t ht g28) (Nat.le_refl _) (Nat.le_refl _) ?_
    refine oX_iload_n dX9_one_158 rfl rfl ?_
    refine oX_bipush (v := (10 : Int32)) dX9_one_159 (by decide) ?_
    refine oX_icmp_ge (tgt := 179) dX9_one_161 (by decide) (fun c29 => ?_) (fun c29 => ?_)
    · have hm := ifp c29 hm
      refine oX_aload_n dX9_one_179 rfl rfl ?_
      refine oX_iload_n dX9_one_180 rfl rfl ?_
      obtain ⟨r30, g30, hm⟩ := bd_s hm
      refine oX_cost hm (fun qq30 hm => ?_)
      refine oX_cVX (as := [vI x1]) dX9_one_181 rfl (oD_t ht) rfl (by decide) rfl ok_X9_measure rfl rfl q1244 q1246 qs22 q146 q1247 ⟨by omega, by decide⟩ (Nat.le_of_ble_eq_true rfl) (t_X9_measure n t ht x1 g30) (Nat.le_refl _) (Nat.le_refl _) (fun o30 hz30 => ?_) (fun x30_ hz30 => ?_)
      · rw [hz30] at hm
        have hm := el2 hm
        exact oX_sub [0] rfl (x_mX9_one_j184 hd9 rc hrec n t ht o30.1 hm hK hT)
      · rw [hz30] at hm
        have hm := el1 hm
        refine oXt_out rfl ?_
        obtain ⟨hr, rfl⟩ := oEnd hm
        exact hT (x30_.1, x30_.2.1, x30_.2.2.1, x30_.2.2.2.1, x30_.2.2.2.2.1, x30_.2.2.2.2.2.1, x30_.2.2.2.2.2.2) hr
    · have hm := ifn c29 hm
      obtain ⟨FI31, hFI31, hm⟩ := oLs hm
      obtain ⟨FR31, hFR31, hm⟩ := oLs hm
      obtain ⟨C31, hC31, hm⟩ := oLs hm
      refine oX_cost hm (fun qq31 hm => ?_)
      refine oX_newIF (s9 := 26) (k := oPl qq31 k) nX9_178 rfl (by decide) dX9_one_164 hFI31 hFR31 hC31 ?_
      refine oX_dup dX9_one_167 trivial ?_
      refine oX_iload_n dX9_one_168 rfl rfl ?_
      refine oX_iconst (v := (0 : Int32)) dX9_one_169 (by decide) ?_
      refine oX_iconst (v := (0 : Int32)) dX9_one_170 (by decide) ?_
      refine oX_null dX9_one_171 ?_
      refine oX_null dX9_one_172 ?_
      obtain ⟨r32, g32, hm⟩ := bd_s hm
      refine oX_cI (as := [vI x1, vI (0 : Int32), vI (0 : Int32), vR none, vR none]) dX9_one_173 rfl ok_X13_init rfl rfl rfl q1224 q1225 q163 q1226 ⟨by omega, by decide⟩ (Nat.le_of_ble_eq_true rfl) (t_X13_init (26, r28.1.2.2.2.2.2 26) rfl x1 (0 : Int32) (0 : Int32) none none g32) ?_
      refine oX_goto (tgt := 184) dX9_one_176 (by decide) ?_
      exact oX_sub [0] rfl (x_mX9_one_j184 hd9 rc hrec n t ht (some (26, r28.1.2.2.2.2.2 26)) hm hK hT)
noncomputable def mX9_one_j62 (rc : Nat → OhI → OhQ → OhQ → OhI → OhN → OhC → Nat × Nat → Option ((((Nat × Nat) × OhI × OhQ × OhQ × OhI × OhN × OhC) ⊕ (OhR × OhI × OhQ × OhQ × OhI × OhN × OhC)) × (Nat × Nat))) (n : Nat) (FI : OhI) (FR : OhQ) (GR : OhQ) (AI : OhI) (AN : OhN) (C : OhC) (t : Nat × Nat) (x1 : Int32) (y0 : OhR) (y1 : Int32) : Option ((((Nat × Nat) × OhI × OhQ × OhQ × OhI × OhN × OhC) ⊕ (OhR × OhI × OhQ × OhQ × OhI × OhN × OhC)) × (Nat × Nat)) :=
  (oD 8 y0).bind fun a11 =>
  (mX9_need FI GR C a11 y1 (4 : Int32)).bind fun r12 =>
  oCost r12.2 <|
  (Sum.elim (fun x12_ => some (.inl (x12_.1, x12_.2.1, FR, x12_.2.2.1, AI, AN, x12_.2.2.2), (0, 0))) (fun o12 => oLet (sA o12.1 t.1 t.2 (uA (o12.1 t.1 t.2) 8 ((o12.1 t.1 t.2 8) + (1 : Int32)))) fun FI13 =>
  oLet (sA FI13 t.1 t.2 (uA (FI13 t.1 t.2) 9 ((FI13 t.1 t.2 9) + (1 : Int32)))) fun FI14 =>
  (if x1 = (-1 : Int32) then
  (if (FI14 t.1 t.2 3) = (2 : Int32) then
    (mX9_go n FI14 FR o12.2.1 AI AN o12.2.2 t).bind fun r17 =>
      oCost r17.2 <|
      oLet (sA r17.1.1 25 (r17.1.2.2.2.2.2 25) (fun _ => 0)) fun FI18 =>
      oLet (sA r17.1.2.1 25 (r17.1.2.2.2.2.2 25) (fun _ => none)) fun FR18 =>
      oLet (uA r17.1.2.2.2.2.2 25 (r17.1.2.2.2.2.2 25 + 1)) fun C18 =>
      oCost (1, 5) <|
      (rc n FI18 FR18 r17.1.2.2.1 r17.1.2.2.2.1 r17.1.2.2.2.2.1 C18 t).bind fun r19 =>
      oCost r19.2 <|
      (Sum.elim (fun x19_ => some (.inl (x19_.1, x19_.2.1, x19_.2.2.1, x19_.2.2.2.1, x19_.2.2.2.2.1, x19_.2.2.2.2.2.1, x19_.2.2.2.2.2.2), (0, 0))) (fun o19 => (mX13_init o19.2.1 o19.2.2.1 (25, r17.1.2.2.2.2.2 25) (0 : Int32) (0 : Int32) (0 : Int32) o19.1 none).bind fun r20 =>
      mX9_one_j185 rc n r20.1 r20.2 o19.2.2.2.1 o19.2.2.2.2.1 o19.2.2.2.2.2.1 o19.2.2.2.2.2.2 t (some (25, r17.1.2.2.2.2.2 25))) r19.1)
  else
    mX9_one_j122 rc n FI14 FR o12.2.1 AI AN o12.2.2 t x1)
else
  mX9_one_j122 rc n FI14 FR o12.2.1 AI AN o12.2.2 t x1)) r12.1)
theorem x_mX9_one_j62 {G : OhG} {FI AI : OhI} {FL AL : OhL} {FR GR AR BR : OhQ} {AN : OhN} {C : OhC} {k : Nat × Nat} {Φ : OhP} {Ψ : OhX} {d : Nat} (hd9 : 9 ≤ d) (rc : Nat → OhI → OhQ → OhQ → OhI → OhN → OhC → Nat × Nat → Option ((((Nat × Nat) × OhI × OhQ × OhQ × OhI × OhN × OhC) ⊕ (OhR × OhI × OhQ × OhQ × OhI × OhN × OhC)) × (Nat × Nat))) (hrec : ∀ {FI AI : OhI} {FL AL : OhL} {FR GR AR BR : OhQ} {AN : OhN} {C : OhC} (n : Nat) (t : Nat × Nat) (ht : ohKd t.1 = 8) {o : (((Nat × Nat) × OhI × OhQ × OhQ × OhI × OhN × OhC) ⊕ (OhR × OhI × OhQ × OhQ × OhI × OhN × OhC)) × (Nat × Nat)}, rc n FI FR GR AI AN C t = some o → oT G d iX9_one [vR (some t)] (FI, FL, FR, GR, AI, AL, AR, BR, AN, C) o.2 (fun v h => ∃ o9 : OhR × OhI × OhQ × OhQ × OhI × OhN × OhC, o.1 = .inr o9 ∧ v = (some (vR o9.1)) ∧ h = (o9.2.1, FL, o9.2.2.1, o9.2.2.2.1, o9.2.2.2.2.1, AL, AR, BR, o9.2.2.2.2.2.1, o9.2.2.2.2.2.2)) (fun E b h => ∃ x9 : (Nat × Nat) × OhI × OhQ × OhQ × OhI × OhN × OhC, o.1 = .inl x9 ∧ E = "OperaHouse$Fault" ∧ b = x9.1 ∧ h = (x9.2.1, FL, x9.2.2.1, x9.2.2.2.1, x9.2.2.2.2.1, AL, AR, BR, x9.2.2.2.2.2.1, x9.2.2.2.2.2.2))) (n : Nat) (t : Nat × Nat) (ht : ohKd t.1 = 8) (x1 : Int32) (y0 : OhR) (y1 : Int32) {r : (((Nat × Nat) × OhI × OhQ × OhQ × OhI × OhN × OhC) ⊕ (OhR × OhI × OhQ × OhQ × OhI × OhN × OhC)) × (Nat × Nat)} (hm : mX9_one_j62 rc n FI FR GR AI AN C t x1 y0 y1 = some r) (hK : ∀ o : OhR × OhI × OhQ × OhQ × OhI × OhN × OhC, r.1 = .inr o → Φ (some (vR o.1)) (o.2.1, FL, o.2.2.1, o.2.2.2.1, o.2.2.2.2.1, AL, AR, BR, o.2.2.2.2.2.1, o.2.2.2.2.2.2)) (hT : ∀ x : (Nat × Nat) × OhI × OhQ × OhQ × OhI × OhN × OhC, r.1 = .inl x → Ψ "OperaHouse$Fault" x.1 (x.2.1, FL, x.2.2.1, x.2.2.2.1, x.2.2.2.2.1, AL, AR, BR, x.2.2.2.2.2.1, x.2.2.2.2.2.2)) : oX G (d + 3) iX9_one 62 [(0, vR (some t)), (1, vI x1)] [vI y1, vR y0] (FI, FL, FR, GR, AI, AL, AR, BR, AN, C) (oPl r.2 k) Φ Ψ := by
  obtain ⟨r, q0⟩ := r
  unfold mX9_one_j62 at hm
  refine oX_iconst (v := (4 : Int32)) dX9_one_62 (by decide) ?_
  obtain ⟨a11, e11, hm⟩ := bd_s hm
  obtain ⟨r12, g12, hm⟩ := bd_s hm
  refine oX_cost hm (fun qq12 hm => ?_)
  refine oX_cVX_ (as := [vI y1, vI (4 : Int32)]) dX9_one_63 rfl e11 rfl (by decide) rfl ok_X9_need rfl rfl q984 q986 qs13 q146 q987 ⟨by omega, by decide⟩ (Nat.le_of_ble_eq_true rfl) (t_X9_need a11 ((oD_some e11).2) y1 (4 : Int32) g12) (Nat.le_refl _) (Nat.le_refl _) (fun o12 hz12 => ?_) (fun x12_ hz12 => ?_)
  · rw [hz12] at hm
    have hm := el2 hm
    refine oX_aload_n dX9_one_66 rfl rfl ?_
    refine oX_dup dX9_one_67 trivial ?_
    refine oX_getI fX9_204 rfl (oD_t ht) dX9_one_68 ?_
    refine oX_iconst (v := (1 : Int32)) dX9_one_71 (by decide) ?_
    refine oX_iadd dX9_one_72 ?_
    obtain ⟨FI13, hFI13, hm⟩ := oLs hm
    refine oX_putI fX9_204 rfl (fun h9 => by cases h9) (oD_t ht) dX9_one_73 ⟨rfl, rfl⟩ hFI13 ?_
    refine oX_aload_n dX9_one_76 rfl rfl ?_
    refine oX_dup dX9_one_77 trivial ?_
    refine oX_getI fX9_207 rfl (oD_t ht) dX9_one_78 ?_
    refine oX_iconst (v := (1 : Int32)) dX9_one_81 (by decide) ?_
    refine oX_iadd dX9_one_82 ?_
    obtain ⟨FI14, hFI14, hm⟩ := oLs hm
    refine oX_putI fX9_207 rfl (fun h9 => by cases h9) (oD_t ht) dX9_one_83 ⟨rfl, rfl⟩ hFI14 ?_
    refine oX_iload_n dX9_one_86 rfl rfl ?_
    refine oX_iconst (v := (-1 : Int32)) dX9_one_87 (by decide) ?_
    refine oX_icmp_ne (tgt := 122) dX9_one_88 (by decide) (fun c15 => ?_) (fun c15 => ?_)
    · have hm := ifp c15 hm
      refine oX_aload_n dX9_one_91 rfl rfl ?_
      refine oX_getI fX9_42 rfl (oD_t ht) dX9_one_92 ?_
      refine oX_iconst (v := (2 : Int32)) dX9_one_95 (by decide) ?_
      refine oX_icmp_ne (tgt := 122) dX9_one_96 (by decide) (fun c16 => ?_) (fun c16 => ?_)
      · have hm := ifp c16 hm
        refine oX_aload_n dX9_one_99 rfl rfl ?_
        obtain ⟨r17, g17, hm⟩ := bd_s hm
        refine oX_cost hm (fun qq17 hm => ?_)
        refine oX_cVK_ (as := []) dX9_one_100 rfl (oD_t ht) rfl (by decide) rfl ok_X9_go rfl rfl q712 q714 qs8 q146 q715 ⟨by omega, by decide⟩ (Nat.le_of_ble_eq_true rfl) (t_X9_go n t ht g17) (Nat.le_refl _) (Nat.le_refl _) ?_
        obtain ⟨FI18, hFI18, hm⟩ := oLs hm
        obtain ⟨FR18, hFR18, hm⟩ := oLs hm
        obtain ⟨C18, hC18, hm⟩ := oLs hm
        refine oX_cost hm (fun qq18 hm => ?_)
        refine oX_newIF (s9 := 25) (k := oPl qq18 k) nX9_178 rfl (by decide) dX9_one_103 hFI18 hFR18 hC18 ?_
        refine oX_dup dX9_one_106 trivial ?_
        refine oX_iconst (v := (0 : Int32)) dX9_one_107 (by decide) ?_
        refine oX_iconst (v := (0 : Int32)) dX9_one_108 (by decide) ?_
        refine oX_iconst (v := (0 : Int32)) dX9_one_109 (by decide) ?_
        refine oX_aload_n dX9_one_110 rfl rfl ?_
        obtain ⟨r19, g19, hm⟩ := bd_s hm
        refine oX_cost hm (fun qq19 hm => ?_)
        refine oX_cVX (as := []) dX9_one_111 rfl (oD_t ht) rfl (by decide) rfl ok_X9_one rfl rfl q1097 q1099 qs19 q146 q1100 ⟨by omega, by decide⟩ (Nat.le_of_ble_eq_true rfl) (hrec n t ht g19) (Nat.le_refl _) (Nat.le_refl _) (fun o19 hz19 => ?_) (fun x19_ hz19 => ?_)
        · rw [hz19] at hm
          have hm := el2 hm
          refine oX_null dX9_one_114 ?_
          obtain ⟨r20, g20, hm⟩ := bd_s hm
          refine oX_cI (as := [vI (0 : Int32), vI (0 : Int32), vI (0 : Int32), vR o19.1, vR none]) dX9_one_115 rfl ok_X13_init rfl rfl rfl q1224 q1225 q163 q1226 ⟨by omega, by decide⟩ (Nat.le_of_ble_eq_true rfl) (t_X13_init (25, r17.1.2.2.2.2.2 25) rfl (0 : Int32) (0 : Int32) (0 : Int32) o19.1 none g20) ?_
          refine oX_astore_n (ls' := [(2, vR (some (25, r17.1.2.2.2.2.2 25))), (0, vR (some t)), (1, vI x1)]) dX9_one_118 rfl (by decide) rfl ?_
          refine oX_goto (tgt := 185) dX9_one_119 (by decide) ?_
          exact oX_sub [1, 0] rfl (x_mX9_one_j185 hd9 rc hrec n t ht (some (25, r17.1.2.2.2.2.2 25)) hm hK hT)
        · rw [hz19] at hm
          have hm := el1 hm
          refine oXt_out rfl ?_
          obtain ⟨hr, rfl⟩ := oEnd hm
          exact hT (x19_.1, x19_.2.1, x19_.2.2.1, x19_.2.2.2.1, x19_.2.2.2.2.1, x19_.2.2.2.2.2.1, x19_.2.2.2.2.2.2) hr
      · have hm := ifn c16 hm
        exact oX_sub [0, 1] rfl (x_mX9_one_j122 hd9 rc hrec n t ht x1 hm hK hT)
    · have hm := ifn c15 hm
      exact oX_sub [0, 1] rfl (x_mX9_one_j122 hd9 rc hrec n t ht x1 hm hK hT)
  · rw [hz12] at hm
    have hm := el1 hm
    refine oXt_out rfl ?_
    obtain ⟨hr, rfl⟩ := oEnd hm
    exact hT (x12_.1, x12_.2.1, FR, x12_.2.2.1, AI, AN, x12_.2.2.2) hr
noncomputable def mX9_one_j61 (rc : Nat → OhI → OhQ → OhQ → OhI → OhN → OhC → Nat × Nat → Option ((((Nat × Nat) × OhI × OhQ × OhQ × OhI × OhN × OhC) ⊕ (OhR × OhI × OhQ × OhQ × OhI × OhN × OhC)) × (Nat × Nat))) (n : Nat) (FI : OhI) (FR : OhQ) (GR : OhQ) (AI : OhI) (AN : OhN) (C : OhC) (t : Nat × Nat) (x1 : Int32) (y0 : OhR) : Option ((((Nat × Nat) × OhI × OhQ × OhQ × OhI × OhN × OhC) ⊕ (OhR × OhI × OhQ × OhQ × OhI × OhN × OhC)) × (Nat × Nat)) :=
  mX9_one_j62 rc n FI FR GR AI AN C t x1 y0 (0 : Int32)
theorem x_mX9_one_j61 {G : OhG} {FI AI : OhI} {FL AL : OhL} {FR GR AR BR : OhQ} {AN : OhN} {C : OhC} {k : Nat × Nat} {Φ : OhP} {Ψ : OhX} {d : Nat} (hd9 : 9 ≤ d) (rc : Nat → OhI → OhQ → OhQ → OhI → OhN → OhC → Nat × Nat → Option ((((Nat × Nat) × OhI × OhQ × OhQ × OhI × OhN × OhC) ⊕ (OhR × OhI × OhQ × OhQ × OhI × OhN × OhC)) × (Nat × Nat))) (hrec : ∀ {FI AI : OhI} {FL AL : OhL} {FR GR AR BR : OhQ} {AN : OhN} {C : OhC} (n : Nat) (t : Nat × Nat) (ht : ohKd t.1 = 8) {o : (((Nat × Nat) × OhI × OhQ × OhQ × OhI × OhN × OhC) ⊕ (OhR × OhI × OhQ × OhQ × OhI × OhN × OhC)) × (Nat × Nat)}, rc n FI FR GR AI AN C t = some o → oT G d iX9_one [vR (some t)] (FI, FL, FR, GR, AI, AL, AR, BR, AN, C) o.2 (fun v h => ∃ o9 : OhR × OhI × OhQ × OhQ × OhI × OhN × OhC, o.1 = .inr o9 ∧ v = (some (vR o9.1)) ∧ h = (o9.2.1, FL, o9.2.2.1, o9.2.2.2.1, o9.2.2.2.2.1, AL, AR, BR, o9.2.2.2.2.2.1, o9.2.2.2.2.2.2)) (fun E b h => ∃ x9 : (Nat × Nat) × OhI × OhQ × OhQ × OhI × OhN × OhC, o.1 = .inl x9 ∧ E = "OperaHouse$Fault" ∧ b = x9.1 ∧ h = (x9.2.1, FL, x9.2.2.1, x9.2.2.2.1, x9.2.2.2.2.1, AL, AR, BR, x9.2.2.2.2.2.1, x9.2.2.2.2.2.2))) (n : Nat) (t : Nat × Nat) (ht : ohKd t.1 = 8) (x1 : Int32) (y0 : OhR) {r : (((Nat × Nat) × OhI × OhQ × OhQ × OhI × OhN × OhC) ⊕ (OhR × OhI × OhQ × OhQ × OhI × OhN × OhC)) × (Nat × Nat)} (hm : mX9_one_j61 rc n FI FR GR AI AN C t x1 y0 = some r) (hK : ∀ o : OhR × OhI × OhQ × OhQ × OhI × OhN × OhC, r.1 = .inr o → Φ (some (vR o.1)) (o.2.1, FL, o.2.2.1, o.2.2.2.1, o.2.2.2.2.1, AL, AR, BR, o.2.2.2.2.2.1, o.2.2.2.2.2.2)) (hT : ∀ x : (Nat × Nat) × OhI × OhQ × OhQ × OhI × OhN × OhC, r.1 = .inl x → Ψ "OperaHouse$Fault" x.1 (x.2.1, FL, x.2.2.1, x.2.2.2.1, x.2.2.2.2.1, AL, AR, BR, x.2.2.2.2.2.1, x.2.2.2.2.2.2)) : oX G (d + 3) iX9_one 61 [(0, vR (some t)), (1, vI x1)] [vR y0] (FI, FL, FR, GR, AI, AL, AR, BR, AN, C) (oPl r.2 k) Φ Ψ := by
  obtain ⟨r, q0⟩ := r
  unfold mX9_one_j61 at hm
  refine oX_iconst (v := (0 : Int32)) dX9_one_61 (by decide) ?_
  exact oX_sub [0, 1] rfl (x_mX9_one_j62 hd9 rc hrec n t ht x1 y0 (0 : Int32) hm hK hT)
noncomputable def mX9_one_j34 (rc : Nat → OhI → OhQ → OhQ → OhI → OhN → OhC → Nat × Nat → Option ((((Nat × Nat) × OhI × OhQ × OhQ × OhI × OhN × OhC) ⊕ (OhR × OhI × OhQ × OhQ × OhI × OhN × OhC)) × (Nat × Nat))) (n : Nat) (FI : OhI) (FR : OhQ) (GR : OhQ) (AI : OhI) (AN : OhN) (C : OhC) (t : Nat × Nat) (x1 : Int32) (y0 : OhR) (y1 : Int32) : Option ((((Nat × Nat) × OhI × OhQ × OhQ × OhI × OhN × OhC) ⊕ (OhR × OhI × OhQ × OhQ × OhI × OhN × OhC)) × (Nat × Nat)) :=
  (oD 8 y0).bind fun a8 =>
  (mX9_need FI GR C a8 y1 (1 : Int32)).bind fun r9 =>
  oCost r9.2 <|
  (Sum.elim (fun x9_ => some (.inl (x9_.1, x9_.2.1, FR, x9_.2.2.1, AI, AN, x9_.2.2.2), (0, 0))) (fun o9 => (if (40 : Int32) ≤ (o9.1 t.1 t.2 8) then
  mX9_one_j61 rc n o9.1 FR o9.2.1 AI AN o9.2.2 t x1 (some t)
else
  (if (12 : Int32) ≤ (o9.1 t.1 t.2 9) then
    mX9_one_j61 rc n o9.1 FR o9.2.1 AI AN o9.2.2 t x1 (some t)
  else
    mX9_one_j62 rc n o9.1 FR o9.2.1 AI AN o9.2.2 t x1 (some t) (1 : Int32)))) r9.1)
theorem x_mX9_one_j34 {G : OhG} {FI AI : OhI} {FL AL : OhL} {FR GR AR BR : OhQ} {AN : OhN} {C : OhC} {k : Nat × Nat} {Φ : OhP} {Ψ : OhX} {d : Nat} (hd9 : 9 ≤ d) (rc : Nat → OhI → OhQ → OhQ → OhI → OhN → OhC → Nat × Nat → Option ((((Nat × Nat) × OhI × OhQ × OhQ × OhI × OhN × OhC) ⊕ (OhR × OhI × OhQ × OhQ × OhI × OhN × OhC)) × (Nat × Nat))) (hrec : ∀ {FI AI : OhI} {FL AL : OhL} {FR GR AR BR : OhQ} {AN : OhN} {C : OhC} (n : Nat) (t : Nat × Nat) (ht : ohKd t.1 = 8) {o : (((Nat × Nat) × OhI × OhQ × OhQ × OhI × OhN × OhC) ⊕ (OhR × OhI × OhQ × OhQ × OhI × OhN × OhC)) × (Nat × Nat)}, rc n FI FR GR AI AN C t = some o → oT G d iX9_one [vR (some t)] (FI, FL, FR, GR, AI, AL, AR, BR, AN, C) o.2 (fun v h => ∃ o9 : OhR × OhI × OhQ × OhQ × OhI × OhN × OhC, o.1 = .inr o9 ∧ v = (some (vR o9.1)) ∧ h = (o9.2.1, FL, o9.2.2.1, o9.2.2.2.1, o9.2.2.2.2.1, AL, AR, BR, o9.2.2.2.2.2.1, o9.2.2.2.2.2.2)) (fun E b h => ∃ x9 : (Nat × Nat) × OhI × OhQ × OhQ × OhI × OhN × OhC, o.1 = .inl x9 ∧ E = "OperaHouse$Fault" ∧ b = x9.1 ∧ h = (x9.2.1, FL, x9.2.2.1, x9.2.2.2.1, x9.2.2.2.2.1, AL, AR, BR, x9.2.2.2.2.2.1, x9.2.2.2.2.2.2))) (n : Nat) (t : Nat × Nat) (ht : ohKd t.1 = 8) (x1 : Int32) (y0 : OhR) (y1 : Int32) {r : (((Nat × Nat) × OhI × OhQ × OhQ × OhI × OhN × OhC) ⊕ (OhR × OhI × OhQ × OhQ × OhI × OhN × OhC)) × (Nat × Nat)} (hm : mX9_one_j34 rc n FI FR GR AI AN C t x1 y0 y1 = some r) (hK : ∀ o : OhR × OhI × OhQ × OhQ × OhI × OhN × OhC, r.1 = .inr o → Φ (some (vR o.1)) (o.2.1, FL, o.2.2.1, o.2.2.2.1, o.2.2.2.2.1, AL, AR, BR, o.2.2.2.2.2.1, o.2.2.2.2.2.2)) (hT : ∀ x : (Nat × Nat) × OhI × OhQ × OhQ × OhI × OhN × OhC, r.1 = .inl x → Ψ "OperaHouse$Fault" x.1 (x.2.1, FL, x.2.2.1, x.2.2.2.1, x.2.2.2.2.1, AL, AR, BR, x.2.2.2.2.2.1, x.2.2.2.2.2.2)) : oX G (d + 3) iX9_one 34 [(0, vR (some t)), (1, vI x1)] [vI y1, vR y0] (FI, FL, FR, GR, AI, AL, AR, BR, AN, C) (oPl r.2 k) Φ Ψ := by
  obtain ⟨r, q0⟩ := r
  unfold mX9_one_j34 at hm
  refine oX_iconst (v := (1 : Int32)) dX9_one_34 (by decide) ?_
  obtain ⟨a8, e8, hm⟩ := bd_s hm
  obtain ⟨r9, g9, hm⟩ := bd_s hm
  refine oX_cost hm (fun qq9 hm => ?_)
  refine oX_cVX_ (as := [vI y1, vI (1 : Int32)]) dX9_one_35 rfl e8 rfl (by decide) rfl ok_X9_need rfl rfl q984 q986 qs13 q146 q987 ⟨by omega, by decide⟩ (Nat.le_of_ble_eq_true rfl) (t_X9_need a8 ((oD_some e8).2) y1 (1 : Int32) g9) (Nat.le_refl _) (Nat.le_refl _) (fun o9 hz9 => ?_) (fun x9_ hz9 => ?_)
  · rw [hz9] at hm
    have hm := el2 hm
    refine oX_aload_n dX9_one_38 rfl rfl ?_
    refine oX_aload_n dX9_one_39 rfl rfl ?_
    refine oX_getI fX9_204 rfl (oD_t ht) dX9_one_40 ?_
    refine oX_bipush (v := (40 : Int32)) dX9_one_43 (by decide) ?_
    refine oX_icmp_ge (tgt := 61) dX9_one_45 (by decide) (fun c10 => ?_) (fun c10 => ?_)
    · have hm := ifp c10 hm
      exact oX_sub [0, 1] rfl (x_mX9_one_j61 hd9 rc hrec n t ht x1 (some t) hm hK hT)
    · have hm := ifn c10 hm
      refine oX_aload_n dX9_one_48 rfl rfl ?_
      refine oX_getI fX9_207 rfl (oD_t ht) dX9_one_49 ?_
      refine oX_bipush (v := (12 : Int32)) dX9_one_52 (by decide) ?_
      refine oX_icmp_ge (tgt := 61) dX9_one_54 (by decide) (fun c33 => ?_) (fun c33 => ?_)
      · have hm := ifp c33 hm
        exact oX_sub [0, 1] rfl (x_mX9_one_j61 hd9 rc hrec n t ht x1 (some t) hm hK hT)
      · have hm := ifn c33 hm
        refine oX_iconst (v := (1 : Int32)) dX9_one_57 (by decide) ?_
        refine oX_goto (tgt := 62) dX9_one_58 (by decide) ?_
        exact oX_sub [0, 1] rfl (x_mX9_one_j62 hd9 rc hrec n t ht x1 (some t) (1 : Int32) hm hK hT)
  · rw [hz9] at hm
    have hm := el1 hm
    refine oXt_out rfl ?_
    obtain ⟨hr, rfl⟩ := oEnd hm
    exact hT (x9_.1, x9_.2.1, FR, x9_.2.2.1, AI, AN, x9_.2.2.2) hr
noncomputable def mX9_one_j29 (rc : Nat → OhI → OhQ → OhQ → OhI → OhN → OhC → Nat × Nat → Option ((((Nat × Nat) × OhI × OhQ × OhQ × OhI × OhN × OhC) ⊕ (OhR × OhI × OhQ × OhQ × OhI × OhN × OhC)) × (Nat × Nat))) (n : Nat) (FI : OhI) (FR : OhQ) (GR : OhQ) (AI : OhI) (AN : OhN) (C : OhC) (t : Nat × Nat) (x1 : Int32) (y0 : OhR) : Option ((((Nat × Nat) × OhI × OhQ × OhQ × OhI × OhN × OhC) ⊕ (OhR × OhI × OhQ × OhQ × OhI × OhN × OhC)) × (Nat × Nat)) :=
  mX9_one_j34 rc n FI FR GR AI AN C t x1 y0 (1 : Int32)
theorem x_mX9_one_j29 {G : OhG} {FI AI : OhI} {FL AL : OhL} {FR GR AR BR : OhQ} {AN : OhN} {C : OhC} {k : Nat × Nat} {Φ : OhP} {Ψ : OhX} {d : Nat} (hd9 : 9 ≤ d) (rc : Nat → OhI → OhQ → OhQ → OhI → OhN → OhC → Nat × Nat → Option ((((Nat × Nat) × OhI × OhQ × OhQ × OhI × OhN × OhC) ⊕ (OhR × OhI × OhQ × OhQ × OhI × OhN × OhC)) × (Nat × Nat))) (hrec : ∀ {FI AI : OhI} {FL AL : OhL} {FR GR AR BR : OhQ} {AN : OhN} {C : OhC} (n : Nat) (t : Nat × Nat) (ht : ohKd t.1 = 8) {o : (((Nat × Nat) × OhI × OhQ × OhQ × OhI × OhN × OhC) ⊕ (OhR × OhI × OhQ × OhQ × OhI × OhN × OhC)) × (Nat × Nat)}, rc n FI FR GR AI AN C t = some o → oT G d iX9_one [vR (some t)] (FI, FL, FR, GR, AI, AL, AR, BR, AN, C) o.2 (fun v h => ∃ o9 : OhR × OhI × OhQ × OhQ × OhI × OhN × OhC, o.1 = .inr o9 ∧ v = (some (vR o9.1)) ∧ h = (o9.2.1, FL, o9.2.2.1, o9.2.2.2.1, o9.2.2.2.2.1, AL, AR, BR, o9.2.2.2.2.2.1, o9.2.2.2.2.2.2)) (fun E b h => ∃ x9 : (Nat × Nat) × OhI × OhQ × OhQ × OhI × OhN × OhC, o.1 = .inl x9 ∧ E = "OperaHouse$Fault" ∧ b = x9.1 ∧ h = (x9.2.1, FL, x9.2.2.1, x9.2.2.2.1, x9.2.2.2.2.1, AL, AR, BR, x9.2.2.2.2.2.1, x9.2.2.2.2.2.2))) (n : Nat) (t : Nat × Nat) (ht : ohKd t.1 = 8) (x1 : Int32) (y0 : OhR) {r : (((Nat × Nat) × OhI × OhQ × OhQ × OhI × OhN × OhC) ⊕ (OhR × OhI × OhQ × OhQ × OhI × OhN × OhC)) × (Nat × Nat)} (hm : mX9_one_j29 rc n FI FR GR AI AN C t x1 y0 = some r) (hK : ∀ o : OhR × OhI × OhQ × OhQ × OhI × OhN × OhC, r.1 = .inr o → Φ (some (vR o.1)) (o.2.1, FL, o.2.2.1, o.2.2.2.1, o.2.2.2.2.1, AL, AR, BR, o.2.2.2.2.2.1, o.2.2.2.2.2.2)) (hT : ∀ x : (Nat × Nat) × OhI × OhQ × OhQ × OhI × OhN × OhC, r.1 = .inl x → Ψ "OperaHouse$Fault" x.1 (x.2.1, FL, x.2.2.1, x.2.2.2.1, x.2.2.2.2.1, AL, AR, BR, x.2.2.2.2.2.1, x.2.2.2.2.2.2)) : oX G (d + 3) iX9_one 29 [(0, vR (some t)), (1, vI x1)] [vR y0] (FI, FL, FR, GR, AI, AL, AR, BR, AN, C) (oPl r.2 k) Φ Ψ := by
  obtain ⟨r, q0⟩ := r
  unfold mX9_one_j29 at hm
  refine oX_iconst (v := (1 : Int32)) dX9_one_29 (by decide) ?_
  refine oX_goto (tgt := 34) dX9_one_30 (by decide) ?_
  exact oX_sub [0, 1] rfl (x_mX9_one_j34 hd9 rc hrec n t ht x1 y0 (1 : Int32) hm hK hT)
noncomputable def mX9_one_o (rc : Nat → OhI → OhQ → OhQ → OhI → OhN → OhC → Nat × Nat → Option ((((Nat × Nat) × OhI × OhQ × OhQ × OhI × OhN × OhC) ⊕ (OhR × OhI × OhQ × OhQ × OhI × OhN × OhC)) × (Nat × Nat))) (n : Nat) (FI : OhI) (FR : OhQ) (GR : OhQ) (AI : OhI) (AN : OhN) (C : OhC) (t : Nat × Nat) : Option ((((Nat × Nat) × OhI × OhQ × OhQ × OhI × OhN × OhC) ⊕ (OhR × OhI × OhQ × OhQ × OhI × OhN × OhC)) × (Nat × Nat)) :=
  (mX9_atom n FI FR GR AI AN C t).bind fun r1 =>
  (if r1 = (-1 : Int32) then
  gd (0 < C 54) <|
    (mX9_is n FI FR GR AI AN t (some (54, 0))).bind fun r4 =>
    (if r4 = 0 then
    (mX9_isSign FI t (40 : Int32)).bind fun r6 =>
      (if r6 = 0 then
      mX9_one_j34 rc n FI FR GR AI AN C t r1 (some t) (0 : Int32)
    else
      mX9_one_j29 rc n FI FR GR AI AN C t r1 (some t))
  else
    mX9_one_j29 rc n FI FR GR AI AN C t r1 (some t))
else
  mX9_one_j29 rc n FI FR GR AI AN C t r1 (some t))
theorem x_mX9_one_o {G : OhG} {FI AI : OhI} {FL AL : OhL} {FR GR AR BR : OhQ} {AN : OhN} {C : OhC} {k : Nat × Nat} {Φ : OhP} {Ψ : OhX} {d : Nat} (hd9 : 9 ≤ d) (rc : Nat → OhI → OhQ → OhQ → OhI → OhN → OhC → Nat × Nat → Option ((((Nat × Nat) × OhI × OhQ × OhQ × OhI × OhN × OhC) ⊕ (OhR × OhI × OhQ × OhQ × OhI × OhN × OhC)) × (Nat × Nat))) (hrec : ∀ {FI AI : OhI} {FL AL : OhL} {FR GR AR BR : OhQ} {AN : OhN} {C : OhC} (n : Nat) (t : Nat × Nat) (ht : ohKd t.1 = 8) {o : (((Nat × Nat) × OhI × OhQ × OhQ × OhI × OhN × OhC) ⊕ (OhR × OhI × OhQ × OhQ × OhI × OhN × OhC)) × (Nat × Nat)}, rc n FI FR GR AI AN C t = some o → oT G d iX9_one [vR (some t)] (FI, FL, FR, GR, AI, AL, AR, BR, AN, C) o.2 (fun v h => ∃ o9 : OhR × OhI × OhQ × OhQ × OhI × OhN × OhC, o.1 = .inr o9 ∧ v = (some (vR o9.1)) ∧ h = (o9.2.1, FL, o9.2.2.1, o9.2.2.2.1, o9.2.2.2.2.1, AL, AR, BR, o9.2.2.2.2.2.1, o9.2.2.2.2.2.2)) (fun E b h => ∃ x9 : (Nat × Nat) × OhI × OhQ × OhQ × OhI × OhN × OhC, o.1 = .inl x9 ∧ E = "OperaHouse$Fault" ∧ b = x9.1 ∧ h = (x9.2.1, FL, x9.2.2.1, x9.2.2.2.1, x9.2.2.2.2.1, AL, AR, BR, x9.2.2.2.2.2.1, x9.2.2.2.2.2.2))) (n : Nat) (t : Nat × Nat) (ht : ohKd t.1 = 8) {r : (((Nat × Nat) × OhI × OhQ × OhQ × OhI × OhN × OhC) ⊕ (OhR × OhI × OhQ × OhQ × OhI × OhN × OhC)) × (Nat × Nat)} (hm : mX9_one_o rc n FI FR GR AI AN C t = some r) (hK : ∀ o : OhR × OhI × OhQ × OhQ × OhI × OhN × OhC, r.1 = .inr o → Φ (some (vR o.1)) (o.2.1, FL, o.2.2.1, o.2.2.2.1, o.2.2.2.2.1, AL, AR, BR, o.2.2.2.2.2.1, o.2.2.2.2.2.2)) (hT : ∀ x : (Nat × Nat) × OhI × OhQ × OhQ × OhI × OhN × OhC, r.1 = .inl x → Ψ "OperaHouse$Fault" x.1 (x.2.1, FL, x.2.2.1, x.2.2.2.1, x.2.2.2.2.1, AL, AR, BR, x.2.2.2.2.2.1, x.2.2.2.2.2.2)) : oX G (d + 3) iX9_one 0 [(0, vR (some t))] [] (FI, FL, FR, GR, AI, AL, AR, BR, AN, C) (oPl r.2 k) Φ Ψ := by
  obtain ⟨r, q0⟩ := r
  unfold mX9_one_o at hm
  refine oX_aload_n dX9_one_0 rfl rfl ?_
  obtain ⟨r1, g1, hm⟩ := bd_s hm
  refine oX_cV (as := []) dX9_one_1 rfl (oD_t ht) rfl (by decide) rfl ok_X9_atom rfl rfl q1101 q1103 qs20 q146 q1104 ⟨by omega, by decide⟩ (Nat.le_of_ble_eq_true rfl) (t_X9_atom n t ht g1) ?_
  refine oX_istore_n (ls' := [(1, vI r1), (0, vR (some t))]) dX9_one_4 rfl (by decide) rfl ?_
  refine oX_aload_n dX9_one_5 rfl rfl ?_
  refine oX_iload_n dX9_one_6 rfl rfl ?_
  refine oX_iconst (v := (-1 : Int32)) dX9_one_7 (by decide) ?_
  refine oX_icmp_ne (tgt := 29) dX9_one_8 (by decide) (fun c2 => ?_) (fun c2 => ?_)
  · have hm := ifp c2 hm
    refine oX_aload_n dX9_one_11 rfl rfl ?_
    obtain ⟨g3, hm⟩ := gd_s hm
    refine oX_ldcS (site := 54) g3 (List.mem_of_getElem? (i := 13) rfl) rfl rfl dX9_one_12 ?_
    obtain ⟨r4, g4, hm⟩ := bd_s hm
    refine oX_cV (as := [vR (some (54, 0))]) dX9_one_14 rfl (oD_t ht) rfl (by decide) rfl ok_X9_is rfl rfl q968 q970 qs11 q146 q971 ⟨by omega, by decide⟩ (Nat.le_of_ble_eq_true rfl) (t_X9_is n t ht (some (54, 0)) g4) ?_
    refine oX_if_ne (tgt := 29) dX9_one_17 (by decide) (fun c5 => ?_) (fun c5 => ?_)
    · have hm := ifp c5 hm
      refine oX_aload_n dX9_one_20 rfl rfl ?_
      refine oX_bipush (v := (40 : Int32)) dX9_one_21 (by decide) ?_
      obtain ⟨r6, g6, hm⟩ := bd_s hm
      refine oX_cV (as := [vI (40 : Int32)]) dX9_one_23 rfl (oD_t ht) rfl (by decide) rfl ok_X9_isSign rfl rfl q1218 q1220 qs21 q146 q1221 ⟨by omega, by decide⟩ (Nat.le_of_ble_eq_true rfl) (t_X9_isSign t ht (40 : Int32) g6) ?_
      refine oX_if_eq (tgt := 33) dX9_one_26 (by decide) (fun c7 => ?_) (fun c7 => ?_)
      · have hm := ifp c7 hm
        refine oX_iconst (v := (0 : Int32)) dX9_one_33 (by decide) ?_
        exact oX_sub [1, 0] rfl (x_mX9_one_j34 hd9 rc hrec n t ht r1 (some t) (0 : Int32) hm hK hT)
      · have hm := ifn c7 hm
        exact oX_sub [1, 0] rfl (x_mX9_one_j29 hd9 rc hrec n t ht r1 (some t) hm hK hT)
    · have hm := ifn c5 hm
      exact oX_sub [1, 0] rfl (x_mX9_one_j29 hd9 rc hrec n t ht r1 (some t) hm hK hT)
  · have hm := ifn c2 hm
    exact oX_sub [1, 0] rfl (x_mX9_one_j29 hd9 rc hrec n t ht r1 (some t) hm hK hT)
theorem t_X9_one_o {G : OhG} {FI AI : OhI} {FL AL : OhL} {FR GR AR BR : OhQ} {AN : OhN} {C : OhC} {d : Nat} (hd9 : 9 ≤ d) (rc : Nat → OhI → OhQ → OhQ → OhI → OhN → OhC → Nat × Nat → Option ((((Nat × Nat) × OhI × OhQ × OhQ × OhI × OhN × OhC) ⊕ (OhR × OhI × OhQ × OhQ × OhI × OhN × OhC)) × (Nat × Nat))) (hrec : ∀ {FI AI : OhI} {FL AL : OhL} {FR GR AR BR : OhQ} {AN : OhN} {C : OhC} (n : Nat) (t : Nat × Nat) (ht : ohKd t.1 = 8) {o : (((Nat × Nat) × OhI × OhQ × OhQ × OhI × OhN × OhC) ⊕ (OhR × OhI × OhQ × OhQ × OhI × OhN × OhC)) × (Nat × Nat)}, rc n FI FR GR AI AN C t = some o → oT G d iX9_one [vR (some t)] (FI, FL, FR, GR, AI, AL, AR, BR, AN, C) o.2 (fun v h => ∃ o9 : OhR × OhI × OhQ × OhQ × OhI × OhN × OhC, o.1 = .inr o9 ∧ v = (some (vR o9.1)) ∧ h = (o9.2.1, FL, o9.2.2.1, o9.2.2.2.1, o9.2.2.2.2.1, AL, AR, BR, o9.2.2.2.2.2.1, o9.2.2.2.2.2.2)) (fun E b h => ∃ x9 : (Nat × Nat) × OhI × OhQ × OhQ × OhI × OhN × OhC, o.1 = .inl x9 ∧ E = "OperaHouse$Fault" ∧ b = x9.1 ∧ h = (x9.2.1, FL, x9.2.2.1, x9.2.2.2.1, x9.2.2.2.2.1, AL, AR, BR, x9.2.2.2.2.2.1, x9.2.2.2.2.2.2))) (n : Nat) (t : Nat × Nat) (ht : ohKd t.1 = 8) {o : (((Nat × Nat) × OhI × OhQ × OhQ × OhI × OhN × OhC) ⊕ (OhR × OhI × OhQ × OhQ × OhI × OhN × OhC)) × (Nat × Nat)} (hm : mX9_one_o rc n FI FR GR AI AN C t = some o) : oT G (d + 3) iX9_one [vR (some t)] (FI, FL, FR, GR, AI, AL, AR, BR, AN, C) o.2 (fun v h => ∃ o9 : OhR × OhI × OhQ × OhQ × OhI × OhN × OhC, o.1 = .inr o9 ∧ v = (some (vR o9.1)) ∧ h = (o9.2.1, FL, o9.2.2.1, o9.2.2.2.1, o9.2.2.2.2.1, AL, AR, BR, o9.2.2.2.2.2.1, o9.2.2.2.2.2.2)) (fun E b h => ∃ x9 : (Nat × Nat) × OhI × OhQ × OhQ × OhI × OhN × OhC, o.1 = .inl x9 ∧ E = "OperaHouse$Fault" ∧ b = x9.1 ∧ h = (x9.2.1, FL, x9.2.2.1, x9.2.2.2.1, x9.2.2.2.2.1, AL, AR, BR, x9.2.2.2.2.2.1, x9.2.2.2.2.2.2)) :=
  oT_of (by decide) rfl (Nat.le_of_ble_eq_true rfl) (x_mX9_one_o (k := (0, 0)) hd9 rc hrec n t ht hm (fun o e => ⟨o, e, rfl, rfl⟩) (fun x e => ⟨x, e, rfl, rfl, rfl⟩))
noncomputable def mX9_one_f : Nat → Nat → OhI → OhQ → OhQ → OhI → OhN → OhC → Nat × Nat → Option ((((Nat × Nat) × OhI × OhQ × OhQ × OhI × OhN × OhC) ⊕ (OhR × OhI × OhQ × OhQ × OhI × OhN × OhC)) × (Nat × Nat))
  | 0 => fun _ _ _ _ _ _ _ _ => none
  | f + 1 => mX9_one_o (mX9_one_f f)
theorem t_X9_one_f {G : OhG} : ∀ (f : Nat) {FI AI : OhI} {FL AL : OhL} {FR GR AR BR : OhQ} {AN : OhN} {C : OhC} (n : Nat) (t : Nat × Nat) (ht : ohKd t.1 = 8) {o : (((Nat × Nat) × OhI × OhQ × OhQ × OhI × OhN × OhC) ⊕ (OhR × OhI × OhQ × OhQ × OhI × OhN × OhC)) × (Nat × Nat)}, mX9_one_f f n FI FR GR AI AN C t = some o → oT G (9 + 3 * f) iX9_one [vR (some t)] (FI, FL, FR, GR, AI, AL, AR, BR, AN, C) o.2 (fun v h => ∃ o9 : OhR × OhI × OhQ × OhQ × OhI × OhN × OhC, o.1 = .inr o9 ∧ v = (some (vR o9.1)) ∧ h = (o9.2.1, FL, o9.2.2.1, o9.2.2.2.1, o9.2.2.2.2.1, AL, AR, BR, o9.2.2.2.2.2.1, o9.2.2.2.2.2.2)) (fun E b h => ∃ x9 : (Nat × Nat) × OhI × OhQ × OhQ × OhI × OhN × OhC, o.1 = .inl x9 ∧ E = "OperaHouse$Fault" ∧ b = x9.1 ∧ h = (x9.2.1, FL, x9.2.2.1, x9.2.2.2.1, x9.2.2.2.2.1, AL, AR, BR, x9.2.2.2.2.2.1, x9.2.2.2.2.2.2)) := by
  intro f
  induction f with
  | zero =>
    intros
    rename_i hm
    cases hm
  | succ f ih =>
    intro FI AI FL AL FR GR AR BR AN C n t ht o hm
    rw [show 9 + 3 * (f + 1) = 9 + 3 * f + 3 from by omega]
    exact t_X9_one_o (Nat.le_add_right _ _) (mX9_one_f f) ih n t ht hm
noncomputable def mX9_one (n : Nat) (FI : OhI) (FR : OhQ) (GR : OhQ) (AI : OhI) (AN : OhN) (C : OhC) (t : Nat × Nat) : Option ((((Nat × Nat) × OhI × OhQ × OhQ × OhI × OhN × OhC) ⊕ (OhR × OhI × OhQ × OhQ × OhI × OhN × OhC)) × (Nat × Nat)) := mX9_one_f 15 n FI FR GR AI AN C t
theorem t_X9_one {G : OhG} {FI AI : OhI} {FL AL : OhL} {FR GR AR BR : OhQ} {AN : OhN} {C : OhC} (n : Nat) (t : Nat × Nat) (ht : ohKd t.1 = 8) {o : (((Nat × Nat) × OhI × OhQ × OhQ × OhI × OhN × OhC) ⊕ (OhR × OhI × OhQ × OhQ × OhI × OhN × OhC)) × (Nat × Nat)} (hm : mX9_one n FI FR GR AI AN C t = some o) : oT G 54 iX9_one [vR (some t)] (FI, FL, FR, GR, AI, AL, AR, BR, AN, C) o.2 (fun v h => ∃ o9 : OhR × OhI × OhQ × OhQ × OhI × OhN × OhC, o.1 = .inr o9 ∧ v = (some (vR o9.1)) ∧ h = (o9.2.1, FL, o9.2.2.1, o9.2.2.2.1, o9.2.2.2.2.1, AL, AR, BR, o9.2.2.2.2.2.1, o9.2.2.2.2.2.2)) (fun E b h => ∃ x9 : (Nat × Nat) × OhI × OhQ × OhQ × OhI × OhN × OhC, o.1 = .inl x9 ∧ E = "OperaHouse$Fault" ∧ b = x9.1 ∧ h = (x9.2.1, FL, x9.2.2.1, x9.2.2.2.1, x9.2.2.2.2.1, AL, AR, BR, x9.2.2.2.2.2.1, x9.2.2.2.2.2.2)) :=
  t_X9_one_f 15 n t ht hm
noncomputable def mX9_all (n : Nat) (FI : OhI) (FR : OhQ) (GR : OhQ) (AI : OhI) (AN : OhN) (C : OhC) (t : Nat × Nat) : Option ((((Nat × Nat) × OhI × OhQ × OhQ × OhI × OhN × OhC) ⊕ (OhR × OhI × OhQ × OhQ × OhI × OhN × OhC)) × (Nat × Nat)) := mX9_all_o (mX9_one_f 15) n FI FR GR AI AN C t
theorem t_X9_all {G : OhG} {FI AI : OhI} {FL AL : OhL} {FR GR AR BR : OhQ} {AN : OhN} {C : OhC} (n : Nat) (t : Nat × Nat) (ht : ohKd t.1 = 8) {o : (((Nat × Nat) × OhI × OhQ × OhQ × OhI × OhN × OhC) ⊕ (OhR × OhI × OhQ × OhQ × OhI × OhN × OhC)) × (Nat × Nat)} (hm : mX9_all n FI FR GR AI AN C t = some o) : oT G 55 iX9_all [vR (some t)] (FI, FL, FR, GR, AI, AL, AR, BR, AN, C) o.2 (fun v h => ∃ o9 : OhR × OhI × OhQ × OhQ × OhI × OhN × OhC, o.1 = .inr o9 ∧ v = (some (vR o9.1)) ∧ h = (o9.2.1, FL, o9.2.2.1, o9.2.2.2.1, o9.2.2.2.2.1, AL, AR, BR, o9.2.2.2.2.2.1, o9.2.2.2.2.2.2)) (fun E b h => ∃ x9 : (Nat × Nat) × OhI × OhQ × OhQ × OhI × OhN × OhC, o.1 = .inl x9 ∧ E = "OperaHouse$Fault" ∧ b = x9.1 ∧ h = (x9.2.1, FL, x9.2.2.1, x9.2.2.2.1, x9.2.2.2.2.1, AL, AR, BR, x9.2.2.2.2.2.1, x9.2.2.2.2.2.2)) :=
  t_X9_all_o (d := 9 + 3 * 15) (by decide) (mX9_one_f 15) (t_X9_one_f 15) n t ht hm
noncomputable def mX9_cond (n : Nat) (FI : OhI) (FR : OhQ) (GR : OhQ) (AI : OhI) (AN : OhN) (C : OhC) (t : Nat × Nat) : Option ((((Nat × Nat) × OhI × OhQ × OhQ × OhI × OhN × OhC) ⊕ (OhR × OhI × OhQ × OhQ × OhI × OhN × OhC)) × (Nat × Nat)) := mX9_cond_o (mX9_one_f 15) n FI FR GR AI AN C t
theorem t_X9_cond {G : OhG} {FI AI : OhI} {FL AL : OhL} {FR GR AR BR : OhQ} {AN : OhN} {C : OhC} (n : Nat) (t : Nat × Nat) (ht : ohKd t.1 = 8) {o : (((Nat × Nat) × OhI × OhQ × OhQ × OhI × OhN × OhC) ⊕ (OhR × OhI × OhQ × OhQ × OhI × OhN × OhC)) × (Nat × Nat)} (hm : mX9_cond n FI FR GR AI AN C t = some o) : oT G 56 iX9_cond [vR (some t)] (FI, FL, FR, GR, AI, AL, AR, BR, AN, C) o.2 (fun v h => ∃ o9 : OhR × OhI × OhQ × OhQ × OhI × OhN × OhC, o.1 = .inr o9 ∧ v = (some (vR o9.1)) ∧ h = (o9.2.1, FL, o9.2.2.1, o9.2.2.2.1, o9.2.2.2.2.1, AL, AR, BR, o9.2.2.2.2.2.1, o9.2.2.2.2.2.2)) (fun E b h => ∃ x9 : (Nat × Nat) × OhI × OhQ × OhQ × OhI × OhN × OhC, o.1 = .inl x9 ∧ E = "OperaHouse$Fault" ∧ b = x9.1 ∧ h = (x9.2.1, FL, x9.2.2.1, x9.2.2.2.1, x9.2.2.2.2.1, AL, AR, BR, x9.2.2.2.2.2.1, x9.2.2.2.2.2.2)) :=
  t_X9_cond_o (d := 9 + 3 * 15) (by decide) (mX9_one_f 15) (t_X9_one_f 15) n t ht hm
noncomputable def mX9_conditions (n : Nat) (FI : OhI) (FR : OhQ) (GR : OhQ) (AI : OhI) (AN : OhN) (C : OhC) (t : Nat × Nat) : Option ((((Nat × Nat) × OhI × OhQ × OhQ × OhI × OhN × OhC) ⊕ (OhR × OhI × OhQ × OhQ × OhI × OhN × OhC)) × (Nat × Nat)) :=
  (mX9_go n FI FR GR AI AN C t).bind fun r1 =>
  oCost r1.2 <|
  (mX9_cond n r1.1.1 r1.1.2.1 r1.1.2.2.1 r1.1.2.2.2.1 r1.1.2.2.2.2.1 r1.1.2.2.2.2.2 t).bind fun r2 =>
  oCost r2.2 <|
  (Sum.elim (fun x2_ => some (.inl (x2_.1, x2_.2.1, x2_.2.2.1, x2_.2.2.2.1, x2_.2.2.2.2.1, x2_.2.2.2.2.2.1, x2_.2.2.2.2.2.2), (0, 0))) (fun o2 => some (.inr (o2.1, o2.2.1, o2.2.2.1, o2.2.2.2.1, o2.2.2.2.2.1, o2.2.2.2.2.2.1, o2.2.2.2.2.2.2), (0, 0))) r2.1)
theorem x_mX9_conditions {G : OhG} {FI AI : OhI} {FL AL : OhL} {FR GR AR BR : OhQ} {AN : OhN} {C : OhC} {k : Nat × Nat} {Φ : OhP} {Ψ : OhX} (n : Nat) (t : Nat × Nat) (ht : ohKd t.1 = 8) {r : (((Nat × Nat) × OhI × OhQ × OhQ × OhI × OhN × OhC) ⊕ (OhR × OhI × OhQ × OhQ × OhI × OhN × OhC)) × (Nat × Nat)} (hm : mX9_conditions n FI FR GR AI AN C t = some r) (hK : ∀ o : OhR × OhI × OhQ × OhQ × OhI × OhN × OhC, r.1 = .inr o → Φ (some (vR o.1)) (o.2.1, FL, o.2.2.1, o.2.2.2.1, o.2.2.2.2.1, AL, AR, BR, o.2.2.2.2.2.1, o.2.2.2.2.2.2)) (hT : ∀ x : (Nat × Nat) × OhI × OhQ × OhQ × OhI × OhN × OhC, r.1 = .inl x → Ψ "OperaHouse$Fault" x.1 (x.2.1, FL, x.2.2.1, x.2.2.2.1, x.2.2.2.2.1, AL, AR, BR, x.2.2.2.2.2.1, x.2.2.2.2.2.2)) : oX G 57 iX9_conditions 0 [(0, vR (some t))] [] (FI, FL, FR, GR, AI, AL, AR, BR, AN, C) (oPl r.2 k) Φ Ψ := by
  obtain ⟨r, q0⟩ := r
  unfold mX9_conditions at hm
  refine oX_aload_n dX9_conditions_0 rfl rfl ?_
  obtain ⟨r1, g1, hm⟩ := bd_s hm
  refine oX_cost hm (fun qq1 hm => ?_)
  refine oX_cVK_ (as := []) dX9_conditions_1 rfl (oD_t ht) rfl (by decide) rfl ok_X9_go rfl rfl q712 q714 qs8 q146 q715 (by decide) (Nat.le_of_ble_eq_true rfl) (t_X9_go n t ht g1) (Nat.le_refl _) (Nat.le_refl _) ?_
  refine oX_aload_n dX9_conditions_4 rfl rfl ?_
  obtain ⟨r2, g2, hm⟩ := bd_s hm
  refine oX_cost hm (fun qq2 hm => ?_)
  refine oX_cVX (as := []) dX9_conditions_5 rfl (oD_t ht) rfl (by decide) rfl ok_X9_cond rfl rfl q1089 q1091 qs17 q146 q1092 (by decide) (Nat.le_of_ble_eq_true rfl) (t_X9_cond n t ht g2) (Nat.le_refl _) (Nat.le_refl _) (fun o2 hz2 => ?_) (fun x2_ hz2 => ?_)
  · rw [hz2] at hm
    have hm := el2 hm
    obtain ⟨hr, rfl⟩ := oEnd hm
    exact oX_aret dX9_conditions_8 rfl (by first | exact Or.inl ⟨_, rfl⟩ | exact Or.inr ⟨_, rfl⟩) (hK (o2.1, o2.2.1, o2.2.2.1, o2.2.2.2.1, o2.2.2.2.2.1, o2.2.2.2.2.2.1, o2.2.2.2.2.2.2) hr)
  · rw [hz2] at hm
    have hm := el1 hm
    refine oXt_out rfl ?_
    obtain ⟨hr, rfl⟩ := oEnd hm
    exact hT (x2_.1, x2_.2.1, x2_.2.2.1, x2_.2.2.2.1, x2_.2.2.2.2.1, x2_.2.2.2.2.2.1, x2_.2.2.2.2.2.2) hr
theorem t_X9_conditions {G : OhG} {FI AI : OhI} {FL AL : OhL} {FR GR AR BR : OhQ} {AN : OhN} {C : OhC} (n : Nat) (t : Nat × Nat) (ht : ohKd t.1 = 8) {o : (((Nat × Nat) × OhI × OhQ × OhQ × OhI × OhN × OhC) ⊕ (OhR × OhI × OhQ × OhQ × OhI × OhN × OhC)) × (Nat × Nat)} (hm : mX9_conditions n FI FR GR AI AN C t = some o) : oT G 57 iX9_conditions [vR (some t)] (FI, FL, FR, GR, AI, AL, AR, BR, AN, C) o.2 (fun v h => ∃ o9 : OhR × OhI × OhQ × OhQ × OhI × OhN × OhC, o.1 = .inr o9 ∧ v = (some (vR o9.1)) ∧ h = (o9.2.1, FL, o9.2.2.1, o9.2.2.2.1, o9.2.2.2.2.1, AL, AR, BR, o9.2.2.2.2.2.1, o9.2.2.2.2.2.2)) (fun E b h => ∃ x9 : (Nat × Nat) × OhI × OhQ × OhQ × OhI × OhN × OhC, o.1 = .inl x9 ∧ E = "OperaHouse$Fault" ∧ b = x9.1 ∧ h = (x9.2.1, FL, x9.2.2.1, x9.2.2.2.1, x9.2.2.2.2.1, AL, AR, BR, x9.2.2.2.2.2.1, x9.2.2.2.2.2.2)) :=
  oT_of (by decide) rfl (Nat.le_of_ble_eq_true rfl) (x_mX9_conditions (k := (0, 0)) n t ht hm (fun o e => ⟨o, e, rfl, rfl⟩) (fun x e => ⟨x, e, rfl, rfl, rfl⟩))
noncomputable def mX9_rule_j292 (n : Nat) (FI : OhI) (FR : OhQ) (GR : OhQ) (AI : OhI) (BR : OhQ) (AN : OhN) (C : OhC) (t : Nat × Nat) (y0 : OhR) (y1 : OhR) (y2 : OhR) (y3 : Int32) (y4 : OhR) : Option ((((Nat × Nat) × OhI × OhQ × OhQ × OhI × OhQ × OhN × OhC) ⊕ (OhI × OhQ × OhQ × OhI × OhQ × OhN × OhC)) × (Nat × Nat)) :=
  (oD 11 y2).bind fun a32 =>
  (mX12_init FI FR a32 y3 y4).bind fun r33 =>
  (oD 17 y0).bind fun a34 =>
  (mJ2_add r33.1 GR BR AN C a34 y1).bind fun r35 =>
  oCost r35.2 <|
  some (.inr (r35.1.2.1, r33.2, r35.1.2.2.1, AI, r35.1.2.2.2.1, r35.1.2.2.2.2.1, r35.1.2.2.2.2.2), (0, 0))
theorem x_mX9_rule_j292 {G : OhG} {FI AI : OhI} {FL AL : OhL} {FR GR AR BR : OhQ} {AN : OhN} {C : OhC} {k : Nat × Nat} {Φ : OhP} {Ψ : OhX} (n : Nat) (t : Nat × Nat) (ht : ohKd t.1 = 8) (y0 : OhR) (y1 : OhR) (y2 : OhR) (y3 : Int32) (y4 : OhR) {r : (((Nat × Nat) × OhI × OhQ × OhQ × OhI × OhQ × OhN × OhC) ⊕ (OhI × OhQ × OhQ × OhI × OhQ × OhN × OhC)) × (Nat × Nat)} (hm : mX9_rule_j292 n FI FR GR AI BR AN C t y0 y1 y2 y3 y4 = some r) (hK : ∀ o : OhI × OhQ × OhQ × OhI × OhQ × OhN × OhC, r.1 = .inr o → Φ none (o.1, FL, o.2.1, o.2.2.1, o.2.2.2.1, AL, AR, o.2.2.2.2.1, o.2.2.2.2.2.1, o.2.2.2.2.2.2)) (hT : ∀ x : (Nat × Nat) × OhI × OhQ × OhQ × OhI × OhQ × OhN × OhC, r.1 = .inl x → Ψ "OperaHouse$Fault" x.1 (x.2.1, FL, x.2.2.1, x.2.2.2.1, x.2.2.2.2.1, AL, AR, x.2.2.2.2.2.1, x.2.2.2.2.2.2.1, x.2.2.2.2.2.2.2)) : oX G 58 iX9_rule 292 [] [vR y4, vI y3, vR y2, vR y1, vR y0] (FI, FL, FR, GR, AI, AL, AR, BR, AN, C) (oPl r.2 k) Φ Ψ := by
  obtain ⟨r, q0⟩ := r
  unfold mX9_rule_j292 at hm
  obtain ⟨a32, e32, hm⟩ := bd_s hm
  rw [(oD_some e32).1]
  obtain ⟨r33, g33, hm⟩ := bd_s hm
  refine oX_cI (as := [vI y3, vR y4]) dX9_rule_292 rfl ok_X12_init rfl rfl rfl q1250 q1251 q157 q1252 (by decide) (Nat.le_of_ble_eq_true rfl) (t_X12_init a32 ((oD_some e32).2) y3 y4 g33) ?_
  obtain ⟨a34, e34, hm⟩ := bd_s hm
  obtain ⟨r35, g35, hm⟩ := bd_s hm
  refine oX_cost hm (fun qq35 hm => ?_)
  refine oX_cVK (as := [vR y1]) dX9_rule_295 rfl e34 rfl (by decide) rfl ok_J2_add rfl rfl q1079 q497 q498 q132 q499 (by decide) (Nat.le_of_ble_eq_true rfl) (t_J2_add a34 ((oD_some e34).2) y1 g35) (Nat.le_refl _) (Nat.le_refl _) ?_
  refine oX_pop dX9_rule_298 trivial ?_
  obtain ⟨hr, rfl⟩ := oEnd hm
  exact oX_vret dX9_rule_299 rfl (hK (r35.1.2.1, r33.2, r35.1.2.2.1, AI, r35.1.2.2.2.1, r35.1.2.2.2.2.1, r35.1.2.2.2.2.2) hr)
noncomputable def mX9_rule_j247 (n : Nat) (FI : OhI) (FR : OhQ) (GR : OhQ) (AI : OhI) (BR : OhQ) (AN : OhN) (C : OhC) (t : Nat × Nat) (y0 : OhR) (y1 : Int32) : Option ((((Nat × Nat) × OhI × OhQ × OhQ × OhI × OhQ × OhN × OhC) ⊕ (OhI × OhQ × OhQ × OhI × OhQ × OhN × OhC)) × (Nat × Nat)) :=
  (oD 8 y0).bind fun a23 =>
  (mX9_need FI GR C a23 y1 (3 : Int32)).bind fun r24 =>
  oCost r24.2 <|
  (Sum.elim (fun x24_ => some (.inl (x24_.1, x24_.2.1, FR, x24_.2.2.1, AI, BR, AN, x24_.2.2.2), (0, 0))) (fun o24 => (mX9_go n o24.1 FR o24.2.1 AI AN o24.2.2 t).bind fun r25 =>
  oCost r25.2 <|
  (mX9_number n r25.1.1 r25.1.2.1 r25.1.2.2.1 r25.1.2.2.2.1 r25.1.2.2.2.2.1 r25.1.2.2.2.2.2 t (0 : Int32) (99999 : Int32)).bind fun r26 =>
  oCost r26.2 <|
  (Sum.elim (fun x26_ => some (.inl (x26_.1, x26_.2.1, x26_.2.2.1, x26_.2.2.2.1, x26_.2.2.2.2.1, BR, x26_.2.2.2.2.2.1, x26_.2.2.2.2.2.2), (0, 0))) (fun o26 => (oD 7 (o26.2.2.1 t.1 t.2 11)).bind fun a27 =>
  oLet (sA o26.2.1 22 (o26.2.2.2.2.2.2 22) (fun _ => 0)) fun FI28 =>
  oLet (sA o26.2.2.1 22 (o26.2.2.2.2.2.2 22) (fun _ => none)) fun FR28 =>
  oLet (uA o26.2.2.2.2.2.2 22 (o26.2.2.2.2.2.2 22 + 1)) fun C28 =>
  oCost (1, 2) <|
  gd (0 < C28 50) <|
  (mX9_is n FI28 FR28 o26.2.2.2.1 o26.2.2.2.2.1 o26.2.2.2.2.2.1 t (some (50, 0))).bind fun r30 =>
  (if r30 = 0 then
  mX9_rule_j292 n FI28 FR28 o26.2.2.2.1 o26.2.2.2.2.1 BR o26.2.2.2.2.2.1 C28 t (o26.2.2.1 a27.1 a27.2 6) (some (22, o26.2.2.2.2.2.2 22)) (some (22, o26.2.2.2.2.2.2 22)) o26.1 none
else
  (mX9_conditions n FI28 FR28 o26.2.2.2.1 o26.2.2.2.2.1 o26.2.2.2.2.2.1 C28 t).bind fun r36 =>
    oCost r36.2 <|
    (Sum.elim (fun x36_ => some (.inl (x36_.1, x36_.2.1, x36_.2.2.1, x36_.2.2.2.1, x36_.2.2.2.2.1, BR, x36_.2.2.2.2.2.1, x36_.2.2.2.2.2.2), (0, 0))) (fun o36 => mX9_rule_j292 n o36.2.1 o36.2.2.1 o36.2.2.2.1 o36.2.2.2.2.1 BR o36.2.2.2.2.2.1 o36.2.2.2.2.2.2 t (o26.2.2.1 a27.1 a27.2 6) (some (22, o26.2.2.2.2.2.2 22)) (some (22, o26.2.2.2.2.2.2 22)) o26.1 o36.1) r36.1))) r26.1)) r24.1)
theorem x_mX9_rule_j247 {G : OhG} {FI AI : OhI} {FL AL : OhL} {FR GR AR BR : OhQ} {AN : OhN} {C : OhC} {k : Nat × Nat} {Φ : OhP} {Ψ : OhX} (n : Nat) (t : Nat × Nat) (ht : ohKd t.1 = 8) (y0 : OhR) (y1 : Int32) {r : (((Nat × Nat) × OhI × OhQ × OhQ × OhI × OhQ × OhN × OhC) ⊕ (OhI × OhQ × OhQ × OhI × OhQ × OhN × OhC)) × (Nat × Nat)} (hm : mX9_rule_j247 n FI FR GR AI BR AN C t y0 y1 = some r) (hK : ∀ o : OhI × OhQ × OhQ × OhI × OhQ × OhN × OhC, r.1 = .inr o → Φ none (o.1, FL, o.2.1, o.2.2.1, o.2.2.2.1, AL, AR, o.2.2.2.2.1, o.2.2.2.2.2.1, o.2.2.2.2.2.2)) (hT : ∀ x : (Nat × Nat) × OhI × OhQ × OhQ × OhI × OhQ × OhN × OhC, r.1 = .inl x → Ψ "OperaHouse$Fault" x.1 (x.2.1, FL, x.2.2.1, x.2.2.2.1, x.2.2.2.2.1, AL, AR, x.2.2.2.2.2.1, x.2.2.2.2.2.2.1, x.2.2.2.2.2.2.2)) : oX G 58 iX9_rule 247 [(0, vR (some t))] [vI y1, vR y0] (FI, FL, FR, GR, AI, AL, AR, BR, AN, C) (oPl r.2 k) Φ Ψ := by
  obtain ⟨r, q0⟩ := r
  unfold mX9_rule_j247 at hm
  refine oX_iconst (v := (3 : Int32)) dX9_rule_247 (by decide) ?_
  obtain ⟨a23, e23, hm⟩ := bd_s hm
  obtain ⟨r24, g24, hm⟩ := bd_s hm
  refine oX_cost hm (fun qq24 hm => ?_)
  refine oX_cVX_ (as := [vI y1, vI (3 : Int32)]) dX9_rule_248 rfl e23 rfl (by decide) rfl ok_X9_need rfl rfl q984 q986 qs13 q146 q987 (by decide) (Nat.le_of_ble_eq_true rfl) (t_X9_need a23 ((oD_some e23).2) y1 (3 : Int32) g24) (Nat.le_refl _) (Nat.le_refl _) (fun o24 hz24 => ?_) (fun x24_ hz24 => ?_)
  · rw [hz24] at hm
    have hm := el2 hm
    refine oX_aload_n dX9_rule_251 rfl rfl ?_
    obtain ⟨r25, g25, hm⟩ := bd_s hm
    refine oX_cost hm (fun qq25 hm => ?_)
    refine oX_cVK_ (as := []) dX9_rule_252 rfl (oD_t ht) rfl (by decide) rfl ok_X9_go rfl rfl q712 q714 qs8 q146 q715 (by decide) (Nat.le_of_ble_eq_true rfl) (t_X9_go n t ht g25) (Nat.le_refl _) (Nat.le_refl _) ?_
    refine oX_aload_n dX9_rule_255 rfl rfl ?_
    refine oX_iconst (v := (0 : Int32)) dX9_rule_256 (by decide) ?_
    refine oX_ldc q1081 dX9_rule_257 ?_
    obtain ⟨r26, g26, hm⟩ := bd_s hm
    refine oX_cost hm (fun qq26 hm => ?_)
    refine oX_cVX (as := [vI (0 : Int32), vI (99999 : Int32)]) dX9_rule_259 rfl (oD_t ht) rfl (by decide) rfl ok_X9_number rfl rfl q1053 q1055 qs15 q146 q1056 (by decide) (Nat.le_of_ble_eq_true rfl) (t_X9_number n t ht (0 : Int32) (99999 : Int32) g26) (Nat.le_refl _) (Nat.le_refl _) (fun o26 hz26 => ?_) (fun x26_ hz26 => ?_)
    · rw [hz26] at hm
      have hm := el2 hm
      refine oX_istore_n (ls' := [(1, vI o26.1), (0, vR (some t))]) dX9_rule_262 rfl (by decide) rfl ?_
      refine oX_aload_n dX9_rule_263 rfl rfl ?_
      refine oX_getF fX9_20 rfl (oD_t ht) dX9_rule_264 rfl ?_
      obtain ⟨a27, e27, hm⟩ := bd_s hm
      refine oX_getF fX9_155 rfl e27 dX9_rule_267 rfl ?_
      obtain ⟨FI28, hFI28, hm⟩ := oLs hm
      obtain ⟨FR28, hFR28, hm⟩ := oLs hm
      obtain ⟨C28, hC28, hm⟩ := oLs hm
      refine oX_cost hm (fun qq28 hm => ?_)
      refine oX_newIF (s9 := 22) (k := oPl qq28 k) nX9_159 rfl (by decide) dX9_rule_270 hFI28 hFR28 hC28 ?_
      refine oX_dup dX9_rule_273 trivial ?_
      refine oX_iload_n dX9_rule_274 rfl rfl ?_
      refine oX_aload_n dX9_rule_275 rfl rfl ?_
      obtain ⟨g29, hm⟩ := gd_s hm
      refine oX_ldcS (site := 50) g29 (List.mem_of_getElem? (i := 9) rfl) rfl rfl dX9_rule_276 ?_
      obtain ⟨r30, g30, hm⟩ := bd_s hm
      refine oX_cV (as := [vR (some (50, 0))]) dX9_rule_278 rfl (oD_t ht) rfl (by decide) rfl ok_X9_is rfl rfl q968 q970 qs11 q146 q971 (by decide) (Nat.le_of_ble_eq_true rfl) (t_X9_is n t ht (some (50, 0)) g30) ?_
      refine oX_if_eq (tgt := 291) dX9_rule_281 (by decide) (fun c31 => ?_) (fun c31 => ?_)
      · have hm := ifp c31 hm
        refine oX_null dX9_rule_291 ?_
        exact oX_sub [] rfl (x_mX9_rule_j292 n t ht (o26.2.2.1 a27.1 a27.2 6) (some (22, o26.2.2.2.2.2.2 22)) (some (22, o26.2.2.2.2.2.2 22)) o26.1 none hm hK hT)
      · have hm := ifn c31 hm
        refine oX_aload_n dX9_rule_284 rfl rfl ?_
        obtain ⟨r36, g36, hm⟩ := bd_s hm
        refine oX_cost hm (fun qq36 hm => ?_)
        refine oX_cVX (as := []) dX9_rule_285 rfl (oD_t ht) rfl (by decide) rfl ok_X9_conditions rfl rfl q1085 q1087 qs16 q146 q1088 (by decide) (Nat.le_of_ble_eq_true rfl) (t_X9_conditions n t ht g36) (Nat.le_refl _) (Nat.le_refl _) (fun o36 hz36 => ?_) (fun x36_ hz36 => ?_)
        · rw [hz36] at hm
          have hm := el2 hm
          refine oX_goto (tgt := 292) dX9_rule_288 (by decide) ?_
          exact oX_sub [] rfl (x_mX9_rule_j292 n t ht (o26.2.2.1 a27.1 a27.2 6) (some (22, o26.2.2.2.2.2.2 22)) (some (22, o26.2.2.2.2.2.2 22)) o26.1 o36.1 hm hK hT)
        · rw [hz36] at hm
          have hm := el1 hm
          refine oXt_out rfl ?_
          obtain ⟨hr, rfl⟩ := oEnd hm
          exact hT (x36_.1, x36_.2.1, x36_.2.2.1, x36_.2.2.2.1, x36_.2.2.2.2.1, BR, x36_.2.2.2.2.2.1, x36_.2.2.2.2.2.2) hr
    · rw [hz26] at hm
      have hm := el1 hm
      refine oXt_out rfl ?_
      obtain ⟨hr, rfl⟩ := oEnd hm
      exact hT (x26_.1, x26_.2.1, x26_.2.2.1, x26_.2.2.2.1, x26_.2.2.2.2.1, BR, x26_.2.2.2.2.2.1, x26_.2.2.2.2.2.2) hr
  · rw [hz24] at hm
    have hm := el1 hm
    refine oXt_out rfl ?_
    obtain ⟨hr, rfl⟩ := oEnd hm
    exact hT (x24_.1, x24_.2.1, FR, x24_.2.2.1, AI, BR, AN, x24_.2.2.2) hr
noncomputable def mX9_rule_j155 (n : Nat) (FI : OhI) (FR : OhQ) (GR : OhQ) (AI : OhI) (BR : OhQ) (AN : OhN) (C : OhC) (t : Nat × Nat) (y0 : OhR) (y1 : Int32) : Option ((((Nat × Nat) × OhI × OhQ × OhQ × OhI × OhQ × OhN × OhC) ⊕ (OhI × OhQ × OhQ × OhI × OhQ × OhN × OhC)) × (Nat × Nat)) :=
  (oD 8 y0).bind fun a41 =>
  (mX9_need FI GR C a41 y1 (3 : Int32)).bind fun r42 =>
  oCost r42.2 <|
  (Sum.elim (fun x42_ => some (.inl (x42_.1, x42_.2.1, FR, x42_.2.2.1, AI, BR, AN, x42_.2.2.2), (0, 0))) (fun o42 => (mX9_go n o42.1 FR o42.2.1 AI AN o42.2.2 t).bind fun r43 =>
  oCost r43.2 <|
  (mX9_number n r43.1.1 r43.1.2.1 r43.1.2.2.1 r43.1.2.2.2.1 r43.1.2.2.2.2.1 r43.1.2.2.2.2.2 t (0 : Int32) (29 : Int32)).bind fun r44 =>
  oCost r44.2 <|
  (Sum.elim (fun x44_ => some (.inl (x44_.1, x44_.2.1, x44_.2.2.1, x44_.2.2.2.1, x44_.2.2.2.2.1, BR, x44_.2.2.2.2.2.1, x44_.2.2.2.2.2.2), (0, 0))) (fun o44 => gd (0 < o44.2.2.2.2.2.2 48) <|
  (mX9_is n o44.2.1 o44.2.2.1 o44.2.2.2.1 o44.2.2.2.2.1 o44.2.2.2.2.2.1 t (some (48, 0))).bind fun r46 =>
  (mX9_need o44.2.1 o44.2.2.2.1 o44.2.2.2.2.2.2 t r46 (1 : Int32)).bind fun r47 =>
  oCost r47.2 <|
  (Sum.elim (fun x47_ => some (.inl (x47_.1, x47_.2.1, o44.2.2.1, x47_.2.2.1, o44.2.2.2.2.1, BR, o44.2.2.2.2.2.1, x47_.2.2.2), (0, 0))) (fun o47 => (mX9_go n o47.1 o44.2.2.1 o47.2.1 o44.2.2.2.2.1 o44.2.2.2.2.2.1 o47.2.2 t).bind fun r48 =>
  oCost r48.2 <|
  (oD 7 (r48.1.2.1 t.1 t.2 11)).bind fun a49 =>
  oLet (sA r48.1.1 21 (r48.1.2.2.2.2.2 21) (fun _ => 0)) fun FI50 =>
  oLet (uA r48.1.2.2.2.2.2 21 (r48.1.2.2.2.2.2 21 + 1)) fun C50 =>
  oCost (1, 2) <|
  (mX9_number n FI50 r48.1.2.1 r48.1.2.2.1 r48.1.2.2.2.1 r48.1.2.2.2.2.1 C50 t o44.1 (29 : Int32)).bind fun r51 =>
  oCost r51.2 <|
  (Sum.elim (fun x51_ => some (.inl (x51_.1, x51_.2.1, x51_.2.2.1, x51_.2.2.2.1, x51_.2.2.2.2.1, BR, x51_.2.2.2.2.2.1, x51_.2.2.2.2.2.2), (0, 0))) (fun o51 => (mX11_init o51.2.1 (21, r48.1.2.2.2.2.2 21) o44.1 o51.1).bind fun r52 =>
  (oD 17 (r48.1.2.1 a49.1 a49.2 5)).bind fun a53 =>
  (mJ2_add r52 o51.2.2.2.1 BR o51.2.2.2.2.2.1 o51.2.2.2.2.2.2 a53 (some (21, r48.1.2.2.2.2.2 21))).bind fun r54 =>
  oCost r54.2 <|
  some (.inr (r54.1.2.1, o51.2.2.1, r54.1.2.2.1, o51.2.2.2.2.1, r54.1.2.2.2.1, r54.1.2.2.2.2.1, r54.1.2.2.2.2.2), (0, 0))) r51.1)) r47.1)) r44.1)) r42.1)
theorem x_mX9_rule_j155 {G : OhG} {FI AI : OhI} {FL AL : OhL} {FR GR AR BR : OhQ} {AN : OhN} {C : OhC} {k : Nat × Nat} {Φ : OhP} {Ψ : OhX} (n : Nat) (t : Nat × Nat) (ht : ohKd t.1 = 8) (y0 : OhR) (y1 : Int32) {r : (((Nat × Nat) × OhI × OhQ × OhQ × OhI × OhQ × OhN × OhC) ⊕ (OhI × OhQ × OhQ × OhI × OhQ × OhN × OhC)) × (Nat × Nat)} (hm : mX9_rule_j155 n FI FR GR AI BR AN C t y0 y1 = some r) (hK : ∀ o : OhI × OhQ × OhQ × OhI × OhQ × OhN × OhC, r.1 = .inr o → Φ none (o.1, FL, o.2.1, o.2.2.1, o.2.2.2.1, AL, AR, o.2.2.2.2.1, o.2.2.2.2.2.1, o.2.2.2.2.2.2)) (hT : ∀ x : (Nat × Nat) × OhI × OhQ × OhQ × OhI × OhQ × OhN × OhC, r.1 = .inl x → Ψ "OperaHouse$Fault" x.1 (x.2.1, FL, x.2.2.1, x.2.2.2.1, x.2.2.2.2.1, AL, AR, x.2.2.2.2.2.1, x.2.2.2.2.2.2.1, x.2.2.2.2.2.2.2)) : oX G 58 iX9_rule 155 [(0, vR (some t))] [vI y1, vR y0] (FI, FL, FR, GR, AI, AL, AR, BR, AN, C) (oPl r.2 k) Φ Ψ := by
  obtain ⟨r, q0⟩ := r
  unfold mX9_rule_j155 at hm
  refine oX_iconst (v := (3 : Int32)) dX9_rule_155 (by decide) ?_
  obtain ⟨a41, e41, hm⟩ := bd_s hm
  obtain ⟨r42, g42, hm⟩ := bd_s hm
  refine oX_cost hm (fun qq42 hm => ?_)
  refine oX_cVX_ (as := [vI y1, vI (3 : Int32)]) dX9_rule_156 rfl e41 rfl (by decide) rfl ok_X9_need rfl rfl q984 q986 qs13 q146 q987 (by decide) (Nat.le_of_ble_eq_true rfl) (t_X9_need a41 ((oD_some e41).2) y1 (3 : Int32) g42) (Nat.le_refl _) (Nat.le_refl _) (fun o42 hz42 => ?_) (fun x42_ hz42 => ?_)
  · rw [hz42] at hm
    have hm := el2 hm
    refine oX_aload_n dX9_rule_159 rfl rfl ?_
    obtain ⟨r43, g43, hm⟩ := bd_s hm
    refine oX_cost hm (fun qq43 hm => ?_)
    refine oX_cVK_ (as := []) dX9_rule_160 rfl (oD_t ht) rfl (by decide) rfl ok_X9_go rfl rfl q712 q714 qs8 q146 q715 (by decide) (Nat.le_of_ble_eq_true rfl) (t_X9_go n t ht g43) (Nat.le_refl _) (Nat.le_refl _) ?_
    refine oX_aload_n dX9_rule_163 rfl rfl ?_
    refine oX_iconst (v := (0 : Int32)) dX9_rule_164 (by decide) ?_
    refine oX_bipush (v := (29 : Int32)) dX9_rule_165 (by decide) ?_
    obtain ⟨r44, g44, hm⟩ := bd_s hm
    refine oX_cost hm (fun qq44 hm => ?_)
    refine oX_cVX (as := [vI (0 : Int32), vI (29 : Int32)]) dX9_rule_167 rfl (oD_t ht) rfl (by decide) rfl ok_X9_number rfl rfl q1053 q1055 qs15 q146 q1056 (by decide) (Nat.le_of_ble_eq_true rfl) (t_X9_number n t ht (0 : Int32) (29 : Int32) g44) (Nat.le_refl _) (Nat.le_refl _) (fun o44 hz44 => ?_) (fun x44_ hz44 => ?_)
    · rw [hz44] at hm
      have hm := el2 hm
      refine oX_istore_n (ls' := [(1, vI o44.1), (0, vR (some t))]) dX9_rule_170 rfl (by decide) rfl ?_
      refine oX_aload_n dX9_rule_171 rfl rfl ?_
      refine oX_aload_n dX9_rule_172 rfl rfl ?_
      obtain ⟨g45, hm⟩ := gd_s hm
      refine oX_ldcS (site := 48) g45 (List.mem_of_getElem? (i := 7) rfl) rfl rfl dX9_rule_173 ?_
      obtain ⟨r46, g46, hm⟩ := bd_s hm
      refine oX_cV (as := [vR (some (48, 0))]) dX9_rule_175 rfl (oD_t ht) rfl (by decide) rfl ok_X9_is rfl rfl q968 q970 qs11 q146 q971 (by decide) (Nat.le_of_ble_eq_true rfl) (t_X9_is n t ht (some (48, 0)) g46) ?_
      refine oX_iconst (v := (1 : Int32)) dX9_rule_178 (by decide) ?_
      obtain ⟨r47, g47, hm⟩ := bd_s hm
      refine oX_cost hm (fun qq47 hm => ?_)
      refine oX_cVX_ (as := [vI r46, vI (1 : Int32)]) dX9_rule_179 rfl (oD_t ht) rfl (by decide) rfl ok_X9_need rfl rfl q984 q986 qs13 q146 q987 (by decide) (Nat.le_of_ble_eq_true rfl) (t_X9_need t ht r46 (1 : Int32) g47) (Nat.le_refl _) (Nat.le_refl _) (fun o47 hz47 => ?_) (fun x47_ hz47 => ?_)
      · rw [hz47] at hm
        have hm := el2 hm
        refine oX_aload_n dX9_rule_182 rfl rfl ?_
        obtain ⟨r48, g48, hm⟩ := bd_s hm
        refine oX_cost hm (fun qq48 hm => ?_)
        refine oX_cVK_ (as := []) dX9_rule_183 rfl (oD_t ht) rfl (by decide) rfl ok_X9_go rfl rfl q712 q714 qs8 q146 q715 (by decide) (Nat.le_of_ble_eq_true rfl) (t_X9_go n t ht g48) (Nat.le_refl _) (Nat.le_refl _) ?_
        refine oX_aload_n dX9_rule_186 rfl rfl ?_
        refine oX_getF fX9_20 rfl (oD_t ht) dX9_rule_187 rfl ?_
        obtain ⟨a49, e49, hm⟩ := bd_s hm
        refine oX_getF fX9_137 rfl e49 dX9_rule_190 rfl ?_
        obtain ⟨FI50, hFI50, hm⟩ := oLs hm
        obtain ⟨C50, hC50, hm⟩ := oLs hm
        refine oX_cost hm (fun qq50 hm => ?_)
        refine oX_newI (s9 := 21) (k := oPl qq50 k) nX9_147 rfl (by decide) dX9_rule_193 hFI50 hC50 ?_
        refine oX_dup dX9_rule_196 trivial ?_
        refine oX_iload_n dX9_rule_197 rfl rfl ?_
        refine oX_aload_n dX9_rule_198 rfl rfl ?_
        refine oX_iload_n dX9_rule_199 rfl rfl ?_
        refine oX_bipush (v := (29 : Int32)) dX9_rule_200 (by decide) ?_
        obtain ⟨r51, g51, hm⟩ := bd_s hm
        refine oX_cost hm (fun qq51 hm => ?_)
        refine oX_cVX (as := [vI o44.1, vI (29 : Int32)]) dX9_rule_202 rfl (oD_t ht) rfl (by decide) rfl ok_X9_number rfl rfl q1053 q1055 qs15 q146 q1056 (by decide) (Nat.le_of_ble_eq_true rfl) (t_X9_number n t ht o44.1 (29 : Int32) g51) (Nat.le_refl _) (Nat.le_refl _) (fun o51 hz51 => ?_) (fun x51_ hz51 => ?_)
        · rw [hz51] at hm
          have hm := el2 hm
          obtain ⟨r52, g52, hm⟩ := bd_s hm
          refine oX_cI (as := [vI o44.1, vI o51.1]) dX9_rule_205 rfl ok_X11_init rfl rfl rfl q1066 q1067 q156 q1068 (by decide) (Nat.le_of_ble_eq_true rfl) (t_X11_init (21, r48.1.2.2.2.2.2 21) rfl o44.1 o51.1 g52) ?_
          obtain ⟨a53, e53, hm⟩ := bd_s hm
          obtain ⟨r54, g54, hm⟩ := bd_s hm
          refine oX_cost hm (fun qq54 hm => ?_)
          refine oX_cVK (as := [vR (some (21, r48.1.2.2.2.2.2 21))]) dX9_rule_208 rfl e53 rfl (by decide) rfl ok_J2_add rfl rfl q1079 q497 q498 q132 q499 (by decide) (Nat.le_of_ble_eq_true rfl) (t_J2_add a53 ((oD_some e53).2) (some (21, r48.1.2.2.2.2.2 21)) g54) (Nat.le_refl _) (Nat.le_refl _) ?_
          refine oX_pop dX9_rule_211 trivial ?_
          refine oX_goto (tgt := 299) dX9_rule_212 (by decide) ?_
          obtain ⟨hr, rfl⟩ := oEnd hm
          exact oX_vret dX9_rule_299 rfl (hK (r54.1.2.1, o51.2.2.1, r54.1.2.2.1, o51.2.2.2.2.1, r54.1.2.2.2.1, r54.1.2.2.2.2.1, r54.1.2.2.2.2.2) hr)
        · rw [hz51] at hm
          have hm := el1 hm
          refine oXt_out rfl ?_
          obtain ⟨hr, rfl⟩ := oEnd hm
          exact hT (x51_.1, x51_.2.1, x51_.2.2.1, x51_.2.2.2.1, x51_.2.2.2.2.1, BR, x51_.2.2.2.2.2.1, x51_.2.2.2.2.2.2) hr
      · rw [hz47] at hm
        have hm := el1 hm
        refine oXt_out rfl ?_
        obtain ⟨hr, rfl⟩ := oEnd hm
        exact hT (x47_.1, x47_.2.1, o44.2.2.1, x47_.2.2.1, o44.2.2.2.2.1, BR, o44.2.2.2.2.2.1, x47_.2.2.2) hr
    · rw [hz44] at hm
      have hm := el1 hm
      refine oXt_out rfl ?_
      obtain ⟨hr, rfl⟩ := oEnd hm
      exact hT (x44_.1, x44_.2.1, x44_.2.2.1, x44_.2.2.2.1, x44_.2.2.2.2.1, BR, x44_.2.2.2.2.2.1, x44_.2.2.2.2.2.2) hr
  · rw [hz42] at hm
    have hm := el1 hm
    refine oXt_out rfl ?_
    obtain ⟨hr, rfl⟩ := oEnd hm
    exact hT (x42_.1, x42_.2.1, FR, x42_.2.2.1, AI, BR, AN, x42_.2.2.2) hr
noncomputable def mX9_rule (n : Nat) (FI : OhI) (FR : OhQ) (GR : OhQ) (AI : OhI) (BR : OhQ) (AN : OhN) (C : OhC) (t : Nat × Nat) : Option ((((Nat × Nat) × OhI × OhQ × OhQ × OhI × OhQ × OhN × OhC) ⊕ (OhI × OhQ × OhQ × OhI × OhQ × OhN × OhC)) × (Nat × Nat)) :=
  gd (0 < C 43) <|
  (mX9_is n FI FR GR AI AN t (some (43, 0))).bind fun r2 =>
  (if r2 = 0 then
  gd (0 < C 44) <|
    (mX9_is n FI FR GR AI AN t (some (44, 0))).bind fun r5 =>
    (if r5 = 0 then
    gd (0 < C 45) <|
      (mX9_is n FI FR GR AI AN t (some (45, 0))).bind fun r8 =>
      (if r8 = 0 then
      gd (0 < C 46) <|
        (mX9_is n FI FR GR AI AN t (some (46, 0))).bind fun r11 =>
        (if r11 = 0 then
        gd (0 < C 47) <|
          (mX9_is n FI FR GR AI AN t (some (47, 0))).bind fun r14 =>
          (if r14 = 0 then
          gd (0 < C 49) <|
            (mX9_is n FI FR GR AI AN t (some (49, 0))).bind fun r17 =>
            (mX9_need FI GR C t r17 (1 : Int32)).bind fun r18 =>
            oCost r18.2 <|
            (Sum.elim (fun x18_ => some (.inl (x18_.1, x18_.2.1, FR, x18_.2.2.1, AI, BR, AN, x18_.2.2.2), (0, 0))) (fun o18 => (oD 7 (FR t.1 t.2 11)).bind fun a19 =>
            (oD 17 (FR a19.1 a19.2 6)).bind fun a20 =>
            (mJ2_size o18.1 a20).bind fun r21 =>
            (if (8 : Int32) ≤ r21 then
            mX9_rule_j247 n o18.1 FR o18.2.1 AI BR AN o18.2.2 t (some t) (0 : Int32)
          else
            mX9_rule_j247 n o18.1 FR o18.2.1 AI BR AN o18.2.2 t (some t) (1 : Int32))) r18.1)
        else
          (oD 7 (FR t.1 t.2 11)).bind fun a37 =>
            (oD 17 (FR a37.1 a37.2 5)).bind fun a38 =>
            (mJ2_size FI a38).bind fun r39 =>
            (if (6 : Int32) ≤ r39 then
            mX9_rule_j155 n FI FR GR AI BR AN C t (some t) (0 : Int32)
          else
            mX9_rule_j155 n FI FR GR AI BR AN C t (some t) (1 : Int32)))
      else
        (mX9_once n FI FR GR AI AN C t (3 : Int32)).bind fun r55 =>
          oCost r55.2 <|
          (Sum.elim (fun x55_ => some (.inl (x55_.1, x55_.2.1, x55_.2.2.1, x55_.2.2.2.1, x55_.2.2.2.2.1, BR, x55_.2.2.2.2.2.1, x55_.2.2.2.2.2.2), (0, 0))) (fun o55 => (mX9_number n o55.1 o55.2.1 o55.2.2.1 o55.2.2.2.1 o55.2.2.2.2.1 o55.2.2.2.2.2 t (1 : Int32) (999 : Int32)).bind fun r56 =>
          oCost r56.2 <|
          (Sum.elim (fun x56_ => some (.inl (x56_.1, x56_.2.1, x56_.2.2.1, x56_.2.2.2.1, x56_.2.2.2.2.1, BR, x56_.2.2.2.2.2.1, x56_.2.2.2.2.2.2), (0, 0))) (fun o56 => (oD 7 (o55.2.1 t.1 t.2 11)).bind fun a57 =>
          oLet (sA o56.2.1 a57.1 a57.2 (uA (o56.2.1 a57.1 a57.2) 3 o56.1)) fun FI58 =>
          some (.inr (FI58, o56.2.2.1, o56.2.2.2.1, o56.2.2.2.2.1, BR, o56.2.2.2.2.2.1, o56.2.2.2.2.2.2), (0, 0))) r56.1)) r55.1))
    else
      (mX9_once n FI FR GR AI AN C t (2 : Int32)).bind fun r59 =>
        oCost r59.2 <|
        (Sum.elim (fun x59_ => some (.inl (x59_.1, x59_.2.1, x59_.2.2.1, x59_.2.2.2.1, x59_.2.2.2.2.1, BR, x59_.2.2.2.2.2.1, x59_.2.2.2.2.2.2), (0, 0))) (fun o59 => (mX9_number n o59.1 o59.2.1 o59.2.2.1 o59.2.2.2.1 o59.2.2.2.2.1 o59.2.2.2.2.2 t (0 : Int32) (7 : Int32)).bind fun r60 =>
        oCost r60.2 <|
        (Sum.elim (fun x60_ => some (.inl (x60_.1, x60_.2.1, x60_.2.2.1, x60_.2.2.2.1, x60_.2.2.2.2.1, BR, x60_.2.2.2.2.2.1, x60_.2.2.2.2.2.2), (0, 0))) (fun o60 => (oD 7 (o59.2.1 t.1 t.2 11)).bind fun a61 =>
        oLet (sA o60.2.1 a61.1 a61.2 (uA (o60.2.1 a61.1 a61.2) 2 o60.1)) fun FI62 =>
        some (.inr (FI62, o60.2.2.1, o60.2.2.2.1, o60.2.2.2.2.1, BR, o60.2.2.2.2.2.1, o60.2.2.2.2.2.2), (0, 0))) r60.1)) r59.1))
  else
    (mX9_once n FI FR GR AI AN C t (1 : Int32)).bind fun r63 =>
      oCost r63.2 <|
      (Sum.elim (fun x63_ => some (.inl (x63_.1, x63_.2.1, x63_.2.2.1, x63_.2.2.2.1, x63_.2.2.2.2.1, BR, x63_.2.2.2.2.2.1, x63_.2.2.2.2.2.2), (0, 0))) (fun o63 => (mX9_number n o63.1 o63.2.1 o63.2.2.1 o63.2.2.2.1 o63.2.2.2.2.1 o63.2.2.2.2.2 t (1 : Int32) (24 : Int32)).bind fun r64 =>
      oCost r64.2 <|
      (Sum.elim (fun x64_ => some (.inl (x64_.1, x64_.2.1, x64_.2.2.1, x64_.2.2.2.1, x64_.2.2.2.2.1, BR, x64_.2.2.2.2.2.1, x64_.2.2.2.2.2.2), (0, 0))) (fun o64 => (oD 7 (o63.2.1 t.1 t.2 11)).bind fun a65 =>
      oLet (sA o64.2.1 a65.1 a65.2 (uA (o64.2.1 a65.1 a65.2) 1 o64.1)) fun FI66 =>
      some (.inr (FI66, o64.2.2.1, o64.2.2.2.1, o64.2.2.2.2.1, BR, o64.2.2.2.2.2.1, o64.2.2.2.2.2.2), (0, 0))) r64.1)) r63.1))
else
  (mX9_once n FI FR GR AI AN C t (0 : Int32)).bind fun r67 =>
    oCost r67.2 <|
    (Sum.elim (fun x67_ => some (.inl (x67_.1, x67_.2.1, x67_.2.2.1, x67_.2.2.2.1, x67_.2.2.2.2.1, BR, x67_.2.2.2.2.2.1, x67_.2.2.2.2.2.2), (0, 0))) (fun o67 => (mX9_number n o67.1 o67.2.1 o67.2.2.1 o67.2.2.2.1 o67.2.2.2.2.1 o67.2.2.2.2.2 t (0 : Int32) (72 : Int32)).bind fun r68 =>
    oCost r68.2 <|
    (Sum.elim (fun x68_ => some (.inl (x68_.1, x68_.2.1, x68_.2.2.1, x68_.2.2.2.1, x68_.2.2.2.2.1, BR, x68_.2.2.2.2.2.1, x68_.2.2.2.2.2.2), (0, 0))) (fun o68 => (oD 7 (o67.2.1 t.1 t.2 11)).bind fun a69 =>
    oLet (sA o68.2.1 a69.1 a69.2 (uA (o68.2.1 a69.1 a69.2) 0 o68.1)) fun FI70 =>
    some (.inr (FI70, o68.2.2.1, o68.2.2.2.1, o68.2.2.2.2.1, BR, o68.2.2.2.2.2.1, o68.2.2.2.2.2.2), (0, 0))) r68.1)) r67.1))
theorem x_mX9_rule {G : OhG} {FI AI : OhI} {FL AL : OhL} {FR GR AR BR : OhQ} {AN : OhN} {C : OhC} {k : Nat × Nat} {Φ : OhP} {Ψ : OhX} (n : Nat) (t : Nat × Nat) (ht : ohKd t.1 = 8) {r : (((Nat × Nat) × OhI × OhQ × OhQ × OhI × OhQ × OhN × OhC) ⊕ (OhI × OhQ × OhQ × OhI × OhQ × OhN × OhC)) × (Nat × Nat)} (hm : mX9_rule n FI FR GR AI BR AN C t = some r) (hK : ∀ o : OhI × OhQ × OhQ × OhI × OhQ × OhN × OhC, r.1 = .inr o → Φ none (o.1, FL, o.2.1, o.2.2.1, o.2.2.2.1, AL, AR, o.2.2.2.2.1, o.2.2.2.2.2.1, o.2.2.2.2.2.2)) (hT : ∀ x : (Nat × Nat) × OhI × OhQ × OhQ × OhI × OhQ × OhN × OhC, r.1 = .inl x → Ψ "OperaHouse$Fault" x.1 (x.2.1, FL, x.2.2.1, x.2.2.2.1, x.2.2.2.2.1, AL, AR, x.2.2.2.2.2.1, x.2.2.2.2.2.2.1, x.2.2.2.2.2.2.2)) : oX G 58 iX9_rule 0 [(0, vR (some t))] [] (FI, FL, FR, GR, AI, AL, AR, BR, AN, C) (oPl r.2 k) Φ Ψ := by
  obtain ⟨r, q0⟩ := r
  unfold mX9_rule at hm
  refine oX_aload_n dX9_rule_0 rfl rfl ?_
  obtain ⟨g1, hm⟩ := gd_s hm
  refine oX_ldcS (site := 43) g1 (List.mem_of_getElem? (i := 2) rfl) rfl rfl dX9_rule_1 ?_
  obtain ⟨r2, g2, hm⟩ := bd_s hm
  refine oX_cV (as := [vR (some (43, 0))]) dX9_rule_3 rfl (oD_t ht) rfl (by decide) rfl ok_X9_is rfl rfl q968 q970 qs11 q146 q971 (by decide) (Nat.le_of_ble_eq_true rfl) (t_X9_is n t ht (some (43, 0)) g2) ?_
  refine oX_if_eq (tgt := 31) dX9_rule_6 (by decide) (fun c3 => ?_) (fun c3 => ?_)
  · have hm := ifp c3 hm
    refine oX_aload_n dX9_rule_31 rfl rfl ?_
    obtain ⟨g4, hm⟩ := gd_s hm
    refine oX_ldcS (site := 44) g4 (List.mem_of_getElem? (i := 3) rfl) rfl rfl dX9_rule_32 ?_
    obtain ⟨r5, g5, hm⟩ := bd_s hm
    refine oX_cV (as := [vR (some (44, 0))]) dX9_rule_34 rfl (oD_t ht) rfl (by decide) rfl ok_X9_is rfl rfl q968 q970 qs11 q146 q971 (by decide) (Nat.le_of_ble_eq_true rfl) (t_X9_is n t ht (some (44, 0)) g5) ?_
    refine oX_if_eq (tgt := 62) dX9_rule_37 (by decide) (fun c6 => ?_) (fun c6 => ?_)
    · have hm := ifp c6 hm
      refine oX_aload_n dX9_rule_62 rfl rfl ?_
      obtain ⟨g7, hm⟩ := gd_s hm
      refine oX_ldcS (site := 45) g7 (List.mem_of_getElem? (i := 4) rfl) rfl rfl dX9_rule_63 ?_
      obtain ⟨r8, g8, hm⟩ := bd_s hm
      refine oX_cV (as := [vR (some (45, 0))]) dX9_rule_65 rfl (oD_t ht) rfl (by decide) rfl ok_X9_is rfl rfl q968 q970 qs11 q146 q971 (by decide) (Nat.le_of_ble_eq_true rfl) (t_X9_is n t ht (some (45, 0)) g8) ?_
      refine oX_if_eq (tgt := 93) dX9_rule_68 (by decide) (fun c9 => ?_) (fun c9 => ?_)
      · have hm := ifp c9 hm
        refine oX_aload_n dX9_rule_93 rfl rfl ?_
        obtain ⟨g10, hm⟩ := gd_s hm
        refine oX_ldcS (site := 46) g10 (List.mem_of_getElem? (i := 5) rfl) rfl rfl dX9_rule_94 ?_
        obtain ⟨r11, g11, hm⟩ := bd_s hm
        refine oX_cV (as := [vR (some (46, 0))]) dX9_rule_96 rfl (oD_t ht) rfl (by decide) rfl ok_X9_is rfl rfl q968 q970 qs11 q146 q971 (by decide) (Nat.le_of_ble_eq_true rfl) (t_X9_is n t ht (some (46, 0)) g11) ?_
        refine oX_if_eq (tgt := 125) dX9_rule_99 (by decide) (fun c12 => ?_) (fun c12 => ?_)
        · have hm := ifp c12 hm
          refine oX_aload_n dX9_rule_125 rfl rfl ?_
          obtain ⟨g13, hm⟩ := gd_s hm
          refine oX_ldcS (site := 47) g13 (List.mem_of_getElem? (i := 6) rfl) rfl rfl dX9_rule_126 ?_
          obtain ⟨r14, g14, hm⟩ := bd_s hm
          refine oX_cV (as := [vR (some (47, 0))]) dX9_rule_128 rfl (oD_t ht) rfl (by decide) rfl ok_X9_is rfl rfl q968 q970 qs11 q146 q971 (by decide) (Nat.le_of_ble_eq_true rfl) (t_X9_is n t ht (some (47, 0)) g14) ?_
          refine oX_if_eq (tgt := 215) dX9_rule_131 (by decide) (fun c15 => ?_) (fun c15 => ?_)
          · have hm := ifp c15 hm
            refine oX_aload_n dX9_rule_215 rfl rfl ?_
            refine oX_aload_n dX9_rule_216 rfl rfl ?_
            obtain ⟨g16, hm⟩ := gd_s hm
            refine oX_ldcS (site := 49) g16 (List.mem_of_getElem? (i := 8) rfl) rfl rfl dX9_rule_217 ?_
            obtain ⟨r17, g17, hm⟩ := bd_s hm
            refine oX_cV (as := [vR (some (49, 0))]) dX9_rule_219 rfl (oD_t ht) rfl (by decide) rfl ok_X9_is rfl rfl q968 q970 qs11 q146 q971 (by decide) (Nat.le_of_ble_eq_true rfl) (t_X9_is n t ht (some (49, 0)) g17) ?_
            refine oX_iconst (v := (1 : Int32)) dX9_rule_222 (by decide) ?_
            obtain ⟨r18, g18, hm⟩ := bd_s hm
            refine oX_cost hm (fun qq18 hm => ?_)
            refine oX_cVX_ (as := [vI r17, vI (1 : Int32)]) dX9_rule_223 rfl (oD_t ht) rfl (by decide) rfl ok_X9_need rfl rfl q984 q986 qs13 q146 q987 (by decide) (Nat.le_of_ble_eq_true rfl) (t_X9_need t ht r17 (1 : Int32) g18) (Nat.le_refl _) (Nat.le_refl _) (fun o18 hz18 => ?_) (fun x18_ hz18 => ?_)
            · rw [hz18] at hm
              have hm := el2 hm
              refine oX_aload_n dX9_rule_226 rfl rfl ?_
              refine oX_aload_n dX9_rule_227 rfl rfl ?_
              refine oX_getF fX9_20 rfl (oD_t ht) dX9_rule_228 rfl ?_
              obtain ⟨a19, e19, hm⟩ := bd_s hm
              refine oX_getF fX9_155 rfl e19 dX9_rule_231 rfl ?_
              obtain ⟨a20, e20, hm⟩ := bd_s hm
              obtain ⟨r21, g21, hm⟩ := bd_s hm
              refine oX_cV (as := []) dX9_rule_234 rfl e20 rfl (by decide) rfl ok_J2_size rfl rfl q1062 q431 q432 q132 q433 (by decide) (Nat.le_of_ble_eq_true rfl) (t_J2_size a20 ((oD_some e20).2) g21) ?_
              refine oX_bipush (v := (8 : Int32)) dX9_rule_237 (by decide) ?_
              refine oX_icmp_ge (tgt := 246) dX9_rule_239 (by decide) (fun c22 => ?_) (fun c22 => ?_)
              · have hm := ifp c22 hm
                refine oX_iconst (v := (0 : Int32)) dX9_rule_246 (by decide) ?_
                exact oX_sub [0] rfl (x_mX9_rule_j247 n t ht (some t) (0 : Int32) hm hK hT)
              · have hm := ifn c22 hm
                refine oX_iconst (v := (1 : Int32)) dX9_rule_242 (by decide) ?_
                refine oX_goto (tgt := 247) dX9_rule_243 (by decide) ?_
                exact oX_sub [0] rfl (x_mX9_rule_j247 n t ht (some t) (1 : Int32) hm hK hT)
            · rw [hz18] at hm
              have hm := el1 hm
              refine oXt_out rfl ?_
              obtain ⟨hr, rfl⟩ := oEnd hm
              exact hT (x18_.1, x18_.2.1, FR, x18_.2.2.1, AI, BR, AN, x18_.2.2.2) hr
          · have hm := ifn c15 hm
            refine oX_aload_n dX9_rule_134 rfl rfl ?_
            refine oX_aload_n dX9_rule_135 rfl rfl ?_
            refine oX_getF fX9_20 rfl (oD_t ht) dX9_rule_136 rfl ?_
            obtain ⟨a37, e37, hm⟩ := bd_s hm
            refine oX_getF fX9_137 rfl e37 dX9_rule_139 rfl ?_
            obtain ⟨a38, e38, hm⟩ := bd_s hm
            obtain ⟨r39, g39, hm⟩ := bd_s hm
            refine oX_cV (as := []) dX9_rule_142 rfl e38 rfl (by decide) rfl ok_J2_size rfl rfl q1062 q431 q432 q132 q433 (by decide) (Nat.le_of_ble_eq_true rfl) (t_J2_size a38 ((oD_some e38).2) g39) ?_
            refine oX_bipush (v := (6 : Int32)) dX9_rule_145 (by decide) ?_
            refine oX_icmp_ge (tgt := 154) dX9_rule_147 (by decide) (fun c40 => ?_) (fun c40 => ?_)
            · have hm := ifp c40 hm
              refine oX_iconst (v := (0 : Int32)) dX9_rule_154 (by decide) ?_
              exact oX_sub [0] rfl (x_mX9_rule_j155 n t ht (some t) (0 : Int32) hm hK hT)
            · have hm := ifn c40 hm
              refine oX_iconst (v := (1 : Int32)) dX9_rule_150 (by decide) ?_
              refine oX_goto (tgt := 155) dX9_rule_151 (by decide) ?_
              exact oX_sub [0] rfl (x_mX9_rule_j155 n t ht (some t) (1 : Int32) hm hK hT)
        · have hm := ifn c12 hm
          refine oX_aload_n dX9_rule_102 rfl rfl ?_
          refine oX_iconst (v := (3 : Int32)) dX9_rule_103 (by decide) ?_
          obtain ⟨r55, g55, hm⟩ := bd_s hm
          refine oX_cost hm (fun qq55 hm => ?_)
          refine oX_cVX_ (as := [vI (3 : Int32)]) dX9_rule_104 rfl (oD_t ht) rfl (by decide) rfl ok_X9_once rfl rfl q980 q982 qs12 q146 q983 (by decide) (Nat.le_of_ble_eq_true rfl) (t_X9_once n t ht (3 : Int32) g55) (Nat.le_refl _) (Nat.le_refl _) (fun o55 hz55 => ?_) (fun x55_ hz55 => ?_)
          · rw [hz55] at hm
            have hm := el2 hm
            refine oX_aload_n dX9_rule_107 rfl rfl ?_
            refine oX_getF fX9_20 rfl (oD_t ht) dX9_rule_108 rfl ?_
            refine oX_aload_n dX9_rule_111 rfl rfl ?_
            refine oX_iconst (v := (1 : Int32)) dX9_rule_112 (by decide) ?_
            refine oX_sipush (v := (999 : Int32)) dX9_rule_113 (by decide) ?_
            obtain ⟨r56, g56, hm⟩ := bd_s hm
            refine oX_cost hm (fun qq56 hm => ?_)
            refine oX_cVX (as := [vI (1 : Int32), vI (999 : Int32)]) dX9_rule_116 rfl (oD_t ht) rfl (by decide) rfl ok_X9_number rfl rfl q1053 q1055 qs15 q146 q1056 (by decide) (Nat.le_of_ble_eq_true rfl) (t_X9_number n t ht (1 : Int32) (999 : Int32) g56) (Nat.le_refl _) (Nat.le_refl _) (fun o56 hz56 => ?_) (fun x56_ hz56 => ?_)
            · rw [hz56] at hm
              have hm := el2 hm
              obtain ⟨a57, e57, hm⟩ := bd_s hm
              obtain ⟨FI58, hFI58, hm⟩ := oLs hm
              refine oX_putI fX9_133 rfl (fun h9 => by cases h9) e57 dX9_rule_119 ⟨rfl, rfl⟩ hFI58 ?_
              refine oX_goto (tgt := 299) dX9_rule_122 (by decide) ?_
              obtain ⟨hr, rfl⟩ := oEnd hm
              exact oX_vret dX9_rule_299 rfl (hK (FI58, o56.2.2.1, o56.2.2.2.1, o56.2.2.2.2.1, BR, o56.2.2.2.2.2.1, o56.2.2.2.2.2.2) hr)
            · rw [hz56] at hm
              have hm := el1 hm
              refine oXt_out rfl ?_
              obtain ⟨hr, rfl⟩ := oEnd hm
              exact hT (x56_.1, x56_.2.1, x56_.2.2.1, x56_.2.2.2.1, x56_.2.2.2.2.1, BR, x56_.2.2.2.2.2.1, x56_.2.2.2.2.2.2) hr
          · rw [hz55] at hm
            have hm := el1 hm
            refine oXt_out rfl ?_
            obtain ⟨hr, rfl⟩ := oEnd hm
            exact hT (x55_.1, x55_.2.1, x55_.2.2.1, x55_.2.2.2.1, x55_.2.2.2.2.1, BR, x55_.2.2.2.2.2.1, x55_.2.2.2.2.2.2) hr
      · have hm := ifn c9 hm
        refine oX_aload_n dX9_rule_71 rfl rfl ?_
        refine oX_iconst (v := (2 : Int32)) dX9_rule_72 (by decide) ?_
        obtain ⟨r59, g59, hm⟩ := bd_s hm
        refine oX_cost hm (fun qq59 hm => ?_)
        refine oX_cVX_ (as := [vI (2 : Int32)]) dX9_rule_73 rfl (oD_t ht) rfl (by decide) rfl ok_X9_once rfl rfl q980 q982 qs12 q146 q983 (by decide) (Nat.le_of_ble_eq_true rfl) (t_X9_once n t ht (2 : Int32) g59) (Nat.le_refl _) (Nat.le_refl _) (fun o59 hz59 => ?_) (fun x59_ hz59 => ?_)
        · rw [hz59] at hm
          have hm := el2 hm
          refine oX_aload_n dX9_rule_76 rfl rfl ?_
          refine oX_getF fX9_20 rfl (oD_t ht) dX9_rule_77 rfl ?_
          refine oX_aload_n dX9_rule_80 rfl rfl ?_
          refine oX_iconst (v := (0 : Int32)) dX9_rule_81 (by decide) ?_
          refine oX_bipush (v := (7 : Int32)) dX9_rule_82 (by decide) ?_
          obtain ⟨r60, g60, hm⟩ := bd_s hm
          refine oX_cost hm (fun qq60 hm => ?_)
          refine oX_cVX (as := [vI (0 : Int32), vI (7 : Int32)]) dX9_rule_84 rfl (oD_t ht) rfl (by decide) rfl ok_X9_number rfl rfl q1053 q1055 qs15 q146 q1056 (by decide) (Nat.le_of_ble_eq_true rfl) (t_X9_number n t ht (0 : Int32) (7 : Int32) g60) (Nat.le_refl _) (Nat.le_refl _) (fun o60 hz60 => ?_) (fun x60_ hz60 => ?_)
          · rw [hz60] at hm
            have hm := el2 hm
            obtain ⟨a61, e61, hm⟩ := bd_s hm
            obtain ⟨FI62, hFI62, hm⟩ := oLs hm
            refine oX_putI fX9_129 rfl (fun h9 => by cases h9) e61 dX9_rule_87 ⟨rfl, rfl⟩ hFI62 ?_
            refine oX_goto (tgt := 299) dX9_rule_90 (by decide) ?_
            obtain ⟨hr, rfl⟩ := oEnd hm
            exact oX_vret dX9_rule_299 rfl (hK (FI62, o60.2.2.1, o60.2.2.2.1, o60.2.2.2.2.1, BR, o60.2.2.2.2.2.1, o60.2.2.2.2.2.2) hr)
          · rw [hz60] at hm
            have hm := el1 hm
            refine oXt_out rfl ?_
            obtain ⟨hr, rfl⟩ := oEnd hm
            exact hT (x60_.1, x60_.2.1, x60_.2.2.1, x60_.2.2.2.1, x60_.2.2.2.2.1, BR, x60_.2.2.2.2.2.1, x60_.2.2.2.2.2.2) hr
        · rw [hz59] at hm
          have hm := el1 hm
          refine oXt_out rfl ?_
          obtain ⟨hr, rfl⟩ := oEnd hm
          exact hT (x59_.1, x59_.2.1, x59_.2.2.1, x59_.2.2.2.1, x59_.2.2.2.2.1, BR, x59_.2.2.2.2.2.1, x59_.2.2.2.2.2.2) hr
    · have hm := ifn c6 hm
      refine oX_aload_n dX9_rule_40 rfl rfl ?_
      refine oX_iconst (v := (1 : Int32)) dX9_rule_41 (by decide) ?_
      obtain ⟨r63, g63, hm⟩ := bd_s hm
      refine oX_cost hm (fun qq63 hm => ?_)
      refine oX_cVX_ (as := [vI (1 : Int32)]) dX9_rule_42 rfl (oD_t ht) rfl (by decide) rfl ok_X9_once rfl rfl q980 q982 qs12 q146 q983 (by decide) (Nat.le_of_ble_eq_true rfl) (t_X9_once n t ht (1 : Int32) g63) (Nat.le_refl _) (Nat.le_refl _) (fun o63 hz63 => ?_) (fun x63_ hz63 => ?_)
      · rw [hz63] at hm
        have hm := el2 hm
        refine oX_aload_n dX9_rule_45 rfl rfl ?_
        refine oX_getF fX9_20 rfl (oD_t ht) dX9_rule_46 rfl ?_
        refine oX_aload_n dX9_rule_49 rfl rfl ?_
        refine oX_iconst (v := (1 : Int32)) dX9_rule_50 (by decide) ?_
        refine oX_bipush (v := (24 : Int32)) dX9_rule_51 (by decide) ?_
        obtain ⟨r64, g64, hm⟩ := bd_s hm
        refine oX_cost hm (fun qq64 hm => ?_)
        refine oX_cVX (as := [vI (1 : Int32), vI (24 : Int32)]) dX9_rule_53 rfl (oD_t ht) rfl (by decide) rfl ok_X9_number rfl rfl q1053 q1055 qs15 q146 q1056 (by decide) (Nat.le_of_ble_eq_true rfl) (t_X9_number n t ht (1 : Int32) (24 : Int32) g64) (Nat.le_refl _) (Nat.le_refl _) (fun o64 hz64 => ?_) (fun x64_ hz64 => ?_)
        · rw [hz64] at hm
          have hm := el2 hm
          obtain ⟨a65, e65, hm⟩ := bd_s hm
          obtain ⟨FI66, hFI66, hm⟩ := oLs hm
          refine oX_putI fX9_125 rfl (fun h9 => by cases h9) e65 dX9_rule_56 ⟨rfl, rfl⟩ hFI66 ?_
          refine oX_goto (tgt := 299) dX9_rule_59 (by decide) ?_
          obtain ⟨hr, rfl⟩ := oEnd hm
          exact oX_vret dX9_rule_299 rfl (hK (FI66, o64.2.2.1, o64.2.2.2.1, o64.2.2.2.2.1, BR, o64.2.2.2.2.2.1, o64.2.2.2.2.2.2) hr)
        · rw [hz64] at hm
          have hm := el1 hm
          refine oXt_out rfl ?_
          obtain ⟨hr, rfl⟩ := oEnd hm
          exact hT (x64_.1, x64_.2.1, x64_.2.2.1, x64_.2.2.2.1, x64_.2.2.2.2.1, BR, x64_.2.2.2.2.2.1, x64_.2.2.2.2.2.2) hr
      · rw [hz63] at hm
        have hm := el1 hm
        refine oXt_out rfl ?_
        obtain ⟨hr, rfl⟩ := oEnd hm
        exact hT (x63_.1, x63_.2.1, x63_.2.2.1, x63_.2.2.2.1, x63_.2.2.2.2.1, BR, x63_.2.2.2.2.2.1, x63_.2.2.2.2.2.2) hr
  · have hm := ifn c3 hm
    refine oX_aload_n dX9_rule_9 rfl rfl ?_
    refine oX_iconst (v := (0 : Int32)) dX9_rule_10 (by decide) ?_
    obtain ⟨r67, g67, hm⟩ := bd_s hm
    refine oX_cost hm (fun qq67 hm => ?_)
    refine oX_cVX_ (as := [vI (0 : Int32)]) dX9_rule_11 rfl (oD_t ht) rfl (by decide) rfl ok_X9_once rfl rfl q980 q982 qs12 q146 q983 (by decide) (Nat.le_of_ble_eq_true rfl) (t_X9_once n t ht (0 : Int32) g67) (Nat.le_refl _) (Nat.le_refl _) (fun o67 hz67 => ?_) (fun x67_ hz67 => ?_)
    · rw [hz67] at hm
      have hm := el2 hm
      refine oX_aload_n dX9_rule_14 rfl rfl ?_
      refine oX_getF fX9_20 rfl (oD_t ht) dX9_rule_15 rfl ?_
      refine oX_aload_n dX9_rule_18 rfl rfl ?_
      refine oX_iconst (v := (0 : Int32)) dX9_rule_19 (by decide) ?_
      refine oX_bipush (v := (72 : Int32)) dX9_rule_20 (by decide) ?_
      obtain ⟨r68, g68, hm⟩ := bd_s hm
      refine oX_cost hm (fun qq68 hm => ?_)
      refine oX_cVX (as := [vI (0 : Int32), vI (72 : Int32)]) dX9_rule_22 rfl (oD_t ht) rfl (by decide) rfl ok_X9_number rfl rfl q1053 q1055 qs15 q146 q1056 (by decide) (Nat.le_of_ble_eq_true rfl) (t_X9_number n t ht (0 : Int32) (72 : Int32) g68) (Nat.le_refl _) (Nat.le_refl _) (fun o68 hz68 => ?_) (fun x68_ hz68 => ?_)
      · rw [hz68] at hm
        have hm := el2 hm
        obtain ⟨a69, e69, hm⟩ := bd_s hm
        obtain ⟨FI70, hFI70, hm⟩ := oLs hm
        refine oX_putI fX9_121 rfl (fun h9 => by cases h9) e69 dX9_rule_25 ⟨rfl, rfl⟩ hFI70 ?_
        refine oX_goto (tgt := 299) dX9_rule_28 (by decide) ?_
        obtain ⟨hr, rfl⟩ := oEnd hm
        exact oX_vret dX9_rule_299 rfl (hK (FI70, o68.2.2.1, o68.2.2.2.1, o68.2.2.2.2.1, BR, o68.2.2.2.2.2.1, o68.2.2.2.2.2.2) hr)
      · rw [hz68] at hm
        have hm := el1 hm
        refine oXt_out rfl ?_
        obtain ⟨hr, rfl⟩ := oEnd hm
        exact hT (x68_.1, x68_.2.1, x68_.2.2.1, x68_.2.2.2.1, x68_.2.2.2.2.1, BR, x68_.2.2.2.2.2.1, x68_.2.2.2.2.2.2) hr
    · rw [hz67] at hm
      have hm := el1 hm
      refine oXt_out rfl ?_
      obtain ⟨hr, rfl⟩ := oEnd hm
      exact hT (x67_.1, x67_.2.1, x67_.2.2.1, x67_.2.2.2.1, x67_.2.2.2.2.1, BR, x67_.2.2.2.2.2.1, x67_.2.2.2.2.2.2) hr
theorem t_X9_rule {G : OhG} {FI AI : OhI} {FL AL : OhL} {FR GR AR BR : OhQ} {AN : OhN} {C : OhC} (n : Nat) (t : Nat × Nat) (ht : ohKd t.1 = 8) {o : (((Nat × Nat) × OhI × OhQ × OhQ × OhI × OhQ × OhN × OhC) ⊕ (OhI × OhQ × OhQ × OhI × OhQ × OhN × OhC)) × (Nat × Nat)} (hm : mX9_rule n FI FR GR AI BR AN C t = some o) : oT G 58 iX9_rule [vR (some t)] (FI, FL, FR, GR, AI, AL, AR, BR, AN, C) o.2 (fun v h => ∃ o9 : OhI × OhQ × OhQ × OhI × OhQ × OhN × OhC, o.1 = .inr o9 ∧ v = none ∧ h = (o9.1, FL, o9.2.1, o9.2.2.1, o9.2.2.2.1, AL, AR, o9.2.2.2.2.1, o9.2.2.2.2.2.1, o9.2.2.2.2.2.2)) (fun E b h => ∃ x9 : (Nat × Nat) × OhI × OhQ × OhQ × OhI × OhQ × OhN × OhC, o.1 = .inl x9 ∧ E = "OperaHouse$Fault" ∧ b = x9.1 ∧ h = (x9.2.1, FL, x9.2.2.1, x9.2.2.2.1, x9.2.2.2.2.1, AL, AR, x9.2.2.2.2.2.1, x9.2.2.2.2.2.2.1, x9.2.2.2.2.2.2.2)) :=
  oT_of (by decide) rfl (Nat.le_of_ble_eq_true rfl) (x_mX9_rule (k := (0, 0)) n t ht hm (fun o e => ⟨o, e, rfl, rfl⟩) (fun x e => ⟨x, e, rfl, rfl, rfl⟩))
noncomputable def mX9_read_b4 (n : Nat) (FI : OhI) (FR : OhQ) (GR : OhQ) (AI : OhI) (BR : OhQ) (AN : OhN) (C : OhC) (t : Nat × Nat) : Option (((OhI × OhQ × OhQ × OhI × OhQ × OhN × OhC) ⊕ ((OhI × OhQ × OhQ × OhI × OhQ × OhN × OhC) ⊕ ((Nat × Nat) × OhI × OhQ × OhQ × OhI × OhQ × OhN × OhC))) × (Nat × Nat)) :=
  (if (FI t.1 t.2 3) = 0 then
  some (.inr (.inl (FI, FR, GR, AI, BR, AN, C)), (0, 0))
else
  (mX9_rule n FI FR GR AI BR AN C t).bind fun r3 =>
    oCost r3.2 <|
    (Sum.elim (fun x3_ => some (.inr (.inr (x3_.1, x3_.2.1, x3_.2.2.1, x3_.2.2.2.1, x3_.2.2.2.2.1, x3_.2.2.2.2.2.1, x3_.2.2.2.2.2.2.1, x3_.2.2.2.2.2.2.2)), (0, 0))) (fun o3 => (mX9_isSign o3.1 t (59 : Int32)).bind fun r4 =>
    (mX9_need o3.1 o3.2.2.1 o3.2.2.2.2.2.2 t r4 (1 : Int32)).bind fun r5 =>
    oCost r5.2 <|
    (Sum.elim (fun x5_ => some (.inr (.inr (x5_.1, x5_.2.1, o3.2.1, x5_.2.2.1, o3.2.2.2.1, o3.2.2.2.2.1, o3.2.2.2.2.2.1, x5_.2.2.2)), (0, 0))) (fun o5 => (mX9_go n o5.1 o3.2.1 o5.2.1 o3.2.2.2.1 o3.2.2.2.2.2.1 o5.2.2 t).bind fun r6 =>
    oCost r6.2 <|
    (oD 7 (r6.1.2.1 t.1 t.2 11)).bind fun a7 =>
    oLet (sA r6.1.1 a7.1 a7.2 (uA (r6.1.1 a7.1 a7.2) 4 ((r6.1.1 a7.1 a7.2 4) + (1 : Int32)))) fun FI8 =>
    some (.inl (FI8, r6.1.2.1, r6.1.2.2.1, r6.1.2.2.2.1, o3.2.2.2.2.1, r6.1.2.2.2.2.1, r6.1.2.2.2.2.2), (0, 0))) r5.1)) r3.1))
theorem x_mX9_read_b4 {G : OhG} {FI AI : OhI} {FL AL : OhL} {FR GR AR BR : OhQ} {AN : OhN} {C : OhC} {k : Nat × Nat} {Φ : OhP} {Ψ : OhX} (n : Nat) (t : Nat × Nat) (ht : ohKd t.1 = 8) {r : ((OhI × OhQ × OhQ × OhI × OhQ × OhN × OhC) ⊕ ((OhI × OhQ × OhQ × OhI × OhQ × OhN × OhC) ⊕ ((Nat × Nat) × OhI × OhQ × OhQ × OhI × OhQ × OhN × OhC))) × (Nat × Nat)} (hm : mX9_read_b4 n FI FR GR AI BR AN C t = some r) (hk : ∀ v : OhI × OhQ × OhQ × OhI × OhQ × OhN × OhC, r.1 = .inl v → oX G 59 iX9_read 4 [(0, vR (some t))] [] (v.1, FL, v.2.1, v.2.2.1, v.2.2.2.1, AL, AR, v.2.2.2.2.1, v.2.2.2.2.2.1, v.2.2.2.2.2.2) k Φ Ψ) (hx1 : ∀ v : OhI × OhQ × OhQ × OhI × OhQ × OhN × OhC, r.1 = .inr (.inl v) → oX G 59 iX9_read 46 [(0, vR (some t))] [] (v.1, FL, v.2.1, v.2.2.1, v.2.2.2.1, AL, AR, v.2.2.2.2.1, v.2.2.2.2.2.1, v.2.2.2.2.2.2) k Φ Ψ) (hx2 : ∀ v : (Nat × Nat) × OhI × OhQ × OhQ × OhI × OhQ × OhN × OhC, r.1 = .inr (.inr v) → Ψ "OperaHouse$Fault" v.1 (v.2.1, FL, v.2.2.1, v.2.2.2.1, v.2.2.2.2.1, AL, AR, v.2.2.2.2.2.1, v.2.2.2.2.2.2.1, v.2.2.2.2.2.2.2)) : oX G 59 iX9_read 4 [(0, vR (some t))] [] (FI, FL, FR, GR, AI, AL, AR, BR, AN, C) (oPl r.2 k) Φ Ψ := by
  obtain ⟨r, q0⟩ := r
  unfold mX9_read_b4 at hm
  refine oX_aload_n dX9_read_4 rfl rfl ?_
  refine oX_getI fX9_42 rfl (oD_t ht) dX9_read_5 ?_
  refine oX_if_eq (tgt := 46) dX9_read_8 (by decide) (fun c2 => ?_) (fun c2 => ?_)
  · have hm := ifp c2 hm
    obtain ⟨hr, rfl⟩ := oEnd hm
    exact oX_sub [0] rfl (oX_z (hx1 (FI, FR, GR, AI, BR, AN, C) hr))
  · have hm := ifn c2 hm
    refine oX_aload_n dX9_read_11 rfl rfl ?_
    obtain ⟨r3, g3, hm⟩ := bd_s hm
    refine oX_cost hm (fun qq3 hm => ?_)
    refine oX_cVX_ (as := []) dX9_read_12 rfl (oD_t ht) rfl (by decide) rfl ok_X9_rule rfl rfl q963 q965 qs10 q146 q966 (by decide) (Nat.le_of_ble_eq_true rfl) (t_X9_rule n t ht g3) (Nat.le_refl _) (Nat.le_refl _) (fun o3 hz3 => ?_) (fun x3_ hz3 => ?_)
    · rw [hz3] at hm
      have hm := el2 hm
      refine oX_aload_n dX9_read_15 rfl rfl ?_
      refine oX_aload_n dX9_read_16 rfl rfl ?_
      refine oX_bipush (v := (59 : Int32)) dX9_read_17 (by decide) ?_
      obtain ⟨r4, g4, hm⟩ := bd_s hm
      refine oX_cV (as := [vI (59 : Int32)]) dX9_read_19 rfl (oD_t ht) rfl (by decide) rfl ok_X9_isSign rfl rfl q1218 q1220 qs21 q146 q1221 (by decide) (Nat.le_of_ble_eq_true rfl) (t_X9_isSign t ht (59 : Int32) g4) ?_
      refine oX_iconst (v := (1 : Int32)) dX9_read_22 (by decide) ?_
      obtain ⟨r5, g5, hm⟩ := bd_s hm
      refine oX_cost hm (fun qq5 hm => ?_)
      refine oX_cVX_ (as := [vI r4, vI (1 : Int32)]) dX9_read_23 rfl (oD_t ht) rfl (by decide) rfl ok_X9_need rfl rfl q984 q986 qs13 q146 q987 (by decide) (Nat.le_of_ble_eq_true rfl) (t_X9_need t ht r4 (1 : Int32) g5) (Nat.le_refl _) (Nat.le_refl _) (fun o5 hz5 => ?_) (fun x5_ hz5 => ?_)
      · rw [hz5] at hm
        have hm := el2 hm
        refine oX_aload_n dX9_read_26 rfl rfl ?_
        obtain ⟨r6, g6, hm⟩ := bd_s hm
        refine oX_cost hm (fun qq6 hm => ?_)
        refine oX_cVK_ (as := []) dX9_read_27 rfl (oD_t ht) rfl (by decide) rfl ok_X9_go rfl rfl q712 q714 qs8 q146 q715 (by decide) (Nat.le_of_ble_eq_true rfl) (t_X9_go n t ht g6) (Nat.le_refl _) (Nat.le_refl _) ?_
        refine oX_aload_n dX9_read_30 rfl rfl ?_
        refine oX_getF fX9_20 rfl (oD_t ht) dX9_read_31 rfl ?_
        refine oX_dup dX9_read_34 trivial ?_
        obtain ⟨a7, e7, hm⟩ := bd_s hm
        refine oX_getI fX9_102 rfl e7 dX9_read_35 ?_
        refine oX_iconst (v := (1 : Int32)) dX9_read_38 (by decide) ?_
        refine oX_iadd dX9_read_39 ?_
        obtain ⟨FI8, hFI8, hm⟩ := oLs hm
        refine oX_putI fX9_102 rfl (fun h9 => by cases h9) e7 dX9_read_40 ⟨rfl, rfl⟩ hFI8 ?_
        refine oX_goto (tgt := 4) dX9_read_43 (by decide) ?_
        obtain ⟨hr, rfl⟩ := oEnd hm
        exact oX_sub [0] rfl (oX_z (hk (FI8, r6.1.2.1, r6.1.2.2.1, r6.1.2.2.2.1, o3.2.2.2.2.1, r6.1.2.2.2.2.1, r6.1.2.2.2.2.2) hr))
      · rw [hz5] at hm
        have hm := el1 hm
        refine oXt_out rfl ?_
        obtain ⟨hr, rfl⟩ := oEnd hm
        exact hx2 (x5_.1, x5_.2.1, o3.2.1, x5_.2.2.1, o3.2.2.2.1, o3.2.2.2.2.1, o3.2.2.2.2.2.1, x5_.2.2.2) hr
    · rw [hz3] at hm
      have hm := el1 hm
      refine oXt_out rfl ?_
      obtain ⟨hr, rfl⟩ := oEnd hm
      exact hx2 (x3_.1, x3_.2.1, x3_.2.2.1, x3_.2.2.2.1, x3_.2.2.2.2.1, x3_.2.2.2.2.2.1, x3_.2.2.2.2.2.2.1, x3_.2.2.2.2.2.2.2) hr
theorem l_mX9_read_b4 {G : OhG} {FL : OhL} {AL : OhL} {AR : OhQ} {k : Nat × Nat} {Φ : OhP} {Ψ : OhX} (n : Nat) (t : Nat × Nat) (ht : ohKd t.1 = 8) : ∀ (f : Nat) (FI : OhI) (FR : OhQ) (GR : OhQ) (AI : OhI) (BR : OhQ) (AN : OhN) (C : OhC) (b : (((OhI × OhQ × OhQ × OhI × OhQ × OhN × OhC) ⊕ ((Nat × Nat) × OhI × OhQ × OhQ × OhI × OhQ × OhN × OhC))) × (Nat × Nat)), lpK (fun v => mX9_read_b4 n v.1 v.2.1 v.2.2.1 v.2.2.2.1 v.2.2.2.2.1 v.2.2.2.2.2.1 v.2.2.2.2.2.2 t) f (FI, FR, GR, AI, BR, AN, C) = some b → (∀ v : OhI × OhQ × OhQ × OhI × OhQ × OhN × OhC, b.1 = (.inl v) → oX G 59 iX9_read 46 [(0, vR (some t))] [] (v.1, FL, v.2.1, v.2.2.1, v.2.2.2.1, AL, AR, v.2.2.2.2.1, v.2.2.2.2.2.1, v.2.2.2.2.2.2) k Φ Ψ) → (∀ v : (Nat × Nat) × OhI × OhQ × OhQ × OhI × OhQ × OhN × OhC, b.1 = (.inr v) → Ψ "OperaHouse$Fault" v.1 (v.2.1, FL, v.2.2.1, v.2.2.2.1, v.2.2.2.2.1, AL, AR, v.2.2.2.2.2.1, v.2.2.2.2.2.2.1, v.2.2.2.2.2.2.2)) → oX G 59 iX9_read 4 [(0, vR (some t))] [] (FI, FL, FR, GR, AI, AL, AR, BR, AN, C) (oPl b.2 k) Φ Ψ := by
  intro f
  induction f with
  | zero =>
    intro FI FR GR AI BR AN C b hm
    cases hm
  | succ f ih =>
    intro FI FR GR AI BR AN C b hm hx1 hx2
    obtain ⟨⟨r, q⟩, hr, hm⟩ := lk_s hm
    rcases r with v | v
    · obtain ⟨c, hm, hb⟩ := hm
      rw [hb, oPl_assoc]
      refine x_mX9_read_b4 n t ht hr (fun v9 e => ?_) (fun v9 e => by cases e) (fun v9 e => by cases e)
      cases e; exact ih v.1 v.2.1 v.2.2.1 v.2.2.2.1 v.2.2.2.2.1 v.2.2.2.2.2.1 v.2.2.2.2.2.2 (b.1, c) hm hx1 hx2
    · cases (show b = (v, q) from hm)
      refine x_mX9_read_b4 n t ht hr (fun v9 e => by cases e) (fun v9 e => ?_) (fun v9 e => ?_)
      · cases e; exact hx1 v9 rfl
      · cases e; exact hx2 v9 rfl
noncomputable def mX9_read (n : Nat) (FI : OhI) (FR : OhQ) (GR : OhQ) (AI : OhI) (BR : OhQ) (AN : OhN) (C : OhC) (t : Nat × Nat) : Option ((((Nat × Nat) × OhI × OhQ × OhQ × OhI × OhQ × OhN × OhC) ⊕ (OhR × OhI × OhQ × OhQ × OhI × OhQ × OhN × OhC)) × (Nat × Nat)) :=
  (mX9_go n FI FR GR AI AN C t).bind fun r1 =>
  oCost r1.2 <|
  (lpK (fun v => mX9_read_b4 n v.1 v.2.1 v.2.2.1 v.2.2.2.1 v.2.2.2.2.1 v.2.2.2.2.2.1 v.2.2.2.2.2.2 t) n (r1.1.1, r1.1.2.1, r1.1.2.2.1, r1.1.2.2.2.1, BR, r1.1.2.2.2.2.1, r1.1.2.2.2.2.2)).bind fun b9 => oCost b9.2 <| (Sum.elim (fun v9 => some (.inr (v9.2.1 t.1 t.2 11, v9.1, v9.2.1, v9.2.2.1, v9.2.2.2.1, v9.2.2.2.2.1, v9.2.2.2.2.2.1, v9.2.2.2.2.2.2), (0, 0))) (fun v9 => some (.inl (v9.1, v9.2.1, v9.2.2.1, v9.2.2.2.1, v9.2.2.2.2.1, v9.2.2.2.2.2.1, v9.2.2.2.2.2.2.1, v9.2.2.2.2.2.2.2), (0, 0)))) b9.1
theorem x_mX9_read {G : OhG} {FI AI : OhI} {FL AL : OhL} {FR GR AR BR : OhQ} {AN : OhN} {C : OhC} {k : Nat × Nat} {Φ : OhP} {Ψ : OhX} (n : Nat) (t : Nat × Nat) (ht : ohKd t.1 = 8) {r : (((Nat × Nat) × OhI × OhQ × OhQ × OhI × OhQ × OhN × OhC) ⊕ (OhR × OhI × OhQ × OhQ × OhI × OhQ × OhN × OhC)) × (Nat × Nat)} (hm : mX9_read n FI FR GR AI BR AN C t = some r) (hK : ∀ o : OhR × OhI × OhQ × OhQ × OhI × OhQ × OhN × OhC, r.1 = .inr o → Φ (some (vR o.1)) (o.2.1, FL, o.2.2.1, o.2.2.2.1, o.2.2.2.2.1, AL, AR, o.2.2.2.2.2.1, o.2.2.2.2.2.2.1, o.2.2.2.2.2.2.2)) (hT : ∀ x : (Nat × Nat) × OhI × OhQ × OhQ × OhI × OhQ × OhN × OhC, r.1 = .inl x → Ψ "OperaHouse$Fault" x.1 (x.2.1, FL, x.2.2.1, x.2.2.2.1, x.2.2.2.2.1, AL, AR, x.2.2.2.2.2.1, x.2.2.2.2.2.2.1, x.2.2.2.2.2.2.2)) : oX G 59 iX9_read 0 [(0, vR (some t))] [] (FI, FL, FR, GR, AI, AL, AR, BR, AN, C) (oPl r.2 k) Φ Ψ := by
  obtain ⟨r, q0⟩ := r
  unfold mX9_read at hm
  refine oX_aload_n dX9_read_0 rfl rfl ?_
  obtain ⟨r1, g1, hm⟩ := bd_s hm
  refine oX_cost hm (fun qq1 hm => ?_)
  refine oX_cVK_ (as := []) dX9_read_1 rfl (oD_t ht) rfl (by decide) rfl ok_X9_go rfl rfl q712 q714 qs8 q146 q715 (by decide) (Nat.le_of_ble_eq_true rfl) (t_X9_go n t ht g1) (Nat.le_refl _) (Nat.le_refl _) ?_
  obtain ⟨b9, g9, hm⟩ := bd_s hm
  refine oX_cost hm (fun qq9 hm => ?_)
  refine oX_sub [0] rfl (l_mX9_read_b4 n t ht n r1.1.1 r1.1.2.1 r1.1.2.2.1 r1.1.2.2.2.1 BR r1.1.2.2.2.2.1 r1.1.2.2.2.2.2 _ g9 (fun v9 e9 => ?_) (fun v9 e9 => ?_))
  · skip
    rw [e9] at hm
    have hm := el1 hm
    refine oX_aload_n dX9_read_46 rfl rfl ?_
    refine oX_getF fX9_20 rfl (oD_t ht) dX9_read_47 rfl ?_
    obtain ⟨hr, rfl⟩ := oEnd hm
    exact oX_aret dX9_read_50 rfl (by first | exact Or.inl ⟨_, rfl⟩ | exact Or.inr ⟨_, rfl⟩) (hK (v9.2.1 t.1 t.2 11, v9.1, v9.2.1, v9.2.2.1, v9.2.2.2.1, v9.2.2.2.2.1, v9.2.2.2.2.2.1, v9.2.2.2.2.2.2) hr)
  · skip
    rw [e9] at hm
    have hm := el2 hm
    obtain ⟨hr, rfl⟩ := oEnd hm
    exact hT (v9.1, v9.2.1, v9.2.2.1, v9.2.2.2.1, v9.2.2.2.2.1, v9.2.2.2.2.2.1, v9.2.2.2.2.2.2.1, v9.2.2.2.2.2.2.2) hr
theorem t_X9_read {G : OhG} {FI AI : OhI} {FL AL : OhL} {FR GR AR BR : OhQ} {AN : OhN} {C : OhC} (n : Nat) (t : Nat × Nat) (ht : ohKd t.1 = 8) {o : (((Nat × Nat) × OhI × OhQ × OhQ × OhI × OhQ × OhN × OhC) ⊕ (OhR × OhI × OhQ × OhQ × OhI × OhQ × OhN × OhC)) × (Nat × Nat)} (hm : mX9_read n FI FR GR AI BR AN C t = some o) : oT G 59 iX9_read [vR (some t)] (FI, FL, FR, GR, AI, AL, AR, BR, AN, C) o.2 (fun v h => ∃ o9 : OhR × OhI × OhQ × OhQ × OhI × OhQ × OhN × OhC, o.1 = .inr o9 ∧ v = (some (vR o9.1)) ∧ h = (o9.2.1, FL, o9.2.2.1, o9.2.2.2.1, o9.2.2.2.2.1, AL, AR, o9.2.2.2.2.2.1, o9.2.2.2.2.2.2.1, o9.2.2.2.2.2.2.2)) (fun E b h => ∃ x9 : (Nat × Nat) × OhI × OhQ × OhQ × OhI × OhQ × OhN × OhC, o.1 = .inl x9 ∧ E = "OperaHouse$Fault" ∧ b = x9.1 ∧ h = (x9.2.1, FL, x9.2.2.1, x9.2.2.2.1, x9.2.2.2.2.1, AL, AR, x9.2.2.2.2.2.1, x9.2.2.2.2.2.2.1, x9.2.2.2.2.2.2.2)) :=
  oT_of (by decide) rfl (Nat.le_of_ble_eq_true rfl) (x_mX9_read (k := (0, 0)) n t ht hm (fun o e => ⟨o, e, rfl, rfl⟩) (fun x e => ⟨x, e, rfl, rfl, rfl⟩))
