/-! MIRRORS of methods that make things: printed by gen/mk_alloc.py -/
abbrev iX1_told : OhM := (yX1_told, cX1_told, 4, (some .int), [])
theorem ok_X1_told : oOk iX1_told 2 := ⟨by decide, by decide, by decide +kernel⟩
abbrev iX1_contract : OhM := (yX1_contract, cX1_contract, 5, (some .int), [(24, 60, 61, 184)])
theorem ok_X1_contract : oOk iX1_contract 1 := ⟨by decide, by decide, by decide +kernel⟩
noncomputable def mX1_told_j24 (FR : OhQ) (GR : OhQ) (AI : OhI) (AR : OhQ) (AN : OhN) (C : OhC) : Option ((((Nat × Nat) × OhQ × OhC) ⊕ (Int32 × OhQ × OhC)) × (Nat × Nat)) :=
  oLet (sA GR 29 (C 29) (fun _ => none)) fun GR4 =>
  oLet (uA C 29 (C 29 + 1)) fun C4 =>
  oCost (1, 6) <|
  gd (GR4 29 (C 29) 4 = none) <|
  some (.inl ((29, C 29), GR4, C4), (0, 0))
theorem x_mX1_told_j24 {G : OhG} {FI AI : OhI} {FL AL : OhL} {FR GR AR BR : OhQ} {AN : OhN} {C : OhC} {k : Nat × Nat} {Φ : OhP} {Ψ : OhX} {r : (((Nat × Nat) × OhQ × OhC) ⊕ (Int32 × OhQ × OhC)) × (Nat × Nat)} (hm : mX1_told_j24 FR GR AI AR AN C = some r) (hK : ∀ o : Int32 × OhQ × OhC, r.1 = .inr o → Φ (some (vI o.1)) (FI, FL, FR, o.2.1, AI, AL, AR, BR, AN, o.2.2)) (hT : ∀ x : (Nat × Nat) × OhQ × OhC, r.1 = .inl x → Ψ "java/util/NoSuchElementException" x.1 (FI, FL, FR, x.2.1, AI, AL, AR, BR, AN, x.2.2)) : oX G 8 iX1_told 24 [] [] (FI, FL, FR, GR, AI, AL, AR, BR, AN, C) (oPl r.2 k) Φ Ψ := by
  obtain ⟨r, q0⟩ := r
  unfold mX1_told_j24 at hm
  obtain ⟨GR4, hGR4, hm⟩ := oLs hm
  obtain ⟨C4, hC4, hm⟩ := oLs hm
  refine oX_cost hm (fun qq4 hm => ?_)
  refine oX_newQ (s9 := 29) (k := oPl qq4 k) nX1_417 rfl (by decide) dX1_told_24 hGR4 hC4 ?_
  refine oX_dup dX1_told_27 trivial ?_
  obtain ⟨g5, hm⟩ := gd_s hm
  refine oX_thrNsee dX1_told_28 rfl oDs29 g5 (by decide) (Nat.le_of_ble_eq_true rfl) ?_
  refine oX_throw oDs29 rfl (by decide) dX1_told_31 ?_
  refine oXt_out rfl ?_
  obtain ⟨hr, rfl⟩ := oEnd hm
  exact hT ((29, C 29), GR4, C4) hr
noncomputable def mX1_told (FR : OhQ) (GR : OhQ) (AI : OhI) (AR : OhQ) (AN : OhN) (C : OhC) (x1 : Int32) (x2 : Int32) : Option ((((Nat × Nat) × OhQ × OhC) ⊕ (Int32 × OhQ × OhC)) × (Nat × Nat)) :=
  (oD 100 (GR 0 0 26)).bind fun a1 =>
  (mX1_isIn x1 (0 : Int32) ((Int32.ofNat (AN a1.1 a1.2)) - (1 : Int32))).bind fun r2 =>
  (if r2 = 0 then
  mX1_told_j24 FR GR AI AR AN C
else
  (mX1_isIn x2 (0 : Int32) (2 : Int32)).bind fun r6 =>
    (if r6 = 0 then
    mX1_told_j24 FR GR AI AR AN C
  else
    gd (vp_in x1 (AN a1.1 a1.2)) <|
      (if x2 = 0 then
      gd (vp_in x1 (AN a1.1 a1.2)) <|
        some (.inr ((AI a1.1 a1.2 x1.toNatClampNeg) / (1000 : Int32), GR, C), (0, 0))
    else
      (if x2 = (1 : Int32) then
        gd (vp_in x1 (AN a1.1 a1.2)) <|
          some (.inr (((AI a1.1 a1.2 x1.toNatClampNeg) / (10 : Int32)) - ((AI a1.1 a1.2 x1.toNatClampNeg) / (10 : Int32)) / (100 : Int32) * (100 : Int32), GR, C), (0, 0))
      else
        (if ((AI a1.1 a1.2 x1.toNatClampNeg) - (AI a1.1 a1.2 x1.toNatClampNeg) / (10 : Int32) * (10 : Int32)) = (8 : Int32) then
          some (.inr ((-1 : Int32), GR, C), (0, 0))
        else
          some (.inr ((AI a1.1 a1.2 x1.toNatClampNeg) - (AI a1.1 a1.2 x1.toNatClampNeg) / (10 : Int32) * (10 : Int32), GR, C), (0, 0)))))))
theorem x_mX1_told {G : OhG} {FI AI : OhI} {FL AL : OhL} {FR GR AR BR : OhQ} {AN : OhN} {C : OhC} {k : Nat × Nat} {Φ : OhP} {Ψ : OhX} (x1 : Int32) (x2 : Int32) {r : (((Nat × Nat) × OhQ × OhC) ⊕ (Int32 × OhQ × OhC)) × (Nat × Nat)} (hm : mX1_told FR GR AI AR AN C x1 x2 = some r) (hK : ∀ o : Int32 × OhQ × OhC, r.1 = .inr o → Φ (some (vI o.1)) (FI, FL, FR, o.2.1, AI, AL, AR, BR, AN, o.2.2)) (hT : ∀ x : (Nat × Nat) × OhQ × OhC, r.1 = .inl x → Ψ "java/util/NoSuchElementException" x.1 (FI, FL, FR, x.2.1, AI, AL, AR, BR, AN, x.2.2)) : oX G 8 iX1_told 0 [(0, vR (some (0, 0))), (1, vI x1), (2, vI x2)] [] (FI, FL, FR, GR, AI, AL, AR, BR, AN, C) (oPl r.2 k) Φ Ψ := by
  obtain ⟨r, q0⟩ := r
  unfold mX1_told at hm
  refine oX_iload_n dX1_told_0 rfl rfl ?_
  refine oX_iconst (v := (0 : Int32)) dX1_told_1 (by decide) ?_
  refine oX_aload_n dX1_told_2 rfl rfl ?_
  refine oX_getG fX1_86 rfl oDs0 dX1_told_3 ?_
  obtain ⟨a1, e1, hm⟩ := bd_s hm
  refine oX_alen 0 (by decide) e1 dX1_told_6 ?_
  refine oX_iconst (v := (1 : Int32)) dX1_told_7 (by decide) ?_
  refine oX_isub dX1_told_8 ?_
  obtain ⟨r2, g2, hm⟩ := bd_s hm
  refine oX_cS (as := [vI x1, vI (0 : Int32), vI ((Int32.ofNat (AN a1.1 a1.2)) - (1 : Int32))]) dX1_told_9 rfl ok_X1_isIn rfl rfl q421 q238 q129 q239 (by decide) (Nat.le_of_ble_eq_true rfl) (t_X1_isIn x1 (0 : Int32) ((Int32.ofNat (AN a1.1 a1.2)) - (1 : Int32)) g2) ?_
  refine oX_if_eq (tgt := 24) dX1_told_12 (by decide) (fun c3 => ?_) (fun c3 => ?_)
  · have hm := ifp c3 hm
    exact oX_sub [] rfl (x_mX1_told_j24 hm hK hT)
  · have hm := ifn c3 hm
    refine oX_iload_n dX1_told_15 rfl rfl ?_
    refine oX_iconst (v := (0 : Int32)) dX1_told_16 (by decide) ?_
    refine oX_iconst (v := (2 : Int32)) dX1_told_17 (by decide) ?_
    obtain ⟨r6, g6, hm⟩ := bd_s hm
    refine oX_cS (as := [vI x2, vI (0 : Int32), vI (2 : Int32)]) dX1_told_18 rfl ok_X1_isIn rfl rfl q421 q238 q129 q239 (by decide) (Nat.le_of_ble_eq_true rfl) (t_X1_isIn x2 (0 : Int32) (2 : Int32) g6) ?_
    refine oX_if_ne (tgt := 32) dX1_told_21 (by decide) (fun c7 => ?_) (fun c7 => ?_)
    · have hm := ifp c7 hm
      exact oX_sub [] rfl (x_mX1_told_j24 hm hK hT)
    · have hm := ifn c7 hm
      refine oX_aload_n dX1_told_32 rfl rfl ?_
      refine oX_getG fX1_86 rfl oDs0 dX1_told_33 ?_
      refine oX_iload_n dX1_told_36 rfl rfl ?_
      obtain ⟨g8, hm⟩ := gd_s hm
      refine oX_iald e1 g8 dX1_told_37 ?_
      refine oX_bipush (v := (10 : Int32)) dX1_told_38 (by decide) ?_
      refine oX_irem dX1_told_40 (by decide) ?_
      refine oX_istore_n (ls' := [(3, vI ((AI a1.1 a1.2 x1.toNatClampNeg) - (AI a1.1 a1.2 x1.toNatClampNeg) / (10 : Int32) * (10 : Int32))), (0, vR (some (0, 0))), (1, vI x1), (2, vI x2)]) dX1_told_41 rfl (by decide) rfl ?_
      refine oX_iload_n dX1_told_42 rfl rfl ?_
      refine oX_if_ne (tgt := 59) dX1_told_43 (by decide) (fun c9 => ?_) (fun c9 => ?_)
      · have hm := ifp c9 hm
        refine oX_aload_n dX1_told_46 rfl rfl ?_
        refine oX_getG fX1_86 rfl oDs0 dX1_told_47 ?_
        refine oX_iload_n dX1_told_50 rfl rfl ?_
        obtain ⟨g10, hm⟩ := gd_s hm
        refine oX_iald e1 g10 dX1_told_51 ?_
        refine oX_sipush (v := (1000 : Int32)) dX1_told_52 (by decide) ?_
        refine oX_idiv dX1_told_55 (by decide) ?_
        refine oX_goto (tgt := 90) dX1_told_56 (by decide) ?_
        obtain ⟨hr, rfl⟩ := oEnd hm
        exact oX_iret dX1_told_90 rfl rfl (hK ((AI a1.1 a1.2 x1.toNatClampNeg) / (1000 : Int32), GR, C) hr)
      · have hm := ifn c9 hm
        refine oX_iload_n dX1_told_59 rfl rfl ?_
        refine oX_iconst (v := (1 : Int32)) dX1_told_60 (by decide) ?_
        refine oX_icmp_ne (tgt := 79) dX1_told_61 (by decide) (fun c11 => ?_) (fun c11 => ?_)
        · have hm := ifp c11 hm
          refine oX_aload_n dX1_told_64 rfl rfl ?_
          refine oX_getG fX1_86 rfl oDs0 dX1_told_65 ?_
          refine oX_iload_n dX1_told_68 rfl rfl ?_
          obtain ⟨g12, hm⟩ := gd_s hm
          refine oX_iald e1 g12 dX1_told_69 ?_
          refine oX_bipush (v := (10 : Int32)) dX1_told_70 (by decide) ?_
          refine oX_idiv dX1_told_72 (by decide) ?_
          refine oX_bipush (v := (100 : Int32)) dX1_told_73 (by decide) ?_
          refine oX_irem dX1_told_75 (by decide) ?_
          refine oX_goto (tgt := 90) dX1_told_76 (by decide) ?_
          obtain ⟨hr, rfl⟩ := oEnd hm
          exact oX_iret dX1_told_90 rfl rfl (hK (((AI a1.1 a1.2 x1.toNatClampNeg) / (10 : Int32)) - ((AI a1.1 a1.2 x1.toNatClampNeg) / (10 : Int32)) / (100 : Int32) * (100 : Int32), GR, C) hr)
        · have hm := ifn c11 hm
          refine oX_iload_n dX1_told_79 rfl rfl ?_
          refine oX_bipush (v := (8 : Int32)) dX1_told_80 (by decide) ?_
          refine oX_icmp_ne (tgt := 89) dX1_told_82 (by decide) (fun c13 => ?_) (fun c13 => ?_)
          · have hm := ifp c13 hm
            refine oX_iconst (v := (-1 : Int32)) dX1_told_85 (by decide) ?_
            refine oX_goto (tgt := 90) dX1_told_86 (by decide) ?_
            obtain ⟨hr, rfl⟩ := oEnd hm
            exact oX_iret dX1_told_90 rfl rfl (hK ((-1 : Int32), GR, C) hr)
          · have hm := ifn c13 hm
            refine oX_iload_n dX1_told_89 rfl rfl ?_
            obtain ⟨hr, rfl⟩ := oEnd hm
            exact oX_iret dX1_told_90 rfl rfl (hK ((AI a1.1 a1.2 x1.toNatClampNeg) - (AI a1.1 a1.2 x1.toNatClampNeg) / (10 : Int32) * (10 : Int32), GR, C) hr)
theorem t_X1_told {G : OhG} {FI AI : OhI} {FL AL : OhL} {FR GR AR BR : OhQ} {AN : OhN} {C : OhC} (x1 : Int32) (x2 : Int32) {o : (((Nat × Nat) × OhQ × OhC) ⊕ (Int32 × OhQ × OhC)) × (Nat × Nat)} (hm : mX1_told FR GR AI AR AN C x1 x2 = some o) : oT G 8 iX1_told [vR (some (0, 0)), vI x1, vI x2] (FI, FL, FR, GR, AI, AL, AR, BR, AN, C) o.2 (fun v h => ∃ o9 : Int32 × OhQ × OhC, o.1 = .inr o9 ∧ v = (some (vI o9.1)) ∧ h = (FI, FL, FR, o9.2.1, AI, AL, AR, BR, AN, o9.2.2)) (fun E b h => ∃ x9 : (Nat × Nat) × OhQ × OhC, o.1 = .inl x9 ∧ E = "java/util/NoSuchElementException" ∧ b = x9.1 ∧ h = (FI, FL, FR, x9.2.1, AI, AL, AR, BR, AN, x9.2.2)) :=
  oT_of (by decide) rfl (Nat.le_of_ble_eq_true rfl) (x_mX1_told (k := (0, 0)) x1 x2 hm (fun o e => ⟨o, e, rfl, rfl⟩) (fun x e => ⟨x, e, rfl, rfl, rfl⟩))
noncomputable def mX1_contract (n : Nat) (FI : OhI) (FR : OhQ) (GR : OhQ) (AI : OhI) (AR : OhQ) (BR : OhQ) (AN : OhN) (C : OhC) (x1 : Int32) : Option ((Int32 × OhI × OhQ × OhQ × OhI × OhQ × OhN × OhC) × (Nat × Nat)) :=
  (mX1_take FI).bind fun r1 =>
  gd (ohShH FR AR AN) <|
  (mX1_singerOf r1.2 FR GR AR BR AN x1).bind fun r3 =>
  (if r3 = none then
  some (((-1000 : Int32), r1.2, FR, GR, AI, BR, AN, C), (0, 0))
else
  oLet (sA r1.2 0 0 (uA (r1.2 0 0) 2 (0 : Int32))) fun FI5 =>
    oLet (sA FI5 13 (C 13) (fun _ => 0)) fun FI6 =>
    oLet (sA FR 13 (C 13) (fun _ => none)) fun FR6 =>
    oLet (sA GR 13 (C 13) (fun _ => none)) fun GR6 =>
    oLet (uA C 13 (C 13 + 1)) fun C6 =>
    oCost (1, 12) <|
    gd (ohShH FR6 AR AN) <|
    (mX9_init FI6 FR6 GR6 C6 (13, C 13) (some (300, 0)) r1.1).bind fun r8 =>
    oCost r8.2 <|
    (mX9_read n r8.1.1 r8.1.2.1 r8.1.2.2.1 AI BR AN r8.1.2.2.2 (13, C 13)).bind fun r9 =>
    oCost r9.2 <|
    (Sum.elim (fun x9_ => (oD 9 (some x9_.1)).bind fun a14 =>
    oLet (sA x9_.2.1 0 0 (uA (x9_.2.1 0 0) 2 (x9_.2.1 a14.1 a14.2 6))) fun FI15 =>
    some (((-1 : Int32) - (FI15 a14.1 a14.2 7), FI15, x9_.2.2.1, x9_.2.2.2.1, x9_.2.2.2.2.1, x9_.2.2.2.2.2.1, x9_.2.2.2.2.2.2.1, x9_.2.2.2.2.2.2.2), (0, 0))) (fun o9 => (oD 6 r3).bind fun a10 =>
    oLet (sA o9.2.2.2.1 a10.1 a10.2 (uA (o9.2.2.2.1 a10.1 a10.2) 4 o9.1)) fun GR11 =>
    oLet (sA o9.2.1 0 0 (uA (o9.2.1 0 0) 6 ((o9.2.1 0 0 6) + (1 : Int32)))) fun FI12 =>
    (oD 7 (GR11 a10.1 a10.2 4)).bind fun a13 =>
    some ((FI12 a13.1 a13.2 4, FI12, o9.2.2.1, GR11, o9.2.2.2.2.1, o9.2.2.2.2.2.1, o9.2.2.2.2.2.2.1, o9.2.2.2.2.2.2.2), (0, 0))) r9.1))
theorem x_mX1_contract {G : OhG} {FI AI : OhI} {FL AL : OhL} {FR GR AR BR : OhQ} {AN : OhN} {C : OhC} {k : Nat × Nat} {Φ : OhP} {Ψ : OhX} (n : Nat) (x1 : Int32) {r : (Int32 × OhI × OhQ × OhQ × OhI × OhQ × OhN × OhC) × (Nat × Nat)} (hm : mX1_contract n FI FR GR AI AR BR AN C x1 = some r) (hK : Φ (some (vI r.1.1)) (r.1.2.1, FL, r.1.2.2.1, r.1.2.2.2.1, r.1.2.2.2.2.1, AL, AR, r.1.2.2.2.2.2.1, r.1.2.2.2.2.2.2.1, r.1.2.2.2.2.2.2.2)) : oX G 60 iX1_contract 0 [(0, vR (some (0, 0))), (1, vI x1)] [] (FI, FL, FR, GR, AI, AL, AR, BR, AN, C) (oPl r.2 k) Φ Ψ := by
  obtain ⟨r, q0⟩ := r
  unfold mX1_contract at hm
  refine oX_aload_n dX1_contract_0 rfl rfl ?_
  obtain ⟨r1, g1, hm⟩ := bd_s hm
  refine oX_cV (as := []) dX1_contract_1 rfl oDs0 rfl (by decide) rfl ok_X1_take rfl rfl q426 q428 qs3 q129 q429 (by decide) (Nat.le_of_ble_eq_true rfl) (t_X1_take g1) ?_
  refine oX_istore_n (ls' := [(2, vI r1.1), (0, vR (some (0, 0))), (1, vI x1)]) dX1_contract_4 rfl (by decide) rfl ?_
  refine oX_aload_n dX1_contract_5 rfl rfl ?_
  refine oX_iload_n dX1_contract_6 rfl rfl ?_
  obtain ⟨s2, hm⟩ := gd_s hm
  obtain ⟨r3, g3, hm⟩ := bd_s hm
  refine oX_cV (as := [vI x1]) dX1_contract_7 rfl oDs0 rfl (by decide) rfl ok_X1_singerOf rfl rfl q644 q646 qs7 q129 q647 (by decide) (Nat.le_of_ble_eq_true rfl) (t_X1_singerOf s2 x1 g3) ?_
  refine oX_astore_n (ls' := [(3, vR r3), (2, vI r1.1), (0, vR (some (0, 0))), (1, vI x1)]) dX1_contract_10 rfl (by decide) rfl ?_
  refine oX_aload_n dX1_contract_11 rfl rfl ?_
  refine oX_ifnonnull (tgt := 19) dX1_contract_12 (by decide) (fun c4 => ?_) (fun c4 => ?_)
  · have hm := ifp c4 hm
    refine oX_sipush (v := (-1000 : Int32)) dX1_contract_15 (by decide) ?_
    obtain ⟨rfl, rfl⟩ := oEnd hm
    exact oX_iret dX1_contract_18 rfl rfl hK
  · have hm := ifn c4 hm
    refine oX_aload_n dX1_contract_19 rfl rfl ?_
    refine oX_iconst (v := (0 : Int32)) dX1_contract_20 (by decide) ?_
    obtain ⟨FI5, hFI5, hm⟩ := oLs hm
    refine oX_putI fX1_163 rfl (fun h9 => by cases h9) oDs0 dX1_contract_21 ⟨rfl, rfl⟩ hFI5 ?_
    refine oX_aload_n dX1_contract_24 rfl rfl ?_
    obtain ⟨FI6, hFI6, hm⟩ := oLs hm
    obtain ⟨FR6, hFR6, hm⟩ := oLs hm
    obtain ⟨GR6, hGR6, hm⟩ := oLs hm
    obtain ⟨C6, hC6, hm⟩ := oLs hm
    refine oX_cost hm (fun qq6 hm => ?_)
    refine oX_newIFG (s9 := 13) (k := oPl qq6 k) nX1_166 rfl (by decide) dX1_contract_25 hFI6 hFR6 hGR6 hC6 ?_
    refine oX_dup dX1_contract_28 trivial ?_
    refine oX_aload_n dX1_contract_29 rfl rfl ?_
    obtain ⟨s7, hm⟩ := gd_s hm
    refine oX_getF fX1_9 rfl oDs0 dX1_contract_30 (ohF300 s7) ?_
    refine oX_iload_n dX1_contract_33 rfl rfl ?_
    obtain ⟨r8, g8, hm⟩ := bd_s hm
    refine oX_cost hm (fun qq8 hm => ?_)
    refine oX_cIK (as := [vR (some (300, 0)), vI r1.1]) dX1_contract_34 rfl ok_X9_init rfl rfl rfl q664 q665 q146 q666 (by decide) (Nat.le_of_ble_eq_true rfl) (t_X9_init (13, C 13) rfl (some (300, 0)) r1.1 g8) (Nat.le_refl _) (Nat.le_refl _) ?_
    obtain ⟨r9, g9, hm⟩ := bd_s hm
    refine oX_cost hm (fun qq9 hm => ?_)
    refine oX_cVX (as := []) dX1_contract_37 rfl oDs13 rfl (by decide) rfl ok_X9_read rfl rfl q708 q709 q710 q146 q711 (by decide) (Nat.le_of_ble_eq_true rfl) (t_X9_read n (13, C 13) rfl g9) (Nat.le_refl _) (Nat.le_refl _) (fun o9 hz9 => ?_) (fun x9_ hz9 => ?_)
    · rw [hz9] at hm
      have hm := el2 hm
      obtain ⟨a10, e10, hm⟩ := bd_s hm
      obtain ⟨GR11, hGR11, hm⟩ := oLs hm
      refine oX_putG fX1_175 rfl (fun h9 => by cases h9) e10 dX1_contract_40 (by first | exact Or.inl ⟨_, rfl⟩ | exact Or.inr ⟨_, rfl⟩) hGR11 ?_
      refine oX_aload_n dX1_contract_43 rfl rfl ?_
      refine oX_dup dX1_contract_44 trivial ?_
      refine oX_getI fX1_119 rfl oDs0 dX1_contract_45 ?_
      refine oX_iconst (v := (1 : Int32)) dX1_contract_48 (by decide) ?_
      refine oX_iadd dX1_contract_49 ?_
      obtain ⟨FI12, hFI12, hm⟩ := oLs hm
      refine oX_putI fX1_119 rfl (fun h9 => by cases h9) oDs0 dX1_contract_50 ⟨rfl, rfl⟩ hFI12 ?_
      refine oX_aload_n dX1_contract_53 rfl rfl ?_
      refine oX_getG fX1_175 rfl e10 dX1_contract_54 ?_
      obtain ⟨a13, e13, hm⟩ := bd_s hm
      refine oX_getI fX1_179 rfl e13 dX1_contract_57 ?_
      obtain ⟨rfl, rfl⟩ := oEnd hm
      exact oX_iret dX1_contract_60 rfl rfl hK
    · rw [hz9] at hm
      have hm := el1 hm
      refine oXt_catch rfl (by decide) (by decide) q643 q990 ?_
      refine oX_astore (ls' := [(4, vR (some x9_.1)), (3, vR r3), (2, vI r1.1), (0, vR (some (0, 0))), (1, vI x1)]) dX1_contract_61 (by decide) rfl ?_
      refine oX_aload_n dX1_contract_63 rfl rfl ?_
      refine oX_aload dX1_contract_64 rfl ?_
      obtain ⟨a14, e14, hm⟩ := bd_s hm
      refine oX_getI fX1_186 rfl e14 dX1_contract_66 ?_
      obtain ⟨FI15, hFI15, hm⟩ := oLs hm
      refine oX_putI fX1_163 rfl (fun h9 => by cases h9) oDs0 dX1_contract_69 ⟨rfl, rfl⟩ hFI15 ?_
      refine oX_iconst (v := (-1 : Int32)) dX1_contract_72 (by decide) ?_
      refine oX_aload dX1_contract_73 rfl ?_
      refine oX_getI fX1_189 rfl e14 dX1_contract_75 ?_
      refine oX_isub dX1_contract_78 ?_
      obtain ⟨rfl, rfl⟩ := oEnd hm
      exact oX_iret dX1_contract_79 rfl rfl hK
theorem t_X1_contract {G : OhG} {FI AI : OhI} {FL AL : OhL} {FR GR AR BR : OhQ} {AN : OhN} {C : OhC} (n : Nat) (x1 : Int32) {o : (Int32 × OhI × OhQ × OhQ × OhI × OhQ × OhN × OhC) × (Nat × Nat)} (hm : mX1_contract n FI FR GR AI AR BR AN C x1 = some o) : oT G 60 iX1_contract [vR (some (0, 0)), vI x1] (FI, FL, FR, GR, AI, AL, AR, BR, AN, C) o.2 (fun v h => v = (some (vI o.1.1)) ∧ h = (o.1.2.1, FL, o.1.2.2.1, o.1.2.2.2.1, o.1.2.2.2.2.1, AL, AR, o.1.2.2.2.2.2.1, o.1.2.2.2.2.2.2.1, o.1.2.2.2.2.2.2.2)) ohNo :=
  oT_ofH (plainFor_of_name (by decide)) rfl (Nat.le_of_ble_eq_true rfl) (x_mX1_contract (k := (0, 0)) n x1 hm ⟨rfl, rfl⟩)
